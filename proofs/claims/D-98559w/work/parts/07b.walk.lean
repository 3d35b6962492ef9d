/-! walks (printed by walk.py) -/
set_option maxRecDepth 100000
theorem mdX2_tells : MD yX2_tells 4 := by unfold MD; decide +kernel
theorem mvX2_tells : MV yX2_tells cX2_tells 5 (none) := ⟨q1653, q1654, q129, q1655⟩
set_option maxHeartbeats 4000000 in
theorem ctX2_tells (l : Launch) {h0 : Nat} {x1 : Int32} {x2 : Int32} {x3 : Int32} {x4 : Option Nat} {σ σf : Mm} (h : FX2_tells h0 x1 x2 x3 x4 σ = some σf) : CTv l yX2_tells (ws_ yX2_tells cX2_tells 5 (none)) 2 60 0 0 [va_rf (some h0), .int x1, .int x2, .int x3, va_rf x4] σ σf := by
  refine ct_start (n := 4) mdX2_tells (Nat.le_of_ble_eq_true rfl) (c1_r (c1_i (c1_i (c1_i (c1_r c1_0))))) (fun p e s m args below meth c D dA sz0 ad0 X hS hr hnm => ?_)
  have X : CX p s m args meth c cX2_tells 5 RX2 := X
  generalize mN σ = N0
  unfold FX2_tells at h
  refine wm_aload_n X 0 dX2_tells_0 rfl ?_
  refine wm_gR X hS cd_2 18 h dX2_tells_1 (Nat.le_of_ble_eq_true rfl) rfl q231 (fun x21 h => ?_)
  refine wm_iconst (v := 0) X dX2_tells_4 (by decide) ?_
  refine wm_aload_n X 0 dX2_tells_5 rfl ?_
  refine wm_gR X hS cd_2 18 h dX2_tells_6 (Nat.le_of_ble_eq_true rfl) rfl q231 (fun x22 h => ?_)
  refine wm_iconst (v := 5) X dX2_tells_9 (by decide) ?_
  refine wm_aload_n X 0 dX2_tells_10 rfl ?_
  refine wm_gR X hS cd_2 18 h dX2_tells_11 (Nat.le_of_ble_eq_true rfl) rfl q231 (fun x23 h => ?_)
  refine wm_alen X hS 100 (by decide) h dX2_tells_14 (fun x24 h => ?_)
  refine wm_iconst (v := 5) X dX2_tells_15 (by decide) ?_
  refine wm_isub X dX2_tells_16 ?_
  refine wm_copy X hS 100 (by decide) h dX2_tells_17 q680 q672 q671 q140 (Nat.le_of_ble_eq_true rfl) c1_0 (Nat.le_of_ble_eq_true rfl) (Nat.le_of_ble_eq_true rfl) (fun σ25 _ h => ?_)
  refine wm_aload_n X 0 dX2_tells_20 rfl ?_
  refine wm_gR X hS cd_2 18 h dX2_tells_21 (Nat.le_of_ble_eq_true rfl) rfl q231 (fun x26 h => ?_)
  refine wm_iconst (v := 0) X dX2_tells_24 (by decide) ?_
  refine wm_aload_n X 0 dX2_tells_25 rfl ?_
  refine wm_gI X hS cd_2 3 h dX2_tells_26 (Nat.le_of_ble_eq_true rfl) rfl q198 (fun x27 h => ?_)
  refine wm_iastore X hS h dX2_tells_29 (fun σ28 _ h => ?_)
  refine wm_aload_n X 0 dX2_tells_30 rfl ?_
  refine wm_gR X hS cd_2 18 h dX2_tells_31 (Nat.le_of_ble_eq_true rfl) rfl q231 (fun x29 h => ?_)
  refine wm_iconst (v := 1) X dX2_tells_34 (by decide) ?_
  refine wm_iload_n X 1 dX2_tells_35 rfl ?_
  refine wm_iastore X hS h dX2_tells_36 (fun σ30 _ h => ?_)
  refine wm_aload_n X 0 dX2_tells_37 rfl ?_
  refine wm_gR X hS cd_2 18 h dX2_tells_38 (Nat.le_of_ble_eq_true rfl) rfl q231 (fun x31 h => ?_)
  refine wm_iconst (v := 2) X dX2_tells_41 (by decide) ?_
  refine wm_iload_n X 2 dX2_tells_42 rfl ?_
  refine wm_iastore X hS h dX2_tells_43 (fun σ32 _ h => ?_)
  refine wm_aload_n X 0 dX2_tells_44 rfl ?_
  refine wm_gR X hS cd_2 18 h dX2_tells_45 (Nat.le_of_ble_eq_true rfl) rfl q231 (fun x33 h => ?_)
  refine wm_iconst (v := 3) X dX2_tells_48 (by decide) ?_
  refine wm_iload_n X 3 dX2_tells_49 rfl ?_
  refine wm_iastore X hS h dX2_tells_50 (fun σ34 _ h => ?_)
  refine wm_aload_n X 0 dX2_tells_51 rfl ?_
  refine wm_gR X hS cd_2 18 h dX2_tells_52 (Nat.le_of_ble_eq_true rfl) rfl q231 (fun x35 h => ?_)
  refine wm_iconst (v := 4) X dX2_tells_55 (by decide) ?_
  refine wm_aload X 4 dX2_tells_56 rfl ?_
  refine wm_ordW X hS h q1656 dX2_tells_58 (c1_i (c1_r c1_0)) (Nat.le_of_ble_eq_true rfl) ⟨Nat.le_of_ble_eq_true rfl, Nat.le_of_ble_eq_true rfl⟩ ⟨Nat.le_of_ble_eq_true rfl, Nat.le_of_ble_eq_true rfl⟩ (fun x36 h => ?_)
  refine wm_iastore X hS h dX2_tells_61 (fun σ37 _ h => ?_)
  refine wm_aload_n X 0 dX2_tells_62 rfl ?_
  refine wm_bipush (v := 60) X dX2_tells_63 (by decide) ?_
  refine wm_aload_n X 0 dX2_tells_65 rfl ?_
  refine wm_gI X hS cd_2 6 h dX2_tells_66 (Nat.le_of_ble_eq_true rfl) rfl q204 (fun x38 h => ?_)
  refine wm_iconst (v := 1) X dX2_tells_69 (by decide) ?_
  refine wm_iadd X dX2_tells_70 ?_
  refine wm_mmin X dX2_tells_71 q1662 q622 q146 q623 (Nat.le_of_ble_eq_true rfl) (c1_r c1_0) (Nat.le_of_ble_eq_true rfl) (Nat.le_of_ble_eq_true rfl) (Nat.le_of_ble_eq_true rfl) (Nat.le_of_ble_eq_true rfl) ?_
  refine wm_pI X hS cd_2 6 h dX2_tells_74 (Nat.le_of_ble_eq_true rfl) rfl q204 rfl rfl (fun σ39 _ h => ?_)
  exact wm_vret X hr h dX2_tells_77 (Nat.le_of_ble_eq_true rfl) (Nat.le_of_ble_eq_true rfl)
theorem mdX2_hands : MD yX2_hands 2 := by unfold MD; decide +kernel
theorem mvX2_hands : MV yX2_hands cX2_hands 3 (none) := ⟨q1647, q1648, q129, q1649⟩
set_option maxHeartbeats 4000000 in
theorem ctX2_hands (l : Launch) {h0 : Nat} {x1 : Int32} {x2 : Int32} {σ σf : Mm} (h : FX2_hands h0 x1 x2 σ = some σf) : CTv l yX2_hands (ws_ yX2_hands cX2_hands 3 (none)) 3 84 0 0 [va_rf (some h0), .int x1, .int x2] σ σf := by
  refine ct_start (n := 2) mdX2_hands (Nat.le_of_ble_eq_true rfl) (c1_r (c1_i (c1_i c1_0))) (fun p e s m args below meth c D dA sz0 ad0 X hS hr hnm => ?_)
  have X : CX p s m args meth c cX2_hands 3 RX2 := X
  generalize mN σ = N0
  unfold FX2_hands at h
  refine wm_aload_n X 0 dX2_hands_0 rfl ?_
  refine wm_gR X hS cd_2 17 h dX2_hands_1 (Nat.le_of_ble_eq_true rfl) rfl q229 (fun x21 h => ?_)
  refine wm_iload_n X 2 dX2_hands_4 rfl ?_
  refine wm_aload_n X 0 dX2_hands_5 rfl ?_
  refine wm_gR X hS cd_2 10 h dX2_hands_6 (Nat.le_of_ble_eq_true rfl) rfl q212 (fun x22 h => ?_)
  refine wm_iload_n X 1 dX2_hands_9 rfl ?_
  refine wm_iaload X hS h dX2_hands_10 (fun x23 h => ?_)
  refine wm_iastore X hS h dX2_hands_11 (fun σ24 _ h => ?_)
  refine wm_aload_n X 0 dX2_hands_12 rfl ?_
  refine wm_iload_n X 1 dX2_hands_13 rfl ?_
  refine wm_iload_n X 2 dX2_hands_14 rfl ?_
  refine wm_aload_n X 0 dX2_hands_15 rfl ?_
  refine wm_gR X hS cd_2 10 h dX2_hands_16 (Nat.le_of_ble_eq_true rfl) rfl q212 (fun x25 h => ?_)
  refine wm_iload_n X 1 dX2_hands_19 rfl ?_
  refine wm_iaload X hS h dX2_hands_20 (fun x26 h => ?_)
  refine wm_gst X hS 4 (BIG + 100) (by decide) (by decide) rfl (Nat.le_add_right _ _) dX2_hands_21 q1650 ?_
  obtain ⟨s27, h⟩ := ck_e h
  refine wm_cV_v (As := [.int x1, .int x2, .int x26, va_rf (some (BIG + 100))]) (st := []) X hS cd_2 s27 rfl h (fun _ hF => ctX2_tells l hF) mdX2_tells mvX2_tells q1652 dX2_hands_24 rfl rfl c1_0 (Nat.le_of_ble_eq_true rfl) ⟨Nat.le_of_ble_eq_true rfl, Nat.le_of_ble_eq_true rfl⟩ ⟨Nat.le_of_ble_eq_true rfl, Nat.le_of_ble_eq_true rfl⟩ (fun σ28 _ h => ?_)
  refine wm_aload_n X 0 dX2_hands_27 rfl ?_
  refine wm_gR X hS cd_2 10 h dX2_hands_28 (Nat.le_of_ble_eq_true rfl) rfl q212 (fun x29 h => ?_)
  refine wm_iload_n X 1 dX2_hands_31 rfl ?_
  refine wm_iconst (v := (-1)) X dX2_hands_32 (by decide) ?_
  refine wm_iastore X hS h dX2_hands_33 (fun σ30 _ h => ?_)
  refine wm_aload_n X 0 dX2_hands_34 rfl ?_
  refine wm_gR X hS cd_2 11 h dX2_hands_35 (Nat.le_of_ble_eq_true rfl) rfl q215 (fun x31 h => ?_)
  refine wm_iload_n X 1 dX2_hands_38 rfl ?_
  refine wm_iload_n X 2 dX2_hands_39 rfl ?_
  refine wm_iastore X hS h dX2_hands_40 (fun σ32 _ h => ?_)
  exact wm_vret X hr h dX2_hands_41 (Nat.le_of_ble_eq_true rfl) (Nat.le_of_ble_eq_true rfl)
theorem mdX1_hand : MD yX1_hand 2 := by unfold MD; decide +kernel
theorem mvX1_hand : MV yX1_hand cX1_hand 3 ((some FieldType.int)) := ⟨q1621, q1622, q128, q1623⟩
set_option maxHeartbeats 4000000 in
theorem ctX1_hand (l : Launch) (hl : l.stackTraces = false) {h0 : Nat} {x1 : Int32} {x2 : Int32} {σ : Mm} {xo : (Int32 × Mm) ⊕ (Nat × Mm)} {mc ms : Nat} (h : FX1_hand h0 x1 x2 σ = some (xo, mc, ms)) : CTXi l yX1_hand (ws_ yX1_hand cX1_hand 3 ((some FieldType.int))) 8 212 mc ms [va_rf (some h0), .int x1, .int x2] σ xo := by
  refine ctx_start (n := 2) mdX1_hand (Nat.le_of_ble_eq_true rfl) (c1_r (c1_i (c1_i c1_0))) (fun p e s m args below meth c D dA sz0 ad0 X hS hr hnm hno => ?_)
  have X : CX p s m args meth c cX1_hand 3 RX1 := X
  have hC : 0 + mc ≤ mc := Nat.le_of_eq (Nat.zero_add mc)
  have hZ : 0 + ms ≤ ms := Nat.le_of_eq (Nat.zero_add ms)
  generalize mN σ = N0
  unfold FX1_hand at h
  refine wm_aload_n X 0 dX1_hand_0 rfl ?_
  refine wm_iload_n X 1 dX1_hand_1 rfl ?_
  obtain ⟨s21, h⟩ := ck_e h
  refine wm_dV_v (As := [.int x1]) (st := []) X hS hno cd_1 s21 rfl h hC hZ (fun _ _ _ hF => ctX1_personAt l hl hF) mdX1_personAt mvX1_personAt q1533 dX1_hand_2 rfl rfl c1_0 (Nat.le_of_ble_eq_true rfl) ⟨Nat.le_of_ble_eq_true rfl, Nat.le_of_ble_eq_true rfl⟩ (Nat.le_refl _) (Nat.le_refl _) (fun σ22 c1 z1 C Z _ h hC hZ => ?_)
  refine wm_aload_n X 0 dX1_hand_5 rfl ?_
  refine wm_iload_n X 2 dX1_hand_6 rfl ?_
  obtain ⟨s23, h⟩ := ck_e h
  refine wm_dV_v (As := [.int x2]) (st := []) X hS hno cd_1 s23 rfl h hC hZ (fun _ _ _ hF => ctX1_hookAt l hl hF) mdX1_hookAt mvX1_hookAt q1591 dX1_hand_7 rfl rfl c1_0 (Nat.le_of_ble_eq_true rfl) ⟨Nat.le_of_ble_eq_true rfl, Nat.le_of_ble_eq_true rfl⟩ (Nat.le_refl _) (Nat.le_refl _) (fun σ24 c1 z1 C Z _ h hC hZ => ?_)
  refine wm_aload_n X 0 dX1_hand_10 rfl ?_
  refine wm_gR X hS cd_1 0 h dX1_hand_11 (Nat.le_of_ble_eq_true rfl) rfl q434 (fun x25 h => ?_)
  refine wm_gRN X hS cd_2 10 h dX1_hand_14 (Nat.le_of_ble_eq_true rfl) rfl 10 rfl (fun x26 h => ?_)
  refine wm_iload_n X 1 dX1_hand_17 rfl ?_
  refine wm_iaload X hS h dX1_hand_18 (fun x27 h => ?_)
  refine wm_iconst (v := (-1)) X dX1_hand_19 (by decide) ?_
  obtain ⟨J54, eJ54, h⟩ := jn_e h
  have hJ54 : ∀ (z28 : Int32) (σ : Mm) (C Z kc kz : Nat), J54 z28 σ = some (xo, C, Z) → kc + C ≤ mc → kz + Z ≤ ms → WMxi p l e s m args below meth c 8 212 mc ms 3 D dA sz0 ad0 N0 xo kc kz σ [(0, va_rf (some h0)), (1, .int x1), (2, .int x2)] [.int z28] 54 := by
    intro z28 σ C Z kc kz h hC hZ
    rw [eJ54] at h
    refine wm_dS_v (As := [.int z28]) (st := []) X hS hno h hC hZ (fun _ _ _ hF => ctX1_can l hl hF) mdX1_can msX1_can q1624 dX1_hand_54 rfl rfl c1_0 (Nat.le_of_ble_eq_true rfl) ⟨Nat.le_of_ble_eq_true rfl, Nat.le_of_ble_eq_true rfl⟩ (Nat.le_refl _) (Nat.le_refl _) (fun σ29 c1 z1 C Z _ h hC hZ => ?_)
    refine wm_aload_n X 0 dX1_hand_57 rfl ?_
    obtain ⟨s30, h⟩ := ck_e h
    refine wm_dV_v (As := []) (st := []) X hS hno cd_1 s30 rfl h hC hZ (fun _ _ _ hF => ctX1_remembers l hl hF) mdX1_remembers mvX1_remembers q1642 dX1_hand_58 rfl rfl c1_0 (Nat.le_of_ble_eq_true rfl) ⟨Nat.le_of_ble_eq_true rfl, Nat.le_of_ble_eq_true rfl⟩ (Nat.le_refl _) (Nat.le_refl _) (fun σ31 c1 z1 C Z _ h hC hZ => ?_)
    refine wm_aload_n X 0 dX1_hand_61 rfl ?_
    refine wm_gR X hS cd_1 0 h dX1_hand_62 (Nat.le_of_ble_eq_true rfl) rfl q434 (fun x32 h => ?_)
    refine wm_iload_n X 1 dX1_hand_65 rfl ?_
    refine wm_iload_n X 2 dX1_hand_66 rfl ?_
    obtain ⟨q33, eq33, h⟩ := Option.bind_eq_some_iff.mp h
    obtain ⟨eq33, s34⟩ := rv_some eq33
    refine wm_cV_v (As := [.int x1, .int x2]) (st := []) X hS cd_2 s34 rfl h (fun _ hF => ctX2_hands l hF) mdX2_hands mvX2_hands q1646 dX1_hand_67 rfl (by rw [eq33]; first | done | rfl) c1_0 (Nat.le_of_ble_eq_true rfl) ⟨Nat.le_of_ble_eq_true rfl, Nat.le_of_ble_eq_true rfl⟩ ⟨le_p hC, le_p hZ⟩ (fun σ35 _ h => ?_)
    refine wm_aload_n X 0 dX1_hand_70 rfl ?_
    refine wm_gR X hS cd_1 0 h dX1_hand_71 (Nat.le_of_ble_eq_true rfl) rfl q434 (fun x36 h => ?_)
    refine wm_gRN X hS cd_2 17 h dX1_hand_74 (Nat.le_of_ble_eq_true rfl) rfl 17 rfl (fun x37 h => ?_)
    refine wm_iload_n X 2 dX1_hand_77 rfl ?_
    refine wm_iaload X hS h dX1_hand_78 (fun x38 h => ?_)
    exact wm_xiret X hr (rt_e h) dX1_hand_79 (le_p hC) (le_p hZ)
  clear eJ54
  refine wm_icmp_eq X 53 h dX1_hand_20 (by decide) (fun c47 h => ?_) (fun c47 h => ?_)
  · refine wm_iconst (v := 0) X dX1_hand_53 (by decide) ?_
    exact hJ54 _ _ _ _ _ _ h hC hZ
  · refine wm_aload_n X 0 dX1_hand_23 rfl ?_
    refine wm_gR X hS cd_1 0 h dX1_hand_24 (Nat.le_of_ble_eq_true rfl) rfl q434 (fun x39 h => ?_)
    refine wm_gRN X hS cd_2 11 h dX1_hand_27 (Nat.le_of_ble_eq_true rfl) rfl 11 rfl (fun x40 h => ?_)
    refine wm_iload_n X 1 dX1_hand_30 rfl ?_
    refine wm_iaload X hS h dX1_hand_31 (fun x41 h => ?_)
    refine wm_iconst (v := (-1)) X dX1_hand_32 (by decide) ?_
    refine wm_icmp_ne X 53 h dX1_hand_33 (by decide) (fun c46 h => ?_) (fun c46 h => ?_)
    · refine wm_iconst (v := 0) X dX1_hand_53 (by decide) ?_
      exact hJ54 _ _ _ _ _ _ h hC hZ
    · refine wm_aload_n X 0 dX1_hand_36 rfl ?_
      refine wm_gR X hS cd_1 0 h dX1_hand_37 (Nat.le_of_ble_eq_true rfl) rfl q434 (fun x42 h => ?_)
      refine wm_gRN X hS cd_2 17 h dX1_hand_40 (Nat.le_of_ble_eq_true rfl) rfl 17 rfl (fun x43 h => ?_)
      refine wm_iload_n X 2 dX1_hand_43 rfl ?_
      refine wm_iaload X hS h dX1_hand_44 (fun x44 h => ?_)
      refine wm_iconst (v := (-1)) X dX1_hand_45 (by decide) ?_
      refine wm_icmp_ne X 53 h dX1_hand_46 (by decide) (fun c45 h => ?_) (fun c45 h => ?_)
      · refine wm_iconst (v := 0) X dX1_hand_53 (by decide) ?_
        exact hJ54 _ _ _ _ _ _ h hC hZ
      · refine wm_iconst (v := 1) X dX1_hand_49 (by decide) ?_
        refine wm_goto X 54 dX1_hand_50 (by decide) ?_
        exact hJ54 _ _ _ _ _ _ h hC hZ
theorem mdX2_takes : MD yX2_takes 3 := by unfold MD; decide +kernel
theorem mvX2_takes : MV yX2_takes cX2_takes 4 (none) := ⟨q1677, q1678, q129, q1679⟩
set_option maxHeartbeats 4000000 in
theorem ctX2_takes (l : Launch) {h0 : Nat} {x1 : Int32} {x2 : Int32} {x3 : Option Nat} {σ σf : Mm} (h : FX2_takes h0 x1 x2 x3 σ = some σf) : CTv l yX2_takes (ws_ yX2_takes cX2_takes 4 (none)) 3 84 0 0 [va_rf (some h0), .int x1, .int x2, va_rf x3] σ σf := by
  refine ct_start (n := 3) mdX2_takes (Nat.le_of_ble_eq_true rfl) (c1_r (c1_i (c1_i (c1_r c1_0)))) (fun p e s m args below meth c D dA sz0 ad0 X hS hr hnm => ?_)
  have X : CX p s m args meth c cX2_takes 4 RX2 := X
  generalize mN σ = N0
  unfold FX2_takes at h
  refine wm_aload_n X 0 dX2_takes_0 rfl ?_
  refine wm_gR X hS cd_2 10 h dX2_takes_1 (Nat.le_of_ble_eq_true rfl) rfl q212 (fun x21 h => ?_)
  refine wm_iload_n X 1 dX2_takes_4 rfl ?_
  refine wm_aload_n X 0 dX2_takes_5 rfl ?_
  refine wm_gR X hS cd_2 17 h dX2_takes_6 (Nat.le_of_ble_eq_true rfl) rfl q229 (fun x22 h => ?_)
  refine wm_iload_n X 2 dX2_takes_9 rfl ?_
  refine wm_iaload X hS h dX2_takes_10 (fun x23 h => ?_)
  refine wm_iastore X hS h dX2_takes_11 (fun σ24 _ h => ?_)
  refine wm_aload_n X 0 dX2_takes_12 rfl ?_
  refine wm_gR X hS cd_2 17 h dX2_takes_13 (Nat.le_of_ble_eq_true rfl) rfl q229 (fun x25 h => ?_)
  refine wm_iload_n X 2 dX2_takes_16 rfl ?_
  refine wm_iconst (v := (-1)) X dX2_takes_17 (by decide) ?_
  refine wm_iastore X hS h dX2_takes_18 (fun σ26 _ h => ?_)
  refine wm_aload_n X 0 dX2_takes_19 rfl ?_
  refine wm_iload_n X 1 dX2_takes_20 rfl ?_
  refine wm_iload_n X 2 dX2_takes_21 rfl ?_
  refine wm_aload_n X 0 dX2_takes_22 rfl ?_
  refine wm_gR X hS cd_2 10 h dX2_takes_23 (Nat.le_of_ble_eq_true rfl) rfl q212 (fun x27 h => ?_)
  refine wm_iload_n X 1 dX2_takes_26 rfl ?_
  refine wm_iaload X hS h dX2_takes_27 (fun x28 h => ?_)
  refine wm_aload_n X 3 dX2_takes_28 rfl ?_
  obtain ⟨s29, h⟩ := ck_e h
  refine wm_cV_v (As := [.int x1, .int x2, .int x28, va_rf x3]) (st := []) X hS cd_2 s29 rfl h (fun _ hF => ctX2_tells l hF) mdX2_tells mvX2_tells q1652 dX2_takes_29 rfl rfl c1_0 (Nat.le_of_ble_eq_true rfl) ⟨Nat.le_of_ble_eq_true rfl, Nat.le_of_ble_eq_true rfl⟩ ⟨Nat.le_of_ble_eq_true rfl, Nat.le_of_ble_eq_true rfl⟩ (fun σ30 _ h => ?_)
  exact wm_vret X hr h dX2_takes_32 (Nat.le_of_ble_eq_true rfl) (Nat.le_of_ble_eq_true rfl)
theorem mdX2_fetches : MD yX2_fetches 1 := by unfold MD; decide +kernel
theorem mvX2_fetches : MV yX2_fetches cX2_fetches 3 (none) := ⟨q1671, q1672, q129, q1673⟩
set_option maxHeartbeats 4000000 in
theorem ctX2_fetches (l : Launch) {h0 : Nat} {x1 : Int32} {σ σf : Mm} (h : FX2_fetches h0 x1 σ = some σf) : CTv l yX2_fetches (ws_ yX2_fetches cX2_fetches 3 (none)) 4 107 0 0 [va_rf (some h0), .int x1] σ σf := by
  refine ct_start (n := 1) mdX2_fetches (Nat.le_of_ble_eq_true rfl) (c1_r (c1_i c1_0)) (fun p e s m args below meth c D dA sz0 ad0 X hS hr hnm => ?_)
  have X : CX p s m args meth c cX2_fetches 3 RX2 := X
  generalize mN σ = N0
  unfold FX2_fetches at h
  refine wm_aload_n X 0 dX2_fetches_0 rfl ?_
  refine wm_gR X hS cd_2 11 h dX2_fetches_1 (Nat.le_of_ble_eq_true rfl) rfl q215 (fun x21 h => ?_)
  refine wm_iload_n X 1 dX2_fetches_4 rfl ?_
  refine wm_iaload X hS h dX2_fetches_5 (fun x22 h => ?_)
  refine wm_istore_n (ℓ' := [(2, .int x22), (0, va_rf (some h0)), (1, .int x1)]) X dX2_fetches_6 (by decide) rfl ?_
  refine wm_aload_n X 1 dX2_fetches_7 rfl ?_
  refine wm_gR X hS cd_2 11 h dX2_fetches_8 (Nat.le_of_ble_eq_true rfl) rfl q215 (fun x23 h => ?_)
  refine wm_iload_n X 2 dX2_fetches_11 rfl ?_
  refine wm_iconst (v := (-1)) X dX2_fetches_12 (by decide) ?_
  refine wm_iastore X hS h dX2_fetches_13 (fun σ24 _ h => ?_)
  refine wm_aload_n X 1 dX2_fetches_14 rfl ?_
  refine wm_iload_n X 2 dX2_fetches_15 rfl ?_
  refine wm_iload_n X 0 dX2_fetches_16 rfl ?_
  refine wm_gst X hS 5 (BIG + 101) (by decide) (by decide) rfl (Nat.le_add_right _ _) dX2_fetches_17 q1674 ?_
  obtain ⟨s25, h⟩ := ck_e h
  refine wm_cV_v (As := [.int x1, .int x22, va_rf (some (BIG + 101))]) (st := []) X hS cd_2 s25 rfl h (fun _ hF => ctX2_takes l hF) mdX2_takes mvX2_takes q1676 dX2_fetches_20 rfl rfl c1_0 (Nat.le_of_ble_eq_true rfl) ⟨Nat.le_of_ble_eq_true rfl, Nat.le_of_ble_eq_true rfl⟩ ⟨Nat.le_of_ble_eq_true rfl, Nat.le_of_ble_eq_true rfl⟩ (fun σ26 _ h => ?_)
  exact wm_vret X hr h dX2_fetches_23 (Nat.le_of_ble_eq_true rfl) (Nat.le_of_ble_eq_true rfl)
theorem mdX1_fetch : MD yX1_fetch 1 := by unfold MD; decide +kernel
theorem mvX1_fetch : MV yX1_fetch cX1_fetch 2 ((some FieldType.int)) := ⟨q1667, q1668, q128, q1669⟩
set_option maxHeartbeats 4000000 in
theorem ctX1_fetch (l : Launch) (hl : l.stackTraces = false) {h0 : Nat} {x1 : Int32} {σ : Mm} {xo : (Int32 × Mm) ⊕ (Nat × Mm)} {mc ms : Nat} (h : FX1_fetch h0 x1 σ = some (xo, mc, ms)) : CTXi l yX1_fetch (ws_ yX1_fetch cX1_fetch 2 ((some FieldType.int))) 8 212 mc ms [va_rf (some h0), .int x1] σ xo := by
  refine ctx_start (n := 1) mdX1_fetch (Nat.le_of_ble_eq_true rfl) (c1_r (c1_i c1_0)) (fun p e s m args below meth c D dA sz0 ad0 X hS hr hnm hno => ?_)
  have X : CX p s m args meth c cX1_fetch 2 RX1 := X
  have hC : 0 + mc ≤ mc := Nat.le_of_eq (Nat.zero_add mc)
  have hZ : 0 + ms ≤ ms := Nat.le_of_eq (Nat.zero_add ms)
  generalize mN σ = N0
  unfold FX1_fetch at h
  refine wm_aload_n X 0 dX1_fetch_0 rfl ?_
  refine wm_iload_n X 1 dX1_fetch_1 rfl ?_
  obtain ⟨s21, h⟩ := ck_e h
  refine wm_dV_v (As := [.int x1]) (st := []) X hS hno cd_1 s21 rfl h hC hZ (fun _ _ _ hF => ctX1_personAt l hl hF) mdX1_personAt mvX1_personAt q1533 dX1_fetch_2 rfl rfl c1_0 (Nat.le_of_ble_eq_true rfl) ⟨Nat.le_of_ble_eq_true rfl, Nat.le_of_ble_eq_true rfl⟩ (Nat.le_refl _) (Nat.le_refl _) (fun σ22 c1 z1 C Z _ h hC hZ => ?_)
  refine wm_aload_n X 0 dX1_fetch_5 rfl ?_
  refine wm_gR X hS cd_1 0 h dX1_fetch_6 (Nat.le_of_ble_eq_true rfl) rfl q434 (fun x23 h => ?_)
  refine wm_gRN X hS cd_2 11 h dX1_fetch_9 (Nat.le_of_ble_eq_true rfl) rfl 11 rfl (fun x24 h => ?_)
  refine wm_iload_n X 1 dX1_fetch_12 rfl ?_
  refine wm_iaload X hS h dX1_fetch_13 (fun x25 h => ?_)
  refine wm_iconst (v := (-1)) X dX1_fetch_14 (by decide) ?_
  obtain ⟨J36, eJ36, h⟩ := jn_e h
  have hJ36 : ∀ (z26 : Int32) (σ : Mm) (C Z kc kz : Nat), J36 z26 σ = some (xo, C, Z) → kc + C ≤ mc → kz + Z ≤ ms → WMxi p l e s m args below meth c 8 212 mc ms 2 D dA sz0 ad0 N0 xo kc kz σ [(0, va_rf (some h0)), (1, .int x1)] [.int z26] 36 := by
    intro z26 σ C Z kc kz h hC hZ
    rw [eJ36] at h
    refine wm_dS_v (As := [.int z26]) (st := []) X hS hno h hC hZ (fun _ _ _ hF => ctX1_can l hl hF) mdX1_can msX1_can q1624 dX1_fetch_36 rfl rfl c1_0 (Nat.le_of_ble_eq_true rfl) ⟨Nat.le_of_ble_eq_true rfl, Nat.le_of_ble_eq_true rfl⟩ (Nat.le_refl _) (Nat.le_refl _) (fun σ27 c1 z1 C Z _ h hC hZ => ?_)
    refine wm_aload_n X 0 dX1_fetch_39 rfl ?_
    obtain ⟨s28, h⟩ := ck_e h
    refine wm_dV_v (As := []) (st := []) X hS hno cd_1 s28 rfl h hC hZ (fun _ _ _ hF => ctX1_remembers l hl hF) mdX1_remembers mvX1_remembers q1642 dX1_fetch_40 rfl rfl c1_0 (Nat.le_of_ble_eq_true rfl) ⟨Nat.le_of_ble_eq_true rfl, Nat.le_of_ble_eq_true rfl⟩ (Nat.le_refl _) (Nat.le_refl _) (fun σ29 c1 z1 C Z _ h hC hZ => ?_)
    refine wm_aload_n X 0 dX1_fetch_43 rfl ?_
    refine wm_gR X hS cd_1 0 h dX1_fetch_44 (Nat.le_of_ble_eq_true rfl) rfl q434 (fun x30 h => ?_)
    refine wm_iload_n X 1 dX1_fetch_47 rfl ?_
    obtain ⟨q31, eq31, h⟩ := Option.bind_eq_some_iff.mp h
    obtain ⟨eq31, s32⟩ := rv_some eq31
    refine wm_cV_v (As := [.int x1]) (st := []) X hS cd_2 s32 rfl h (fun _ hF => ctX2_fetches l hF) mdX2_fetches mvX2_fetches q1670 dX1_fetch_48 rfl (by rw [eq31]; first | done | rfl) c1_0 (Nat.le_of_ble_eq_true rfl) ⟨Nat.le_of_ble_eq_true rfl, Nat.le_of_ble_eq_true rfl⟩ ⟨le_p hC, le_p hZ⟩ (fun σ33 _ h => ?_)
    refine wm_aload_n X 0 dX1_fetch_51 rfl ?_
    refine wm_gR X hS cd_1 0 h dX1_fetch_52 (Nat.le_of_ble_eq_true rfl) rfl q434 (fun x34 h => ?_)
    refine wm_gRN X hS cd_2 10 h dX1_fetch_55 (Nat.le_of_ble_eq_true rfl) rfl 10 rfl (fun x35 h => ?_)
    refine wm_iload_n X 1 dX1_fetch_58 rfl ?_
    refine wm_iaload X hS h dX1_fetch_59 (fun x36 h => ?_)
    exact wm_xiret X hr (rt_e h) dX1_fetch_60 (le_p hC) (le_p hZ)
  clear eJ36
  refine wm_icmp_eq X 35 h dX1_fetch_15 (by decide) (fun c41 h => ?_) (fun c41 h => ?_)
  · refine wm_iconst (v := 0) X dX1_fetch_35 (by decide) ?_
    exact hJ36 _ _ _ _ _ _ h hC hZ
  · refine wm_aload_n X 0 dX1_fetch_18 rfl ?_
    refine wm_gR X hS cd_1 0 h dX1_fetch_19 (Nat.le_of_ble_eq_true rfl) rfl q434 (fun x37 h => ?_)
    refine wm_gRN X hS cd_2 10 h dX1_fetch_22 (Nat.le_of_ble_eq_true rfl) rfl 10 rfl (fun x38 h => ?_)
    refine wm_iload_n X 1 dX1_fetch_25 rfl ?_
    refine wm_iaload X hS h dX1_fetch_26 (fun x39 h => ?_)
    refine wm_iconst (v := (-1)) X dX1_fetch_27 (by decide) ?_
    refine wm_icmp_ne X 35 h dX1_fetch_28 (by decide) (fun c40 h => ?_) (fun c40 h => ?_)
    · refine wm_iconst (v := 0) X dX1_fetch_35 (by decide) ?_
      exact hJ36 _ _ _ _ _ _ h hC hZ
    · refine wm_iconst (v := 1) X dX1_fetch_31 (by decide) ?_
      refine wm_goto X 36 dX1_fetch_32 (by decide) ?_
      exact hJ36 _ _ _ _ _ _ h hC hZ
theorem mdX2_mixes : MD yX2_mixes 2 := by unfold MD; decide +kernel
theorem mvX2_mixes : MV yX2_mixes cX2_mixes 6 (none) := ⟨q1688, q1689, q129, q1690⟩
set_option maxHeartbeats 4000000 in
theorem ctX2_mixes (l : Launch) {h0 : Nat} {x1 : Int32} {x2 : Int32} {σ σf : Mm} (h : FX2_mixes h0 x1 x2 σ = some σf) : CTv l yX2_mixes (ws_ yX2_mixes cX2_mixes 6 (none)) 3 84 0 0 [va_rf (some h0), .int x1, .int x2] σ σf := by
  refine ct_start (n := 2) mdX2_mixes (Nat.le_of_ble_eq_true rfl) (c1_r (c1_i (c1_i c1_0))) (fun p e s m args below meth c D dA sz0 ad0 X hS hr hnm => ?_)
  have X : CX p s m args meth c cX2_mixes 6 RX2 := X
  generalize mN σ = N0
  unfold FX2_mixes at h
  refine wm_aload_n X 0 dX2_mixes_0 rfl ?_
  refine wm_gR X hS cd_2 11 h dX2_mixes_1 (Nat.le_of_ble_eq_true rfl) rfl q215 (fun x21 h => ?_)
  refine wm_iload_n X 1 dX2_mixes_4 rfl ?_
  refine wm_iaload X hS h dX2_mixes_5 (fun x22 h => ?_)
  refine wm_istore_n (ℓ' := [(3, .int x22), (0, va_rf (some h0)), (1, .int x1), (2, .int x2)]) X dX2_mixes_6 (by decide) rfl ?_
  refine wm_aload_n X 1 dX2_mixes_7 rfl ?_
  refine wm_gR X hS cd_2 11 h dX2_mixes_8 (Nat.le_of_ble_eq_true rfl) rfl q215 (fun x23 h => ?_)
  refine wm_iload_n X 2 dX2_mixes_11 rfl ?_
  refine wm_aload_n X 1 dX2_mixes_12 rfl ?_
  refine wm_gR X hS cd_2 11 h dX2_mixes_13 (Nat.le_of_ble_eq_true rfl) rfl q215 (fun x24 h => ?_)
  refine wm_iload_n X 3 dX2_mixes_16 rfl ?_
  refine wm_iaload X hS h dX2_mixes_17 (fun x25 h => ?_)
  refine wm_iastore X hS h dX2_mixes_18 (fun σ26 _ h => ?_)
  refine wm_aload_n X 1 dX2_mixes_19 rfl ?_
  refine wm_gR X hS cd_2 11 h dX2_mixes_20 (Nat.le_of_ble_eq_true rfl) rfl q215 (fun x27 h => ?_)
  refine wm_iload_n X 3 dX2_mixes_23 rfl ?_
  refine wm_iload_n X 0 dX2_mixes_24 rfl ?_
  refine wm_iastore X hS h dX2_mixes_25 (fun σ28 _ h => ?_)
  refine wm_iload_n X 2 dX2_mixes_26 rfl ?_
  refine wm_iload_n X 3 dX2_mixes_27 rfl ?_
  refine wm_mmin X dX2_mixes_28 q1662 q622 q146 q623 (Nat.le_of_ble_eq_true rfl) c1_0 (Nat.le_of_ble_eq_true rfl) (Nat.le_of_ble_eq_true rfl) (Nat.le_of_ble_eq_true rfl) (Nat.le_of_ble_eq_true rfl) ?_
  refine wm_istore (ℓ' := [(4, .int (imin x1 x2)), (3, .int x22), (0, va_rf (some h0)), (1, .int x1), (2, .int x2)]) X dX2_mixes_31 (by decide) rfl ?_
  refine wm_iload_n X 3 dX2_mixes_33 rfl ?_
  refine wm_iload_n X 4 dX2_mixes_34 rfl ?_
  refine wm_mmax X dX2_mixes_35 q1691 q795 q146 q796 (Nat.le_of_ble_eq_true rfl) c1_0 (Nat.le_of_ble_eq_true rfl) (Nat.le_of_ble_eq_true rfl) (Nat.le_of_ble_eq_true rfl) (Nat.le_of_ble_eq_true rfl) ?_
  refine wm_istore (ℓ' := [(5, .int (imax x1 x2)), (4, .int (imin x1 x2)), (3, .int x22), (0, va_rf (some h0)), (1, .int x1), (2, .int x2)]) X dX2_mixes_38 (by decide) rfl ?_
  refine wm_aload_n X 3 dX2_mixes_40 rfl ?_
  refine wm_iload X 1 dX2_mixes_41 rfl ?_
  refine wm_aload_n X 3 dX2_mixes_43 rfl ?_
  refine wm_gR X hS cd_2 11 h dX2_mixes_44 (Nat.le_of_ble_eq_true rfl) rfl q215 (fun x29 h => ?_)
  refine wm_iload X 1 dX2_mixes_47 rfl ?_
  refine wm_iaload X hS h dX2_mixes_49 (fun x30 h => ?_)
  refine wm_iconst (v := (-1)) X dX2_mixes_50 (by decide) ?_
  refine wm_gst X hS 7 (BIG + 103) (by decide) (by decide) rfl (Nat.le_add_right _ _) dX2_mixes_51 q1692 ?_
  obtain ⟨s31, h⟩ := ck_e h
  refine wm_cV_v (As := [.int (imin x1 x2), .int x30, .int (-1), va_rf (some (BIG + 103))]) (st := []) X hS cd_2 s31 rfl h (fun _ hF => ctX2_tells l hF) mdX2_tells mvX2_tells q1652 dX2_mixes_54 rfl rfl c1_0 (Nat.le_of_ble_eq_true rfl) ⟨Nat.le_of_ble_eq_true rfl, Nat.le_of_ble_eq_true rfl⟩ ⟨Nat.le_of_ble_eq_true rfl, Nat.le_of_ble_eq_true rfl⟩ (fun σ32 _ h => ?_)
  refine wm_aload_n X 3 dX2_mixes_57 rfl ?_
  refine wm_iload X 0 dX2_mixes_58 rfl ?_
  refine wm_aload_n X 3 dX2_mixes_60 rfl ?_
  refine wm_gR X hS cd_2 11 h dX2_mixes_61 (Nat.le_of_ble_eq_true rfl) rfl q215 (fun x33 h => ?_)
  refine wm_iload X 0 dX2_mixes_64 rfl ?_
  refine wm_iaload X hS h dX2_mixes_66 (fun x34 h => ?_)
  refine wm_iconst (v := (-1)) X dX2_mixes_67 (by decide) ?_
  refine wm_gst X hS 7 (BIG + 103) (by decide) (by decide) rfl (Nat.le_add_right _ _) dX2_mixes_68 q1692 ?_
  obtain ⟨s35, h⟩ := ck_e h
  refine wm_cV_v (As := [.int (imax x1 x2), .int x34, .int (-1), va_rf (some (BIG + 103))]) (st := []) X hS cd_2 s35 rfl h (fun _ hF => ctX2_tells l hF) mdX2_tells mvX2_tells q1652 dX2_mixes_71 rfl rfl c1_0 (Nat.le_of_ble_eq_true rfl) ⟨Nat.le_of_ble_eq_true rfl, Nat.le_of_ble_eq_true rfl⟩ ⟨Nat.le_of_ble_eq_true rfl, Nat.le_of_ble_eq_true rfl⟩ (fun σ36 _ h => ?_)
  exact wm_vret X hr h dX2_mixes_74 (Nat.le_of_ble_eq_true rfl) (Nat.le_of_ble_eq_true rfl)
theorem mdX1_mix : MD yX1_mix 2 := by unfold MD; decide +kernel
theorem mvX1_mix : MV yX1_mix cX1_mix 3 ((some FieldType.int)) := ⟨q1684, q1685, q128, q1686⟩
set_option maxHeartbeats 4000000 in
theorem ctX1_mix (l : Launch) (hl : l.stackTraces = false) {h0 : Nat} {x1 : Int32} {x2 : Int32} {σ : Mm} {xo : (Int32 × Mm) ⊕ (Nat × Mm)} {mc ms : Nat} (h : FX1_mix h0 x1 x2 σ = some (xo, mc, ms)) : CTXi l yX1_mix (ws_ yX1_mix cX1_mix 3 ((some FieldType.int))) 9 212 mc ms [va_rf (some h0), .int x1, .int x2] σ xo := by
  refine ctx_start (n := 2) mdX1_mix (Nat.le_of_ble_eq_true rfl) (c1_r (c1_i (c1_i c1_0))) (fun p e s m args below meth c D dA sz0 ad0 X hS hr hnm hno => ?_)
  have X : CX p s m args meth c cX1_mix 3 RX1 := X
  have hC : 0 + mc ≤ mc := Nat.le_of_eq (Nat.zero_add mc)
  have hZ : 0 + ms ≤ ms := Nat.le_of_eq (Nat.zero_add ms)
  generalize mN σ = N0
  unfold FX1_mix at h
  refine wm_aload_n X 0 dX1_mix_0 rfl ?_
  refine wm_iload_n X 1 dX1_mix_1 rfl ?_
  refine wm_iload_n X 2 dX1_mix_2 rfl ?_
  obtain ⟨s21, h⟩ := ck_e h
  refine wm_dV_v (As := [.int x1, .int x2]) (st := []) X hS hno cd_1 s21 rfl h hC hZ (fun _ _ _ hF => ctX1_twoAt l hl hF) mdX1_twoAt mvX1_twoAt q1609 dX1_mix_3 rfl rfl c1_0 (Nat.le_of_ble_eq_true rfl) ⟨Nat.le_of_ble_eq_true rfl, Nat.le_of_ble_eq_true rfl⟩ (Nat.le_refl _) (Nat.le_refl _) (fun σ22 c1 z1 C Z _ h hC hZ => ?_)
  refine wm_aload_n X 0 dX1_mix_6 rfl ?_
  refine wm_gR X hS cd_1 0 h dX1_mix_7 (Nat.le_of_ble_eq_true rfl) rfl q434 (fun x23 h => ?_)
  refine wm_gRN X hS cd_2 11 h dX1_mix_10 (Nat.le_of_ble_eq_true rfl) rfl 11 rfl (fun x24 h => ?_)
  refine wm_iload_n X 1 dX1_mix_13 rfl ?_
  refine wm_iaload X hS h dX1_mix_14 (fun x25 h => ?_)
  refine wm_iconst (v := (-1)) X dX1_mix_15 (by decide) ?_
  obtain ⟨J37, eJ37, h⟩ := jn_e h
  have hJ37 : ∀ (z26 : Int32) (σ : Mm) (C Z kc kz : Nat), J37 z26 σ = some (xo, C, Z) → kc + C ≤ mc → kz + Z ≤ ms → WMxi p l e s m args below meth c 9 212 mc ms 3 D dA sz0 ad0 N0 xo kc kz σ [(0, va_rf (some h0)), (1, .int x1), (2, .int x2)] [.int z26] 37 := by
    intro z26 σ C Z kc kz h hC hZ
    rw [eJ37] at h
    refine wm_dS_v (As := [.int z26]) (st := []) X hS hno h hC hZ (fun _ _ _ hF => ctX1_can l hl hF) mdX1_can msX1_can q1624 dX1_mix_37 rfl rfl c1_0 (Nat.le_of_ble_eq_true rfl) ⟨Nat.le_of_ble_eq_true rfl, Nat.le_of_ble_eq_true rfl⟩ (Nat.le_refl _) (Nat.le_refl _) (fun σ27 c1 z1 C Z _ h hC hZ => ?_)
    refine wm_aload_n X 0 dX1_mix_40 rfl ?_
    obtain ⟨s28, h⟩ := ck_e h
    refine wm_dV_v (As := []) (st := []) X hS hno cd_1 s28 rfl h hC hZ (fun _ _ _ hF => ctX1_remembers l hl hF) mdX1_remembers mvX1_remembers q1642 dX1_mix_41 rfl rfl c1_0 (Nat.le_of_ble_eq_true rfl) ⟨Nat.le_of_ble_eq_true rfl, Nat.le_of_ble_eq_true rfl⟩ (Nat.le_refl _) (Nat.le_refl _) (fun σ29 c1 z1 C Z _ h hC hZ => ?_)
    refine wm_aload_n X 0 dX1_mix_44 rfl ?_
    refine wm_gR X hS cd_1 0 h dX1_mix_45 (Nat.le_of_ble_eq_true rfl) rfl q434 (fun x30 h => ?_)
    refine wm_iload_n X 1 dX1_mix_48 rfl ?_
    refine wm_iload_n X 2 dX1_mix_49 rfl ?_
    obtain ⟨q31, eq31, h⟩ := Option.bind_eq_some_iff.mp h
    obtain ⟨eq31, s32⟩ := rv_some eq31
    refine wm_cV_v (As := [.int x1, .int x2]) (st := []) X hS cd_2 s32 rfl h (fun _ hF => ctX2_mixes l hF) mdX2_mixes mvX2_mixes q1687 dX1_mix_50 rfl (by rw [eq31]; first | done | rfl) c1_0 (Nat.le_of_ble_eq_true rfl) ⟨Nat.le_of_ble_eq_true rfl, Nat.le_of_ble_eq_true rfl⟩ ⟨le_p hC, le_p hZ⟩ (fun σ33 _ h => ?_)
    refine wm_aload_n X 0 dX1_mix_53 rfl ?_
    refine wm_gR X hS cd_1 0 h dX1_mix_54 (Nat.le_of_ble_eq_true rfl) rfl q434 (fun x34 h => ?_)
    refine wm_gRN X hS cd_2 11 h dX1_mix_57 (Nat.le_of_ble_eq_true rfl) rfl 11 rfl (fun x35 h => ?_)
    refine wm_iload_n X 1 dX1_mix_60 rfl ?_
    refine wm_iaload X hS h dX1_mix_61 (fun x36 h => ?_)
    exact wm_xiret X hr (rt_e h) dX1_mix_62 (le_p hC) (le_p hZ)
  clear eJ37
  refine wm_icmp_eq X 36 h dX1_mix_16 (by decide) (fun c41 h => ?_) (fun c41 h => ?_)
  · refine wm_iconst (v := 0) X dX1_mix_36 (by decide) ?_
    exact hJ37 _ _ _ _ _ _ h hC hZ
  · refine wm_aload_n X 0 dX1_mix_19 rfl ?_
    refine wm_gR X hS cd_1 0 h dX1_mix_20 (Nat.le_of_ble_eq_true rfl) rfl q434 (fun x37 h => ?_)
    refine wm_gRN X hS cd_2 11 h dX1_mix_23 (Nat.le_of_ble_eq_true rfl) rfl 11 rfl (fun x38 h => ?_)
    refine wm_iload_n X 2 dX1_mix_26 rfl ?_
    refine wm_iaload X hS h dX1_mix_27 (fun x39 h => ?_)
    refine wm_iconst (v := (-1)) X dX1_mix_28 (by decide) ?_
    refine wm_icmp_eq X 36 h dX1_mix_29 (by decide) (fun c40 h => ?_) (fun c40 h => ?_)
    · refine wm_iconst (v := 0) X dX1_mix_36 (by decide) ?_
      exact hJ37 _ _ _ _ _ _ h hC hZ
    · refine wm_iconst (v := 1) X dX1_mix_32 (by decide) ?_
      refine wm_goto X 37 dX1_mix_33 (by decide) ?_
      exact hJ37 _ _ _ _ _ _ h hC hZ
theorem mdX1_steal : MD yX1_steal 2 := by unfold MD; decide +kernel
theorem mvX1_steal : MV yX1_steal cX1_steal 3 ((some FieldType.int)) := ⟨q1698, q1699, q128, q1700⟩
set_option maxHeartbeats 4000000 in
theorem ctX1_steal (l : Launch) (hl : l.stackTraces = false) {h0 : Nat} {x1 : Int32} {x2 : Int32} {σ : Mm} {xo : (Int32 × Mm) ⊕ (Nat × Mm)} {mc ms : Nat} (h : FX1_steal h0 x1 x2 σ = some (xo, mc, ms)) : CTXi l yX1_steal (ws_ yX1_steal cX1_steal 3 ((some FieldType.int))) 8 212 mc ms [va_rf (some h0), .int x1, .int x2] σ xo := by
  refine ctx_start (n := 2) mdX1_steal (Nat.le_of_ble_eq_true rfl) (c1_r (c1_i (c1_i c1_0))) (fun p e s m args below meth c D dA sz0 ad0 X hS hr hnm hno => ?_)
  have X : CX p s m args meth c cX1_steal 3 RX1 := X
  have hC : 0 + mc ≤ mc := Nat.le_of_eq (Nat.zero_add mc)
  have hZ : 0 + ms ≤ ms := Nat.le_of_eq (Nat.zero_add ms)
  generalize mN σ = N0
  unfold FX1_steal at h
  refine wm_aload_n X 0 dX1_steal_0 rfl ?_
  refine wm_iload_n X 1 dX1_steal_1 rfl ?_
  obtain ⟨s21, h⟩ := ck_e h
  refine wm_dV_v (As := [.int x1]) (st := []) X hS hno cd_1 s21 rfl h hC hZ (fun _ _ _ hF => ctX1_personAt l hl hF) mdX1_personAt mvX1_personAt q1533 dX1_steal_2 rfl rfl c1_0 (Nat.le_of_ble_eq_true rfl) ⟨Nat.le_of_ble_eq_true rfl, Nat.le_of_ble_eq_true rfl⟩ (Nat.le_refl _) (Nat.le_refl _) (fun σ22 c1 z1 C Z _ h hC hZ => ?_)
  refine wm_aload_n X 0 dX1_steal_5 rfl ?_
  refine wm_iload_n X 2 dX1_steal_6 rfl ?_
  obtain ⟨s23, h⟩ := ck_e h
  refine wm_dV_v (As := [.int x2]) (st := []) X hS hno cd_1 s23 rfl h hC hZ (fun _ _ _ hF => ctX1_hookAt l hl hF) mdX1_hookAt mvX1_hookAt q1591 dX1_steal_7 rfl rfl c1_0 (Nat.le_of_ble_eq_true rfl) ⟨Nat.le_of_ble_eq_true rfl, Nat.le_of_ble_eq_true rfl⟩ (Nat.le_refl _) (Nat.le_refl _) (fun σ24 c1 z1 C Z _ h hC hZ => ?_)
  refine wm_aload_n X 0 dX1_steal_10 rfl ?_
  refine wm_gR X hS cd_1 0 h dX1_steal_11 (Nat.le_of_ble_eq_true rfl) rfl q434 (fun x25 h => ?_)
  refine wm_gRN X hS cd_2 10 h dX1_steal_14 (Nat.le_of_ble_eq_true rfl) rfl 10 rfl (fun x26 h => ?_)
  refine wm_iload_n X 1 dX1_steal_17 rfl ?_
  refine wm_iaload X hS h dX1_steal_18 (fun x27 h => ?_)
  refine wm_iconst (v := (-1)) X dX1_steal_19 (by decide) ?_
  obtain ⟨J41, eJ41, h⟩ := jn_e h
  have hJ41 : ∀ (z28 : Int32) (σ : Mm) (C Z kc kz : Nat), J41 z28 σ = some (xo, C, Z) → kc + C ≤ mc → kz + Z ≤ ms → WMxi p l e s m args below meth c 8 212 mc ms 3 D dA sz0 ad0 N0 xo kc kz σ [(0, va_rf (some h0)), (1, .int x1), (2, .int x2)] [.int z28] 41 := by
    intro z28 σ C Z kc kz h hC hZ
    rw [eJ41] at h
    refine wm_dS_v (As := [.int z28]) (st := []) X hS hno h hC hZ (fun _ _ _ hF => ctX1_can l hl hF) mdX1_can msX1_can q1624 dX1_steal_41 rfl rfl c1_0 (Nat.le_of_ble_eq_true rfl) ⟨Nat.le_of_ble_eq_true rfl, Nat.le_of_ble_eq_true rfl⟩ (Nat.le_refl _) (Nat.le_refl _) (fun σ29 c1 z1 C Z _ h hC hZ => ?_)
    refine wm_aload_n X 0 dX1_steal_44 rfl ?_
    obtain ⟨s30, h⟩ := ck_e h
    refine wm_dV_v (As := []) (st := []) X hS hno cd_1 s30 rfl h hC hZ (fun _ _ _ hF => ctX1_remembers l hl hF) mdX1_remembers mvX1_remembers q1642 dX1_steal_45 rfl rfl c1_0 (Nat.le_of_ble_eq_true rfl) ⟨Nat.le_of_ble_eq_true rfl, Nat.le_of_ble_eq_true rfl⟩ (Nat.le_refl _) (Nat.le_refl _) (fun σ31 c1 z1 C Z _ h hC hZ => ?_)
    refine wm_aload_n X 0 dX1_steal_48 rfl ?_
    refine wm_gR X hS cd_1 0 h dX1_steal_49 (Nat.le_of_ble_eq_true rfl) rfl q434 (fun x32 h => ?_)
    refine wm_iload_n X 1 dX1_steal_52 rfl ?_
    refine wm_iload_n X 2 dX1_steal_53 rfl ?_
    refine wm_gst X hS 6 (BIG + 102) (by decide) (by decide) rfl (Nat.le_add_right _ _) dX1_steal_54 q1701 ?_
    obtain ⟨q33, eq33, h⟩ := Option.bind_eq_some_iff.mp h
    obtain ⟨eq33, s34⟩ := rv_some eq33
    refine wm_cV_v (As := [.int x1, .int x2, va_rf (some (BIG + 102))]) (st := []) X hS cd_2 s34 rfl h (fun _ hF => ctX2_takes l hF) mdX2_takes mvX2_takes q1703 dX1_steal_57 rfl (by rw [eq33]; first | done | rfl) c1_0 (Nat.le_of_ble_eq_true rfl) ⟨Nat.le_of_ble_eq_true rfl, Nat.le_of_ble_eq_true rfl⟩ ⟨le_p hC, le_p hZ⟩ (fun σ35 _ h => ?_)
    refine wm_aload_n X 0 dX1_steal_60 rfl ?_
    refine wm_gR X hS cd_1 0 h dX1_steal_61 (Nat.le_of_ble_eq_true rfl) rfl q434 (fun x36 h => ?_)
    refine wm_gRN X hS cd_2 10 h dX1_steal_64 (Nat.le_of_ble_eq_true rfl) rfl 10 rfl (fun x37 h => ?_)
    refine wm_iload_n X 1 dX1_steal_67 rfl ?_
    refine wm_iaload X hS h dX1_steal_68 (fun x38 h => ?_)
    exact wm_xiret X hr (rt_e h) dX1_steal_69 (le_p hC) (le_p hZ)
  clear eJ41
  refine wm_icmp_ne X 40 h dX1_steal_20 (by decide) (fun c43 h => ?_) (fun c43 h => ?_)
  · refine wm_iconst (v := 0) X dX1_steal_40 (by decide) ?_
    exact hJ41 _ _ _ _ _ _ h hC hZ
  · refine wm_aload_n X 0 dX1_steal_23 rfl ?_
    refine wm_gR X hS cd_1 0 h dX1_steal_24 (Nat.le_of_ble_eq_true rfl) rfl q434 (fun x39 h => ?_)
    refine wm_gRN X hS cd_2 17 h dX1_steal_27 (Nat.le_of_ble_eq_true rfl) rfl 17 rfl (fun x40 h => ?_)
    refine wm_iload_n X 2 dX1_steal_30 rfl ?_
    refine wm_iaload X hS h dX1_steal_31 (fun x41 h => ?_)
    refine wm_iconst (v := (-1)) X dX1_steal_32 (by decide) ?_
    refine wm_icmp_eq X 40 h dX1_steal_33 (by decide) (fun c42 h => ?_) (fun c42 h => ?_)
    · refine wm_iconst (v := 0) X dX1_steal_40 (by decide) ?_
      exact hJ41 _ _ _ _ _ _ h hC hZ
    · refine wm_iconst (v := 1) X dX1_steal_36 (by decide) ?_
      refine wm_goto X 41 dX1_steal_37 (by decide) ?_
      exact hJ41 _ _ _ _ _ _ h hC hZ
theorem mdX1_change : MD yX1_change 2 := by unfold MD; decide +kernel
theorem mvX1_change : MV yX1_change cX1_change 4 ((some FieldType.int)) := ⟨q1708, q1709, q128, q1710⟩
set_option maxHeartbeats 4000000 in
theorem ctX1_change (l : Launch) (hl : l.stackTraces = false) {h0 : Nat} {x1 : Int32} {x2 : Int32} {σ : Mm} {xo : (Int32 × Mm) ⊕ (Nat × Mm)} {mc ms : Nat} (h : FX1_change h0 x1 x2 σ = some (xo, mc, ms)) : CTXi l yX1_change (ws_ yX1_change cX1_change 4 ((some FieldType.int))) 9 212 mc ms [va_rf (some h0), .int x1, .int x2] σ xo := by
  refine ctx_start (n := 2) mdX1_change (Nat.le_of_ble_eq_true rfl) (c1_r (c1_i (c1_i c1_0))) (fun p e s m args below meth c D dA sz0 ad0 X hS hr hnm hno => ?_)
  have X : CX p s m args meth c cX1_change 4 RX1 := X
  have hC : 0 + mc ≤ mc := Nat.le_of_eq (Nat.zero_add mc)
  have hZ : 0 + ms ≤ ms := Nat.le_of_eq (Nat.zero_add ms)
  generalize mN σ = N0
  unfold FX1_change at h
  refine wm_aload_n X 0 dX1_change_0 rfl ?_
  refine wm_iload_n X 1 dX1_change_1 rfl ?_
  refine wm_iload_n X 2 dX1_change_2 rfl ?_
  obtain ⟨s21, h⟩ := ck_e h
  refine wm_dV_v (As := [.int x1, .int x2]) (st := []) X hS hno cd_1 s21 rfl h hC hZ (fun _ _ _ hF => ctX1_twoAt l hl hF) mdX1_twoAt mvX1_twoAt q1609 dX1_change_3 rfl rfl c1_0 (Nat.le_of_ble_eq_true rfl) ⟨Nat.le_of_ble_eq_true rfl, Nat.le_of_ble_eq_true rfl⟩ (Nat.le_refl _) (Nat.le_refl _) (fun σ22 c1 z1 C Z _ h hC hZ => ?_)
  refine wm_aload_n X 0 dX1_change_6 rfl ?_
  refine wm_gR X hS cd_1 0 h dX1_change_7 (Nat.le_of_ble_eq_true rfl) rfl q434 (fun x23 h => ?_)
  refine wm_gRN X hS cd_2 10 h dX1_change_10 (Nat.le_of_ble_eq_true rfl) rfl 10 rfl (fun x24 h => ?_)
  refine wm_iload_n X 1 dX1_change_13 rfl ?_
  refine wm_iaload X hS h dX1_change_14 (fun x25 h => ?_)
  refine wm_iconst (v := (-1)) X dX1_change_15 (by decide) ?_
  obtain ⟨J37, eJ37, h⟩ := jn_e h
  have hJ37 : ∀ (z26 : Int32) (σ : Mm) (C Z kc kz : Nat), J37 z26 σ = some (xo, C, Z) → kc + C ≤ mc → kz + Z ≤ ms → WMxi p l e s m args below meth c 9 212 mc ms 4 D dA sz0 ad0 N0 xo kc kz σ [(0, va_rf (some h0)), (1, .int x1), (2, .int x2)] [.int z26] 37 := by
    intro z26 σ C Z kc kz h hC hZ
    rw [eJ37] at h
    refine wm_dS_v (As := [.int z26]) (st := []) X hS hno h hC hZ (fun _ _ _ hF => ctX1_can l hl hF) mdX1_can msX1_can q1624 dX1_change_37 rfl rfl c1_0 (Nat.le_of_ble_eq_true rfl) ⟨Nat.le_of_ble_eq_true rfl, Nat.le_of_ble_eq_true rfl⟩ (Nat.le_refl _) (Nat.le_refl _) (fun σ27 c1 z1 C Z _ h hC hZ => ?_)
    refine wm_aload_n X 0 dX1_change_40 rfl ?_
    obtain ⟨s28, h⟩ := ck_e h
    refine wm_dV_v (As := []) (st := []) X hS hno cd_1 s28 rfl h hC hZ (fun _ _ _ hF => ctX1_remembers l hl hF) mdX1_remembers mvX1_remembers q1642 dX1_change_41 rfl rfl c1_0 (Nat.le_of_ble_eq_true rfl) ⟨Nat.le_of_ble_eq_true rfl, Nat.le_of_ble_eq_true rfl⟩ (Nat.le_refl _) (Nat.le_refl _) (fun σ29 c1 z1 C Z _ h hC hZ => ?_)
    refine wm_aload_n X 0 dX1_change_44 rfl ?_
    refine wm_gR X hS cd_1 0 h dX1_change_45 (Nat.le_of_ble_eq_true rfl) rfl q434 (fun x30 h => ?_)
    refine wm_gRN X hS cd_2 10 h dX1_change_48 (Nat.le_of_ble_eq_true rfl) rfl 10 rfl (fun x31 h => ?_)
    refine wm_iload_n X 1 dX1_change_51 rfl ?_
    refine wm_iaload X hS h dX1_change_52 (fun x32 h => ?_)
    refine wm_istore_n (ℓ' := [(3, .int x32), (0, va_rf (some h0)), (1, .int x1), (2, .int x2)]) X dX1_change_53 (by decide) rfl ?_
    refine wm_aload_n X 1 dX1_change_54 rfl ?_
    refine wm_gR X hS cd_1 0 h dX1_change_55 (Nat.le_of_ble_eq_true rfl) rfl q434 (fun x33 h => ?_)
    refine wm_gRN X hS cd_2 10 h dX1_change_58 (Nat.le_of_ble_eq_true rfl) rfl 10 rfl (fun x34 h => ?_)
    refine wm_iload_n X 2 dX1_change_61 rfl ?_
    refine wm_aload_n X 1 dX1_change_62 rfl ?_
    refine wm_gR X hS cd_1 0 h dX1_change_63 (Nat.le_of_ble_eq_true rfl) rfl q434 (fun x35 h => ?_)
    refine wm_gRN X hS cd_2 10 h dX1_change_66 (Nat.le_of_ble_eq_true rfl) rfl 10 rfl (fun x36 h => ?_)
    refine wm_iload_n X 3 dX1_change_69 rfl ?_
    refine wm_iaload X hS h dX1_change_70 (fun x37 h => ?_)
    refine wm_iastore X hS h dX1_change_71 (fun σ38 _ h => ?_)
    refine wm_aload_n X 1 dX1_change_72 rfl ?_
    refine wm_gR X hS cd_1 0 h dX1_change_73 (Nat.le_of_ble_eq_true rfl) rfl q434 (fun x39 h => ?_)
    refine wm_gRN X hS cd_2 10 h dX1_change_76 (Nat.le_of_ble_eq_true rfl) rfl 10 rfl (fun x40 h => ?_)
    refine wm_iload_n X 3 dX1_change_79 rfl ?_
    refine wm_iload_n X 0 dX1_change_80 rfl ?_
    refine wm_iastore X hS h dX1_change_81 (fun σ41 _ h => ?_)
    refine wm_aload_n X 1 dX1_change_82 rfl ?_
    refine wm_gR X hS cd_1 0 h dX1_change_83 (Nat.le_of_ble_eq_true rfl) rfl q434 (fun x42 h => ?_)
    refine wm_gRN X hS cd_2 10 h dX1_change_86 (Nat.le_of_ble_eq_true rfl) rfl 10 rfl (fun x43 h => ?_)
    refine wm_iload_n X 2 dX1_change_89 rfl ?_
    refine wm_iaload X hS h dX1_change_90 (fun x44 h => ?_)
    exact wm_xiret X hr (rt_e h) dX1_change_91 (le_p hC) (le_p hZ)
  clear eJ37
  refine wm_icmp_eq X 36 h dX1_change_16 (by decide) (fun c49 h => ?_) (fun c49 h => ?_)
  · refine wm_iconst (v := 0) X dX1_change_36 (by decide) ?_
    exact hJ37 _ _ _ _ _ _ h hC hZ
  · refine wm_aload_n X 0 dX1_change_19 rfl ?_
    refine wm_gR X hS cd_1 0 h dX1_change_20 (Nat.le_of_ble_eq_true rfl) rfl q434 (fun x45 h => ?_)
    refine wm_gRN X hS cd_2 10 h dX1_change_23 (Nat.le_of_ble_eq_true rfl) rfl 10 rfl (fun x46 h => ?_)
    refine wm_iload_n X 2 dX1_change_26 rfl ?_
    refine wm_iaload X hS h dX1_change_27 (fun x47 h => ?_)
    refine wm_iconst (v := (-1)) X dX1_change_28 (by decide) ?_
    refine wm_icmp_eq X 36 h dX1_change_29 (by decide) (fun c48 h => ?_) (fun c48 h => ?_)
    · refine wm_iconst (v := 0) X dX1_change_36 (by decide) ?_
      exact hJ37 _ _ _ _ _ _ h hC hZ
    · refine wm_iconst (v := 1) X dX1_change_32 (by decide) ?_
      refine wm_goto X 37 dX1_change_33 (by decide) ?_
      exact hJ37 _ _ _ _ _ _ h hC hZ
theorem mdX1_shave : MD yX1_shave 2 := by unfold MD; decide +kernel
theorem mvX1_shave : MV yX1_shave cX1_shave 3 ((some FieldType.int)) := ⟨q1715, q1716, q128, q1717⟩
set_option maxHeartbeats 4000000 in
theorem ctX1_shave (l : Launch) (hl : l.stackTraces = false) {h0 : Nat} {x1 : Int32} {x2 : Int32} {σ : Mm} {xo : (Int32 × Mm) ⊕ (Nat × Mm)} {mc ms : Nat} (h : FX1_shave h0 x1 x2 σ = some (xo, mc, ms)) : CTXi l yX1_shave (ws_ yX1_shave cX1_shave 3 ((some FieldType.int))) 8 212 mc ms [va_rf (some h0), .int x1, .int x2] σ xo := by
  refine ctx_start (n := 2) mdX1_shave (Nat.le_of_ble_eq_true rfl) (c1_r (c1_i (c1_i c1_0))) (fun p e s m args below meth c D dA sz0 ad0 X hS hr hnm hno => ?_)
  have X : CX p s m args meth c cX1_shave 3 RX1 := X
  have hC : 0 + mc ≤ mc := Nat.le_of_eq (Nat.zero_add mc)
  have hZ : 0 + ms ≤ ms := Nat.le_of_eq (Nat.zero_add ms)
  generalize mN σ = N0
  unfold FX1_shave at h
  refine wm_aload_n X 0 dX1_shave_0 rfl ?_
  refine wm_iload_n X 1 dX1_shave_1 rfl ?_
  obtain ⟨s21, h⟩ := ck_e h
  refine wm_dV_v (As := [.int x1]) (st := []) X hS hno cd_1 s21 rfl h hC hZ (fun _ _ _ hF => ctX1_personAt l hl hF) mdX1_personAt mvX1_personAt q1533 dX1_shave_2 rfl rfl c1_0 (Nat.le_of_ble_eq_true rfl) ⟨Nat.le_of_ble_eq_true rfl, Nat.le_of_ble_eq_true rfl⟩ (Nat.le_refl _) (Nat.le_refl _) (fun σ22 c1 z1 C Z _ h hC hZ => ?_)
  refine wm_iload_n X 2 dX1_shave_5 rfl ?_
  refine wm_bipush (v := 8) X dX1_shave_6 (by decide) ?_
  refine wm_dS_v (As := [.int x2, .int 8]) (st := []) X hS hno h hC hZ (fun _ _ _ hF => ctX1_there l hl hF) mdX1_there msX1_there q1537 dX1_shave_8 rfl rfl c1_0 (Nat.le_of_ble_eq_true rfl) ⟨Nat.le_of_ble_eq_true rfl, Nat.le_of_ble_eq_true rfl⟩ (Nat.le_refl _) (Nat.le_refl _) (fun σ23 c1 z1 C Z _ h hC hZ => ?_)
  refine wm_aload_n X 0 dX1_shave_11 rfl ?_
  refine wm_gR X hS cd_1 0 h dX1_shave_12 (Nat.le_of_ble_eq_true rfl) rfl q434 (fun x24 h => ?_)
  refine wm_gRN X hS cd_2 8 h dX1_shave_15 (Nat.le_of_ble_eq_true rfl) rfl 8 rfl (fun x25 h => ?_)
  refine wm_iload_n X 1 dX1_shave_18 rfl ?_
  refine wm_iaload X hS h dX1_shave_19 (fun x26 h => ?_)
  refine wm_iload_n X 2 dX1_shave_20 rfl ?_
  refine wm_cS_i (As := [.int x26, .int x2]) (st := []) X hS h (fun _ _ hF => ctX1_has l hF) mdX1_has msX1_has q535 dX1_shave_21 rfl rfl c1_0 (Nat.le_of_ble_eq_true rfl) ⟨Nat.le_of_ble_eq_true rfl, Nat.le_of_ble_eq_true rfl⟩ ⟨le_p hC, le_p hZ⟩ (fun x27 σ28 _ h => ?_)
  refine wm_dS_v (As := [.int x27]) (st := []) X hS hno h hC hZ (fun _ _ _ hF => ctX1_can l hl hF) mdX1_can msX1_can q1624 dX1_shave_24 rfl rfl c1_0 (Nat.le_of_ble_eq_true rfl) ⟨Nat.le_of_ble_eq_true rfl, Nat.le_of_ble_eq_true rfl⟩ (Nat.le_refl _) (Nat.le_refl _) (fun σ29 c1 z1 C Z _ h hC hZ => ?_)
  refine wm_aload_n X 0 dX1_shave_27 rfl ?_
  obtain ⟨s30, h⟩ := ck_e h
  refine wm_dV_v (As := []) (st := []) X hS hno cd_1 s30 rfl h hC hZ (fun _ _ _ hF => ctX1_remembers l hl hF) mdX1_remembers mvX1_remembers q1642 dX1_shave_28 rfl rfl c1_0 (Nat.le_of_ble_eq_true rfl) ⟨Nat.le_of_ble_eq_true rfl, Nat.le_of_ble_eq_true rfl⟩ (Nat.le_refl _) (Nat.le_refl _) (fun σ31 c1 z1 C Z _ h hC hZ => ?_)
  refine wm_aload_n X 0 dX1_shave_31 rfl ?_
  refine wm_gR X hS cd_1 0 h dX1_shave_32 (Nat.le_of_ble_eq_true rfl) rfl q434 (fun x32 h => ?_)
  refine wm_gRN X hS cd_2 8 h dX1_shave_35 (Nat.le_of_ble_eq_true rfl) rfl 8 rfl (fun x33 h => ?_)
  refine wm_iload_n X 1 dX1_shave_38 rfl ?_
  refine wm_dup2 X dX1_shave_39 rfl (catR _) ?_
  refine wm_iaload X hS h dX1_shave_40 (fun x34 h => ?_)
  refine wm_iconst (v := 1) X dX1_shave_41 (by decide) ?_
  refine wm_iload_n X 2 dX1_shave_42 rfl ?_
  refine wm_ishl X dX1_shave_43 ?_
  refine wm_iconst (v := (-1)) X dX1_shave_44 (by decide) ?_
  refine wm_ixor X dX1_shave_45 ?_
  refine wm_iand X dX1_shave_46 ?_
  refine wm_iastore X hS h dX1_shave_47 (fun σ35 _ h => ?_)
  refine wm_aload_n X 0 dX1_shave_48 rfl ?_
  refine wm_gR X hS cd_1 0 h dX1_shave_49 (Nat.le_of_ble_eq_true rfl) rfl q434 (fun x36 h => ?_)
  refine wm_gRN X hS cd_2 8 h dX1_shave_52 (Nat.le_of_ble_eq_true rfl) rfl 8 rfl (fun x37 h => ?_)
  refine wm_iload_n X 1 dX1_shave_55 rfl ?_
  refine wm_iaload X hS h dX1_shave_56 (fun x38 h => ?_)
  refine wm_cS_i (As := [.int x38]) (st := []) X hS h (fun _ _ hF => ctJ16_bitCount l hF) mdJ16_bitCount msJ16_bitCount q538 dX1_shave_57 rfl rfl c1_0 (Nat.le_of_ble_eq_true rfl) ⟨Nat.le_of_ble_eq_true rfl, Nat.le_of_ble_eq_true rfl⟩ ⟨le_p hC, le_p hZ⟩ (fun x39 σ40 _ h => ?_)
  exact wm_xiret X hr (rt_e h) dX1_shave_60 (le_p hC) (le_p hZ)
theorem mdX1_graft : MD yX1_graft 3 := by unfold MD; decide +kernel
theorem mvX1_graft : MV yX1_graft cX1_graft 4 ((some FieldType.int)) := ⟨q1722, q1723, q128, q1724⟩
set_option maxHeartbeats 4000000 in
theorem ctX1_graft (l : Launch) (hl : l.stackTraces = false) {h0 : Nat} {x1 : Int32} {x2 : Int32} {x3 : Int32} {σ : Mm} {xo : (Int32 × Mm) ⊕ (Nat × Mm)} {mc ms : Nat} (h : FX1_graft h0 x1 x2 x3 σ = some (xo, mc, ms)) : CTXi l yX1_graft (ws_ yX1_graft cX1_graft 4 ((some FieldType.int))) 8 212 mc ms [va_rf (some h0), .int x1, .int x2, .int x3] σ xo := by
  refine ctx_start (n := 3) mdX1_graft (Nat.le_of_ble_eq_true rfl) (c1_r (c1_i (c1_i (c1_i c1_0)))) (fun p e s m args below meth c D dA sz0 ad0 X hS hr hnm hno => ?_)
  have X : CX p s m args meth c cX1_graft 4 RX1 := X
  have hC : 0 + mc ≤ mc := Nat.le_of_eq (Nat.zero_add mc)
  have hZ : 0 + ms ≤ ms := Nat.le_of_eq (Nat.zero_add ms)
  generalize mN σ = N0
  unfold FX1_graft at h
  refine wm_aload_n X 0 dX1_graft_0 rfl ?_
  refine wm_iload_n X 1 dX1_graft_1 rfl ?_
  obtain ⟨s21, h⟩ := ck_e h
  refine wm_dV_v (As := [.int x1]) (st := []) X hS hno cd_1 s21 rfl h hC hZ (fun _ _ _ hF => ctX1_personAt l hl hF) mdX1_personAt mvX1_personAt q1533 dX1_graft_2 rfl rfl c1_0 (Nat.le_of_ble_eq_true rfl) ⟨Nat.le_of_ble_eq_true rfl, Nat.le_of_ble_eq_true rfl⟩ (Nat.le_refl _) (Nat.le_refl _) (fun σ22 c1 z1 C Z _ h hC hZ => ?_)
  refine wm_aload_n X 0 dX1_graft_5 rfl ?_
  refine wm_iload_n X 2 dX1_graft_6 rfl ?_
  obtain ⟨s23, h⟩ := ck_e h
  refine wm_dV_v (As := [.int x2]) (st := []) X hS hno cd_1 s23 rfl h hC hZ (fun _ _ _ hF => ctX1_personAt l hl hF) mdX1_personAt mvX1_personAt q1533 dX1_graft_7 rfl rfl c1_0 (Nat.le_of_ble_eq_true rfl) ⟨Nat.le_of_ble_eq_true rfl, Nat.le_of_ble_eq_true rfl⟩ (Nat.le_refl _) (Nat.le_refl _) (fun σ24 c1 z1 C Z _ h hC hZ => ?_)
  refine wm_iload_n X 3 dX1_graft_10 rfl ?_
  refine wm_bipush (v := 8) X dX1_graft_11 (by decide) ?_
  refine wm_dS_v (As := [.int x3, .int 8]) (st := []) X hS hno h hC hZ (fun _ _ _ hF => ctX1_there l hl hF) mdX1_there msX1_there q1537 dX1_graft_13 rfl rfl c1_0 (Nat.le_of_ble_eq_true rfl) ⟨Nat.le_of_ble_eq_true rfl, Nat.le_of_ble_eq_true rfl⟩ (Nat.le_refl _) (Nat.le_refl _) (fun σ25 c1 z1 C Z _ h hC hZ => ?_)
  refine wm_iload_n X 1 dX1_graft_16 rfl ?_
  refine wm_iload_n X 2 dX1_graft_17 rfl ?_
  obtain ⟨J26, eJ26, h⟩ := jn_e h
  have hJ26 : ∀ (z26 : Int32) (σ : Mm) (C Z kc kz : Nat), J26 z26 σ = some (xo, C, Z) → kc + C ≤ mc → kz + Z ≤ ms → WMxi p l e s m args below meth c 8 212 mc ms 4 D dA sz0 ad0 N0 xo kc kz σ [(0, va_rf (some h0)), (1, .int x1), (2, .int x2), (3, .int x3)] [.int z26] 26 := by
    intro z26 σ C Z kc kz h hC hZ
    rw [eJ26] at h
    refine wm_dS_v (As := [.int z26]) (st := []) X hS hno h hC hZ (fun _ _ _ hF => ctX1_demand l hl hF) mdX1_demand msX1_demand q1613 dX1_graft_26 rfl rfl c1_0 (Nat.le_of_ble_eq_true rfl) ⟨Nat.le_of_ble_eq_true rfl, Nat.le_of_ble_eq_true rfl⟩ (Nat.le_refl _) (Nat.le_refl _) (fun σ27 c1 z1 C Z _ h hC hZ => ?_)
    refine wm_aload_n X 0 dX1_graft_29 rfl ?_
    refine wm_gR X hS cd_1 0 h dX1_graft_30 (Nat.le_of_ble_eq_true rfl) rfl q434 (fun x28 h => ?_)
    refine wm_gRN X hS cd_2 8 h dX1_graft_33 (Nat.le_of_ble_eq_true rfl) rfl 8 rfl (fun x29 h => ?_)
    refine wm_iload_n X 1 dX1_graft_36 rfl ?_
    refine wm_iaload X hS h dX1_graft_37 (fun x30 h => ?_)
    refine wm_iload_n X 3 dX1_graft_38 rfl ?_
    refine wm_cS_i (As := [.int x30, .int x3]) (st := []) X hS h (fun _ _ hF => ctX1_has l hF) mdX1_has msX1_has q535 dX1_graft_39 rfl rfl c1_0 (Nat.le_of_ble_eq_true rfl) ⟨Nat.le_of_ble_eq_true rfl, Nat.le_of_ble_eq_true rfl⟩ ⟨le_p hC, le_p hZ⟩ (fun x31 σ32 _ h => ?_)
    obtain ⟨J66, eJ66, h⟩ := jn_e h
    have hJ66 : ∀ (z33 : Int32) (σ : Mm) (C Z kc kz : Nat), J66 z33 σ = some (xo, C, Z) → kc + C ≤ mc → kz + Z ≤ ms → WMxi p l e s m args below meth c 8 212 mc ms 4 D dA sz0 ad0 N0 xo kc kz σ [(0, va_rf (some h0)), (1, .int x1), (2, .int x2), (3, .int x3)] [.int z33] 66 := by
      intro z33 σ C Z kc kz h hC hZ
      rw [eJ66] at h
      refine wm_dS_v (As := [.int z33]) (st := []) X hS hno h hC hZ (fun _ _ _ hF => ctX1_can l hl hF) mdX1_can msX1_can q1624 dX1_graft_66 rfl rfl c1_0 (Nat.le_of_ble_eq_true rfl) ⟨Nat.le_of_ble_eq_true rfl, Nat.le_of_ble_eq_true rfl⟩ (Nat.le_refl _) (Nat.le_refl _) (fun σ34 c1 z1 C Z _ h hC hZ => ?_)
      refine wm_aload_n X 0 dX1_graft_69 rfl ?_
      obtain ⟨s35, h⟩ := ck_e h
      refine wm_dV_v (As := []) (st := []) X hS hno cd_1 s35 rfl h hC hZ (fun _ _ _ hF => ctX1_remembers l hl hF) mdX1_remembers mvX1_remembers q1642 dX1_graft_70 rfl rfl c1_0 (Nat.le_of_ble_eq_true rfl) ⟨Nat.le_of_ble_eq_true rfl, Nat.le_of_ble_eq_true rfl⟩ (Nat.le_refl _) (Nat.le_refl _) (fun σ36 c1 z1 C Z _ h hC hZ => ?_)
      refine wm_aload_n X 0 dX1_graft_73 rfl ?_
      refine wm_gR X hS cd_1 0 h dX1_graft_74 (Nat.le_of_ble_eq_true rfl) rfl q434 (fun x37 h => ?_)
      refine wm_gRN X hS cd_2 8 h dX1_graft_77 (Nat.le_of_ble_eq_true rfl) rfl 8 rfl (fun x38 h => ?_)
      refine wm_iload_n X 1 dX1_graft_80 rfl ?_
      refine wm_dup2 X dX1_graft_81 rfl (catR _) ?_
      refine wm_iaload X hS h dX1_graft_82 (fun x39 h => ?_)
      refine wm_iconst (v := 1) X dX1_graft_83 (by decide) ?_
      refine wm_iload_n X 3 dX1_graft_84 rfl ?_
      refine wm_ishl X dX1_graft_85 ?_
      refine wm_iconst (v := (-1)) X dX1_graft_86 (by decide) ?_
      refine wm_ixor X dX1_graft_87 ?_
      refine wm_iand X dX1_graft_88 ?_
      refine wm_iastore X hS h dX1_graft_89 (fun σ40 _ h => ?_)
      refine wm_aload_n X 0 dX1_graft_90 rfl ?_
      refine wm_gR X hS cd_1 0 h dX1_graft_91 (Nat.le_of_ble_eq_true rfl) rfl q434 (fun x41 h => ?_)
      refine wm_gRN X hS cd_2 8 h dX1_graft_94 (Nat.le_of_ble_eq_true rfl) rfl 8 rfl (fun x42 h => ?_)
      refine wm_iload_n X 2 dX1_graft_97 rfl ?_
      refine wm_dup2 X dX1_graft_98 rfl (catR _) ?_
      refine wm_iaload X hS h dX1_graft_99 (fun x43 h => ?_)
      refine wm_iconst (v := 1) X dX1_graft_100 (by decide) ?_
      refine wm_iload_n X 3 dX1_graft_101 rfl ?_
      refine wm_ishl X dX1_graft_102 ?_
      refine wm_ior X dX1_graft_103 ?_
      refine wm_iastore X hS h dX1_graft_104 (fun σ44 _ h => ?_)
      refine wm_aload_n X 0 dX1_graft_105 rfl ?_
      refine wm_gR X hS cd_1 0 h dX1_graft_106 (Nat.le_of_ble_eq_true rfl) rfl q434 (fun x45 h => ?_)
      refine wm_gRN X hS cd_2 8 h dX1_graft_109 (Nat.le_of_ble_eq_true rfl) rfl 8 rfl (fun x46 h => ?_)
      refine wm_iload_n X 2 dX1_graft_112 rfl ?_
      refine wm_iaload X hS h dX1_graft_113 (fun x47 h => ?_)
      refine wm_cS_i (As := [.int x47]) (st := []) X hS h (fun _ _ hF => ctJ16_bitCount l hF) mdJ16_bitCount msJ16_bitCount q538 dX1_graft_114 rfl rfl c1_0 (Nat.le_of_ble_eq_true rfl) ⟨Nat.le_of_ble_eq_true rfl, Nat.le_of_ble_eq_true rfl⟩ ⟨le_p hC, le_p hZ⟩ (fun x48 σ49 _ h => ?_)
      exact wm_xiret X hr (rt_e h) dX1_graft_117 (le_p hC) (le_p hZ)
    clear eJ66
    refine wm_if_eq X 65 h dX1_graft_42 (by decide) (fun c56 h => ?_) (fun c56 h => ?_)
    · refine wm_iconst (v := 0) X dX1_graft_65 (by decide) ?_
      exact hJ66 _ _ _ _ _ _ h hC hZ
    · refine wm_aload_n X 0 dX1_graft_45 rfl ?_
      refine wm_gR X hS cd_1 0 h dX1_graft_46 (Nat.le_of_ble_eq_true rfl) rfl q434 (fun x50 h => ?_)
      refine wm_gRN X hS cd_2 8 h dX1_graft_49 (Nat.le_of_ble_eq_true rfl) rfl 8 rfl (fun x51 h => ?_)
      refine wm_iload_n X 2 dX1_graft_52 rfl ?_
      refine wm_iaload X hS h dX1_graft_53 (fun x52 h => ?_)
      refine wm_iload_n X 3 dX1_graft_54 rfl ?_
      refine wm_cS_i (As := [.int x52, .int x3]) (st := []) X hS h (fun _ _ hF => ctX1_has l hF) mdX1_has msX1_has q535 dX1_graft_55 rfl rfl c1_0 (Nat.le_of_ble_eq_true rfl) ⟨Nat.le_of_ble_eq_true rfl, Nat.le_of_ble_eq_true rfl⟩ ⟨le_p hC, le_p hZ⟩ (fun x53 σ54 _ h => ?_)
      refine wm_if_ne X 65 h dX1_graft_58 (by decide) (fun c55 h => ?_) (fun c55 h => ?_)
      · refine wm_iconst (v := 0) X dX1_graft_65 (by decide) ?_
        exact hJ66 _ _ _ _ _ _ h hC hZ
      · refine wm_iconst (v := 1) X dX1_graft_61 (by decide) ?_
        refine wm_goto X 66 dX1_graft_62 (by decide) ?_
        exact hJ66 _ _ _ _ _ _ h hC hZ
  clear eJ26
  refine wm_icmp_eq X 25 h dX1_graft_18 (by decide) (fun c57 h => ?_) (fun c57 h => ?_)
  · refine wm_iconst (v := 0) X dX1_graft_25 (by decide) ?_
    exact hJ26 _ _ _ _ _ _ h hC hZ
  · refine wm_iconst (v := 1) X dX1_graft_21 (by decide) ?_
    refine wm_goto X 26 dX1_graft_22 (by decide) ?_
    exact hJ26 _ _ _ _ _ _ h hC hZ
theorem mdX2_meets : MD yX2_meets 2 := by unfold MD; decide +kernel
theorem mvX2_meets : MV yX2_meets cX2_meets 4 (none) := ⟨q1733, q1734, q129, q1735⟩
set_option maxHeartbeats 4000000 in
theorem ctX2_meets (l : Launch) {h0 : Nat} {x1 : Int32} {x2 : Int32} {σ σf : Mm} (h : FX2_meets h0 x1 x2 σ = some σf) : CTv l yX2_meets (ws_ yX2_meets cX2_meets 4 (none)) 0 0 0 0 [va_rf (some h0), .int x1, .int x2] σ σf := by
  refine ct_start (n := 2) mdX2_meets (Nat.le_of_ble_eq_true rfl) (c1_r (c1_i (c1_i c1_0))) (fun p e s m args below meth c D dA sz0 ad0 X hS hr hnm => ?_)
  have X : CX p s m args meth c cX2_meets 4 RX2 := X
  generalize mN σ = N0
  unfold FX2_meets at h
  refine wm_aload_n X 0 dX2_meets_0 rfl ?_
  refine wm_gR X hS cd_2 13 h dX2_meets_1 (Nat.le_of_ble_eq_true rfl) rfl q220 (fun x21 h => ?_)
  refine wm_iload_n X 1 dX2_meets_4 rfl ?_
  refine wm_iaload X hS h dX2_meets_5 (fun x22 h => ?_)
  refine wm_aload_n X 0 dX2_meets_6 rfl ?_
  refine wm_gR X hS cd_2 13 h dX2_meets_7 (Nat.le_of_ble_eq_true rfl) rfl q220 (fun x23 h => ?_)
  refine wm_iload_n X 2 dX2_meets_10 rfl ?_
  refine wm_iaload X hS h dX2_meets_11 (fun x24 h => ?_)
  refine wm_ior X dX2_meets_12 ?_
  refine wm_iconst (v := 1) X dX2_meets_13 (by decide) ?_
  refine wm_iload_n X 1 dX2_meets_14 rfl ?_
  refine wm_ishl X dX2_meets_15 ?_
  refine wm_ior X dX2_meets_16 ?_
  refine wm_iconst (v := 1) X dX2_meets_17 (by decide) ?_
  refine wm_iload_n X 2 dX2_meets_18 rfl ?_
  refine wm_ishl X dX2_meets_19 ?_
  refine wm_ior X dX2_meets_20 ?_
  refine wm_istore_n (ℓ' := [(3, .int (((x22 ||| x24) ||| (1 <<< (x1 &&& 31))) ||| (1 <<< (x2 &&& 31)))), (0, va_rf (some h0)), (1, .int x1), (2, .int x2)]) X dX2_meets_21 (by decide) rfl ?_
  refine wm_aload_n X 1 dX2_meets_22 rfl ?_
  refine wm_gR X hS cd_2 13 h dX2_meets_23 (Nat.le_of_ble_eq_true rfl) rfl q220 (fun x25 h => ?_)
  refine wm_iload_n X 2 dX2_meets_26 rfl ?_
  refine wm_iload_n X 0 dX2_meets_27 rfl ?_
  refine wm_iconst (v := 1) X dX2_meets_28 (by decide) ?_
  refine wm_iload_n X 2 dX2_meets_29 rfl ?_
  refine wm_ishl X dX2_meets_30 ?_
  refine wm_iconst (v := (-1)) X dX2_meets_31 (by decide) ?_
  refine wm_ixor X dX2_meets_32 ?_
  refine wm_iand X dX2_meets_33 ?_
  refine wm_iastore X hS h dX2_meets_34 (fun σ26 _ h => ?_)
  refine wm_aload_n X 1 dX2_meets_35 rfl ?_
  refine wm_gR X hS cd_2 13 h dX2_meets_36 (Nat.le_of_ble_eq_true rfl) rfl q220 (fun x27 h => ?_)
  refine wm_iload_n X 3 dX2_meets_39 rfl ?_
  refine wm_iload_n X 0 dX2_meets_40 rfl ?_
  refine wm_iconst (v := 1) X dX2_meets_41 (by decide) ?_
  refine wm_iload_n X 3 dX2_meets_42 rfl ?_
  refine wm_ishl X dX2_meets_43 ?_
  refine wm_iconst (v := (-1)) X dX2_meets_44 (by decide) ?_
  refine wm_ixor X dX2_meets_45 ?_
  refine wm_iand X dX2_meets_46 ?_
  refine wm_iastore X hS h dX2_meets_47 (fun σ28 _ h => ?_)
  refine wm_aload_n X 1 dX2_meets_48 rfl ?_
  refine wm_gR X hS cd_2 14 h dX2_meets_49 (Nat.le_of_ble_eq_true rfl) rfl q222 (fun x29 h => ?_)
  refine wm_bipush (v := 10) X dX2_meets_52 (by decide) ?_
  refine wm_iload_n X 2 dX2_meets_54 rfl ?_
  refine wm_imul X dX2_meets_55 ?_
  refine wm_iload_n X 3 dX2_meets_56 rfl ?_
  refine wm_iadd X dX2_meets_57 ?_
  refine wm_aload_n X 1 dX2_meets_58 rfl ?_
  refine wm_gR X hS cd_2 13 h dX2_meets_59 (Nat.le_of_ble_eq_true rfl) rfl q220 (fun x30 h => ?_)
  refine wm_iload_n X 3 dX2_meets_62 rfl ?_
  refine wm_iaload X hS h dX2_meets_63 (fun x31 h => ?_)
  refine wm_iastore X hS h dX2_meets_64 (fun σ32 _ h => ?_)
  refine wm_aload_n X 1 dX2_meets_65 rfl ?_
  refine wm_gR X hS cd_2 14 h dX2_meets_66 (Nat.le_of_ble_eq_true rfl) rfl q222 (fun x33 h => ?_)
  refine wm_bipush (v := 10) X dX2_meets_69 (by decide) ?_
  refine wm_iload_n X 3 dX2_meets_71 rfl ?_
  refine wm_imul X dX2_meets_72 ?_
  refine wm_iload_n X 2 dX2_meets_73 rfl ?_
  refine wm_iadd X dX2_meets_74 ?_
  refine wm_aload_n X 1 dX2_meets_75 rfl ?_
  refine wm_gR X hS cd_2 13 h dX2_meets_76 (Nat.le_of_ble_eq_true rfl) rfl q220 (fun x34 h => ?_)
  refine wm_iload_n X 2 dX2_meets_79 rfl ?_
  refine wm_iaload X hS h dX2_meets_80 (fun x35 h => ?_)
  refine wm_iastore X hS h dX2_meets_81 (fun σ36 _ h => ?_)
  exact wm_vret X hr h dX2_meets_82 (Nat.le_of_ble_eq_true rfl) (Nat.le_of_ble_eq_true rfl)
theorem mdX1_meet : MD yX1_meet 2 := by unfold MD; decide +kernel
theorem mvX1_meet : MV yX1_meet cX1_meet 3 ((some FieldType.int)) := ⟨q1729, q1730, q128, q1731⟩
set_option maxHeartbeats 4000000 in
theorem ctX1_meet (l : Launch) (hl : l.stackTraces = false) {h0 : Nat} {x1 : Int32} {x2 : Int32} {σ : Mm} {xo : (Int32 × Mm) ⊕ (Nat × Mm)} {mc ms : Nat} (h : FX1_meet h0 x1 x2 σ = some (xo, mc, ms)) : CTXi l yX1_meet (ws_ yX1_meet cX1_meet 3 ((some FieldType.int))) 9 212 mc ms [va_rf (some h0), .int x1, .int x2] σ xo := by
  refine ctx_start (n := 2) mdX1_meet (Nat.le_of_ble_eq_true rfl) (c1_r (c1_i (c1_i c1_0))) (fun p e s m args below meth c D dA sz0 ad0 X hS hr hnm hno => ?_)
  have X : CX p s m args meth c cX1_meet 3 RX1 := X
  have hC : 0 + mc ≤ mc := Nat.le_of_eq (Nat.zero_add mc)
  have hZ : 0 + ms ≤ ms := Nat.le_of_eq (Nat.zero_add ms)
  generalize mN σ = N0
  unfold FX1_meet at h
  refine wm_aload_n X 0 dX1_meet_0 rfl ?_
  refine wm_iload_n X 1 dX1_meet_1 rfl ?_
  refine wm_iload_n X 2 dX1_meet_2 rfl ?_
  obtain ⟨s21, h⟩ := ck_e h
  refine wm_dV_v (As := [.int x1, .int x2]) (st := []) X hS hno cd_1 s21 rfl h hC hZ (fun _ _ _ hF => ctX1_twoAt l hl hF) mdX1_twoAt mvX1_twoAt q1609 dX1_meet_3 rfl rfl c1_0 (Nat.le_of_ble_eq_true rfl) ⟨Nat.le_of_ble_eq_true rfl, Nat.le_of_ble_eq_true rfl⟩ (Nat.le_refl _) (Nat.le_refl _) (fun σ22 c1 z1 C Z _ h hC hZ => ?_)
  refine wm_aload_n X 0 dX1_meet_6 rfl ?_
  obtain ⟨s23, h⟩ := ck_e h
  refine wm_dV_v (As := []) (st := []) X hS hno cd_1 s23 rfl h hC hZ (fun _ _ _ hF => ctX1_remembers l hl hF) mdX1_remembers mvX1_remembers q1642 dX1_meet_7 rfl rfl c1_0 (Nat.le_of_ble_eq_true rfl) ⟨Nat.le_of_ble_eq_true rfl, Nat.le_of_ble_eq_true rfl⟩ (Nat.le_refl _) (Nat.le_refl _) (fun σ24 c1 z1 C Z _ h hC hZ => ?_)
  refine wm_aload_n X 0 dX1_meet_10 rfl ?_
  refine wm_gR X hS cd_1 0 h dX1_meet_11 (Nat.le_of_ble_eq_true rfl) rfl q434 (fun x25 h => ?_)
  refine wm_iload_n X 1 dX1_meet_14 rfl ?_
  refine wm_iload_n X 2 dX1_meet_15 rfl ?_
  obtain ⟨q26, eq26, h⟩ := Option.bind_eq_some_iff.mp h
  obtain ⟨eq26, s27⟩ := rv_some eq26
  refine wm_cV_v (As := [.int x1, .int x2]) (st := []) X hS cd_2 s27 rfl h (fun _ hF => ctX2_meets l hF) mdX2_meets mvX2_meets q1732 dX1_meet_16 rfl (by rw [eq26]; first | done | rfl) c1_0 (Nat.le_of_ble_eq_true rfl) ⟨Nat.le_of_ble_eq_true rfl, Nat.le_of_ble_eq_true rfl⟩ ⟨le_p hC, le_p hZ⟩ (fun σ28 _ h => ?_)
  refine wm_aload_n X 0 dX1_meet_19 rfl ?_
  refine wm_gR X hS cd_1 0 h dX1_meet_20 (Nat.le_of_ble_eq_true rfl) rfl q434 (fun x29 h => ?_)
  refine wm_gRN X hS cd_2 13 h dX1_meet_23 (Nat.le_of_ble_eq_true rfl) rfl 13 rfl (fun x30 h => ?_)
  refine wm_iload_n X 1 dX1_meet_26 rfl ?_
  refine wm_iaload X hS h dX1_meet_27 (fun x31 h => ?_)
  refine wm_aload_n X 0 dX1_meet_28 rfl ?_
  refine wm_gR X hS cd_1 0 h dX1_meet_29 (Nat.le_of_ble_eq_true rfl) rfl q434 (fun x32 h => ?_)
  refine wm_gRN X hS cd_2 13 h dX1_meet_32 (Nat.le_of_ble_eq_true rfl) rfl 13 rfl (fun x33 h => ?_)
  refine wm_iload_n X 2 dX1_meet_35 rfl ?_
  refine wm_iaload X hS h dX1_meet_36 (fun x34 h => ?_)
  refine wm_ior X dX1_meet_37 ?_
  exact wm_xiret X hr (rt_e h) dX1_meet_38 (le_p hC) (le_p hZ)
theorem mdX2_freeHook : MD yX2_freeHook 0 := by unfold MD; decide +kernel
theorem mvX2_freeHook : MV yX2_freeHook cX2_freeHook 2 ((some FieldType.int)) := ⟨q1752, q1753, q129, q1754⟩
set_option maxHeartbeats 4000000 in
theorem wX2_freeHook_2 {p : Program} {l : Launch} {e : Env} {s : State} {m : MethodId} {args : Array Value} {below : List Frame} {meth : Method} {c : Code} {D : va_G} {dA : Nat → ClassId} {sz0 : Nat} {ad0 : Nat → Nat} {N0 : Nat} {r : Int32} {σf : Mm} (X : CX p s m args meth c cX2_freeHook 2 RX2) (hS : ST D dA sz0 ad0 s) (hr : meth.sig.returnType = (some FieldType.int)) (hnm : meth.name = yX2_freeHook.name) (h0 : Nat) : ∀ (n : Nat) (v1 : Int32) (σ : Mm) (kx28 : Mm → Option (Int32 × Mm)) (kx20 : Int32 → Mm → Option (Int32 × Mm)), FX2_freeHook_2 h0 n v1 σ kx28 kx20 = some (r, σf) → (∀  (σ : Mm), kx28 σ = some (r, σf) → WMi p l e s m args below meth c 0 0 0 0 2 D dA sz0 ad0 N0 r σf 0 0 σ [] [] 28) → (∀ (w1 : Int32) (σ : Mm), kx20 w1 σ = some (r, σf) → WMi p l e s m args below meth c 0 0 0 0 2 D dA sz0 ad0 N0 r σf 0 0 σ [(1, .int w1)] [] 20) → WMi p l e s m args below meth c 0 0 0 0 2 D dA sz0 ad0 N0 r σf 0 0 σ [(0, va_rf (some h0)), (1, .int v1)] [] 2 := by
  intro n
  induction n with
  | zero =>
    intro v1 σ kx28 kx20 h hkx28 hkx20
    cases h
  | succ n ih =>
    intro v1 σ kx28 kx20 h hkx28 hkx20
    rw [FX2_freeHook_2] at h
    refine wm_iload_n X 1 dX2_freeHook_2 rfl ?_
    refine wm_aload_n X 0 dX2_freeHook_3 rfl ?_
    refine wm_gI X hS cd_2 2 h dX2_freeHook_4 (Nat.le_of_ble_eq_true rfl) rfl q196 (fun x21 h => ?_)
    refine wm_icmp_ge X 28 h dX2_freeHook_7 (by decide) (fun c25 h => ?_) (fun c25 h => ?_)
    · refine wm_sub (ℓ' := []) [] rfl ?_
      exact hkx28 _ h
    · refine wm_aload_n X 0 dX2_freeHook_10 rfl ?_
      refine wm_gR X hS cd_2 17 h dX2_freeHook_11 (Nat.le_of_ble_eq_true rfl) rfl q229 (fun x22 h => ?_)
      refine wm_iload_n X 1 dX2_freeHook_14 rfl ?_
      refine wm_iaload X hS h dX2_freeHook_15 (fun x23 h => ?_)
      refine wm_iconst (v := (-1)) X dX2_freeHook_16 (by decide) ?_
      refine wm_icmp_ne X 22 h dX2_freeHook_17 (by decide) (fun c24 h => ?_) (fun c24 h => ?_)
      · refine wm_iinc (v := (v1 + 1)) (ℓ' := [(1, .int (v1 + 1)), (0, va_rf (some h0))]) X 1 dX2_freeHook_22 rfl rfl (by decide) rfl ?_
        refine wm_goto X 2 dX2_freeHook_25 (by decide) ?_
        refine wm_sub (ℓ' := [(0, va_rf (some h0)), (1, .int (v1 + 1))]) [1, 0] rfl ?_
        exact ih _ _ _ _ h hkx28 hkx20
      · refine wm_sub (ℓ' := [(1, .int v1)]) [1] rfl ?_
        exact hkx20 _ _ h
set_option maxHeartbeats 4000000 in
theorem ctX2_freeHook (l : Launch) {h0 : Nat} {σ σf : Mm} {r : Int32} (h : FX2_freeHook h0 σ = some (r, σf)) : CTi l yX2_freeHook (ws_ yX2_freeHook cX2_freeHook 2 ((some FieldType.int))) 0 0 0 0 [va_rf (some h0)] σ r σf := by
  refine ct_start (n := 0) mdX2_freeHook (Nat.le_of_ble_eq_true rfl) (c1_r c1_0) (fun p e s m args below meth c D dA sz0 ad0 X hS hr hnm => ?_)
  have X : CX p s m args meth c cX2_freeHook 2 RX2 := X
  generalize mN σ = N0
  unfold FX2_freeHook at h
  refine wm_iconst (v := 0) X dX2_freeHook_0 (by decide) ?_
  refine wm_istore_n (ℓ' := [(1, .int 0), (0, va_rf (some h0))]) X dX2_freeHook_1 (by decide) rfl ?_
  refine wm_sub (ℓ' := [(0, va_rf (some h0)), (1, .int 0)]) [1, 0] rfl ?_
  refine wX2_freeHook_2 X hS hr hnm _ fu _ _ _ _ h (fun σ h => ?_) (fun x26 σ h => ?_)
  · refine wm_iconst (v := (-1)) X dX2_freeHook_28 (by decide) ?_
    exact wm_iret X hr h dX2_freeHook_29 (Nat.le_of_ble_eq_true rfl) (Nat.le_of_ble_eq_true rfl)
  · refine wm_iload_n X 0 dX2_freeHook_20 rfl ?_
    exact wm_iret X hr h dX2_freeHook_21 (Nat.le_of_ble_eq_true rfl) (Nat.le_of_ble_eq_true rfl)
theorem mdX2_faceOf : MD yX2_faceOf 1 := by unfold MD; decide +kernel
theorem mvX2_faceOf : MV yX2_faceOf cX2_faceOf 2 ((some FieldType.int)) := ⟨q1760, q1761, q129, q1762⟩
set_option maxHeartbeats 4000000 in
theorem ctX2_faceOf (l : Launch) {h0 : Nat} {x1 : Int32} {σ σf : Mm} {r : Int32} (h : FX2_faceOf h0 x1 σ = some (r, σf)) : CTi l yX2_faceOf (ws_ yX2_faceOf cX2_faceOf 2 ((some FieldType.int))) 0 0 0 0 [va_rf (some h0), .int x1] σ r σf := by
  refine ct_start (n := 1) mdX2_faceOf (Nat.le_of_ble_eq_true rfl) (c1_r (c1_i c1_0)) (fun p e s m args below meth c D dA sz0 ad0 X hS hr hnm => ?_)
  have X : CX p s m args meth c cX2_faceOf 2 RX2 := X
  generalize mN σ = N0
  unfold FX2_faceOf at h
  refine wm_aload_n X 0 dX2_faceOf_0 rfl ?_
  refine wm_gR X hS cd_2 10 h dX2_faceOf_1 (Nat.le_of_ble_eq_true rfl) rfl q212 (fun x21 h => ?_)
  refine wm_iload_n X 1 dX2_faceOf_4 rfl ?_
  refine wm_iaload X hS h dX2_faceOf_5 (fun x22 h => ?_)
  refine wm_iconst (v := (-1)) X dX2_faceOf_6 (by decide) ?_
  refine wm_icmp_eq X 19 h dX2_faceOf_7 (by decide) (fun c32 h => ?_) (fun c32 h => ?_)
  · refine wm_aload_n X 0 dX2_faceOf_19 rfl ?_
    refine wm_gR X hS cd_2 11 h dX2_faceOf_20 (Nat.le_of_ble_eq_true rfl) rfl q215 (fun x23 h => ?_)
    refine wm_iload_n X 1 dX2_faceOf_23 rfl ?_
    refine wm_iaload X hS h dX2_faceOf_24 (fun x24 h => ?_)
    refine wm_iconst (v := (-1)) X dX2_faceOf_25 (by decide) ?_
    refine wm_icmp_eq X 43 h dX2_faceOf_26 (by decide) (fun c29 h => ?_) (fun c29 h => ?_)
    · refine wm_iconst (v := (-1)) X dX2_faceOf_43 (by decide) ?_
      exact wm_iret X hr h dX2_faceOf_44 (Nat.le_of_ble_eq_true rfl) (Nat.le_of_ble_eq_true rfl)
    · refine wm_aload_n X 0 dX2_faceOf_29 rfl ?_
      refine wm_gR X hS cd_2 17 h dX2_faceOf_30 (Nat.le_of_ble_eq_true rfl) rfl q229 (fun x25 h => ?_)
      refine wm_aload_n X 0 dX2_faceOf_33 rfl ?_
      refine wm_gR X hS cd_2 11 h dX2_faceOf_34 (Nat.le_of_ble_eq_true rfl) rfl q215 (fun x26 h => ?_)
      refine wm_iload_n X 1 dX2_faceOf_37 rfl ?_
      refine wm_iaload X hS h dX2_faceOf_38 (fun x27 h => ?_)
      refine wm_iaload X hS h dX2_faceOf_39 (fun x28 h => ?_)
      refine wm_goto X 44 dX2_faceOf_40 (by decide) ?_
      exact wm_iret X hr h dX2_faceOf_44 (Nat.le_of_ble_eq_true rfl) (Nat.le_of_ble_eq_true rfl)
  · refine wm_aload_n X 0 dX2_faceOf_10 rfl ?_
    refine wm_gR X hS cd_2 10 h dX2_faceOf_11 (Nat.le_of_ble_eq_true rfl) rfl q212 (fun x30 h => ?_)
    refine wm_iload_n X 1 dX2_faceOf_14 rfl ?_
    refine wm_iaload X hS h dX2_faceOf_15 (fun x31 h => ?_)
    refine wm_goto X 44 dX2_faceOf_16 (by decide) ?_
    exact wm_iret X hr h dX2_faceOf_44 (Nat.le_of_ble_eq_true rfl) (Nat.le_of_ble_eq_true rfl)
theorem mdJ3_elementData : MD yJ3_elementData 1 := by unfold MD; decide +kernel
theorem mvJ3_elementData : MV yJ3_elementData cJ3_elementData 2 ((some (FieldType.object "java/lang/Object"))) := ⟨q1773, q1774, q135, q1775⟩
set_option maxHeartbeats 4000000 in
theorem ctJ3_elementData (l : Launch) {h0 : Nat} {x1 : Int32} {σ σf : Mm} {r : Option Nat} (h : FJ3_elementData h0 x1 σ = some (r, σf)) : CTr l yJ3_elementData (ws_ yJ3_elementData cJ3_elementData 2 ((some (FieldType.object "java/lang/Object")))) 0 0 0 0 [va_rf (some h0), .int x1] σ r σf := by
  refine ct_start (n := 1) mdJ3_elementData (Nat.le_of_ble_eq_true rfl) (c1_r (c1_i c1_0)) (fun p e s m args below meth c D dA sz0 ad0 X hS hr hnm => ?_)
  have X : CX p s m args meth c cJ3_elementData 2 RJ3 := X
  generalize mN σ = N0
  unfold FJ3_elementData at h
  refine wm_aload_n X 0 dJ3_elementData_0 rfl ?_
  refine wm_gR X hS cd_17 1 h dJ3_elementData_1 (Nat.le_of_ble_eq_true rfl) rfl q366 (fun x21 h => ?_)
  refine wm_iload_n X 1 dJ3_elementData_4 rfl ?_
  refine wm_aaload X hS h dJ3_elementData_5 (fun x22 h => ?_)
  exact wm_aret X hr (Or.inl ⟨_, rfl⟩) h dJ3_elementData_6 (Nat.le_of_ble_eq_true rfl) (Nat.le_of_ble_eq_true rfl)
theorem mdJ3_get : MD yJ3_get 1 := by unfold MD; decide +kernel
theorem mvJ3_get : MV yJ3_get cJ3_get 2 ((some (FieldType.object "java/lang/Object"))) := ⟨q1769, q1770, q135, q1771⟩
set_option maxHeartbeats 4000000 in
theorem ctJ3_get (l : Launch) {h0 : Nat} {x1 : Int32} {σ σf : Mm} {r : Option Nat} (h : FJ3_get h0 x1 σ = some (r, σf)) : CTr l yJ3_get (ws_ yJ3_get cJ3_get 2 ((some (FieldType.object "java/lang/Object")))) 2 43 0 0 [va_rf (some h0), .int x1] σ r σf := by
  refine ct_start (n := 1) mdJ3_get (Nat.le_of_ble_eq_true rfl) (c1_r (c1_i c1_0)) (fun p e s m args below meth c D dA sz0 ad0 X hS hr hnm => ?_)
  have X : CX p s m args meth c cJ3_get 2 RJ3 := X
  generalize mN σ = N0
  unfold FJ3_get at h
  refine wm_iload_n X 1 dJ3_get_0 rfl ?_
  refine wm_aload_n X 0 dJ3_get_1 rfl ?_
  refine wm_gI X hS cd_17 2 h dJ3_get_2 (Nat.le_of_ble_eq_true rfl) rfl q367 (fun x21 h => ?_)
  refine wm_cS_i (As := [.int x1, .int x21]) (st := []) X hS h (fun _ _ hF => ctJ23_checkIndex l hF) mdJ23_checkIndex msJ23_checkIndex q660 dJ3_get_5 rfl rfl c1_0 (Nat.le_of_ble_eq_true rfl) ⟨Nat.le_of_ble_eq_true rfl, Nat.le_of_ble_eq_true rfl⟩ ⟨Nat.le_of_ble_eq_true rfl, Nat.le_of_ble_eq_true rfl⟩ (fun x22 σ23 _ h => ?_)
  refine wm_pop X dJ3_get_8 rfl ?_
  refine wm_aload_n X 0 dJ3_get_9 rfl ?_
  refine wm_iload_n X 1 dJ3_get_10 rfl ?_
  obtain ⟨s24, h⟩ := ck_e h
  refine wm_cV_r (As := [.int x1]) (st := []) X hS cd_17 s24 rfl h (fun _ _ hF => ctJ3_elementData l hF) mdJ3_elementData mvJ3_elementData q1772 dJ3_get_11 rfl rfl c1_0 (Nat.le_of_ble_eq_true rfl) ⟨Nat.le_of_ble_eq_true rfl, Nat.le_of_ble_eq_true rfl⟩ ⟨Nat.le_of_ble_eq_true rfl, Nat.le_of_ble_eq_true rfl⟩ (fun x25 σ26 _ h => ?_)
  exact wm_aret X hr (Or.inl ⟨_, rfl⟩) h dJ3_get_14 (Nat.le_of_ble_eq_true rfl) (Nat.le_of_ble_eq_true rfl)
theorem mdX12_holds : MD yX12_holds 1 := by unfold MD; decide +kernel
set_option maxHeartbeats 4000000 in
theorem wX12_holds_2 {p : Program} {l : Launch} {e : Env} {s : State} {m : MethodId} {args : Array Value} {below : List Frame} {meth : Method} {c : Code} {D : va_G} {dA : Nat → ClassId} {sz0 : Nat} {ad0 : Nat → Nat} {N0 : Nat} {r : Int32} {σf : Mm} (X : CX p s m args meth c cX12_holds 3 RX12) (hS : ST D dA sz0 ad0 s) (hr : meth.sig.returnType = (some FieldType.boolean)) (hnm : meth.name = yX12_holds.name) {fr0 lo0 : Nat} (Rf : Nat → Option Nat → Mm → Option (Int32 × Mm)) (hRf : HOK l fr0 lo0 Rf) (h0 : Nat) (y1 : Option Nat) : ∀ (n : Nat) (v2 : Int32) (σ : Mm) (kx56 : Mm → Option (Int32 × Mm)) (kx37 : Mm → Option (Int32 × Mm)), RX12_holds_2 Rf h0 y1 n v2 σ kx56 kx37 = some (r, σf) → (∀  (σ : Mm), kx56 σ = some (r, σf) → WMi p l e s m args below meth c (fr0 + 20) (lo0 + 600) 0 0 3 D dA sz0 ad0 N0 r σf 0 0 σ [(0, va_rf (some h0))] [] 56) → (∀  (σ : Mm), kx37 σ = some (r, σf) → WMi p l e s m args below meth c (fr0 + 20) (lo0 + 600) 0 0 3 D dA sz0 ad0 N0 r σf 0 0 σ [(0, va_rf (some h0))] [] 37) → WMi p l e s m args below meth c (fr0 + 20) (lo0 + 600) 0 0 3 D dA sz0 ad0 N0 r σf 0 0 σ [(0, va_rf (some h0)), (1, va_rf y1), (2, .int v2)] [] 2 := by
  intro n
  induction n with
  | zero =>
    intro v2 σ kx56 kx37 h hkx56 hkx37
    cases h
  | succ n ih =>
    intro v2 σ kx56 kx37 h hkx56 hkx37
    rw [RX12_holds_2] at h
    refine wm_iload_n X 2 dX12_holds_2 rfl ?_
    refine wm_aload_n X 0 dX12_holds_3 rfl ?_
    refine wm_gR X hS cd_12 1 h dX12_holds_4 (Nat.le_of_ble_eq_true rfl) rfl q1323 (fun x21 h => ?_)
    obtain ⟨q22, eq22, h⟩ := Option.bind_eq_some_iff.mp h
    obtain ⟨eq22, s23⟩ := rv_some eq22
    refine wm_cV_i (As := []) (st := [.int v2]) X hS cd_17 s23 rfl h (fun _ _ hF => ctJ3_size l hF) mdJ3_size mvJ3_size q1819 dX12_holds_7 rfl (by rw [eq22]; first | done | rfl) (c1_i c1_0) (Nat.le_of_ble_eq_true rfl) ⟨Nat.le_of_ble_eq_true rfl, Nat.le_of_ble_eq_true rfl⟩ ⟨Nat.le_of_ble_eq_true rfl, Nat.le_of_ble_eq_true rfl⟩ (fun x24 σ25 _ h => ?_)
    refine wm_icmp_ge X 56 h dX12_holds_10 (by decide) (fun c38 h => ?_) (fun c38 h => ?_)
    · refine wm_sub (ℓ' := [(0, va_rf (some h0))]) [0] rfl ?_
      exact hkx56 _ h
    · refine wm_aload_n X 0 dX12_holds_13 rfl ?_
      refine wm_gR X hS cd_12 1 h dX12_holds_14 (Nat.le_of_ble_eq_true rfl) rfl q1323 (fun x26 h => ?_)
      refine wm_iload_n X 2 dX12_holds_17 rfl ?_
      obtain ⟨q27, eq27, h⟩ := Option.bind_eq_some_iff.mp h
      obtain ⟨eq27, s28⟩ := rv_some eq27
      refine wm_cV_r (As := [.int v2]) (st := []) X hS cd_17 s28 rfl h (fun _ _ hF => ctJ3_get l hF) mdJ3_get mvJ3_get q1820 dX12_holds_18 rfl (by rw [eq27]; first | done | rfl) c1_0 (Nat.le_of_ble_eq_true rfl) ⟨Nat.le_of_ble_eq_true rfl, Nat.le_of_ble_eq_true rfl⟩ ⟨Nat.le_of_ble_eq_true rfl, Nat.le_of_ble_eq_true rfl⟩ (fun x29 σ30 _ h => ?_)
      refine wm_castI X hS h dX12_holds_21 q1821 (fun q31 e32 h => ?_)
      refine wm_aload_n X 1 dX12_holds_24 rfl ?_
      refine wm_ifH X hS hRf h dX12_holds_25 q1823 c1_0 (Nat.le_of_ble_eq_true rfl) ⟨rmf (by omega), rml (by omega)⟩ ⟨Nat.le_of_ble_eq_true rfl, Nat.le_of_ble_eq_true rfl⟩ (fun x34 σ35 _ h => ?_)
      refine wm_aload_n X 0 dX12_holds_30 rfl ?_
      refine wm_gI X hS cd_12 0 h dX12_holds_31 (Nat.le_of_ble_eq_true rfl) rfl q1322 (fun x36 h => ?_)
      refine wm_icmp_eq X 50 h dX12_holds_34 (by decide) (fun c37 h => ?_) (fun c37 h => ?_)
      · refine wm_iinc (v := (v2 + 1)) (ℓ' := [(2, .int (v2 + 1)), (0, va_rf (some h0)), (1, va_rf y1)]) X 2 dX12_holds_50 rfl rfl (by decide) rfl ?_
        refine wm_goto X 2 dX12_holds_53 (by decide) ?_
        refine wm_sub (ℓ' := [(0, va_rf (some h0)), (1, va_rf y1), (2, .int (v2 + 1))]) [1, 2, 0] rfl ?_
        exact ih _ _ _ _ h hkx56 hkx37
      · refine wm_sub (ℓ' := [(0, va_rf (some h0))]) [0] rfl ?_
        exact hkx37 _ h
set_option maxHeartbeats 4000000 in
theorem crX12_holds (l : Launch) {fr0 lo0 : Nat} (Rf : Nat → Option Nat → Mm → Option (Int32 × Mm)) (hRf : HOK l fr0 lo0 Rf) {h0 : Nat} {x1 : Option Nat} {σ σf : Mm} {r : Int32} (h : RX12_holds Rf h0 x1 σ = some (r, σf)) : CTi l yX12_holds (ws_ yX12_holds cX12_holds 3 ((some FieldType.boolean))) (fr0 + 20) (lo0 + 600) 0 0 [va_rf (some h0), va_rf x1] σ r σf := by
  refine ct_start (n := 1) mdX12_holds (Nat.le_of_ble_eq_true rfl) (c1_r (c1_r c1_0)) (fun p e s m args below meth c D dA sz0 ad0 X hS hr hnm => ?_)
  have X : CX p s m args meth c cX12_holds 3 RX12 := X
  generalize mN σ = N0
  unfold RX12_holds at h
  refine wm_iconst (v := 0) X dX12_holds_0 (by decide) ?_
  refine wm_istore_n (ℓ' := [(2, .int 0), (0, va_rf (some h0)), (1, va_rf x1)]) X dX12_holds_1 (by decide) rfl ?_
  refine wm_sub (ℓ' := [(0, va_rf (some h0)), (1, va_rf x1), (2, .int 0)]) [1, 2, 0] rfl ?_
  refine wX12_holds_2 X hS hr hnm Rf hRf _ _ fu _ _ _ _ h (fun σ h => ?_) (fun σ h => ?_)
  · refine wm_aload_n X 0 dX12_holds_56 rfl ?_
    refine wm_gI X hS cd_12 0 h dX12_holds_57 (Nat.le_of_ble_eq_true rfl) rfl q1322 (fun x39 h => ?_)
    exact wm_zret X hr h dX12_holds_60 (Nat.le_of_ble_eq_true rfl) (Nat.le_of_ble_eq_true rfl)
  · refine wm_aload_n X 0 dX12_holds_37 rfl ?_
    refine wm_gI X hS cd_12 0 h dX12_holds_38 (Nat.le_of_ble_eq_true rfl) rfl q1322 (fun x40 h => ?_)
    refine wm_if_ne X 48 h dX12_holds_41 (by decide) (fun c41 h => ?_) (fun c41 h => ?_)
    · refine wm_iconst (v := 0) X dX12_holds_48 (by decide) ?_
      exact wm_zret X hr h dX12_holds_49 (Nat.le_of_ble_eq_true rfl) (Nat.le_of_ble_eq_true rfl)
    · refine wm_iconst (v := 1) X dX12_holds_44 (by decide) ?_
      refine wm_goto X 49 dX12_holds_45 (by decide) ?_
      exact wm_zret X hr h dX12_holds_49 (Nat.le_of_ble_eq_true rfl) (Nat.le_of_ble_eq_true rfl)
theorem mdX13_holds : MD yX13_holds 1 := by unfold MD; decide +kernel
set_option maxHeartbeats 4000000 in
theorem crX13_holds (l : Launch) {fr0 lo0 : Nat} (Rf : Nat → Option Nat → Mm → Option (Int32 × Mm)) (hRf : HOK l fr0 lo0 Rf) {h0 : Nat} {x1 : Option Nat} {σ σf : Mm} {r : Int32} (h : RX13_holds Rf h0 x1 σ = some (r, σf)) : CTi l yX13_holds (ws_ yX13_holds cX13_holds 2 ((some FieldType.boolean))) (fr0 + 20) (lo0 + 600) 0 0 [va_rf (some h0), va_rf x1] σ r σf := by
  refine ct_start (n := 1) mdX13_holds (Nat.le_of_ble_eq_true rfl) (c1_r (c1_r c1_0)) (fun p e s m args below meth c D dA sz0 ad0 X hS hr hnm => ?_)
  have X : CX p s m args meth c cX13_holds 2 RX13 := X
  generalize mN σ = N0
  unfold RX13_holds at h
  refine wm_aload_n X 0 dX13_holds_0 rfl ?_
  refine wm_gR X hS cd_13 0 h dX13_holds_1 (Nat.le_of_ble_eq_true rfl) rfl q1353 (fun x21 h => ?_)
  refine wm_aload_n X 1 dX13_holds_4 rfl ?_
  refine wm_ifH X hS hRf h dX13_holds_5 q1812 c1_0 (Nat.le_of_ble_eq_true rfl) ⟨rmf (by omega), rml (by omega)⟩ ⟨Nat.le_of_ble_eq_true rfl, Nat.le_of_ble_eq_true rfl⟩ (fun x22 σ23 _ h => ?_)
  refine wm_if_ne X 17 h dX13_holds_10 (by decide) (fun c24 h => ?_) (fun c24 h => ?_)
  · refine wm_iconst (v := 0) X dX13_holds_17 (by decide) ?_
    exact wm_zret X hr h dX13_holds_18 (Nat.le_of_ble_eq_true rfl) (Nat.le_of_ble_eq_true rfl)
  · refine wm_iconst (v := 1) X dX13_holds_13 (by decide) ?_
    refine wm_goto X 18 dX13_holds_14 (by decide) ?_
    exact wm_zret X hr h dX13_holds_18 (Nat.le_of_ble_eq_true rfl) (Nat.le_of_ble_eq_true rfl)
theorem mdX14_holds : MD yX14_holds 1 := by unfold MD; decide +kernel
set_option maxHeartbeats 4000000 in
theorem crX14_holds (l : Launch) {fr0 lo0 : Nat} (Rf : Nat → Option Nat → Mm → Option (Int32 × Mm)) (hRf : HOK l fr0 lo0 Rf) {h0 : Nat} {x1 : Option Nat} {σ σf : Mm} {r : Int32} (h : RX14_holds Rf h0 x1 σ = some (r, σf)) : CTi l yX14_holds (ws_ yX14_holds cX14_holds 2 ((some FieldType.boolean))) (fr0 + 20) (lo0 + 600) 0 0 [va_rf (some h0), va_rf x1] σ r σf := by
  refine ct_start (n := 1) mdX14_holds (Nat.le_of_ble_eq_true rfl) (c1_r (c1_r c1_0)) (fun p e s m args below meth c D dA sz0 ad0 X hS hr hnm => ?_)
  have X : CX p s m args meth c cX14_holds 2 RX14 := X
  generalize mN σ = N0
  unfold RX14_holds at h
  refine wm_aload_n X 0 dX14_holds_0 rfl ?_
  refine wm_gI X hS cd_14 0 h dX14_holds_1 (Nat.le_of_ble_eq_true rfl) rfl q1364 (fun x21 h => ?_)
  refine wm_if_eq X 14 h dX14_holds_4 (by decide) (fun c24 h => ?_) (fun c24 h => ?_)
  · refine wm_aload_n X 1 dX14_holds_14 rfl ?_
    refine wm_gIN X hS cd_4 7 h dX14_holds_15 (Nat.le_of_ble_eq_true rfl) rfl 95 rfl (fun x22 h => ?_)
    exact wm_zret X hr h dX14_holds_18 (Nat.le_of_ble_eq_true rfl) (Nat.le_of_ble_eq_true rfl)
  · refine wm_aload_n X 1 dX14_holds_7 rfl ?_
    refine wm_gIN X hS cd_4 6 h dX14_holds_8 (Nat.le_of_ble_eq_true rfl) rfl 94 rfl (fun x23 h => ?_)
    refine wm_goto X 18 dX14_holds_11 (by decide) ?_
    exact wm_zret X hr h dX14_holds_18 (Nat.le_of_ble_eq_true rfl) (Nat.le_of_ble_eq_true rfl)
theorem mdX4_of : MD yX4_of 1 := by unfold MD; decide +kernel
theorem mvX4_of : MV yX4_of cX4_of 2 ((some FieldType.int)) := ⟨q1799, q1800, q132, q1801⟩
set_option maxHeartbeats 4000000 in
theorem ctX4_of (l : Launch) {h0 : Nat} {x1 : Option Nat} {σ σf : Mm} {r : Int32} (h : FX4_of h0 x1 σ = some (r, σf)) : CTi l yX4_of (ws_ yX4_of cX4_of 2 ((some FieldType.int))) 2 60 0 0 [va_rf (some h0), va_rf x1] σ r σf := by
  refine ct_start (n := 1) mdX4_of (Nat.le_of_ble_eq_true rfl) (c1_r (c1_r c1_0)) (fun p e s m args below meth c D dA sz0 ad0 X hS hr hnm => ?_)
  have X : CX p s m args meth c cX4_of 2 RX4 := X
  generalize mN σ = N0
  unfold FX4_of at h
  refine wm_aload_n X 1 dX4_of_0 rfl ?_
  refine wm_ordF X hS h q1802 dX4_of_1 c1_0 (Nat.le_of_ble_eq_true rfl) ⟨Nat.le_of_ble_eq_true rfl, Nat.le_of_ble_eq_true rfl⟩ ⟨Nat.le_of_ble_eq_true rfl, Nat.le_of_ble_eq_true rfl⟩ (fun x21 h => ?_)
  refine ifx_e h (fun c22 h => ?_) (fun c22 h => ?_)
  · refine wm_tabIn (tgt := 40) X (0 : Int32) c22 dX4_of_4 (by decide) (by decide) rfl (by decide) ?_
    refine wm_aload_n X 0 dX4_of_40 rfl ?_
    refine wm_gI X hS cd_4 0 h dX4_of_41 (Nat.le_of_ble_eq_true rfl) rfl q319 (fun x23 h => ?_)
    exact wm_iret X hr h dX4_of_44 (Nat.le_of_ble_eq_true rfl) (Nat.le_of_ble_eq_true rfl)
  · refine ifx_e h (fun c24 h => ?_) (fun c24 h => ?_)
    · refine wm_tabIn (tgt := 45) X (1 : Int32) c24 dX4_of_4 (by decide) (by decide) rfl (by decide) ?_
      refine wm_aload_n X 0 dX4_of_45 rfl ?_
      refine wm_gI X hS cd_4 1 h dX4_of_46 (Nat.le_of_ble_eq_true rfl) rfl q321 (fun x25 h => ?_)
      exact wm_iret X hr h dX4_of_49 (Nat.le_of_ble_eq_true rfl) (Nat.le_of_ble_eq_true rfl)
    · refine ifx_e h (fun c26 h => ?_) (fun c26 h => ?_)
      · refine wm_tabIn (tgt := 50) X (2 : Int32) c26 dX4_of_4 (by decide) (by decide) rfl (by decide) ?_
        refine wm_aload_n X 0 dX4_of_50 rfl ?_
        refine wm_gI X hS cd_4 2 h dX4_of_51 (Nat.le_of_ble_eq_true rfl) rfl q323 (fun x27 h => ?_)
        exact wm_iret X hr h dX4_of_54 (Nat.le_of_ble_eq_true rfl) (Nat.le_of_ble_eq_true rfl)
      · refine ifx_e h (fun c28 h => ?_) (fun c28 h => ?_)
        · refine wm_tabIn (tgt := 55) X (3 : Int32) c28 dX4_of_4 (by decide) (by decide) rfl (by decide) ?_
          refine wm_aload_n X 0 dX4_of_55 rfl ?_
          refine wm_gI X hS cd_4 3 h dX4_of_56 (Nat.le_of_ble_eq_true rfl) rfl q325 (fun x29 h => ?_)
          exact wm_iret X hr h dX4_of_59 (Nat.le_of_ble_eq_true rfl) (Nat.le_of_ble_eq_true rfl)
        · refine ifx_e h (fun c30 h => ?_) (fun c30 h => ?_)
          · refine wm_tabIn (tgt := 60) X (4 : Int32) c30 dX4_of_4 (by decide) (by decide) rfl (by decide) ?_
            refine wm_aload_n X 0 dX4_of_60 rfl ?_
            refine wm_gI X hS cd_4 4 h dX4_of_61 (Nat.le_of_ble_eq_true rfl) rfl q327 (fun x31 h => ?_)
            exact wm_iret X hr h dX4_of_64 (Nat.le_of_ble_eq_true rfl) (Nat.le_of_ble_eq_true rfl)
          · refine wm_tabOut (tgt := 65) X dX4_of_4 (by have t0 := lv_neT c22 (by decide : (0 : Int32).toInt = 0); have t1 := lv_neT c24 (by decide : (1 : Int32).toInt = 1); have t2 := lv_neT c26 (by decide : (2 : Int32).toInt = 2); have t3 := lv_neT c28 (by decide : (3 : Int32).toInt = 3); have t4 := lv_neT c30 (by decide : (4 : Int32).toInt = 4); omega) (by decide) ?_
            refine wm_aload_n X 0 dX4_of_65 rfl ?_
            refine wm_gI X hS cd_4 5 h dX4_of_66 (Nat.le_of_ble_eq_true rfl) rfl q329 (fun x32 h => ?_)
            exact wm_iret X hr h dX4_of_69 (Nat.le_of_ble_eq_true rfl) (Nat.le_of_ble_eq_true rfl)
theorem mdX16_in : MD yX16_in 1 := by unfold MD; decide +kernel
theorem mvX16_in : MV yX16_in cX16_in 2 ((some FieldType.int)) := ⟨q1795, q1796, q163, q1797⟩
set_option maxHeartbeats 4000000 in
theorem ctX16_in (l : Launch) {h0 : Nat} {x1 : Option Nat} {σ σf : Mm} {r : Int32} (h : FX16_in h0 x1 σ = some (r, σf)) : CTi l yX16_in (ws_ yX16_in cX16_in 2 ((some FieldType.int))) 3 81 0 0 [va_rf (some h0), va_rf x1] σ r σf := by
  refine ct_start (n := 1) mdX16_in (Nat.le_of_ble_eq_true rfl) (c1_r (c1_r c1_0)) (fun p e s m args below meth c D dA sz0 ad0 X hS hr hnm => ?_)
  have X : CX p s m args meth c cX16_in 2 RX16 := X
  generalize mN σ = N0
  unfold FX16_in at h
  refine wm_aload_n X 0 dX16_in_0 rfl ?_
  refine wm_gR X hS cd_16 1 h dX16_in_1 (Nat.le_of_ble_eq_true rfl) rfl q1396 (fun x21 h => ?_)
  refine wm_ifnonnull X 14 h dX16_in_4 (by decide) (fun e23 h => ?_) (fun q22 e23 h => ?_)
  · refine wm_aload_n X 0 dX16_in_7 rfl ?_
    refine wm_gI X hS cd_16 0 h dX16_in_8 (Nat.le_of_ble_eq_true rfl) rfl q1395 (fun x24 h => ?_)
    refine wm_goto X 22 dX16_in_11 (by decide) ?_
    exact wm_iret X hr h dX16_in_22 (Nat.le_of_ble_eq_true rfl) (Nat.le_of_ble_eq_true rfl)
  · refine wm_aload_n X 1 dX16_in_14 rfl ?_
    refine wm_aload_n X 0 dX16_in_15 rfl ?_
    refine wm_gR X hS cd_16 1 h dX16_in_16 (Nat.le_of_ble_eq_true rfl) rfl q1396 (fun x25 h => ?_)
    obtain ⟨q26, eq26, h⟩ := Option.bind_eq_some_iff.mp h
    obtain ⟨eq26, s27⟩ := rv_some eq26
    refine wm_cV_i (As := [va_rf x25]) (st := []) X hS cd_4 s27 rfl h (fun _ _ hF => ctX4_of l hF) mdX4_of mvX4_of q1798 dX16_in_19 rfl (by rw [eq26]; first | done | rfl) c1_0 (Nat.le_of_ble_eq_true rfl) ⟨Nat.le_of_ble_eq_true rfl, Nat.le_of_ble_eq_true rfl⟩ ⟨Nat.le_of_ble_eq_true rfl, Nat.le_of_ble_eq_true rfl⟩ (fun x28 σ29 _ h => ?_)
    exact wm_iret X hr h dX16_in_22 (Nat.le_of_ble_eq_true rfl) (Nat.le_of_ble_eq_true rfl)
theorem mdX15_in : MD yX15_in 1 := by unfold MD; decide +kernel
theorem mvX15_in : MV yX15_in cX15_in 4 ((some FieldType.int)) := ⟨q1788, q1789, q162, q1790⟩
set_option maxHeartbeats 4000000 in
theorem wX15_in_4 {p : Program} {l : Launch} {e : Env} {s : State} {m : MethodId} {args : Array Value} {below : List Frame} {meth : Method} {c : Code} {D : va_G} {dA : Nat → ClassId} {sz0 : Nat} {ad0 : Nat → Nat} {N0 : Nat} {r : Int32} {σf : Mm} (X : CX p s m args meth c cX15_in 4 RX15) (hS : ST D dA sz0 ad0 s) (hr : meth.sig.returnType = (some FieldType.int)) (hnm : meth.name = yX15_in.name) (h0 : Nat) (y1 : Option Nat) : ∀ (n : Nat) (v2 : Int32) (v3 : Int32) (σ : Mm) (kx39 : Int32 → Mm → Option (Int32 × Mm)), FX15_in_4 h0 y1 n v2 v3 σ kx39 = some (r, σf) → (∀ (w2 : Int32) (σ : Mm), kx39 w2 σ = some (r, σf) → WMi p l e s m args below meth c 4 102 0 0 4 D dA sz0 ad0 N0 r σf 0 0 σ [(2, .int w2)] [] 39) → WMi p l e s m args below meth c 4 102 0 0 4 D dA sz0 ad0 N0 r σf 0 0 σ [(0, va_rf (some h0)), (1, va_rf y1), (2, .int v2), (3, .int v3)] [] 4 := by
  intro n
  induction n with
  | zero =>
    intro v2 v3 σ kx39 h hkx39
    cases h
  | succ n ih =>
    intro v2 v3 σ kx39 h hkx39
    rw [FX15_in_4] at h
    refine wm_iload_n X 3 dX15_in_4 rfl ?_
    refine wm_aload_n X 0 dX15_in_5 rfl ?_
    refine wm_gR X hS cd_15 0 h dX15_in_6 (Nat.le_of_ble_eq_true rfl) rfl q1380 (fun x21 h => ?_)
    obtain ⟨q22, eq22, h⟩ := Option.bind_eq_some_iff.mp h
    obtain ⟨eq22, s23⟩ := rv_some eq22
    refine wm_cV_i (As := []) (st := [.int v3]) X hS cd_17 s23 rfl h (fun _ _ hF => ctJ3_size l hF) mdJ3_size mvJ3_size q1791 dX15_in_9 rfl (by rw [eq22]; first | done | rfl) (c1_i c1_0) (Nat.le_of_ble_eq_true rfl) ⟨Nat.le_of_ble_eq_true rfl, Nat.le_of_ble_eq_true rfl⟩ ⟨Nat.le_of_ble_eq_true rfl, Nat.le_of_ble_eq_true rfl⟩ (fun x24 σ25 _ h => ?_)
    refine wm_icmp_ge X 39 h dX15_in_12 (by decide) (fun c37 h => ?_) (fun c37 h => ?_)
    · refine wm_sub (ℓ' := [(2, .int v2)]) [2] rfl ?_
      exact hkx39 _ _ h
    · refine wm_iload_n X 2 dX15_in_15 rfl ?_
      refine wm_aload_n X 0 dX15_in_16 rfl ?_
      refine wm_gR X hS cd_15 0 h dX15_in_17 (Nat.le_of_ble_eq_true rfl) rfl q1380 (fun x26 h => ?_)
      refine wm_iload_n X 3 dX15_in_20 rfl ?_
      obtain ⟨q27, eq27, h⟩ := Option.bind_eq_some_iff.mp h
      obtain ⟨eq27, s28⟩ := rv_some eq27
      refine wm_cV_r (As := [.int v3]) (st := [.int v2]) X hS cd_17 s28 rfl h (fun _ _ hF => ctJ3_get l hF) mdJ3_get mvJ3_get q1792 dX15_in_21 rfl (by rw [eq27]; first | done | rfl) (c1_i c1_0) (Nat.le_of_ble_eq_true rfl) ⟨Nat.le_of_ble_eq_true rfl, Nat.le_of_ble_eq_true rfl⟩ ⟨Nat.le_of_ble_eq_true rfl, Nat.le_of_ble_eq_true rfl⟩ (fun x29 σ30 _ h => ?_)
      refine wm_cast X hS cd_16 h dX15_in_24 q1793 (fun q31 e32 s33 h => ?_)
      refine wm_aload_n X 1 dX15_in_27 rfl ?_
      obtain ⟨s34, h⟩ := ck_e h
      refine wm_cV_i (As := [va_rf y1]) (st := [.int v2]) X hS cd_16 s34 rfl h (fun _ _ hF => ctX16_in l hF) mdX16_in mvX16_in q1794 dX15_in_28 rfl rfl (c1_i c1_0) (Nat.le_of_ble_eq_true rfl) ⟨Nat.le_of_ble_eq_true rfl, Nat.le_of_ble_eq_true rfl⟩ ⟨Nat.le_of_ble_eq_true rfl, Nat.le_of_ble_eq_true rfl⟩ (fun x35 σ36 _ h => ?_)
      refine wm_iadd X dX15_in_31 ?_
      refine wm_istore_n (ℓ' := [(2, .int (v2 + x35)), (0, va_rf (some h0)), (1, va_rf y1), (3, .int v3)]) X dX15_in_32 (by decide) rfl ?_
      refine wm_iinc (v := (v3 + 1)) (ℓ' := [(3, .int (v3 + 1)), (2, .int (v2 + x35)), (0, va_rf (some h0)), (1, va_rf y1)]) X 3 dX15_in_33 rfl rfl (by decide) rfl ?_
      refine wm_goto X 4 dX15_in_36 (by decide) ?_
      refine wm_sub (ℓ' := [(0, va_rf (some h0)), (1, va_rf y1), (2, .int (v2 + x35)), (3, .int (v3 + 1))]) [2, 3, 1, 0] rfl ?_
      exact ih _ _ _ _ h hkx39
set_option maxHeartbeats 4000000 in
theorem ctX15_in (l : Launch) {h0 : Nat} {x1 : Option Nat} {σ σf : Mm} {r : Int32} (h : FX15_in h0 x1 σ = some (r, σf)) : CTi l yX15_in (ws_ yX15_in cX15_in 4 ((some FieldType.int))) 4 102 0 0 [va_rf (some h0), va_rf x1] σ r σf := by
  refine ct_start (n := 1) mdX15_in (Nat.le_of_ble_eq_true rfl) (c1_r (c1_r c1_0)) (fun p e s m args below meth c D dA sz0 ad0 X hS hr hnm => ?_)
  have X : CX p s m args meth c cX15_in 4 RX15 := X
  generalize mN σ = N0
  unfold FX15_in at h
  refine wm_iconst (v := 0) X dX15_in_0 (by decide) ?_
  refine wm_istore_n (ℓ' := [(2, .int 0), (0, va_rf (some h0)), (1, va_rf x1)]) X dX15_in_1 (by decide) rfl ?_
  refine wm_iconst (v := 0) X dX15_in_2 (by decide) ?_
  refine wm_istore_n (ℓ' := [(3, .int 0), (2, .int 0), (0, va_rf (some h0)), (1, va_rf x1)]) X dX15_in_3 (by decide) rfl ?_
  refine wm_sub (ℓ' := [(0, va_rf (some h0)), (1, va_rf x1), (2, .int 0), (3, .int 0)]) [2, 3, 1, 0] rfl ?_
  refine wX15_in_4 X hS hr hnm _ _ fu _ _ _ _ h (fun x38 σ h => ?_)
  · refine wm_iload_n X 0 dX15_in_39 rfl ?_
    exact wm_iret X hr h dX15_in_40 (Nat.le_of_ble_eq_true rfl) (Nat.le_of_ble_eq_true rfl)
theorem mdX18_holds : MD yX18_holds 1 := by unfold MD; decide +kernel
set_option maxHeartbeats 4000000 in
theorem crX18_holds (l : Launch) {fr0 lo0 : Nat} (Rf : Nat → Option Nat → Mm → Option (Int32 × Mm)) (hRf : HOK l fr0 lo0 Rf) {h0 : Nat} {x1 : Option Nat} {σ σf : Mm} {r : Int32} (h : RX18_holds Rf h0 x1 σ = some (r, σf)) : CTi l yX18_holds (ws_ yX18_holds cX18_holds 2 ((some FieldType.boolean))) (fr0 + 20) (lo0 + 600) 0 0 [va_rf (some h0), va_rf x1] σ r σf := by
  refine ct_start (n := 1) mdX18_holds (Nat.le_of_ble_eq_true rfl) (c1_r (c1_r c1_0)) (fun p e s m args below meth c D dA sz0 ad0 X hS hr hnm => ?_)
  have X : CX p s m args meth c cX18_holds 2 RX18 := X
  generalize mN σ = N0
  unfold RX18_holds at h
  refine wm_aload_n X 0 dX18_holds_0 rfl ?_
  refine wm_gR X hS cd_18 0 h dX18_holds_1 (Nat.le_of_ble_eq_true rfl) rfl q1484 (fun x21 h => ?_)
  refine wm_aload_n X 1 dX18_holds_4 rfl ?_
  obtain ⟨q22, eq22, h⟩ := Option.bind_eq_some_iff.mp h
  obtain ⟨eq22, s23⟩ := rv_some eq22
  refine wm_cV_i (As := [va_rf x1]) (st := []) X hS cd_15 s23 rfl h (fun _ _ hF => ctX15_in l hF) mdX15_in mvX15_in q1787 dX18_holds_5 rfl (by rw [eq22]; first | done | rfl) c1_0 (Nat.le_of_ble_eq_true rfl) ⟨Nat.le_of_ble_eq_true rfl, Nat.le_of_ble_eq_true rfl⟩ ⟨Nat.le_of_ble_eq_true rfl, Nat.le_of_ble_eq_true rfl⟩ (fun x24 σ25 _ h => ?_)
  refine wm_aload_n X 0 dX18_holds_8 rfl ?_
  refine wm_gR X hS cd_18 1 h dX18_holds_9 (Nat.le_of_ble_eq_true rfl) rfl q1485 (fun x26 h => ?_)
  refine wm_aload_n X 1 dX18_holds_12 rfl ?_
  obtain ⟨q27, eq27, h⟩ := Option.bind_eq_some_iff.mp h
  obtain ⟨eq27, s28⟩ := rv_some eq27
  refine wm_cV_i (As := [va_rf x1]) (st := [.int x24]) X hS cd_15 s28 rfl h (fun _ _ hF => ctX15_in l hF) mdX15_in mvX15_in q1787 dX18_holds_13 rfl (by rw [eq27]; first | done | rfl) (c1_i c1_0) (Nat.le_of_ble_eq_true rfl) ⟨Nat.le_of_ble_eq_true rfl, Nat.le_of_ble_eq_true rfl⟩ ⟨Nat.le_of_ble_eq_true rfl, Nat.le_of_ble_eq_true rfl⟩ (fun x29 σ30 _ h => ?_)
  refine wm_icmp_ge X 23 h dX18_holds_16 (by decide) (fun c31 h => ?_) (fun c31 h => ?_)
  · refine wm_iconst (v := 0) X dX18_holds_23 (by decide) ?_
    exact wm_zret X hr h dX18_holds_24 (Nat.le_of_ble_eq_true rfl) (Nat.le_of_ble_eq_true rfl)
  · refine wm_iconst (v := 1) X dX18_holds_19 (by decide) ?_
    refine wm_goto X 24 dX18_holds_20 (by decide) ?_
    exact wm_zret X hr h dX18_holds_24 (Nat.le_of_ble_eq_true rfl) (Nat.le_of_ble_eq_true rfl)
theorem hok_holds (l : Launch) (d : Nat) : HOK l (d * 20) (d * 600) (Fholds d) := by
  induction d with
  | zero => intro q x σ r σf h; cases h
  | succ d ih =>
    intro q x σ r σf h
    rw [Nat.succ_mul, Nat.succ_mul]
    unfold Fholds at h
    split at h
    next hs => exact Or.inl ⟨hs, crX12_holds l (Fholds d) ih h⟩
    next =>
    split at h
    next hs => exact Or.inr (Or.inl ⟨hs, crX13_holds l (Fholds d) ih h⟩)
    next =>
    split at h
    next hs => exact Or.inr (Or.inr (Or.inl ⟨hs, crX14_holds l (Fholds d) ih h⟩))
    next =>
    split at h
    next hs => exact Or.inr (Or.inr (Or.inr ⟨hs, crX18_holds l (Fholds d) ih h⟩))
    next => cases h
theorem mdX10_tells : MD yX10_tells 2 := by unfold MD; decide +kernel
theorem mvX10_tells : MV yX10_tells cX10_tells 5 ((some FieldType.boolean)) := ⟨q1764, q1765, q157, q1766⟩
set_option maxHeartbeats 4000000 in
theorem wX10_tells_2 {p : Program} {l : Launch} {e : Env} {s : State} {m : MethodId} {args : Array Value} {below : List Frame} {meth : Method} {c : Code} {D : va_G} {dA : Nat → ClassId} {sz0 : Nat} {ad0 : Nat → Nat} {N0 : Nat} {r : Int32} {σf : Mm} (X : CX p s m args meth c cX10_tells 5 RX10) (hS : ST D dA sz0 ad0 s) (hr : meth.sig.returnType = (some FieldType.boolean)) (hnm : meth.name = yX10_tells.name) {fr0 lo0 : Nat} (Rf : Nat → Option Nat → Mm → Option (Int32 × Mm)) (hRf : HOK l fr0 lo0 Rf) (h0 : Nat) (y1 : Int32) (y2 : Option Nat) : ∀ (n : Nat) (v3 : Int32) (σ : Mm) (kx65 : Mm → Option (Int32 × Mm)) (kx57 : Mm → Option (Int32 × Mm)), RX10_tells_2 Rf h0 y1 y2 n v3 σ kx65 kx57 = some (r, σf) → (∀  (σ : Mm), kx65 σ = some (r, σf) → WMi p l e s m args below meth c (fr0 + 3) (lo0 + 64) 0 0 5 D dA sz0 ad0 N0 r σf 0 0 σ [] [] 65) → (∀  (σ : Mm), kx57 σ = some (r, σf) → WMi p l e s m args below meth c (fr0 + 3) (lo0 + 64) 0 0 5 D dA sz0 ad0 N0 r σf 0 0 σ [] [] 57) → WMi p l e s m args below meth c (fr0 + 3) (lo0 + 64) 0 0 5 D dA sz0 ad0 N0 r σf 0 0 σ [(0, va_rf (some h0)), (1, .int y1), (2, va_rf y2), (3, .int v3)] [] 2 := by
  intro n
  induction n with
  | zero =>
    intro v3 σ kx65 kx57 h hkx65 hkx57
    cases h
  | succ n ih =>
    intro v3 σ kx65 kx57 h hkx65 hkx57
    rw [RX10_tells_2] at h
    refine wm_iload_n X 3 dX10_tells_2 rfl ?_
    refine wm_aload_n X 0 dX10_tells_3 rfl ?_
    refine wm_gR X hS cd_10 0 h dX10_tells_4 (Nat.le_of_ble_eq_true rfl) rfl q1290 (fun x21 h => ?_)
    obtain ⟨q22, eq22, h⟩ := Option.bind_eq_some_iff.mp h
    obtain ⟨eq22, s23⟩ := rv_some eq22
    refine wm_cV_i (As := []) (st := [.int v3]) X hS cd_17 s23 rfl h (fun _ _ hF => ctJ3_size l hF) mdJ3_size mvJ3_size q1767 dX10_tells_7 rfl (by rw [eq22]; first | done | rfl) (c1_i c1_0) (Nat.le_of_ble_eq_true rfl) ⟨Nat.le_of_ble_eq_true rfl, Nat.le_of_ble_eq_true rfl⟩ ⟨Nat.le_of_ble_eq_true rfl, Nat.le_of_ble_eq_true rfl⟩ (fun x24 σ25 _ h => ?_)
    refine wm_icmp_ge X 65 h dX10_tells_10 (by decide) (fun c43 h => ?_) (fun c43 h => ?_)
    · refine wm_sub (ℓ' := []) [] rfl ?_
      exact hkx65 _ h
    · refine wm_aload_n X 0 dX10_tells_13 rfl ?_
      refine wm_gR X hS cd_10 0 h dX10_tells_14 (Nat.le_of_ble_eq_true rfl) rfl q1290 (fun x26 h => ?_)
      refine wm_iload_n X 3 dX10_tells_17 rfl ?_
      obtain ⟨q27, eq27, h⟩ := Option.bind_eq_some_iff.mp h
      obtain ⟨eq27, s28⟩ := rv_some eq27
      refine wm_cV_r (As := [.int v3]) (st := []) X hS cd_17 s28 rfl h (fun _ _ hF => ctJ3_get l hF) mdJ3_get mvJ3_get q1768 dX10_tells_18 rfl (by rw [eq27]; first | done | rfl) c1_0 (Nat.le_of_ble_eq_true rfl) ⟨Nat.le_of_ble_eq_true rfl, Nat.le_of_ble_eq_true rfl⟩ ⟨Nat.le_of_ble_eq_true rfl, Nat.le_of_ble_eq_true rfl⟩ (fun x29 σ30 _ h => ?_)
      refine wm_cast X hS cd_11 h dX10_tells_21 q1776 (fun q31 e32 s33 h => ?_)
      refine wm_astore (ℓ' := [(4, va_rf (some q31)), (0, va_rf (some h0)), (1, .int y1), (2, va_rf y2), (3, .int v3)]) X dX10_tells_24 (by decide) rfl ?_
      refine wm_aload X 0 dX10_tells_26 rfl ?_
      refine wm_gIN X hS cd_11 0 h dX10_tells_28 (Nat.le_of_ble_eq_true rfl) rfl 86 rfl (fun x34 h => ?_)
      refine wm_iload_n X 2 dX10_tells_31 rfl ?_
      refine wm_icmp_ne X 59 h dX10_tells_32 (by decide) (fun c42 h => ?_) (fun c42 h => ?_)
      · refine wm_iinc (v := (v3 + 1)) (ℓ' := [(3, .int (v3 + 1)), (4, va_rf (some q31)), (0, va_rf (some h0)), (1, .int y1), (2, va_rf y2)]) X 4 dX10_tells_59 rfl rfl (by decide) rfl ?_
        refine wm_goto X 2 dX10_tells_62 (by decide) ?_
        refine wm_sub (ℓ' := [(0, va_rf (some h0)), (1, .int y1), (2, va_rf y2), (3, .int (v3 + 1))]) [2, 3, 4, 0] rfl ?_
        exact ih _ _ _ _ h hkx65 hkx57
      · refine wm_aload X 0 dX10_tells_35 rfl ?_
        refine wm_gRN X hS cd_11 1 h dX10_tells_37 (Nat.le_of_ble_eq_true rfl) rfl 87 rfl (fun x35 h => ?_)
        refine wm_ifnull X 57 h dX10_tells_40 (by decide) (fun e37 h => ?_) (fun q36 e37 h => ?_)
        · refine wm_sub (ℓ' := []) [] rfl ?_
          exact hkx57 _ h
        · refine wm_aload X 0 dX10_tells_43 rfl ?_
          refine wm_gRN X hS cd_11 1 h dX10_tells_45 (Nat.le_of_ble_eq_true rfl) rfl 87 rfl (fun x38 h => ?_)
          refine wm_aload_n X 3 dX10_tells_48 rfl ?_
          refine wm_ifH X hS hRf h dX10_tells_49 q1778 c1_0 (Nat.le_of_ble_eq_true rfl) ⟨rmf (by omega), rml (by omega)⟩ ⟨Nat.le_of_ble_eq_true rfl, Nat.le_of_ble_eq_true rfl⟩ (fun x39 σ40 _ h => ?_)
          refine wm_if_eq X 59 h dX10_tells_54 (by decide) (fun c41 h => ?_) (fun c41 h => ?_)
          · refine wm_iinc (v := (v3 + 1)) (ℓ' := [(3, .int (v3 + 1)), (4, va_rf (some q31)), (0, va_rf (some h0)), (1, .int y1), (2, va_rf y2)]) X 4 dX10_tells_59 rfl rfl (by decide) rfl ?_
            refine wm_goto X 2 dX10_tells_62 (by decide) ?_
            refine wm_sub (ℓ' := [(0, va_rf (some h0)), (1, .int y1), (2, va_rf y2), (3, .int (v3 + 1))]) [2, 3, 4, 0] rfl ?_
            exact ih _ _ _ _ h hkx65 hkx57
          · refine wm_sub (ℓ' := []) [] rfl ?_
            exact hkx57 _ h
set_option maxHeartbeats 4000000 in
theorem crX10_tells (l : Launch) {fr0 lo0 : Nat} (Rf : Nat → Option Nat → Mm → Option (Int32 × Mm)) (hRf : HOK l fr0 lo0 Rf) {h0 : Nat} {x1 : Int32} {x2 : Option Nat} {σ σf : Mm} {r : Int32} (h : RX10_tells Rf h0 x1 x2 σ = some (r, σf)) : CTi l yX10_tells (ws_ yX10_tells cX10_tells 5 ((some FieldType.boolean))) (fr0 + 3) (lo0 + 64) 0 0 [va_rf (some h0), .int x1, va_rf x2] σ r σf := by
  refine ct_start (n := 2) mdX10_tells (Nat.le_of_ble_eq_true rfl) (c1_r (c1_i (c1_r c1_0))) (fun p e s m args below meth c D dA sz0 ad0 X hS hr hnm => ?_)
  have X : CX p s m args meth c cX10_tells 5 RX10 := X
  generalize mN σ = N0
  unfold RX10_tells at h
  refine wm_iconst (v := 0) X dX10_tells_0 (by decide) ?_
  refine wm_istore_n (ℓ' := [(3, .int 0), (0, va_rf (some h0)), (1, .int x1), (2, va_rf x2)]) X dX10_tells_1 (by decide) rfl ?_
  refine wm_sub (ℓ' := [(0, va_rf (some h0)), (1, .int x1), (2, va_rf x2), (3, .int 0)]) [1, 2, 3, 0] rfl ?_
  refine wX10_tells_2 X hS hr hnm Rf hRf _ _ _ fu _ _ _ _ h (fun σ h => ?_) (fun σ h => ?_)
  · refine wm_iconst (v := 0) X dX10_tells_65 (by decide) ?_
    exact wm_zret X hr h dX10_tells_66 (Nat.le_of_ble_eq_true rfl) (Nat.le_of_ble_eq_true rfl)
  · refine wm_iconst (v := 1) X dX10_tells_57 (by decide) ?_
    exact wm_zret X hr h dX10_tells_58 (Nat.le_of_ble_eq_true rfl) (Nat.le_of_ble_eq_true rfl)
theorem ctX10_tells (l : Launch) {h0 : Nat} {x1 : Int32} {x2 : Option Nat} {σ σf : Mm} {r : Int32} (h : FX10_tells h0 x1 x2 σ = some (r, σf)) : CTi l yX10_tells (ws_ yX10_tells cX10_tells 5 ((some FieldType.boolean))) 403 12064 0 0 [va_rf (some h0), .int x1, va_rf x2] σ r σf := crX10_tells l (Fholds 20) (hok_holds l 20) h
theorem mdX1_says : MD yX1_says 3 := by unfold MD; decide +kernel
theorem mvX1_says : MV yX1_says cX1_says 5 ((some FieldType.boolean)) := ⟨q1757, qs44, q128, q1758⟩
set_option maxHeartbeats 4000000 in
theorem ctX1_says (l : Launch) {h0 : Nat} {x1 : Option Nat} {x2 : Int32} {x3 : Int32} {σ σf : Mm} {r : Int32} (h : FX1_says h0 x1 x2 x3 σ = some (r, σf)) : CTi l yX1_says (ws_ yX1_says cX1_says 5 ((some FieldType.boolean))) 404 12088 0 0 [va_rf (some h0), va_rf x1, .int x2, .int x3] σ r σf := by
  refine ct_start (n := 3) mdX1_says (Nat.le_of_ble_eq_true rfl) (c1_r (c1_r (c1_i (c1_i c1_0)))) (fun p e s m args below meth c D dA sz0 ad0 X hS hr hnm => ?_)
  have X : CX p s m args meth c cX1_says 5 RX1 := X
  generalize mN σ = N0
  unfold FX1_says at h
  refine wm_aload_n X 1 dX1_says_0 rfl ?_
  refine wm_gRN X hS cd_2 19 h dX1_says_1 (Nat.le_of_ble_eq_true rfl) rfl 19 rfl (fun x21 h => ?_)
  refine wm_ifnonnull X 9 h dX1_says_4 (by decide) (fun e23 h => ?_) (fun q22 e23 h => ?_)
  · refine wm_iconst (v := 0) X dX1_says_7 (by decide) ?_
    exact wm_zret X hr h dX1_says_8 (Nat.le_of_ble_eq_true rfl) (Nat.le_of_ble_eq_true rfl)
  · refine wm_aload_n X 1 dX1_says_9 rfl ?_
    refine wm_iload_n X 2 dX1_says_10 rfl ?_
    obtain ⟨q24, eq24, h⟩ := Option.bind_eq_some_iff.mp h
    obtain ⟨eq24, s25⟩ := rv_some eq24
    refine wm_cV_i (As := [.int x2]) (st := []) X hS cd_2 s25 rfl h (fun _ _ hF => ctX2_faceOf l hF) mdX2_faceOf mvX2_faceOf q1759 dX1_says_11 rfl (by rw [eq24]; first | done | rfl) c1_0 (Nat.le_of_ble_eq_true rfl) ⟨Nat.le_of_ble_eq_true rfl, Nat.le_of_ble_eq_true rfl⟩ ⟨Nat.le_of_ble_eq_true rfl, Nat.le_of_ble_eq_true rfl⟩ (fun x26 σ27 _ h => ?_)
    refine wm_istore (ℓ' := [(4, .int x26), (0, va_rf (some h0)), (1, va_rf x1), (2, .int x2), (3, .int x3)]) X dX1_says_14 (by decide) rfl ?_
    refine wm_aload_n X 1 dX1_says_16 rfl ?_
    refine wm_gR X hS cd_1 5 h dX1_says_17 (Nat.le_of_ble_eq_true rfl) rfl q443 (fun x28 h => ?_)
    refine wm_iload_n X 3 dX1_says_20 rfl ?_
    refine wm_pIN X hS cd_4 0 h dX1_says_21 (Nat.le_of_ble_eq_true rfl) rfl 27 rfl rfl rfl (fun σ29 _ h => ?_)
    refine wm_aload_n X 1 dX1_says_24 rfl ?_
    refine wm_gR X hS cd_1 5 h dX1_says_25 (Nat.le_of_ble_eq_true rfl) rfl q443 (fun x30 h => ?_)
    refine wm_aload_n X 2 dX1_says_28 rfl ?_
    refine wm_gIN X hS cd_2 3 h dX1_says_29 (Nat.le_of_ble_eq_true rfl) rfl 3 rfl (fun x31 h => ?_)
    refine wm_pIN X hS cd_4 1 h dX1_says_32 (Nat.le_of_ble_eq_true rfl) rfl 28 rfl rfl rfl (fun σ32 _ h => ?_)
    refine wm_aload_n X 1 dX1_says_35 rfl ?_
    refine wm_gR X hS cd_1 5 h dX1_says_36 (Nat.le_of_ble_eq_true rfl) rfl q443 (fun x33 h => ?_)
    refine wm_aload_n X 2 dX1_says_39 rfl ?_
    refine wm_gRN X hS cd_2 11 h dX1_says_40 (Nat.le_of_ble_eq_true rfl) rfl 11 rfl (fun x34 h => ?_)
    refine wm_iload_n X 3 dX1_says_43 rfl ?_
    refine wm_iaload X hS h dX1_says_44 (fun x35 h => ?_)
    refine wm_iconst (v := (-1)) X dX1_says_45 (by decide) ?_
    obtain ⟨J60, eJ60, h⟩ := jn_e h
    have hJ60 : ∀ (z36 : Int32) (σ : Mm), J60 z36 σ = some (r, σf) → WMi p l e s m args below meth c 404 12088 0 0 5 D dA sz0 ad0 N0 r σf 0 0 σ [(0, va_rf (some h0)), (1, va_rf x1), (2, .int x2), (3, .int x3), (4, .int x26)] [.int z36, va_rf x33] 60 := by
      intro z36 σ h
      rw [eJ60] at h
      refine wm_pIN X hS cd_4 2 h dX1_says_60 (Nat.le_of_ble_eq_true rfl) rfl 29 rfl rfl rfl (fun σ37 _ h => ?_)
      refine wm_aload_n X 0 dX1_says_63 rfl ?_
      refine wm_gR X hS cd_1 5 h dX1_says_64 (Nat.le_of_ble_eq_true rfl) rfl q443 (fun x38 h => ?_)
      refine wm_iload X 4 dX1_says_67 rfl ?_
      refine wm_iconst (v := (-1)) X dX1_says_69 (by decide) ?_
      obtain ⟨J87, eJ87, h⟩ := jn_e h
      have hJ87 : ∀ (z39 : Int32) (σ : Mm), J87 z39 σ = some (r, σf) → WMi p l e s m args below meth c 404 12088 0 0 5 D dA sz0 ad0 N0 r σf 0 0 σ [(0, va_rf (some h0)), (1, va_rf x1), (2, .int x2), (3, .int x3), (4, .int x26)] [.int z39, va_rf x38] 87 := by
        intro z39 σ h
        rw [eJ87] at h
        refine wm_pIN X hS cd_4 3 h dX1_says_87 (Nat.le_of_ble_eq_true rfl) rfl 30 rfl rfl rfl (fun σ40 _ h => ?_)
        refine wm_aload_n X 0 dX1_says_90 rfl ?_
        refine wm_gR X hS cd_1 5 h dX1_says_91 (Nat.le_of_ble_eq_true rfl) rfl q443 (fun x41 h => ?_)
        refine wm_aload_n X 1 dX1_says_94 rfl ?_
        obtain ⟨q42, eq42, h⟩ := Option.bind_eq_some_iff.mp h
        obtain ⟨eq42, s43⟩ := rv_some eq42
        refine wm_cV_i (As := []) (st := [va_rf x41]) X hS cd_2 s43 rfl h (fun _ _ hF => ctX2_hung l hF) mdX2_hung mvX2_hung q697 dX1_says_95 rfl (by rw [eq42]; first | done | rfl) (c1_r c1_0) (Nat.le_of_ble_eq_true rfl) ⟨Nat.le_of_ble_eq_true rfl, Nat.le_of_ble_eq_true rfl⟩ ⟨Nat.le_of_ble_eq_true rfl, Nat.le_of_ble_eq_true rfl⟩ (fun x44 σ45 _ h => ?_)
        refine wm_pIN X hS cd_4 4 h dX1_says_98 (Nat.le_of_ble_eq_true rfl) rfl 31 rfl rfl rfl (fun σ46 _ h => ?_)
        refine wm_aload_n X 0 dX1_says_101 rfl ?_
        refine wm_gR X hS cd_1 5 h dX1_says_102 (Nat.le_of_ble_eq_true rfl) rfl q443 (fun x47 h => ?_)
        refine wm_aload_n X 1 dX1_says_105 rfl ?_
        refine wm_gIN X hS cd_2 2 h dX1_says_106 (Nat.le_of_ble_eq_true rfl) rfl 2 rfl (fun x48 h => ?_)
        refine wm_aload_n X 0 dX1_says_109 rfl ?_
        refine wm_gR X hS cd_1 5 h dX1_says_110 (Nat.le_of_ble_eq_true rfl) rfl q443 (fun x49 h => ?_)
        refine wm_gIN X hS cd_4 4 h dX1_says_113 (Nat.le_of_ble_eq_true rfl) rfl 31 rfl (fun x50 h => ?_)
        refine wm_isub X dX1_says_116 ?_
        refine wm_pIN X hS cd_4 5 h dX1_says_117 (Nat.le_of_ble_eq_true rfl) rfl 32 rfl rfl rfl (fun σ51 _ h => ?_)
        refine wm_aload_n X 0 dX1_says_120 rfl ?_
        refine wm_gR X hS cd_1 5 h dX1_says_121 (Nat.le_of_ble_eq_true rfl) rfl q443 (fun x52 h => ?_)
        refine wm_iload X 4 dX1_says_124 rfl ?_
        refine wm_iload_n X 2 dX1_says_126 rfl ?_
        obtain ⟨J135, eJ135, h⟩ := jn_e h
        have hJ135 : ∀ (z53 : Int32) (σ : Mm), J135 z53 σ = some (r, σf) → WMi p l e s m args below meth c 404 12088 0 0 5 D dA sz0 ad0 N0 r σf 0 0 σ [(0, va_rf (some h0)), (1, va_rf x1), (2, .int x2), (3, .int x3)] [.int z53, va_rf x52] 135 := by
          intro z53 σ h
          rw [eJ135] at h
          refine wm_pZN X hS cd_4 6 h dX1_says_135 (Nat.le_of_ble_eq_true rfl) rfl 33 rfl rfl rfl (fun σ54 _ h => ?_)
          refine wm_aload_n X 0 dX1_says_138 rfl ?_
          refine wm_gR X hS cd_1 5 h dX1_says_139 (Nat.le_of_ble_eq_true rfl) rfl q443 (fun x55 h => ?_)
          refine wm_aload_n X 1 dX1_says_142 rfl ?_
          refine wm_gRN X hS cd_2 12 h dX1_says_143 (Nat.le_of_ble_eq_true rfl) rfl 12 rfl (fun x56 h => ?_)
          refine wm_iload_n X 2 dX1_says_146 rfl ?_
          refine wm_iaload X hS h dX1_says_147 (fun x57 h => ?_)
          refine wm_iconst (v := (-1)) X dX1_says_148 (by decide) ?_
          obtain ⟨J157, eJ157, h⟩ := jn_e h
          have hJ157 : ∀ (z58 : Int32) (σ : Mm), J157 z58 σ = some (r, σf) → WMi p l e s m args below meth c 404 12088 0 0 5 D dA sz0 ad0 N0 r σf 0 0 σ [(0, va_rf (some h0)), (1, va_rf x1), (3, .int x3)] [.int z58, va_rf x55] 157 := by
            intro z58 σ h
            rw [eJ157] at h
            refine wm_pZN X hS cd_4 7 h dX1_says_157 (Nat.le_of_ble_eq_true rfl) rfl 34 rfl rfl rfl (fun σ59 _ h => ?_)
            refine wm_aload_n X 1 dX1_says_160 rfl ?_
            refine wm_gRN X hS cd_2 19 h dX1_says_161 (Nat.le_of_ble_eq_true rfl) rfl 19 rfl (fun x60 h => ?_)
            refine wm_iload_n X 2 dX1_says_164 rfl ?_
            refine wm_aload_n X 0 dX1_says_165 rfl ?_
            refine wm_gR X hS cd_1 5 h dX1_says_166 (Nat.le_of_ble_eq_true rfl) rfl q443 (fun x61 h => ?_)
            obtain ⟨q62, eq62, h⟩ := Option.bind_eq_some_iff.mp h
            obtain ⟨eq62, s63⟩ := rv_some eq62
            refine wm_cV_i (As := [.int x3, va_rf x61]) (st := []) X hS cd_10 s63 rfl h (fun _ _ hF => ctX10_tells l hF) mdX10_tells mvX10_tells q1763 dX1_says_169 rfl (by rw [eq62]; first | done | rfl) c1_0 (Nat.le_of_ble_eq_true rfl) ⟨Nat.le_of_ble_eq_true rfl, Nat.le_of_ble_eq_true rfl⟩ ⟨Nat.le_of_ble_eq_true rfl, Nat.le_of_ble_eq_true rfl⟩ (fun x64 σ65 _ h => ?_)
            exact wm_zret X hr h dX1_says_172 (Nat.le_of_ble_eq_true rfl) (Nat.le_of_ble_eq_true rfl)
          clear eJ157
          refine wm_icmp_eq X 156 h dX1_says_149 (by decide) (fun c66 h => ?_) (fun c66 h => ?_)
          · refine wm_iconst (v := 0) X dX1_says_156 (by decide) ?_
            refine wm_sub (ℓ' := [(0, va_rf (some h0)), (1, va_rf x1), (3, .int x3)]) [0, 1, 3] rfl ?_
            exact hJ157 _ _ h
          · refine wm_iconst (v := 1) X dX1_says_152 (by decide) ?_
            refine wm_goto X 157 dX1_says_153 (by decide) ?_
            refine wm_sub (ℓ' := [(0, va_rf (some h0)), (1, va_rf x1), (3, .int x3)]) [0, 1, 3] rfl ?_
            exact hJ157 _ _ h
        clear eJ135
        refine wm_icmp_ne X 134 h dX1_says_127 (by decide) (fun c67 h => ?_) (fun c67 h => ?_)
        · refine wm_iconst (v := 0) X dX1_says_134 (by decide) ?_
          refine wm_sub (ℓ' := [(0, va_rf (some h0)), (1, va_rf x1), (2, .int x2), (3, .int x3)]) [0, 1, 2, 3] rfl ?_
          exact hJ135 _ _ h
        · refine wm_iconst (v := 1) X dX1_says_130 (by decide) ?_
          refine wm_goto X 135 dX1_says_131 (by decide) ?_
          refine wm_sub (ℓ' := [(0, va_rf (some h0)), (1, va_rf x1), (2, .int x2), (3, .int x3)]) [0, 1, 2, 3] rfl ?_
          exact hJ135 _ _ h
      clear eJ87
      refine wm_icmp_ne X 77 h dX1_says_70 (by decide) (fun c72 h => ?_) (fun c72 h => ?_)
      · refine wm_aload_n X 1 dX1_says_77 rfl ?_
        refine wm_gRN X hS cd_2 8 h dX1_says_78 (Nat.le_of_ble_eq_true rfl) rfl 8 rfl (fun x68 h => ?_)
        refine wm_iload X 4 dX1_says_81 rfl ?_
        refine wm_iaload X hS h dX1_says_83 (fun x69 h => ?_)
        refine wm_cS_i (As := [.int x69]) (st := [va_rf x38]) X hS h (fun _ _ hF => ctJ16_bitCount l hF) mdJ16_bitCount msJ16_bitCount q538 dX1_says_84 rfl rfl (c1_r c1_0) (Nat.le_of_ble_eq_true rfl) ⟨Nat.le_of_ble_eq_true rfl, Nat.le_of_ble_eq_true rfl⟩ ⟨Nat.le_of_ble_eq_true rfl, Nat.le_of_ble_eq_true rfl⟩ (fun x70 σ71 _ h => ?_)
        exact hJ87 _ _ h
      · refine wm_iconst (v := 0) X dX1_says_73 (by decide) ?_
        refine wm_goto X 87 dX1_says_74 (by decide) ?_
        exact hJ87 _ _ h
    clear eJ60
    refine wm_icmp_ne X 54 h dX1_says_46 (by decide) (fun c75 h => ?_) (fun c75 h => ?_)
    · refine wm_aload_n X 2 dX1_says_54 rfl ?_
      refine wm_gRN X hS cd_2 11 h dX1_says_55 (Nat.le_of_ble_eq_true rfl) rfl 11 rfl (fun x73 h => ?_)
      refine wm_iload_n X 3 dX1_says_58 rfl ?_
      refine wm_iaload X hS h dX1_says_59 (fun x74 h => ?_)
      refine wm_sub (ℓ' := [(0, va_rf (some h0)), (1, va_rf x1), (2, .int x2), (3, .int x3), (4, .int x26)]) [1, 2, 3, 4, 0] rfl ?_
      exact hJ60 _ _ h
    · refine wm_bipush (v := 99) X dX1_says_49 (by decide) ?_
      refine wm_goto X 60 dX1_says_51 (by decide) ?_
      refine wm_sub (ℓ' := [(0, va_rf (some h0)), (1, va_rf x1), (2, .int x2), (3, .int x3), (4, .int x26)]) [1, 2, 3, 4, 0] rfl ?_
      exact hJ60 _ _ h
theorem mdX1_acts : MD yX1_acts 2 := by unfold MD; decide +kernel
theorem mvX1_acts : MV yX1_acts cX1_acts 4 ((some FieldType.boolean)) := ⟨q1749, qs43, q128, q1750⟩
set_option maxHeartbeats 4000000 in
theorem ctX1_acts (l : Launch) {h0 : Nat} {x1 : Option Nat} {x2 : Int32} {σ σf : Mm} {r : Int32} (h : FX1_acts h0 x1 x2 σ = some (r, σf)) : CTi l yX1_acts (ws_ yX1_acts cX1_acts 4 ((some FieldType.boolean))) 405 12112 0 0 [va_rf (some h0), va_rf x1, .int x2] σ r σf := by
  refine ct_start (n := 2) mdX1_acts (Nat.le_of_ble_eq_true rfl) (c1_r (c1_r (c1_i c1_0))) (fun p e s m args below meth c D dA sz0 ad0 X hS hr hnm => ?_)
  have X : CX p s m args meth c cX1_acts 4 RX1 := X
  generalize mN σ = N0
  unfold FX1_acts at h
  refine wm_aload_n X 1 dX1_acts_0 rfl ?_
  obtain ⟨q21, eq21, h⟩ := Option.bind_eq_some_iff.mp h
  obtain ⟨eq21, s22⟩ := rv_some eq21
  refine wm_cV_i (As := []) (st := []) X hS cd_2 s22 rfl h (fun _ _ hF => ctX2_freeHook l hF) mdX2_freeHook mvX2_freeHook q1751 dX1_acts_1 rfl (by rw [eq21]; first | done | rfl) c1_0 (Nat.le_of_ble_eq_true rfl) ⟨Nat.le_of_ble_eq_true rfl, Nat.le_of_ble_eq_true rfl⟩ ⟨Nat.le_of_ble_eq_true rfl, Nat.le_of_ble_eq_true rfl⟩ (fun x23 σ24 _ h => ?_)
  refine wm_istore_n (ℓ' := [(3, .int x23), (0, va_rf (some h0)), (1, va_rf x1), (2, .int x2)]) X dX1_acts_4 (by decide) rfl ?_
  refine wm_aload_n X 2 dX1_acts_5 rfl ?_
  refine wm_gRN X hS cd_2 10 h dX1_acts_6 (Nat.le_of_ble_eq_true rfl) rfl 10 rfl (fun x25 h => ?_)
  refine wm_iload_n X 3 dX1_acts_9 rfl ?_
  refine wm_iaload X hS h dX1_acts_10 (fun x26 h => ?_)
  refine wm_iconst (v := (-1)) X dX1_acts_11 (by decide) ?_
  obtain ⟨J48, eJ48, h⟩ := jn_e h
  have hJ48 : ∀  (σ : Mm), J48  σ = some (r, σf) → WMi p l e s m args below meth c 405 12112 0 0 4 D dA sz0 ad0 N0 r σf 0 0 σ [(0, va_rf (some h0)), (1, va_rf x1), (2, .int x2)] [] 48 := by
    intro  σ h
    rw [eJ48] at h
    refine wm_aload_n X 1 dX1_acts_48 rfl ?_
    refine wm_gRN X hS cd_2 10 h dX1_acts_49 (Nat.le_of_ble_eq_true rfl) rfl 10 rfl (fun x27 h => ?_)
    refine wm_iload_n X 2 dX1_acts_52 rfl ?_
    refine wm_iaload X hS h dX1_acts_53 (fun x28 h => ?_)
    refine wm_iconst (v := (-1)) X dX1_acts_54 (by decide) ?_
    refine wm_icmp_ne X 78 h dX1_acts_55 (by decide) (fun c39 h => ?_) (fun c39 h => ?_)
    · refine wm_iconst (v := 0) X dX1_acts_78 (by decide) ?_
      exact wm_zret X hr h dX1_acts_79 (Nat.le_of_ble_eq_true rfl) (Nat.le_of_ble_eq_true rfl)
    · refine wm_aload_n X 1 dX1_acts_58 rfl ?_
      refine wm_gRN X hS cd_2 11 h dX1_acts_59 (Nat.le_of_ble_eq_true rfl) rfl 11 rfl (fun x29 h => ?_)
      refine wm_iload_n X 2 dX1_acts_62 rfl ?_
      refine wm_iaload X hS h dX1_acts_63 (fun x30 h => ?_)
      refine wm_iconst (v := (-1)) X dX1_acts_64 (by decide) ?_
      refine wm_icmp_eq X 78 h dX1_acts_65 (by decide) (fun c38 h => ?_) (fun c38 h => ?_)
      · refine wm_iconst (v := 0) X dX1_acts_78 (by decide) ?_
        exact wm_zret X hr h dX1_acts_79 (Nat.le_of_ble_eq_true rfl) (Nat.le_of_ble_eq_true rfl)
      · refine wm_aload_n X 0 dX1_acts_68 rfl ?_
        refine wm_aload_n X 1 dX1_acts_69 rfl ?_
        refine wm_iload_n X 2 dX1_acts_70 rfl ?_
        refine wm_iconst (v := 0) X dX1_acts_71 (by decide) ?_
        obtain ⟨s31, h⟩ := ck_e h
        refine wm_cV_i (As := [va_rf x1, .int x2, .int 0]) (st := []) X hS cd_1 s31 rfl h (fun _ _ hF => ctX1_says l hF) mdX1_says mvX1_says q1755 dX1_acts_72 rfl rfl c1_0 (Nat.le_of_ble_eq_true rfl) ⟨Nat.le_of_ble_eq_true rfl, Nat.le_of_ble_eq_true rfl⟩ ⟨Nat.le_of_ble_eq_true rfl, Nat.le_of_ble_eq_true rfl⟩ (fun x32 σ33 _ h => ?_)
        refine wm_if_ne X 80 h dX1_acts_75 (by decide) (fun c37 h => ?_) (fun c37 h => ?_)
        · refine wm_aload_n X 1 dX1_acts_80 rfl ?_
          refine wm_iload_n X 2 dX1_acts_81 rfl ?_
          obtain ⟨q34, eq34, h⟩ := Option.bind_eq_some_iff.mp h
          obtain ⟨eq34, s35⟩ := rv_some eq34
          refine wm_cV_v (As := [.int x2]) (st := []) X hS cd_2 s35 rfl h (fun _ hF => ctX2_fetches l hF) mdX2_fetches mvX2_fetches q1670 dX1_acts_82 rfl (by rw [eq34]; first | done | rfl) c1_0 (Nat.le_of_ble_eq_true rfl) ⟨Nat.le_of_ble_eq_true rfl, Nat.le_of_ble_eq_true rfl⟩ ⟨Nat.le_of_ble_eq_true rfl, Nat.le_of_ble_eq_true rfl⟩ (fun σ36 _ h => ?_)
          refine wm_iconst (v := 1) X dX1_acts_85 (by decide) ?_
          exact wm_zret X hr h dX1_acts_86 (Nat.le_of_ble_eq_true rfl) (Nat.le_of_ble_eq_true rfl)
        · refine wm_iconst (v := 0) X dX1_acts_78 (by decide) ?_
          exact wm_zret X hr h dX1_acts_79 (Nat.le_of_ble_eq_true rfl) (Nat.le_of_ble_eq_true rfl)
  clear eJ48
  refine wm_icmp_eq X 48 h dX1_acts_12 (by decide) (fun c51 h => ?_) (fun c51 h => ?_)
  · refine wm_sub (ℓ' := [(0, va_rf (some h0)), (1, va_rf x1), (2, .int x2)]) [1, 2, 3] rfl ?_
    exact hJ48 _ h
  · refine wm_aload_n X 2 dX1_acts_15 rfl ?_
    refine wm_gRN X hS cd_2 11 h dX1_acts_16 (Nat.le_of_ble_eq_true rfl) rfl 11 rfl (fun x40 h => ?_)
    refine wm_iload_n X 3 dX1_acts_19 rfl ?_
    refine wm_iaload X hS h dX1_acts_20 (fun x41 h => ?_)
    refine wm_iconst (v := (-1)) X dX1_acts_21 (by decide) ?_
    refine wm_icmp_ne X 48 h dX1_acts_22 (by decide) (fun c50 h => ?_) (fun c50 h => ?_)
    · refine wm_sub (ℓ' := [(0, va_rf (some h0)), (1, va_rf x1), (2, .int x2)]) [1, 2, 3] rfl ?_
      exact hJ48 _ h
    · refine wm_iload_n X 0 dX1_acts_25 rfl ?_
      refine wm_iconst (v := (-1)) X dX1_acts_26 (by decide) ?_
      refine wm_icmp_eq X 48 h dX1_acts_27 (by decide) (fun c49 h => ?_) (fun c49 h => ?_)
      · refine wm_sub (ℓ' := [(0, va_rf (some h0)), (1, va_rf x1), (2, .int x2)]) [1, 2, 3] rfl ?_
        exact hJ48 _ h
      · refine wm_aload_n X 1 dX1_acts_30 rfl ?_
        refine wm_aload_n X 2 dX1_acts_31 rfl ?_
        refine wm_iload_n X 3 dX1_acts_32 rfl ?_
        refine wm_iconst (v := 1) X dX1_acts_33 (by decide) ?_
        obtain ⟨s42, h⟩ := ck_e h
        refine wm_cV_i (As := [va_rf x1, .int x2, .int 1]) (st := []) X hS cd_1 s42 rfl h (fun _ _ hF => ctX1_says l hF) mdX1_says mvX1_says q1755 dX1_acts_34 rfl rfl c1_0 (Nat.le_of_ble_eq_true rfl) ⟨Nat.le_of_ble_eq_true rfl, Nat.le_of_ble_eq_true rfl⟩ ⟨Nat.le_of_ble_eq_true rfl, Nat.le_of_ble_eq_true rfl⟩ (fun x43 σ44 _ h => ?_)
        refine wm_if_eq X 48 h dX1_acts_37 (by decide) (fun c48 h => ?_) (fun c48 h => ?_)
        · refine wm_sub (ℓ' := [(0, va_rf (some h0)), (1, va_rf x1), (2, .int x2)]) [1, 2, 3] rfl ?_
          exact hJ48 _ h
        · refine wm_aload_n X 2 dX1_acts_40 rfl ?_
          refine wm_iload_n X 3 dX1_acts_41 rfl ?_
          refine wm_iload_n X 0 dX1_acts_42 rfl ?_
          obtain ⟨q45, eq45, h⟩ := Option.bind_eq_some_iff.mp h
          obtain ⟨eq45, s46⟩ := rv_some eq45
          refine wm_cV_v (As := [.int x2, .int x23]) (st := []) X hS cd_2 s46 rfl h (fun _ hF => ctX2_hands l hF) mdX2_hands mvX2_hands q1646 dX1_acts_43 rfl (by rw [eq45]; first | done | rfl) c1_0 (Nat.le_of_ble_eq_true rfl) ⟨Nat.le_of_ble_eq_true rfl, Nat.le_of_ble_eq_true rfl⟩ ⟨Nat.le_of_ble_eq_true rfl, Nat.le_of_ble_eq_true rfl⟩ (fun σ47 _ h => ?_)
          refine wm_iconst (v := 1) X dX1_acts_46 (by decide) ?_
          exact wm_zret X hr h dX1_acts_47 (Nat.le_of_ble_eq_true rfl) (Nat.le_of_ble_eq_true rfl)
theorem mdX2_draw : MD yX2_draw 1 := by unfold MD; decide +kernel
theorem mvX2_draw : MV yX2_draw cX2_draw 2 ((some FieldType.int)) := ⟨q1834, q1835, q129, q1836⟩
set_option maxHeartbeats 4000000 in
theorem ctX2_draw (l : Launch) {h0 : Nat} {x1 : Int32} {σ σf : Mm} {r : Int32} (h : FX2_draw h0 x1 σ = some (r, σf)) : CTi l yX2_draw (ws_ yX2_draw cX2_draw 2 ((some FieldType.int))) 0 0 0 0 [va_rf (some h0), .int x1] σ r σf := by
  refine ct_start (n := 1) mdX2_draw (Nat.le_of_ble_eq_true rfl) (c1_r (c1_i c1_0)) (fun p e s m args below meth c D dA sz0 ad0 X hS hr hnm => ?_)
  have X : CX p s m args meth c cX2_draw 2 RX2 := X
  generalize mN σ = N0
  unfold FX2_draw at h
  refine wm_aload_n X 0 dX2_draw_0 rfl ?_
  refine wm_ldc X dX2_draw_1 q1837 ?_
  refine wm_aload_n X 0 dX2_draw_3 rfl ?_
  refine wm_gI X hS cd_2 7 h dX2_draw_4 (Nat.le_of_ble_eq_true rfl) rfl q206 (fun x21 h => ?_)
  refine wm_imul X dX2_draw_7 ?_
  refine wm_sipush (v := 12345) X dX2_draw_8 (by decide) ?_
  refine wm_iadd X dX2_draw_11 ?_
  refine wm_pI X hS cd_2 7 h dX2_draw_12 (Nat.le_of_ble_eq_true rfl) rfl q206 rfl rfl (fun σ22 _ h => ?_)
  refine wm_aload_n X 0 dX2_draw_15 rfl ?_
  refine wm_gI X hS cd_2 7 h dX2_draw_16 (Nat.le_of_ble_eq_true rfl) rfl q206 (fun x23 h => ?_)
  refine wm_bipush (v := 16) X dX2_draw_19 (by decide) ?_
  refine wm_iushr X dX2_draw_21 ?_
  refine wm_sipush (v := 32767) X dX2_draw_22 (by decide) ?_
  refine wm_iand X dX2_draw_25 ?_
  refine wm_iload_n X 1 dX2_draw_26 rfl ?_
  refine wm_irem X h dX2_draw_27 (fun x24 h => ?_)
  exact wm_iret X hr h dX2_draw_28 (Nat.le_of_ble_eq_true rfl) (Nat.le_of_ble_eq_true rfl)
theorem mdX1_mixing : MD yX1_mixing 1 := by unfold MD; decide +kernel
theorem msX1_mixing : MS yX1_mixing cX1_mixing 6 (none) := ⟨q1831, q128, q1832⟩
set_option maxHeartbeats 4000000 in
theorem ctX1_mixing (l : Launch) {x0 : Option Nat} {σ σf : Mm} (h : FX1_mixing x0 σ = some σf) : CTv l yX1_mixing (ws_ yX1_mixing cX1_mixing 6 (none)) 4 109 0 0 [va_rf x0] σ σf := by
  refine ct_start (n := 1) mdX1_mixing (Nat.le_of_ble_eq_true rfl) (c1_r c1_0) (fun p e s m args below meth c D dA sz0 ad0 X hS hr hnm => ?_)
  have X : CX p s m args meth c cX1_mixing 6 RX1 := X
  generalize mN σ = N0
  unfold FX1_mixing at h
  refine wm_aload_n X 0 dX1_mixing_0 rfl ?_
  refine wm_bipush (v := 100) X dX1_mixing_1 (by decide) ?_
  obtain ⟨q21, eq21, h⟩ := Option.bind_eq_some_iff.mp h
  obtain ⟨eq21, s22⟩ := rv_some eq21
  refine wm_cV_i (As := [.int 100]) (st := []) X hS cd_2 s22 rfl h (fun _ _ hF => ctX2_draw l hF) mdX2_draw mvX2_draw q1833 dX1_mixing_3 rfl (by rw [eq21]; first | done | rfl) c1_0 (Nat.le_of_ble_eq_true rfl) ⟨Nat.le_of_ble_eq_true rfl, Nat.le_of_ble_eq_true rfl⟩ ⟨Nat.le_of_ble_eq_true rfl, Nat.le_of_ble_eq_true rfl⟩ (fun x23 σ24 _ h => ?_)
  refine wm_aload_n X 0 dX1_mixing_6 rfl ?_
  refine wm_gIN X hS cd_2 4 h dX1_mixing_7 (Nat.le_of_ble_eq_true rfl) rfl 4 rfl (fun x25 h => ?_)
  obtain ⟨J18, eJ18, h⟩ := jn_e h
  have hJ18 : ∀ (z26 : Int32) (σ : Mm), J18 z26 σ = some σf → WMv p l e s m args below meth c 4 109 0 0 6 D dA sz0 ad0 N0 σf 0 0 σ [(0, va_rf x0)] [.int z26] 18 := by
    intro z26 σ h
    rw [eJ18] at h
    refine wm_istore_n (ℓ' := [(1, .int z26), (0, va_rf x0)]) X dX1_mixing_18 (by decide) rfl ?_
    refine wm_aload_n X 1 dX1_mixing_19 rfl ?_
    obtain ⟨q27, eq27, h⟩ := Option.bind_eq_some_iff.mp h
    obtain ⟨eq27, s28⟩ := rv_some eq27
    refine wm_cV_i (As := []) (st := []) X hS cd_2 s28 rfl h (fun _ _ hF => ctX2_withTickets l hF) mdX2_withTickets mvX2_withTickets q701 dX1_mixing_20 rfl (by rw [eq27]; first | done | rfl) c1_0 (Nat.le_of_ble_eq_true rfl) ⟨Nat.le_of_ble_eq_true rfl, Nat.le_of_ble_eq_true rfl⟩ ⟨Nat.le_of_ble_eq_true rfl, Nat.le_of_ble_eq_true rfl⟩ (fun x29 σ30 _ h => ?_)
    refine wm_istore_n (ℓ' := [(2, .int x29), (1, .int z26), (0, va_rf x0)]) X dX1_mixing_23 (by decide) rfl ?_
    refine wm_iload_n X 0 dX1_mixing_24 rfl ?_
    refine wm_cS_i (As := [.int x29]) (st := []) X hS h (fun _ _ hF => ctJ16_bitCount l hF) mdJ16_bitCount msJ16_bitCount q538 dX1_mixing_25 rfl rfl c1_0 (Nat.le_of_ble_eq_true rfl) ⟨Nat.le_of_ble_eq_true rfl, Nat.le_of_ble_eq_true rfl⟩ ⟨Nat.le_of_ble_eq_true rfl, Nat.le_of_ble_eq_true rfl⟩ (fun x31 σ32 _ h => ?_)
    refine wm_istore_n (ℓ' := [(3, .int x31), (2, .int x29), (1, .int z26), (0, va_rf x0)]) X dX1_mixing_28 (by decide) rfl ?_
    refine wm_iload_n X 2 dX1_mixing_29 rfl ?_
    refine wm_if_eq X 38 h dX1_mixing_30 (by decide) (fun c49 h => ?_) (fun c49 h => ?_)
    · exact wm_vret X hr h dX1_mixing_38 (Nat.le_of_ble_eq_true rfl) (Nat.le_of_ble_eq_true rfl)
    · refine wm_iload_n X 0 dX1_mixing_33 rfl ?_
      refine wm_iconst (v := 2) X dX1_mixing_34 (by decide) ?_
      refine wm_icmp_ge X 39 h dX1_mixing_35 (by decide) (fun c48 h => ?_) (fun c48 h => ?_)
      · refine wm_iload_n X 1 dX1_mixing_39 rfl ?_
        refine wm_aload_n X 3 dX1_mixing_40 rfl ?_
        refine wm_iload_n X 0 dX1_mixing_41 rfl ?_
        obtain ⟨q33, eq33, h⟩ := Option.bind_eq_some_iff.mp h
        obtain ⟨eq33, s34⟩ := rv_some eq33
        refine wm_cV_i (As := [.int x31]) (st := [.int x29]) X hS cd_2 s34 rfl h (fun _ _ hF => ctX2_draw l hF) mdX2_draw mvX2_draw q1833 dX1_mixing_42 rfl (by rw [eq33]; first | done | rfl) (c1_i c1_0) (Nat.le_of_ble_eq_true rfl) ⟨Nat.le_of_ble_eq_true rfl, Nat.le_of_ble_eq_true rfl⟩ ⟨Nat.le_of_ble_eq_true rfl, Nat.le_of_ble_eq_true rfl⟩ (fun x35 σ36 _ h => ?_)
        refine wm_cS_i (As := [.int x29, .int x35]) (st := []) X hS h (fun _ _ hF => ctX1_kth l hF) mdX1_kth msX1_kth q1838 dX1_mixing_45 rfl rfl c1_0 (Nat.le_of_ble_eq_true rfl) ⟨Nat.le_of_ble_eq_true rfl, Nat.le_of_ble_eq_true rfl⟩ ⟨Nat.le_of_ble_eq_true rfl, Nat.le_of_ble_eq_true rfl⟩ (fun x37 σ38 _ h => ?_)
        refine wm_istore (ℓ' := [(4, .int x37), (3, .int x31), (2, .int x29), (1, .int z26), (0, va_rf x0)]) X dX1_mixing_48 (by decide) rfl ?_
        refine wm_iload_n X 2 dX1_mixing_50 rfl ?_
        refine wm_iconst (v := 1) X dX1_mixing_51 (by decide) ?_
        refine wm_iload X 0 dX1_mixing_52 rfl ?_
        refine wm_ishl X dX1_mixing_54 ?_
        refine wm_iconst (v := (-1)) X dX1_mixing_55 (by decide) ?_
        refine wm_ixor X dX1_mixing_56 ?_
        refine wm_iand X dX1_mixing_57 ?_
        refine wm_istore (ℓ' := [(5, .int (x29 &&& ((1 <<< (x37 &&& 31)) ^^^ (-1)))), (4, .int x37), (3, .int x31), (2, .int x29), (1, .int z26), (0, va_rf x0)]) X dX1_mixing_58 (by decide) rfl ?_
        refine wm_aload_n X 5 dX1_mixing_60 rfl ?_
        refine wm_iload X 1 dX1_mixing_61 rfl ?_
        refine wm_iload X 0 dX1_mixing_63 rfl ?_
        refine wm_aload_n X 5 dX1_mixing_65 rfl ?_
        refine wm_iload_n X 2 dX1_mixing_66 rfl ?_
        refine wm_iconst (v := 1) X dX1_mixing_67 (by decide) ?_
        refine wm_isub X dX1_mixing_68 ?_
        obtain ⟨q39, eq39, h⟩ := Option.bind_eq_some_iff.mp h
        obtain ⟨eq39, s40⟩ := rv_some eq39
        refine wm_cV_i (As := [.int (x31 - 1)]) (st := [.int (x29 &&& ((1 <<< (x37 &&& 31)) ^^^ (-1))), .int x37, va_rf x0]) X hS cd_2 s40 rfl h (fun _ _ hF => ctX2_draw l hF) mdX2_draw mvX2_draw q1833 dX1_mixing_69 rfl (by rw [eq39]; first | done | rfl) (c1_i (c1_i (c1_r c1_0))) (Nat.le_of_ble_eq_true rfl) ⟨Nat.le_of_ble_eq_true rfl, Nat.le_of_ble_eq_true rfl⟩ ⟨Nat.le_of_ble_eq_true rfl, Nat.le_of_ble_eq_true rfl⟩ (fun x41 σ42 _ h => ?_)
        refine wm_cS_i (As := [.int (x29 &&& ((1 <<< (x37 &&& 31)) ^^^ (-1))), .int x41]) (st := [.int x37, va_rf x0]) X hS h (fun _ _ hF => ctX1_kth l hF) mdX1_kth msX1_kth q1838 dX1_mixing_72 rfl rfl (c1_i (c1_r c1_0)) (Nat.le_of_ble_eq_true rfl) ⟨Nat.le_of_ble_eq_true rfl, Nat.le_of_ble_eq_true rfl⟩ ⟨Nat.le_of_ble_eq_true rfl, Nat.le_of_ble_eq_true rfl⟩ (fun x43 σ44 _ h => ?_)
        obtain ⟨q45, eq45, h⟩ := Option.bind_eq_some_iff.mp h
        obtain ⟨eq45, s46⟩ := rv_some eq45
        refine wm_cV_v (As := [.int x37, .int x43]) (st := []) X hS cd_2 s46 rfl h (fun _ hF => ctX2_mixes l hF) mdX2_mixes mvX2_mixes q1687 dX1_mixing_75 rfl (by rw [eq45]; first | done | rfl) c1_0 (Nat.le_of_ble_eq_true rfl) ⟨Nat.le_of_ble_eq_true rfl, Nat.le_of_ble_eq_true rfl⟩ ⟨Nat.le_of_ble_eq_true rfl, Nat.le_of_ble_eq_true rfl⟩ (fun σ47 _ h => ?_)
        exact wm_vret X hr h dX1_mixing_78 (Nat.le_of_ble_eq_true rfl) (Nat.le_of_ble_eq_true rfl)
      · exact wm_vret X hr h dX1_mixing_38 (Nat.le_of_ble_eq_true rfl) (Nat.le_of_ble_eq_true rfl)
  clear eJ18
  refine wm_icmp_ge X 17 h dX1_mixing_10 (by decide) (fun c50 h => ?_) (fun c50 h => ?_)
  · refine wm_iconst (v := 0) X dX1_mixing_17 (by decide) ?_
    exact hJ18 _ _ h
  · refine wm_iconst (v := 1) X dX1_mixing_13 (by decide) ?_
    refine wm_goto X 18 dX1_mixing_14 (by decide) ?_
    exact hJ18 _ _ h
theorem mdX1_thieving : MD yX1_thieving 1 := by unfold MD; decide +kernel
theorem msX1_thieving : MS yX1_thieving cX1_thieving 5 (none) := ⟨q1840, q128, q1841⟩
set_option maxHeartbeats 4000000 in
theorem wX1_thieving_42 {p : Program} {l : Launch} {e : Env} {s : State} {m : MethodId} {args : Array Value} {below : List Frame} {meth : Method} {c : Code} {D : va_G} {dA : Nat → ClassId} {sz0 : Nat} {ad0 : Nat → Nat} {N0 : Nat} {σf : Mm} (X : CX p s m args meth c cX1_thieving 5 RX1) (hS : ST D dA sz0 ad0 s) (hr : meth.sig.returnType = none) (hnm : meth.name = yX1_thieving.name) (y0 : Option Nat) : ∀ (n : Nat) (v3 : Int32) (v4 : Int32) (σ : Mm) (kx104 : Mm → Option (Mm)), FX1_thieving_42 y0 n v3 v4 σ kx104 = some σf → (∀  (σ : Mm), kx104 σ = some σf → WMv p l e s m args below meth c 1 22 0 0 5 D dA sz0 ad0 N0 σf 0 0 σ [] [] 104) → WMv p l e s m args below meth c 1 22 0 0 5 D dA sz0 ad0 N0 σf 0 0 σ [(0, va_rf y0), (3, .int v3), (4, .int v4)] [] 42 := by
  intro n
  induction n with
  | zero =>
    intro v3 v4 σ kx104 h hkx104
    cases h
  | succ n ih =>
    intro v3 v4 σ kx104 h hkx104
    rw [FX1_thieving_42] at h
    refine wm_iload X 2 dX1_thieving_42 rfl ?_
    refine wm_aload_n X 0 dX1_thieving_44 rfl ?_
    refine wm_gIN X hS cd_2 2 h dX1_thieving_45 (Nat.le_of_ble_eq_true rfl) rfl 2 rfl (fun x35 h => ?_)
    refine wm_icmp_ge X 104 h dX1_thieving_48 (by decide) (fun c49 h => ?_) (fun c49 h => ?_)
    · refine wm_sub (ℓ' := []) [] rfl ?_
      exact hkx104 _ h
    · refine wm_aload_n X 0 dX1_thieving_51 rfl ?_
      refine wm_gRN X hS cd_2 17 h dX1_thieving_52 (Nat.le_of_ble_eq_true rfl) rfl 17 rfl (fun x36 h => ?_)
      refine wm_iload X 2 dX1_thieving_55 rfl ?_
      refine wm_iaload X hS h dX1_thieving_57 (fun x37 h => ?_)
      refine wm_iconst (v := (-1)) X dX1_thieving_58 (by decide) ?_
      refine wm_icmp_eq X 98 h dX1_thieving_59 (by decide) (fun c48 h => ?_) (fun c48 h => ?_)
      · refine wm_iinc (v := (v4 + 1)) (ℓ' := [(4, .int (v4 + 1)), (0, va_rf y0), (3, .int v3)]) X 2 dX1_thieving_98 rfl rfl (by decide) rfl ?_
        refine wm_goto X 42 dX1_thieving_101 (by decide) ?_
        refine wm_sub (ℓ' := [(0, va_rf y0), (3, .int v3), (4, .int (v4 + 1))]) [1, 2, 0] rfl ?_
        exact ih _ _ _ _ h hkx104
      · refine wm_iload_n X 1 dX1_thieving_62 rfl ?_
        refine wm_iinc (v := (v3 + (-1))) (ℓ' := [(3, .int (v3 + (-1))), (0, va_rf y0), (4, .int v4)]) X 1 dX1_thieving_63 rfl rfl (by decide) rfl ?_
        refine wm_if_ne X 98 h dX1_thieving_66 (by decide) (fun c47 h => ?_) (fun c47 h => ?_)
        · refine wm_iinc (v := (v4 + 1)) (ℓ' := [(4, .int (v4 + 1)), (3, .int (v3 + (-1))), (0, va_rf y0)]) X 2 dX1_thieving_98 rfl rfl (by decide) rfl ?_
          refine wm_goto X 42 dX1_thieving_101 (by decide) ?_
          refine wm_sub (ℓ' := [(0, va_rf y0), (3, .int (v3 + (-1))), (4, .int (v4 + 1))]) [2, 1, 0] rfl ?_
          exact ih _ _ _ _ h hkx104
        · refine wm_aload_n X 1 dX1_thieving_69 rfl ?_
          refine wm_gRN X hS cd_2 8 h dX1_thieving_70 (Nat.le_of_ble_eq_true rfl) rfl 8 rfl (fun x38 h => ?_)
          refine wm_aload_n X 1 dX1_thieving_73 rfl ?_
          refine wm_gRN X hS cd_2 17 h dX1_thieving_74 (Nat.le_of_ble_eq_true rfl) rfl 17 rfl (fun x39 h => ?_)
          refine wm_iload X 2 dX1_thieving_77 rfl ?_
          refine wm_iaload X hS h dX1_thieving_79 (fun x40 h => ?_)
          refine wm_dup2 X dX1_thieving_80 rfl (catR _) ?_
          refine wm_iaload X hS h dX1_thieving_81 (fun x41 h => ?_)
          refine wm_aload_n X 1 dX1_thieving_82 rfl ?_
          refine wm_gRN X hS cd_2 8 h dX1_thieving_83 (Nat.le_of_ble_eq_true rfl) rfl 8 rfl (fun x42 h => ?_)
          refine wm_aload_n X 1 dX1_thieving_86 rfl ?_
          refine wm_gRN X hS cd_2 17 h dX1_thieving_87 (Nat.le_of_ble_eq_true rfl) rfl 17 rfl (fun x43 h => ?_)
          refine wm_iload X 2 dX1_thieving_90 rfl ?_
          refine wm_iaload X hS h dX1_thieving_92 (fun x44 h => ?_)
          refine wm_iaload X hS h dX1_thieving_93 (fun x45 h => ?_)
          refine wm_iconst (v := 1) X dX1_thieving_94 (by decide) ?_
          refine wm_isub X dX1_thieving_95 ?_
          refine wm_iand X dX1_thieving_96 ?_
          refine wm_iastore X hS h dX1_thieving_97 (fun σ46 _ h => ?_)
          refine wm_iinc (v := (v4 + 1)) (ℓ' := [(4, .int (v4 + 1)), (3, .int (v3 + (-1))), (0, va_rf y0)]) X 2 dX1_thieving_98 rfl rfl (by decide) rfl ?_
          refine wm_goto X 42 dX1_thieving_101 (by decide) ?_
          refine wm_sub (ℓ' := [(0, va_rf y0), (3, .int (v3 + (-1))), (4, .int (v4 + 1))]) [2, 1, 0] rfl ?_
          exact ih _ _ _ _ h hkx104
set_option maxHeartbeats 4000000 in
theorem ctX1_thieving (l : Launch) {x0 : Option Nat} {σ σf : Mm} (h : FX1_thieving x0 σ = some σf) : CTv l yX1_thieving (ws_ yX1_thieving cX1_thieving 5 (none)) 1 22 0 0 [va_rf x0] σ σf := by
  refine ct_start (n := 1) mdX1_thieving (Nat.le_of_ble_eq_true rfl) (c1_r c1_0) (fun p e s m args below meth c D dA sz0 ad0 X hS hr hnm => ?_)
  have X : CX p s m args meth c cX1_thieving 5 RX1 := X
  generalize mN σ = N0
  unfold FX1_thieving at h
  refine wm_aload_n X 0 dX1_thieving_0 rfl ?_
  refine wm_bipush (v := 100) X dX1_thieving_1 (by decide) ?_
  obtain ⟨q21, eq21, h⟩ := Option.bind_eq_some_iff.mp h
  obtain ⟨eq21, s22⟩ := rv_some eq21
  refine wm_cV_i (As := [.int 100]) (st := []) X hS cd_2 s22 rfl h (fun _ _ hF => ctX2_draw l hF) mdX2_draw mvX2_draw q1833 dX1_thieving_3 rfl (by rw [eq21]; first | done | rfl) c1_0 (Nat.le_of_ble_eq_true rfl) ⟨Nat.le_of_ble_eq_true rfl, Nat.le_of_ble_eq_true rfl⟩ ⟨Nat.le_of_ble_eq_true rfl, Nat.le_of_ble_eq_true rfl⟩ (fun x23 σ24 _ h => ?_)
  refine wm_aload_n X 0 dX1_thieving_6 rfl ?_
  refine wm_gIN X hS cd_2 5 h dX1_thieving_7 (Nat.le_of_ble_eq_true rfl) rfl 5 rfl (fun x25 h => ?_)
  obtain ⟨J18, eJ18, h⟩ := jn_e h
  have hJ18 : ∀ (z26 : Int32) (σ : Mm), J18 z26 σ = some σf → WMv p l e s m args below meth c 1 22 0 0 5 D dA sz0 ad0 N0 σf 0 0 σ [(0, va_rf x0)] [.int z26] 18 := by
    intro z26 σ h
    rw [eJ18] at h
    refine wm_istore_n (ℓ' := [(1, .int z26), (0, va_rf x0)]) X dX1_thieving_18 (by decide) rfl ?_
    refine wm_aload_n X 1 dX1_thieving_19 rfl ?_
    obtain ⟨q27, eq27, h⟩ := Option.bind_eq_some_iff.mp h
    obtain ⟨eq27, s28⟩ := rv_some eq27
    refine wm_cV_i (As := []) (st := []) X hS cd_2 s28 rfl h (fun _ _ hF => ctX2_hung l hF) mdX2_hung mvX2_hung q697 dX1_thieving_20 rfl (by rw [eq27]; first | done | rfl) c1_0 (Nat.le_of_ble_eq_true rfl) ⟨Nat.le_of_ble_eq_true rfl, Nat.le_of_ble_eq_true rfl⟩ ⟨Nat.le_of_ble_eq_true rfl, Nat.le_of_ble_eq_true rfl⟩ (fun x29 σ30 _ h => ?_)
    refine wm_istore_n (ℓ' := [(2, .int x29), (1, .int z26), (0, va_rf x0)]) X dX1_thieving_23 (by decide) rfl ?_
    refine wm_iload_n X 1 dX1_thieving_24 rfl ?_
    refine wm_if_eq X 32 h dX1_thieving_25 (by decide) (fun c51 h => ?_) (fun c51 h => ?_)
    · exact wm_vret X hr h dX1_thieving_32 (Nat.le_of_ble_eq_true rfl) (Nat.le_of_ble_eq_true rfl)
    · refine wm_iload_n X 0 dX1_thieving_28 rfl ?_
      refine wm_if_ne X 33 h dX1_thieving_29 (by decide) (fun c50 h => ?_) (fun c50 h => ?_)
      · refine wm_aload_n X 2 dX1_thieving_33 rfl ?_
        refine wm_iload_n X 0 dX1_thieving_34 rfl ?_
        obtain ⟨q31, eq31, h⟩ := Option.bind_eq_some_iff.mp h
        obtain ⟨eq31, s32⟩ := rv_some eq31
        refine wm_cV_i (As := [.int x29]) (st := []) X hS cd_2 s32 rfl h (fun _ _ hF => ctX2_draw l hF) mdX2_draw mvX2_draw q1833 dX1_thieving_35 rfl (by rw [eq31]; first | done | rfl) c1_0 (Nat.le_of_ble_eq_true rfl) ⟨Nat.le_of_ble_eq_true rfl, Nat.le_of_ble_eq_true rfl⟩ ⟨Nat.le_of_ble_eq_true rfl, Nat.le_of_ble_eq_true rfl⟩ (fun x33 σ34 _ h => ?_)
        refine wm_istore_n (ℓ' := [(3, .int x33), (2, .int x29), (1, .int z26), (0, va_rf x0)]) X dX1_thieving_38 (by decide) rfl ?_
        refine wm_iconst (v := 0) X dX1_thieving_39 (by decide) ?_
        refine wm_istore (ℓ' := [(4, .int 0), (3, .int x33), (2, .int x29), (1, .int z26), (0, va_rf x0)]) X dX1_thieving_40 (by decide) rfl ?_
        refine wm_sub (ℓ' := [(0, va_rf x0), (3, .int x33), (4, .int 0)]) [4, 1, 0] rfl ?_
        refine wX1_thieving_42 X hS hr hnm _ fu _ _ _ _ h (fun σ h => ?_)
        · exact wm_vret X hr h dX1_thieving_104 (Nat.le_of_ble_eq_true rfl) (Nat.le_of_ble_eq_true rfl)
      · exact wm_vret X hr h dX1_thieving_32 (Nat.le_of_ble_eq_true rfl) (Nat.le_of_ble_eq_true rfl)
  clear eJ18
  refine wm_icmp_ge X 17 h dX1_thieving_10 (by decide) (fun c52 h => ?_) (fun c52 h => ?_)
  · refine wm_iconst (v := 0) X dX1_thieving_17 (by decide) ?_
    exact hJ18 _ _ h
  · refine wm_iconst (v := 1) X dX1_thieving_13 (by decide) ?_
    refine wm_goto X 18 dX1_thieving_14 (by decide) ?_
    exact hJ18 _ _ h
theorem mdX1_anHour : MD yX1_anHour 1 := by unfold MD; decide +kernel
theorem mvX1_anHour : MV yX1_anHour cX1_anHour 4 ((some FieldType.int)) := ⟨q1745, qs42, q128, q1746⟩
set_option maxHeartbeats 4000000 in
theorem wX1_anHour_4 {p : Program} {l : Launch} {e : Env} {s : State} {m : MethodId} {args : Array Value} {below : List Frame} {meth : Method} {c : Code} {D : va_G} {dA : Nat → ClassId} {sz0 : Nat} {ad0 : Nat → Nat} {N0 : Nat} {r : Int32} {σf : Mm} (X : CX p s m args meth c cX1_anHour 4 RX1) (hS : ST D dA sz0 ad0 s) (hr : meth.sig.returnType = (some FieldType.int)) (hnm : meth.name = yX1_anHour.name) (h0 : Nat) (y1 : Option Nat) : ∀ (n : Nat) (v2 : Int32) (v3 : Int32) (σ : Mm) (kx35 : Int32 → Mm → Option (Int32 × Mm)), FX1_anHour_4 h0 y1 n v2 v3 σ kx35 = some (r, σf) → (∀ (w2 : Int32) (σ : Mm), kx35 w2 σ = some (r, σf) → WMi p l e s m args below meth c 406 12135 0 0 4 D dA sz0 ad0 N0 r σf 0 0 σ [(1, va_rf y1), (2, .int w2)] [] 35) → WMi p l e s m args below meth c 406 12135 0 0 4 D dA sz0 ad0 N0 r σf 0 0 σ [(0, va_rf (some h0)), (1, va_rf y1), (2, .int v2), (3, .int v3)] [] 4 := by
  intro n
  induction n with
  | zero =>
    intro v2 v3 σ kx35 h hkx35
    cases h
  | succ n ih =>
    intro v2 v3 σ kx35 h hkx35
    rw [FX1_anHour_4] at h
    refine wm_iload_n X 3 dX1_anHour_4 rfl ?_
    refine wm_aload_n X 1 dX1_anHour_5 rfl ?_
    refine wm_gIN X hS cd_2 1 h dX1_anHour_6 (Nat.le_of_ble_eq_true rfl) rfl 1 rfl (fun x21 h => ?_)
    refine wm_icmp_ge X 35 h dX1_anHour_9 (by decide) (fun c27 h => ?_) (fun c27 h => ?_)
    · refine wm_sub (ℓ' := [(1, va_rf y1), (2, .int v2)]) [1, 2] rfl ?_
      exact hkx35 _ _ h
    · refine wm_iload_n X 2 dX1_anHour_12 rfl ?_
      refine wm_aload_n X 0 dX1_anHour_13 rfl ?_
      refine wm_aload_n X 1 dX1_anHour_14 rfl ?_
      refine wm_iload_n X 3 dX1_anHour_15 rfl ?_
      obtain ⟨s22, h⟩ := ck_e h
      refine wm_cV_i (As := [va_rf y1, .int v3]) (st := [.int v2]) X hS cd_1 s22 rfl h (fun _ _ hF => ctX1_acts l hF) mdX1_acts mvX1_acts q1747 dX1_anHour_16 rfl rfl (c1_i c1_0) (Nat.le_of_ble_eq_true rfl) ⟨Nat.le_of_ble_eq_true rfl, Nat.le_of_ble_eq_true rfl⟩ ⟨Nat.le_of_ble_eq_true rfl, Nat.le_of_ble_eq_true rfl⟩ (fun x23 σ24 _ h => ?_)
      obtain ⟨J27, eJ27, h⟩ := jn_e h
      have hJ27 : ∀ (z25 : Int32) (σ : Mm), J27 z25 σ = some (r, σf) → WMi p l e s m args below meth c 406 12135 0 0 4 D dA sz0 ad0 N0 r σf 0 0 σ [(0, va_rf (some h0)), (1, va_rf y1), (3, .int v3)] [.int z25, .int v2] 27 := by
        intro z25 σ h
        rw [eJ27] at h
        refine wm_iadd X dX1_anHour_27 ?_
        refine wm_istore_n (ℓ' := [(2, .int (v2 + z25)), (0, va_rf (some h0)), (1, va_rf y1), (3, .int v3)]) X dX1_anHour_28 (by decide) rfl ?_
        refine wm_iinc (v := (v3 + 1)) (ℓ' := [(3, .int (v3 + 1)), (2, .int (v2 + z25)), (0, va_rf (some h0)), (1, va_rf y1)]) X 3 dX1_anHour_29 rfl rfl (by decide) rfl ?_
        refine wm_goto X 4 dX1_anHour_32 (by decide) ?_
        refine wm_sub (ℓ' := [(0, va_rf (some h0)), (1, va_rf y1), (2, .int (v2 + z25)), (3, .int (v3 + 1))]) [2, 3, 1, 0] rfl ?_
        exact ih _ _ _ _ h hkx35
      clear eJ27
      refine wm_if_eq X 26 h dX1_anHour_19 (by decide) (fun c26 h => ?_) (fun c26 h => ?_)
      · refine wm_iconst (v := 0) X dX1_anHour_26 (by decide) ?_
        refine wm_sub (ℓ' := [(0, va_rf (some h0)), (1, va_rf y1), (3, .int v3)]) [0, 1, 3] rfl ?_
        exact hJ27 _ _ h
      · refine wm_iconst (v := 1) X dX1_anHour_22 (by decide) ?_
        refine wm_goto X 27 dX1_anHour_23 (by decide) ?_
        refine wm_sub (ℓ' := [(0, va_rf (some h0)), (1, va_rf y1), (3, .int v3)]) [0, 1, 3] rfl ?_
        exact hJ27 _ _ h
set_option maxHeartbeats 4000000 in
theorem ctX1_anHour (l : Launch) {h0 : Nat} {x1 : Option Nat} {σ σf : Mm} {r : Int32} (h : FX1_anHour h0 x1 σ = some (r, σf)) : CTi l yX1_anHour (ws_ yX1_anHour cX1_anHour 4 ((some FieldType.int))) 406 12135 0 0 [va_rf (some h0), va_rf x1] σ r σf := by
  refine ct_start (n := 1) mdX1_anHour (Nat.le_of_ble_eq_true rfl) (c1_r (c1_r c1_0)) (fun p e s m args below meth c D dA sz0 ad0 X hS hr hnm => ?_)
  have X : CX p s m args meth c cX1_anHour 4 RX1 := X
  generalize mN σ = N0
  unfold FX1_anHour at h
  refine wm_iconst (v := 0) X dX1_anHour_0 (by decide) ?_
  refine wm_istore_n (ℓ' := [(2, .int 0), (0, va_rf (some h0)), (1, va_rf x1)]) X dX1_anHour_1 (by decide) rfl ?_
  refine wm_iconst (v := 0) X dX1_anHour_2 (by decide) ?_
  refine wm_istore_n (ℓ' := [(3, .int 0), (2, .int 0), (0, va_rf (some h0)), (1, va_rf x1)]) X dX1_anHour_3 (by decide) rfl ?_
  refine wm_sub (ℓ' := [(0, va_rf (some h0)), (1, va_rf x1), (2, .int 0), (3, .int 0)]) [2, 3, 1, 0] rfl ?_
  refine wX1_anHour_4 X hS hr hnm _ _ fu _ _ _ _ h (fun x28 σ h => ?_)
  · refine wm_aload_n X 0 dX1_anHour_35 rfl ?_
    refine wm_cS_v (As := [va_rf x1]) (st := []) X hS h (fun _ hF => ctX1_mixing l hF) mdX1_mixing msX1_mixing q1830 dX1_anHour_36 rfl rfl c1_0 (Nat.le_of_ble_eq_true rfl) ⟨Nat.le_of_ble_eq_true rfl, Nat.le_of_ble_eq_true rfl⟩ ⟨Nat.le_of_ble_eq_true rfl, Nat.le_of_ble_eq_true rfl⟩ (fun σ29 _ h => ?_)
    refine wm_aload_n X 0 dX1_anHour_39 rfl ?_
    refine wm_cS_v (As := [va_rf x1]) (st := []) X hS h (fun _ hF => ctX1_thieving l hF) mdX1_thieving msX1_thieving q1839 dX1_anHour_40 rfl rfl c1_0 (Nat.le_of_ble_eq_true rfl) ⟨Nat.le_of_ble_eq_true rfl, Nat.le_of_ble_eq_true rfl⟩ ⟨Nat.le_of_ble_eq_true rfl, Nat.le_of_ble_eq_true rfl⟩ (fun σ30 _ h => ?_)
    refine wm_aload_n X 0 dX1_anHour_43 rfl ?_
    refine wm_dup X dX1_anHour_44 (catR _) ?_
    refine wm_gIN X hS cd_2 3 h dX1_anHour_45 (Nat.le_of_ble_eq_true rfl) rfl 3 rfl (fun x31 h => ?_)
    refine wm_iconst (v := 1) X dX1_anHour_48 (by decide) ?_
    refine wm_iadd X dX1_anHour_49 ?_
    refine wm_pIN X hS cd_2 3 h dX1_anHour_50 (Nat.le_of_ble_eq_true rfl) rfl 3 rfl rfl rfl (fun σ32 _ h => ?_)
    refine wm_iload_n X 1 dX1_anHour_53 rfl ?_
    exact wm_iret X hr h dX1_anHour_54 (Nat.le_of_ble_eq_true rfl) (Nat.le_of_ble_eq_true rfl)
theorem mdX1_hours : MD yX1_hours 1 := by unfold MD; decide +kernel
theorem mvX1_hours : MV yX1_hours cX1_hours 4 ((some FieldType.int)) := ⟨q1740, q1741, q128, q1742⟩
set_option maxHeartbeats 4000000 in
theorem wX1_hours_18 {p : Program} {l : Launch} {e : Env} {s : State} {m : MethodId} {args : Array Value} {below : List Frame} {meth : Method} {c : Code} {D : va_G} {dA : Nat → ClassId} {sz0 : Nat} {ad0 : Nat → Nat} {N0 : Nat} {xo : (Int32 × Mm) ⊕ (Nat × Mm)} {mc ms : Nat} (X : CX p s m args meth c cX1_hours 4 RX1) (hS : ST D dA sz0 ad0 s) (hr : meth.sig.returnType = (some FieldType.int)) (hnm : meth.name = yX1_hours.name) (hl : l.stackTraces = false) (hno : ∀ x ∈ c.exceptionTable.toList, False) (h0 : Nat) (y1 : Int32) : ∀ (n : Nat) (v2 : Int32) (v3 : Int32) (σ : Mm) (kx40 : Int32 → Mm → DX (Int32 × Mm)) (C Z kc kz : Nat), FX1_hours_18 h0 y1 n v2 v3 σ kx40 = some (xo, C, Z) → kc + C ≤ mc → kz + Z ≤ ms → (∀ (w2 : Int32) (σ : Mm) (C Z kc kz : Nat), kx40 w2 σ = some (xo, C, Z) → kc + C ≤ mc → kz + Z ≤ ms → WMxi p l e s m args below meth c 407 12158 mc ms 4 D dA sz0 ad0 N0 xo kc kz σ [(2, .int w2)] [] 40) → WMxi p l e s m args below meth c 407 12158 mc ms 4 D dA sz0 ad0 N0 xo kc kz σ [(0, va_rf (some h0)), (1, .int y1), (2, .int v2), (3, .int v3)] [] 18 := by
  intro n
  induction n with
  | zero =>
    intro v2 v3 σ kx40 C Z kc kz h hC hZ hkx40
    cases h
  | succ n ih =>
    intro v2 v3 σ kx40 C Z kc kz h hC hZ hkx40
    rw [FX1_hours_18] at h
    refine wm_iload_n X 3 dX1_hours_18 rfl ?_
    refine wm_iload_n X 1 dX1_hours_19 rfl ?_
    refine wm_icmp_ge X 40 h dX1_hours_20 (by decide) (fun c30 h => ?_) (fun c30 h => ?_)
    · refine wm_sub (ℓ' := [(2, .int v2)]) [2] rfl ?_
      exact hkx40 _ _ _ _ _ _ h hC hZ
    · refine wm_iload_n X 2 dX1_hours_23 rfl ?_
      refine wm_aload_n X 0 dX1_hours_24 rfl ?_
      refine wm_aload_n X 0 dX1_hours_25 rfl ?_
      refine wm_gR X hS cd_1 0 h dX1_hours_26 (Nat.le_of_ble_eq_true rfl) rfl q434 (fun x26 h => ?_)
      obtain ⟨s27, h⟩ := ck_e h
      refine wm_cV_i (As := [va_rf x26]) (st := [.int v2]) X hS cd_1 s27 rfl h (fun _ _ hF => ctX1_anHour l hF) mdX1_anHour mvX1_anHour q1743 dX1_hours_29 rfl rfl (c1_i c1_0) (Nat.le_of_ble_eq_true rfl) ⟨Nat.le_of_ble_eq_true rfl, Nat.le_of_ble_eq_true rfl⟩ ⟨le_p hC, le_p hZ⟩ (fun x28 σ29 _ h => ?_)
      refine wm_iadd X dX1_hours_32 ?_
      refine wm_istore_n (ℓ' := [(2, .int (v2 + x28)), (0, va_rf (some h0)), (1, .int y1), (3, .int v3)]) X dX1_hours_33 (by decide) rfl ?_
      refine wm_iinc (v := (v3 + 1)) (ℓ' := [(3, .int (v3 + 1)), (2, .int (v2 + x28)), (0, va_rf (some h0)), (1, .int y1)]) X 3 dX1_hours_34 rfl rfl (by decide) rfl ?_
      refine wm_goto X 18 dX1_hours_37 (by decide) ?_
      refine wm_sub (ℓ' := [(0, va_rf (some h0)), (1, .int y1), (2, .int (v2 + x28)), (3, .int (v3 + 1))]) [2, 3, 1, 0] rfl ?_
      exact ih _ _ _ _ _ _ _ _ h hC hZ hkx40
set_option maxHeartbeats 4000000 in
theorem ctX1_hours (l : Launch) (hl : l.stackTraces = false) {h0 : Nat} {x1 : Int32} {σ : Mm} {xo : (Int32 × Mm) ⊕ (Nat × Mm)} {mc ms : Nat} (h : FX1_hours h0 x1 σ = some (xo, mc, ms)) : CTXi l yX1_hours (ws_ yX1_hours cX1_hours 4 ((some FieldType.int))) 407 12158 mc ms [va_rf (some h0), .int x1] σ xo := by
  refine ctx_start (n := 1) mdX1_hours (Nat.le_of_ble_eq_true rfl) (c1_r (c1_i c1_0)) (fun p e s m args below meth c D dA sz0 ad0 X hS hr hnm hno => ?_)
  have X : CX p s m args meth c cX1_hours 4 RX1 := X
  have hC : 0 + mc ≤ mc := Nat.le_of_eq (Nat.zero_add mc)
  have hZ : 0 + ms ≤ ms := Nat.le_of_eq (Nat.zero_add ms)
  generalize mN σ = N0
  unfold FX1_hours at h
  refine wm_iload_n X 1 dX1_hours_0 rfl ?_
  refine wm_iconst (v := 1) X dX1_hours_1 (by decide) ?_
  refine wm_bipush (v := 50) X dX1_hours_2 (by decide) ?_
  refine wm_cS_i (As := [.int x1, .int 1, .int 50]) (st := []) X hS h (fun _ _ hF => ctX1_in l hF) mdX1_in msX1_in q625 dX1_hours_4 rfl rfl c1_0 (Nat.le_of_ble_eq_true rfl) ⟨Nat.le_of_ble_eq_true rfl, Nat.le_of_ble_eq_true rfl⟩ ⟨le_p hC, le_p hZ⟩ (fun x21 σ22 _ h => ?_)
  refine wm_dS_v (As := [.int x21]) (st := []) X hS hno h hC hZ (fun _ _ _ hF => ctX1_demand l hl hF) mdX1_demand msX1_demand q1613 dX1_hours_7 rfl rfl c1_0 (Nat.le_of_ble_eq_true rfl) ⟨Nat.le_of_ble_eq_true rfl, Nat.le_of_ble_eq_true rfl⟩ (Nat.le_refl _) (Nat.le_refl _) (fun σ23 c1 z1 C Z _ h hC hZ => ?_)
  refine wm_aload_n X 0 dX1_hours_10 rfl ?_
  obtain ⟨s24, h⟩ := ck_e h
  refine wm_dV_v (As := []) (st := []) X hS hno cd_1 s24 rfl h hC hZ (fun _ _ _ hF => ctX1_remembers l hl hF) mdX1_remembers mvX1_remembers q1642 dX1_hours_11 rfl rfl c1_0 (Nat.le_of_ble_eq_true rfl) ⟨Nat.le_of_ble_eq_true rfl, Nat.le_of_ble_eq_true rfl⟩ (Nat.le_refl _) (Nat.le_refl _) (fun σ25 c1 z1 C Z _ h hC hZ => ?_)
  refine wm_iconst (v := 0) X dX1_hours_14 (by decide) ?_
  refine wm_istore_n (ℓ' := [(2, .int 0), (0, va_rf (some h0)), (1, .int x1)]) X dX1_hours_15 (by decide) rfl ?_
  refine wm_iconst (v := 0) X dX1_hours_16 (by decide) ?_
  refine wm_istore_n (ℓ' := [(3, .int 0), (2, .int 0), (0, va_rf (some h0)), (1, .int x1)]) X dX1_hours_17 (by decide) rfl ?_
  refine wm_sub (ℓ' := [(0, va_rf (some h0)), (1, .int x1), (2, .int 0), (3, .int 0)]) [2, 3, 1, 0] rfl ?_
  refine wX1_hours_18 X hS hr hnm hl hno _ _ fu _ _ _ _ _ _ _ _ h hC hZ (fun x31 σ C Z kc kz h hC hZ => ?_)
  · refine wm_iload_n X 0 dX1_hours_40 rfl ?_
    exact wm_xiret X hr (rt_e h) dX1_hours_41 (le_p hC) (le_p hZ)
theorem mdX1_passes : MD yX1_passes 2 := by unfold MD; decide +kernel
theorem mvX1_passes : MV yX1_passes cX1_passes 5 ((some FieldType.int)) := ⟨q1846, q1847, q128, q1848⟩
set_option maxHeartbeats 4000000 in
theorem wX1_passes_34 {p : Program} {l : Launch} {e : Env} {s : State} {m : MethodId} {args : Array Value} {below : List Frame} {meth : Method} {c : Code} {D : va_G} {dA : Nat → ClassId} {sz0 : Nat} {ad0 : Nat → Nat} {N0 : Nat} {xo : (Int32 × Mm) ⊕ (Nat × Mm)} {mc ms : Nat} (X : CX p s m args meth c cX1_passes 5 RX1) (hS : ST D dA sz0 ad0 s) (hr : meth.sig.returnType = (some FieldType.int)) (hnm : meth.name = yX1_passes.name) (hl : l.stackTraces = false) (hno : ∀ x ∈ c.exceptionTable.toList, False) (h0 : Nat) (y1 : Int32) (y2 : Int32) : ∀ (n : Nat) (v3 : Int32) (v4 : Int32) (σ : Mm) (kx82 : Int32 → Mm → DX (Int32 × Mm)) (C Z kc kz : Nat), FX1_passes_34 h0 y1 y2 n v3 v4 σ kx82 = some (xo, C, Z) → kc + C ≤ mc → kz + Z ≤ ms → (∀ (w3 : Int32) (σ : Mm) (C Z kc kz : Nat), kx82 w3 σ = some (xo, C, Z) → kc + C ≤ mc → kz + Z ≤ ms → WMxi p l e s m args below meth c 7 130 mc ms 5 D dA sz0 ad0 N0 xo kc kz σ [(3, .int w3)] [] 82) → WMxi p l e s m args below meth c 7 130 mc ms 5 D dA sz0 ad0 N0 xo kc kz σ [(0, va_rf (some h0)), (1, .int y1), (2, .int y2), (3, .int v3), (4, .int v4)] [] 34 := by
  intro n
  induction n with
  | zero =>
    intro v3 v4 σ kx82 C Z kc kz h hC hZ hkx82
    cases h
  | succ n ih =>
    intro v3 v4 σ kx82 C Z kc kz h hC hZ hkx82
    rw [FX1_passes_34] at h
    refine wm_iload X 4 dX1_passes_34 rfl ?_
    refine wm_aload_n X 0 dX1_passes_36 rfl ?_
    refine wm_gR X hS cd_1 0 h dX1_passes_37 (Nat.le_of_ble_eq_true rfl) rfl q434 (fun x25 h => ?_)
    refine wm_gIN X hS cd_2 1 h dX1_passes_40 (Nat.le_of_ble_eq_true rfl) rfl 1 rfl (fun x26 h => ?_)
    refine wm_icmp_ge X 82 h dX1_passes_43 (by decide) (fun c34 h => ?_) (fun c34 h => ?_)
    · refine wm_sub (ℓ' := [(3, .int v3)]) [3] rfl ?_
      exact hkx82 _ _ _ _ _ _ h hC hZ
    · refine wm_iload_n X 3 dX1_passes_46 rfl ?_
      refine wm_aload_n X 0 dX1_passes_47 rfl ?_
      refine wm_gR X hS cd_1 0 h dX1_passes_48 (Nat.le_of_ble_eq_true rfl) rfl q434 (fun x27 h => ?_)
      refine wm_gRN X hS cd_2 8 h dX1_passes_51 (Nat.le_of_ble_eq_true rfl) rfl 8 rfl (fun x28 h => ?_)
      refine wm_iload X 4 dX1_passes_54 rfl ?_
      refine wm_iaload X hS h dX1_passes_56 (fun x29 h => ?_)
      refine wm_iload_n X 1 dX1_passes_57 rfl ?_
      refine wm_ixor X dX1_passes_58 ?_
      refine wm_cS_i (As := [.int (x29 ^^^ y1)]) (st := [.int v3]) X hS h (fun _ _ hF => ctJ16_bitCount l hF) mdJ16_bitCount msJ16_bitCount q538 dX1_passes_59 rfl rfl (c1_i c1_0) (Nat.le_of_ble_eq_true rfl) ⟨Nat.le_of_ble_eq_true rfl, Nat.le_of_ble_eq_true rfl⟩ ⟨le_p hC, le_p hZ⟩ (fun x30 σ31 _ h => ?_)
      refine wm_iload_n X 2 dX1_passes_62 rfl ?_
      obtain ⟨J74, eJ74, h⟩ := jn_e h
      have hJ74 : ∀ (z32 : Int32) (σ : Mm) (C Z kc kz : Nat), J74 z32 σ = some (xo, C, Z) → kc + C ≤ mc → kz + Z ≤ ms → WMxi p l e s m args below meth c 7 130 mc ms 5 D dA sz0 ad0 N0 xo kc kz σ [(0, va_rf (some h0)), (1, .int y1), (2, .int y2), (4, .int v4)] [.int z32, .int v3] 74 := by
        intro z32 σ C Z kc kz h hC hZ
        rw [eJ74] at h
        refine wm_ior X dX1_passes_74 ?_
        refine wm_istore_n (ℓ' := [(3, .int (v3 ||| z32)), (0, va_rf (some h0)), (1, .int y1), (2, .int y2), (4, .int v4)]) X dX1_passes_75 (by decide) rfl ?_
        refine wm_iinc (v := (v4 + 1)) (ℓ' := [(4, .int (v4 + 1)), (3, .int (v3 ||| z32)), (0, va_rf (some h0)), (1, .int y1), (2, .int y2)]) X 4 dX1_passes_76 rfl rfl (by decide) rfl ?_
        refine wm_goto X 34 dX1_passes_79 (by decide) ?_
        refine wm_sub (ℓ' := [(0, va_rf (some h0)), (1, .int y1), (2, .int y2), (3, .int (v3 ||| z32)), (4, .int (v4 + 1))]) [2, 3, 4, 1, 0] rfl ?_
        exact ih _ _ _ _ _ _ _ _ h hC hZ hkx82
      clear eJ74
      refine wm_icmp_gt X 73 h dX1_passes_63 (by decide) (fun c33 h => ?_) (fun c33 h => ?_)
      · refine wm_iconst (v := 0) X dX1_passes_73 (by decide) ?_
        refine wm_sub (ℓ' := [(0, va_rf (some h0)), (1, .int y1), (2, .int y2), (4, .int v4)]) [0, 1, 2, 4] rfl ?_
        exact hJ74 _ _ _ _ _ _ h hC hZ
      · refine wm_iconst (v := 1) X dX1_passes_66 (by decide) ?_
        refine wm_iload X 4 dX1_passes_67 rfl ?_
        refine wm_ishl X dX1_passes_69 ?_
        refine wm_goto X 74 dX1_passes_70 (by decide) ?_
        refine wm_sub (ℓ' := [(0, va_rf (some h0)), (1, .int y1), (2, .int y2), (4, .int v4)]) [0, 1, 2, 4] rfl ?_
        exact hJ74 _ _ _ _ _ _ h hC hZ
set_option maxHeartbeats 4000000 in
theorem ctX1_passes (l : Launch) (hl : l.stackTraces = false) {h0 : Nat} {x1 : Int32} {x2 : Int32} {σ : Mm} {xo : (Int32 × Mm) ⊕ (Nat × Mm)} {mc ms : Nat} (h : FX1_passes h0 x1 x2 σ = some (xo, mc, ms)) : CTXi l yX1_passes (ws_ yX1_passes cX1_passes 5 ((some FieldType.int))) 7 130 mc ms [va_rf (some h0), .int x1, .int x2] σ xo := by
  refine ctx_start (n := 2) mdX1_passes (Nat.le_of_ble_eq_true rfl) (c1_r (c1_i (c1_i c1_0))) (fun p e s m args below meth c D dA sz0 ad0 X hS hr hnm hno => ?_)
  have X : CX p s m args meth c cX1_passes 5 RX1 := X
  have hC : 0 + mc ≤ mc := Nat.le_of_eq (Nat.zero_add mc)
  have hZ : 0 + ms ≤ ms := Nat.le_of_eq (Nat.zero_add ms)
  generalize mN σ = N0
  unfold FX1_passes at h
  refine wm_iload_n X 1 dX1_passes_0 rfl ?_
  refine wm_iconst (v := 0) X dX1_passes_1 (by decide) ?_
  refine wm_sipush (v := 255) X dX1_passes_2 (by decide) ?_
  refine wm_cS_i (As := [.int x1, .int 0, .int 255]) (st := []) X hS h (fun _ _ hF => ctX1_in l hF) mdX1_in msX1_in q625 dX1_passes_5 rfl rfl c1_0 (Nat.le_of_ble_eq_true rfl) ⟨Nat.le_of_ble_eq_true rfl, Nat.le_of_ble_eq_true rfl⟩ ⟨le_p hC, le_p hZ⟩ (fun x21 σ22 _ h => ?_)
  obtain ⟨J26, eJ26, h⟩ := jn_e h
  have hJ26 : ∀ (z23 : Int32) (σ : Mm) (C Z kc kz : Nat), J26 z23 σ = some (xo, C, Z) → kc + C ≤ mc → kz + Z ≤ ms → WMxi p l e s m args below meth c 7 130 mc ms 5 D dA sz0 ad0 N0 xo kc kz σ [(0, va_rf (some h0)), (1, .int x1), (2, .int x2)] [.int z23] 26 := by
    intro z23 σ C Z kc kz h hC hZ
    rw [eJ26] at h
    refine wm_dS_v (As := [.int z23]) (st := []) X hS hno h hC hZ (fun _ _ _ hF => ctX1_demand l hl hF) mdX1_demand msX1_demand q1613 dX1_passes_26 rfl rfl c1_0 (Nat.le_of_ble_eq_true rfl) ⟨Nat.le_of_ble_eq_true rfl, Nat.le_of_ble_eq_true rfl⟩ (Nat.le_refl _) (Nat.le_refl _) (fun σ24 c1 z1 C Z _ h hC hZ => ?_)
    refine wm_iconst (v := 0) X dX1_passes_29 (by decide) ?_
    refine wm_istore_n (ℓ' := [(3, .int 0), (0, va_rf (some h0)), (1, .int x1), (2, .int x2)]) X dX1_passes_30 (by decide) rfl ?_
    refine wm_iconst (v := 0) X dX1_passes_31 (by decide) ?_
    refine wm_istore (ℓ' := [(4, .int 0), (3, .int 0), (0, va_rf (some h0)), (1, .int x1), (2, .int x2)]) X dX1_passes_32 (by decide) rfl ?_
    refine wm_sub (ℓ' := [(0, va_rf (some h0)), (1, .int x1), (2, .int x2), (3, .int 0), (4, .int 0)]) [2, 3, 4, 1, 0] rfl ?_
    refine wX1_passes_34 X hS hr hnm hl hno _ _ _ fu _ _ _ _ _ _ _ _ h hC hZ (fun x35 σ C Z kc kz h hC hZ => ?_)
    · refine wm_iload_n X 0 dX1_passes_82 rfl ?_
      exact wm_xiret X hr (rt_e h) dX1_passes_83 (le_p hC) (le_p hZ)
  clear eJ26
  refine wm_if_eq X 25 h dX1_passes_8 (by decide) (fun c39 h => ?_) (fun c39 h => ?_)
  · refine wm_iconst (v := 0) X dX1_passes_25 (by decide) ?_
    exact hJ26 _ _ _ _ _ _ h hC hZ
  · refine wm_iload_n X 2 dX1_passes_11 rfl ?_
    refine wm_iconst (v := 0) X dX1_passes_12 (by decide) ?_
    refine wm_bipush (v := 8) X dX1_passes_13 (by decide) ?_
    refine wm_cS_i (As := [.int x2, .int 0, .int 8]) (st := []) X hS h (fun _ _ hF => ctX1_in l hF) mdX1_in msX1_in q625 dX1_passes_15 rfl rfl c1_0 (Nat.le_of_ble_eq_true rfl) ⟨Nat.le_of_ble_eq_true rfl, Nat.le_of_ble_eq_true rfl⟩ ⟨le_p hC, le_p hZ⟩ (fun x36 σ37 _ h => ?_)
    refine wm_if_eq X 25 h dX1_passes_18 (by decide) (fun c38 h => ?_) (fun c38 h => ?_)
    · refine wm_iconst (v := 0) X dX1_passes_25 (by decide) ?_
      exact hJ26 _ _ _ _ _ _ h hC hZ
    · refine wm_iconst (v := 1) X dX1_passes_21 (by decide) ?_
      refine wm_goto X 26 dX1_passes_22 (by decide) ?_
      exact hJ26 _ _ _ _ _ _ h hC hZ
theorem mdX1_core : MD yX1_core 1 := by unfold MD; decide +kernel
theorem mvX1_core : MV yX1_core cX1_core 2 ((some FieldType.int)) := ⟨q1853, q1854, q128, q1855⟩
set_option maxHeartbeats 4000000 in
theorem ctX1_core (l : Launch) (hl : l.stackTraces = false) {h0 : Nat} {x1 : Int32} {σ : Mm} {xo : (Int32 × Mm) ⊕ (Nat × Mm)} {mc ms : Nat} (h : FX1_core h0 x1 σ = some (xo, mc, ms)) : CTXi l yX1_core (ws_ yX1_core cX1_core 2 ((some FieldType.int))) 8 152 mc ms [va_rf (some h0), .int x1] σ xo := by
  refine ctx_start (n := 1) mdX1_core (Nat.le_of_ble_eq_true rfl) (c1_r (c1_i c1_0)) (fun p e s m args below meth c D dA sz0 ad0 X hS hr hnm hno => ?_)
  have X : CX p s m args meth c cX1_core 2 RX1 := X
  have hC : 0 + mc ≤ mc := Nat.le_of_eq (Nat.zero_add mc)
  have hZ : 0 + ms ≤ ms := Nat.le_of_eq (Nat.zero_add ms)
  generalize mN σ = N0
  unfold FX1_core at h
  refine wm_aload_n X 0 dX1_core_0 rfl ?_
  refine wm_iload_n X 1 dX1_core_1 rfl ?_
  obtain ⟨s21, h⟩ := ck_e h
  refine wm_dV_v (As := [.int x1]) (st := []) X hS hno cd_1 s21 rfl h hC hZ (fun _ _ _ hF => ctX1_personAt l hl hF) mdX1_personAt mvX1_personAt q1533 dX1_core_2 rfl rfl c1_0 (Nat.le_of_ble_eq_true rfl) ⟨Nat.le_of_ble_eq_true rfl, Nat.le_of_ble_eq_true rfl⟩ (Nat.le_refl _) (Nat.le_refl _) (fun σ22 c1 z1 C Z _ h hC hZ => ?_)
  refine wm_aload_n X 0 dX1_core_5 rfl ?_
  refine wm_gR X hS cd_1 7 h dX1_core_6 (Nat.le_of_ble_eq_true rfl) rfl q445 (fun x23 h => ?_)
  obtain ⟨q24, eq24, h⟩ := Option.bind_eq_some_iff.mp h
  obtain ⟨eq24, s25⟩ := rv_some eq24
  refine wm_cV_r (As := []) (st := []) X hS cd_5 s25 rfl h (fun _ _ hF => ctX5_run l hF) mdX5_run mvX5_run q572 dX1_core_9 rfl (by rw [eq24]; first | done | rfl) c1_0 (Nat.le_of_ble_eq_true rfl) ⟨Nat.le_of_ble_eq_true rfl, Nat.le_of_ble_eq_true rfl⟩ ⟨le_p hC, le_p hZ⟩ (fun x26 σ27 _ h => ?_)
  refine wm_gRN X hS cd_5 0 h dX1_core_12 (Nat.le_of_ble_eq_true rfl) rfl 36 rfl (fun x28 h => ?_)
  refine wm_iload_n X 1 dX1_core_15 rfl ?_
  refine wm_iaload X hS h dX1_core_16 (fun x29 h => ?_)
  exact wm_xiret X hr (rt_e h) dX1_core_17 (le_p hC) (le_p hZ)
theorem mdX2_all : MD yX2_all 0 := by unfold MD; decide +kernel
theorem mvX2_all : MV yX2_all cX2_all 1 ((some FieldType.int)) := ⟨q1864, q1865, q129, q1866⟩
set_option maxHeartbeats 4000000 in
theorem ctX2_all (l : Launch) {h0 : Nat} {σ σf : Mm} {r : Int32} (h : FX2_all h0 σ = some (r, σf)) : CTi l yX2_all (ws_ yX2_all cX2_all 1 ((some FieldType.int))) 0 0 0 0 [va_rf (some h0)] σ r σf := by
  refine ct_start (n := 0) mdX2_all (Nat.le_of_ble_eq_true rfl) (c1_r c1_0) (fun p e s m args below meth c D dA sz0 ad0 X hS hr hnm => ?_)
  have X : CX p s m args meth c cX2_all 1 RX2 := X
  generalize mN σ = N0
  unfold FX2_all at h
  refine wm_iconst (v := 1) X dX2_all_0 (by decide) ?_
  refine wm_aload_n X 0 dX2_all_1 rfl ?_
  refine wm_gI X hS cd_2 1 h dX2_all_2 (Nat.le_of_ble_eq_true rfl) rfl q192 (fun x21 h => ?_)
  refine wm_ishl X dX2_all_5 ?_
  refine wm_iconst (v := 1) X dX2_all_6 (by decide) ?_
  refine wm_isub X dX2_all_7 ?_
  exact wm_iret X hr h dX2_all_8 (Nat.le_of_ble_eq_true rfl) (Nat.le_of_ble_eq_true rfl)
theorem mdX2_place : MD yX2_place 2 := by unfold MD; decide +kernel
theorem mvX2_place : MV yX2_place cX2_place 4 ((some FieldType.int)) := ⟨q1876, q1877, q129, q1878⟩
set_option maxHeartbeats 4000000 in
theorem wX2_place_2 {p : Program} {l : Launch} {e : Env} {s : State} {m : MethodId} {args : Array Value} {below : List Frame} {meth : Method} {c : Code} {D : va_G} {dA : Nat → ClassId} {sz0 : Nat} {ad0 : Nat → Nat} {N0 : Nat} {r : Int32} {σf : Mm} (X : CX p s m args meth c cX2_place 4 RX2) (hS : ST D dA sz0 ad0 s) (hr : meth.sig.returnType = (some FieldType.int)) (hnm : meth.name = yX2_place.name) (h0 : Nat) (y1 : Int32) (y2 : Int32) : ∀ (n : Nat) (v3 : Int32) (σ : Mm) (kx23 : Int32 → Mm → Option (Int32 × Mm)), FX2_place_2 h0 y1 y2 n v3 σ kx23 = some (r, σf) → (∀ (w3 : Int32) (σ : Mm), kx23 w3 σ = some (r, σf) → WMi p l e s m args below meth c 0 0 0 0 4 D dA sz0 ad0 N0 r σf 0 0 σ [(3, .int w3)] [] 23) → WMi p l e s m args below meth c 0 0 0 0 4 D dA sz0 ad0 N0 r σf 0 0 σ [(0, va_rf (some h0)), (1, .int y1), (2, .int y2), (3, .int v3)] [] 2 := by
  intro n
  induction n with
  | zero =>
    intro v3 σ kx23 h hkx23
    cases h
  | succ n ih =>
    intro v3 σ kx23 h hkx23
    rw [FX2_place_2] at h
    refine wm_aload_n X 0 dX2_place_2 rfl ?_
    refine wm_gR X hS cd_2 15 h dX2_place_3 (Nat.le_of_ble_eq_true rfl) rfl q224 (fun x21 h => ?_)
    refine wm_bipush (v := 10) X dX2_place_6 (by decide) ?_
    refine wm_iload_n X 1 dX2_place_8 rfl ?_
    refine wm_imul X dX2_place_9 ?_
    refine wm_iload_n X 3 dX2_place_10 rfl ?_
    refine wm_iadd X dX2_place_11 ?_
    refine wm_iaload X hS h dX2_place_12 (fun x22 h => ?_)
    refine wm_iload_n X 2 dX2_place_13 rfl ?_
    refine wm_icmp_eq X 23 h dX2_place_14 (by decide) (fun c23 h => ?_) (fun c23 h => ?_)
    · refine wm_sub (ℓ' := [(3, .int v3)]) [3] rfl ?_
      exact hkx23 _ _ h
    · refine wm_iinc (v := (v3 + 1)) (ℓ' := [(3, .int (v3 + 1)), (0, va_rf (some h0)), (1, .int y1), (2, .int y2)]) X 3 dX2_place_17 rfl rfl (by decide) rfl ?_
      refine wm_goto X 2 dX2_place_20 (by decide) ?_
      refine wm_sub (ℓ' := [(0, va_rf (some h0)), (1, .int y1), (2, .int y2), (3, .int (v3 + 1))]) [1, 2, 3, 0] rfl ?_
      exact ih _ _ _ h hkx23
set_option maxHeartbeats 4000000 in
theorem ctX2_place (l : Launch) {h0 : Nat} {x1 : Int32} {x2 : Int32} {σ σf : Mm} {r : Int32} (h : FX2_place h0 x1 x2 σ = some (r, σf)) : CTi l yX2_place (ws_ yX2_place cX2_place 4 ((some FieldType.int))) 0 0 0 0 [va_rf (some h0), .int x1, .int x2] σ r σf := by
  refine ct_start (n := 2) mdX2_place (Nat.le_of_ble_eq_true rfl) (c1_r (c1_i (c1_i c1_0))) (fun p e s m args below meth c D dA sz0 ad0 X hS hr hnm => ?_)
  have X : CX p s m args meth c cX2_place 4 RX2 := X
  generalize mN σ = N0
  unfold FX2_place at h
  refine wm_iconst (v := 0) X dX2_place_0 (by decide) ?_
  refine wm_istore_n (ℓ' := [(3, .int 0), (0, va_rf (some h0)), (1, .int x1), (2, .int x2)]) X dX2_place_1 (by decide) rfl ?_
  refine wm_sub (ℓ' := [(0, va_rf (some h0)), (1, .int x1), (2, .int x2), (3, .int 0)]) [1, 2, 3, 0] rfl ?_
  refine wX2_place_2 X hS hr hnm _ _ _ fu _ _ _ h (fun x24 σ h => ?_)
  · refine wm_iload_n X 0 dX2_place_23 rfl ?_
    exact wm_iret X hr h dX2_place_24 (Nat.le_of_ble_eq_true rfl) (Nat.le_of_ble_eq_true rfl)
theorem mdX1_rather : MD yX1_rather 2 := by unfold MD; decide +kernel
theorem mvX1_rather : MV yX1_rather cX1_rather 3 ((some FieldType.boolean)) := ⟨q1873, qs46, q128, q1874⟩
set_option maxHeartbeats 4000000 in
theorem ctX1_rather (l : Launch) {h0 : Nat} {x1 : Int32} {x2 : Int32} {σ σf : Mm} {r : Int32} (h : FX1_rather h0 x1 x2 σ = some (r, σf)) : CTi l yX1_rather (ws_ yX1_rather cX1_rather 3 ((some FieldType.boolean))) 1 23 0 0 [va_rf (some h0), .int x1, .int x2] σ r σf := by
  refine ct_start (n := 2) mdX1_rather (Nat.le_of_ble_eq_true rfl) (c1_r (c1_i (c1_i c1_0))) (fun p e s m args below meth c D dA sz0 ad0 X hS hr hnm => ?_)
  have X : CX p s m args meth c cX1_rather 3 RX1 := X
  generalize mN σ = N0
  unfold FX1_rather at h
  refine wm_aload_n X 0 dX1_rather_0 rfl ?_
  refine wm_gR X hS cd_1 0 h dX1_rather_1 (Nat.le_of_ble_eq_true rfl) rfl q434 (fun x21 h => ?_)
  refine wm_iload_n X 1 dX1_rather_4 rfl ?_
  refine wm_aload_n X 0 dX1_rather_5 rfl ?_
  refine wm_gR X hS cd_1 0 h dX1_rather_6 (Nat.le_of_ble_eq_true rfl) rfl q434 (fun x22 h => ?_)
  refine wm_gRN X hS cd_2 10 h dX1_rather_9 (Nat.le_of_ble_eq_true rfl) rfl 10 rfl (fun x23 h => ?_)
  refine wm_iload_n X 2 dX1_rather_12 rfl ?_
  refine wm_iaload X hS h dX1_rather_13 (fun x24 h => ?_)
  obtain ⟨q25, eq25, h⟩ := Option.bind_eq_some_iff.mp h
  obtain ⟨eq25, s26⟩ := rv_some eq25
  refine wm_cV_i (As := [.int x1, .int x24]) (st := []) X hS cd_2 s26 rfl h (fun _ _ hF => ctX2_place l hF) mdX2_place mvX2_place q1875 dX1_rather_14 rfl (by rw [eq25]; first | done | rfl) c1_0 (Nat.le_of_ble_eq_true rfl) ⟨Nat.le_of_ble_eq_true rfl, Nat.le_of_ble_eq_true rfl⟩ ⟨Nat.le_of_ble_eq_true rfl, Nat.le_of_ble_eq_true rfl⟩ (fun x27 σ28 _ h => ?_)
  refine wm_aload_n X 0 dX1_rather_17 rfl ?_
  refine wm_gR X hS cd_1 0 h dX1_rather_18 (Nat.le_of_ble_eq_true rfl) rfl q434 (fun x29 h => ?_)
  refine wm_iload_n X 1 dX1_rather_21 rfl ?_
  refine wm_aload_n X 0 dX1_rather_22 rfl ?_
  refine wm_gR X hS cd_1 0 h dX1_rather_23 (Nat.le_of_ble_eq_true rfl) rfl q434 (fun x30 h => ?_)
  refine wm_gRN X hS cd_2 10 h dX1_rather_26 (Nat.le_of_ble_eq_true rfl) rfl 10 rfl (fun x31 h => ?_)
  refine wm_iload_n X 1 dX1_rather_29 rfl ?_
  refine wm_iaload X hS h dX1_rather_30 (fun x32 h => ?_)
  obtain ⟨q33, eq33, h⟩ := Option.bind_eq_some_iff.mp h
  obtain ⟨eq33, s34⟩ := rv_some eq33
  refine wm_cV_i (As := [.int x1, .int x32]) (st := [.int x27]) X hS cd_2 s34 rfl h (fun _ _ hF => ctX2_place l hF) mdX2_place mvX2_place q1875 dX1_rather_31 rfl (by rw [eq33]; first | done | rfl) (c1_i c1_0) (Nat.le_of_ble_eq_true rfl) ⟨Nat.le_of_ble_eq_true rfl, Nat.le_of_ble_eq_true rfl⟩ ⟨Nat.le_of_ble_eq_true rfl, Nat.le_of_ble_eq_true rfl⟩ (fun x35 σ36 _ h => ?_)
  refine wm_icmp_ge X 41 h dX1_rather_34 (by decide) (fun c37 h => ?_) (fun c37 h => ?_)
  · refine wm_iconst (v := 0) X dX1_rather_41 (by decide) ?_
    exact wm_zret X hr h dX1_rather_42 (Nat.le_of_ble_eq_true rfl) (Nat.le_of_ble_eq_true rfl)
  · refine wm_iconst (v := 1) X dX1_rather_37 (by decide) ?_
    refine wm_goto X 42 dX1_rather_38 (by decide) ?_
    exact wm_zret X hr h dX1_rather_42 (Nat.le_of_ble_eq_true rfl) (Nat.le_of_ble_eq_true rfl)
theorem mdX1_takesFrom : MD yX1_takesFrom 2 := by unfold MD; decide +kernel
theorem mvX1_takesFrom : MV yX1_takesFrom cX1_takesFrom 4 ((some FieldType.boolean)) := ⟨q1869, qs45, q128, q1870⟩
set_option maxHeartbeats 4000000 in
theorem wX1_takesFrom_2 {p : Program} {l : Launch} {e : Env} {s : State} {m : MethodId} {args : Array Value} {below : List Frame} {meth : Method} {c : Code} {D : va_G} {dA : Nat → ClassId} {sz0 : Nat} {ad0 : Nat → Nat} {N0 : Nat} {r : Int32} {σf : Mm} (X : CX p s m args meth c cX1_takesFrom 4 RX1) (hS : ST D dA sz0 ad0 s) (hr : meth.sig.returnType = (some FieldType.boolean)) (hnm : meth.name = yX1_takesFrom.name) (h0 : Nat) (y1 : Int32) (y2 : Int32) : ∀ (n : Nat) (v3 : Int32) (σ : Mm) (kx43 : Mm → Option (Int32 × Mm)) (kx35 : Mm → Option (Int32 × Mm)), FX1_takesFrom_2 h0 y1 y2 n v3 σ kx43 kx35 = some (r, σf) → (∀  (σ : Mm), kx43 σ = some (r, σf) → WMi p l e s m args below meth c 2 45 0 0 4 D dA sz0 ad0 N0 r σf 0 0 σ [] [] 43) → (∀  (σ : Mm), kx35 σ = some (r, σf) → WMi p l e s m args below meth c 2 45 0 0 4 D dA sz0 ad0 N0 r σf 0 0 σ [] [] 35) → WMi p l e s m args below meth c 2 45 0 0 4 D dA sz0 ad0 N0 r σf 0 0 σ [(0, va_rf (some h0)), (1, .int y1), (2, .int y2), (3, .int v3)] [] 2 := by
  intro n
  induction n with
  | zero =>
    intro v3 σ kx43 kx35 h hkx43 hkx35
    cases h
  | succ n ih =>
    intro v3 σ kx43 kx35 h hkx43 hkx35
    rw [FX1_takesFrom_2] at h
    refine wm_iload_n X 3 dX1_takesFrom_2 rfl ?_
    refine wm_aload_n X 0 dX1_takesFrom_3 rfl ?_
    refine wm_gR X hS cd_1 0 h dX1_takesFrom_4 (Nat.le_of_ble_eq_true rfl) rfl q434 (fun x21 h => ?_)
    refine wm_gIN X hS cd_2 1 h dX1_takesFrom_7 (Nat.le_of_ble_eq_true rfl) rfl 1 rfl (fun x22 h => ?_)
    refine wm_icmp_ge X 43 h dX1_takesFrom_10 (by decide) (fun c31 h => ?_) (fun c31 h => ?_)
    · refine wm_sub (ℓ' := []) [] rfl ?_
      exact hkx43 _ h
    · refine wm_iload_n X 3 dX1_takesFrom_13 rfl ?_
      refine wm_iload_n X 1 dX1_takesFrom_14 rfl ?_
      refine wm_icmp_eq X 37 h dX1_takesFrom_15 (by decide) (fun c30 h => ?_) (fun c30 h => ?_)
      · refine wm_iinc (v := (v3 + 1)) (ℓ' := [(3, .int (v3 + 1)), (0, va_rf (some h0)), (1, .int y1), (2, .int y2)]) X 3 dX1_takesFrom_37 rfl rfl (by decide) rfl ?_
        refine wm_goto X 2 dX1_takesFrom_40 (by decide) ?_
        refine wm_sub (ℓ' := [(0, va_rf (some h0)), (1, .int y1), (2, .int y2), (3, .int (v3 + 1))]) [1, 2, 3, 0] rfl ?_
        exact ih _ _ _ _ h hkx43 hkx35
      · refine wm_iload_n X 2 dX1_takesFrom_18 rfl ?_
        refine wm_iload_n X 3 dX1_takesFrom_19 rfl ?_
        refine wm_cS_i (As := [.int y2, .int v3]) (st := []) X hS h (fun _ _ hF => ctX1_has l hF) mdX1_has msX1_has q535 dX1_takesFrom_20 rfl rfl c1_0 (Nat.le_of_ble_eq_true rfl) ⟨Nat.le_of_ble_eq_true rfl, Nat.le_of_ble_eq_true rfl⟩ ⟨Nat.le_of_ble_eq_true rfl, Nat.le_of_ble_eq_true rfl⟩ (fun x23 σ24 _ h => ?_)
        refine wm_if_eq X 37 h dX1_takesFrom_23 (by decide) (fun c29 h => ?_) (fun c29 h => ?_)
        · refine wm_iinc (v := (v3 + 1)) (ℓ' := [(3, .int (v3 + 1)), (0, va_rf (some h0)), (1, .int y1), (2, .int y2)]) X 3 dX1_takesFrom_37 rfl rfl (by decide) rfl ?_
          refine wm_goto X 2 dX1_takesFrom_40 (by decide) ?_
          refine wm_sub (ℓ' := [(0, va_rf (some h0)), (1, .int y1), (2, .int y2), (3, .int (v3 + 1))]) [1, 2, 3, 0] rfl ?_
          exact ih _ _ _ _ h hkx43 hkx35
        · refine wm_aload_n X 0 dX1_takesFrom_26 rfl ?_
          refine wm_iload_n X 1 dX1_takesFrom_27 rfl ?_
          refine wm_iload_n X 3 dX1_takesFrom_28 rfl ?_
          obtain ⟨s25, h⟩ := ck_e h
          refine wm_cV_i (As := [.int y1, .int v3]) (st := []) X hS cd_1 s25 rfl h (fun _ _ hF => ctX1_rather l hF) mdX1_rather mvX1_rather q1871 dX1_takesFrom_29 rfl rfl c1_0 (Nat.le_of_ble_eq_true rfl) ⟨Nat.le_of_ble_eq_true rfl, Nat.le_of_ble_eq_true rfl⟩ ⟨Nat.le_of_ble_eq_true rfl, Nat.le_of_ble_eq_true rfl⟩ (fun x26 σ27 _ h => ?_)
          refine wm_if_eq X 37 h dX1_takesFrom_32 (by decide) (fun c28 h => ?_) (fun c28 h => ?_)
          · refine wm_iinc (v := (v3 + 1)) (ℓ' := [(3, .int (v3 + 1)), (0, va_rf (some h0)), (1, .int y1), (2, .int y2)]) X 3 dX1_takesFrom_37 rfl rfl (by decide) rfl ?_
            refine wm_goto X 2 dX1_takesFrom_40 (by decide) ?_
            refine wm_sub (ℓ' := [(0, va_rf (some h0)), (1, .int y1), (2, .int y2), (3, .int (v3 + 1))]) [1, 2, 3, 0] rfl ?_
            exact ih _ _ _ _ h hkx43 hkx35
          · refine wm_sub (ℓ' := []) [] rfl ?_
            exact hkx35 _ h
set_option maxHeartbeats 4000000 in
theorem ctX1_takesFrom (l : Launch) {h0 : Nat} {x1 : Int32} {x2 : Int32} {σ σf : Mm} {r : Int32} (h : FX1_takesFrom h0 x1 x2 σ = some (r, σf)) : CTi l yX1_takesFrom (ws_ yX1_takesFrom cX1_takesFrom 4 ((some FieldType.boolean))) 2 45 0 0 [va_rf (some h0), .int x1, .int x2] σ r σf := by
  refine ct_start (n := 2) mdX1_takesFrom (Nat.le_of_ble_eq_true rfl) (c1_r (c1_i (c1_i c1_0))) (fun p e s m args below meth c D dA sz0 ad0 X hS hr hnm => ?_)
  have X : CX p s m args meth c cX1_takesFrom 4 RX1 := X
  generalize mN σ = N0
  unfold FX1_takesFrom at h
  refine wm_iconst (v := 0) X dX1_takesFrom_0 (by decide) ?_
  refine wm_istore_n (ℓ' := [(3, .int 0), (0, va_rf (some h0)), (1, .int x1), (2, .int x2)]) X dX1_takesFrom_1 (by decide) rfl ?_
  refine wm_sub (ℓ' := [(0, va_rf (some h0)), (1, .int x1), (2, .int x2), (3, .int 0)]) [1, 2, 3, 0] rfl ?_
  refine wX1_takesFrom_2 X hS hr hnm _ _ _ fu _ _ _ _ h (fun σ h => ?_) (fun σ h => ?_)
  · refine wm_iconst (v := 0) X dX1_takesFrom_43 (by decide) ?_
    exact wm_zret X hr h dX1_takesFrom_44 (Nat.le_of_ble_eq_true rfl) (Nat.le_of_ble_eq_true rfl)
  · refine wm_iconst (v := 1) X dX1_takesFrom_35 (by decide) ?_
    exact wm_zret X hr h dX1_takesFrom_36 (Nat.le_of_ble_eq_true rfl) (Nat.le_of_ble_eq_true rfl)
theorem mdX1_block : MD yX1_block 1 := by unfold MD; decide +kernel
theorem mvX1_block : MV yX1_block cX1_block 5 ((some FieldType.boolean)) := ⟨q1860, q1861, q128, q1862⟩
set_option maxHeartbeats 4000000 in
theorem wX1_block_12 {p : Program} {l : Launch} {e : Env} {s : State} {m : MethodId} {args : Array Value} {below : List Frame} {meth : Method} {c : Code} {D : va_G} {dA : Nat → ClassId} {sz0 : Nat} {ad0 : Nat → Nat} {N0 : Nat} {xo : (Int32 × Mm) ⊕ (Nat × Mm)} {mc ms : Nat} (X : CX p s m args meth c cX1_block 5 RX1) (hS : ST D dA sz0 ad0 s) (hr : meth.sig.returnType = (some FieldType.boolean)) (hnm : meth.name = yX1_block.name) (hl : l.stackTraces = false) (hno : ∀ x ∈ c.exceptionTable.toList, False) (h0 : Nat) (y2 : Int32) : ∀ (n : Nat) (v3 : Int32) (σ : Mm) (kx58 : Mm → DX (Int32 × Mm)) (C Z kc kz : Nat), FX1_block_12 h0 y2 n v3 σ kx58 = some (xo, C, Z) → kc + C ≤ mc → kz + Z ≤ ms → (∀  (σ : Mm) (C Z kc kz : Nat), kx58 σ = some (xo, C, Z) → kc + C ≤ mc → kz + Z ≤ ms → WMxi p l e s m args below meth c 7 130 mc ms 5 D dA sz0 ad0 N0 xo kc kz σ [(0, va_rf (some h0)), (2, .int y2)] [] 58) → WMxi p l e s m args below meth c 7 130 mc ms 5 D dA sz0 ad0 N0 xo kc kz σ [(0, va_rf (some h0)), (2, .int y2), (3, .int v3)] [] 12 := by
  intro n
  induction n with
  | zero =>
    intro v3 σ kx58 C Z kc kz h hC hZ hkx58
    cases h
  | succ n ih =>
    intro v3 σ kx58 C Z kc kz h hC hZ hkx58
    rw [FX1_block_12] at h
    refine wm_iload_n X 2 dX1_block_12 rfl ?_
    refine wm_aload_n X 0 dX1_block_13 rfl ?_
    refine wm_gR X hS cd_1 0 h dX1_block_14 (Nat.le_of_ble_eq_true rfl) rfl q434 (fun x26 h => ?_)
    refine wm_gIN X hS cd_2 1 h dX1_block_17 (Nat.le_of_ble_eq_true rfl) rfl 1 rfl (fun x27 h => ?_)
    refine wm_icmp_ge X 58 h dX1_block_20 (by decide) (fun c37 h => ?_) (fun c37 h => ?_)
    · refine wm_sub (ℓ' := [(0, va_rf (some h0)), (2, .int y2)]) [0, 1] rfl ?_
      exact hkx58 _ _ _ _ _ h hC hZ
    · refine wm_iload_n X 1 dX1_block_23 rfl ?_
      refine wm_iload_n X 2 dX1_block_24 rfl ?_
      refine wm_cS_i (As := [.int y2, .int v3]) (st := []) X hS h (fun _ _ hF => ctX1_has l hF) mdX1_has msX1_has q535 dX1_block_25 rfl rfl c1_0 (Nat.le_of_ble_eq_true rfl) ⟨Nat.le_of_ble_eq_true rfl, Nat.le_of_ble_eq_true rfl⟩ ⟨le_p hC, le_p hZ⟩ (fun x28 σ29 _ h => ?_)
      obtain ⟨J49, eJ49, h⟩ := jn_e h
      have hJ49 : ∀ (z30 : Int32) (σ : Mm) (C Z kc kz : Nat), J49 z30 σ = some (xo, C, Z) → kc + C ≤ mc → kz + Z ≤ ms → WMxi p l e s m args below meth c 7 130 mc ms 5 D dA sz0 ad0 N0 xo kc kz σ [(0, va_rf (some h0)), (2, .int y2), (3, .int v3)] [.int z30] 49 := by
        intro z30 σ C Z kc kz h hC hZ
        rw [eJ49] at h
        refine wm_dS_v (As := [.int z30]) (st := []) X hS hno h hC hZ (fun _ _ _ hF => ctX1_can l hl hF) mdX1_can msX1_can q1624 dX1_block_49 rfl rfl c1_0 (Nat.le_of_ble_eq_true rfl) ⟨Nat.le_of_ble_eq_true rfl, Nat.le_of_ble_eq_true rfl⟩ (Nat.le_refl _) (Nat.le_refl _) (fun σ31 c1 z1 C Z _ h hC hZ => ?_)
        refine wm_iinc (v := (v3 + 1)) (ℓ' := [(3, .int (v3 + 1)), (0, va_rf (some h0)), (2, .int y2)]) X 2 dX1_block_52 rfl rfl (by decide) rfl ?_
        refine wm_goto X 12 dX1_block_55 (by decide) ?_
        refine wm_sub (ℓ' := [(0, va_rf (some h0)), (2, .int y2), (3, .int (v3 + 1))]) [1, 2, 0] rfl ?_
        exact ih _ _ _ _ _ _ _ h hC hZ hkx58
      clear eJ49
      refine wm_if_eq X 44 h dX1_block_28 (by decide) (fun c36 h => ?_) (fun c36 h => ?_)
      · refine wm_iconst (v := 1) X dX1_block_44 (by decide) ?_
        refine wm_goto X 49 dX1_block_45 (by decide) ?_
        exact hJ49 _ _ _ _ _ _ h hC hZ
      · refine wm_aload_n X 0 dX1_block_31 rfl ?_
        refine wm_gR X hS cd_1 0 h dX1_block_32 (Nat.le_of_ble_eq_true rfl) rfl q434 (fun x32 h => ?_)
        refine wm_gRN X hS cd_2 10 h dX1_block_35 (Nat.le_of_ble_eq_true rfl) rfl 10 rfl (fun x33 h => ?_)
        refine wm_iload_n X 2 dX1_block_38 rfl ?_
        refine wm_iaload X hS h dX1_block_39 (fun x34 h => ?_)
        refine wm_iconst (v := (-1)) X dX1_block_40 (by decide) ?_
        refine wm_icmp_eq X 48 h dX1_block_41 (by decide) (fun c35 h => ?_) (fun c35 h => ?_)
        · refine wm_iconst (v := 0) X dX1_block_48 (by decide) ?_
          exact hJ49 _ _ _ _ _ _ h hC hZ
        · refine wm_iconst (v := 1) X dX1_block_44 (by decide) ?_
          refine wm_goto X 49 dX1_block_45 (by decide) ?_
          exact hJ49 _ _ _ _ _ _ h hC hZ
set_option maxHeartbeats 4000000 in
theorem wX1_block_70 {p : Program} {l : Launch} {e : Env} {s : State} {m : MethodId} {args : Array Value} {below : List Frame} {meth : Method} {c : Code} {D : va_G} {dA : Nat → ClassId} {sz0 : Nat} {ad0 : Nat → Nat} {N0 : Nat} {xo : (Int32 × Mm) ⊕ (Nat × Mm)} {mc ms : Nat} (X : CX p s m args meth c cX1_block 5 RX1) (hS : ST D dA sz0 ad0 s) (hr : meth.sig.returnType = (some FieldType.boolean)) (hnm : meth.name = yX1_block.name) (hl : l.stackTraces = false) (hno : ∀ x ∈ c.exceptionTable.toList, False) (h0 : Nat) (y3 : Int32) : ∀ (n : Nat) (v2 : Int32) (v4 : Int32) (σ : Mm) (kx116 : Int32 → Mm → DX (Int32 × Mm)) (C Z kc kz : Nat), FX1_block_70 h0 y3 n v2 v4 σ kx116 = some (xo, C, Z) → kc + C ≤ mc → kz + Z ≤ ms → (∀ (w2 : Int32) (σ : Mm) (C Z kc kz : Nat), kx116 w2 σ = some (xo, C, Z) → kc + C ≤ mc → kz + Z ≤ ms → WMxi p l e s m args below meth c 7 130 mc ms 5 D dA sz0 ad0 N0 xo kc kz σ [(0, va_rf (some h0)), (2, .int w2), (3, .int y3)] [] 116) → WMxi p l e s m args below meth c 7 130 mc ms 5 D dA sz0 ad0 N0 xo kc kz σ [(0, va_rf (some h0)), (2, .int v2), (3, .int y3), (4, .int v4)] [] 70 := by
  intro n
  induction n with
  | zero =>
    intro v2 v4 σ kx116 C Z kc kz h hC hZ hkx116
    cases h
  | succ n ih =>
    intro v2 v4 σ kx116 C Z kc kz h hC hZ hkx116
    rw [FX1_block_70] at h
    refine wm_iload X 3 dX1_block_70 rfl ?_
    refine wm_aload_n X 0 dX1_block_72 rfl ?_
    refine wm_gR X hS cd_1 0 h dX1_block_73 (Nat.le_of_ble_eq_true rfl) rfl q434 (fun x38 h => ?_)
    refine wm_gIN X hS cd_2 1 h dX1_block_76 (Nat.le_of_ble_eq_true rfl) rfl 1 rfl (fun x39 h => ?_)
    refine wm_icmp_ge X 116 h dX1_block_79 (by decide) (fun c47 h => ?_) (fun c47 h => ?_)
    · refine wm_sub (ℓ' := [(0, va_rf (some h0)), (2, .int v2), (3, .int y3)]) [0, 1, 2] rfl ?_
      exact hkx116 _ _ _ _ _ _ h hC hZ
    · refine wm_iload_n X 1 dX1_block_82 rfl ?_
      refine wm_iload X 3 dX1_block_83 rfl ?_
      refine wm_cS_i (As := [.int v2, .int v4]) (st := []) X hS h (fun _ _ hF => ctX1_has l hF) mdX1_has msX1_has q535 dX1_block_85 rfl rfl c1_0 (Nat.le_of_ble_eq_true rfl) ⟨Nat.le_of_ble_eq_true rfl, Nat.le_of_ble_eq_true rfl⟩ ⟨le_p hC, le_p hZ⟩ (fun x40 σ41 _ h => ?_)
      refine wm_if_eq X 110 h dX1_block_88 (by decide) (fun c46 h => ?_) (fun c46 h => ?_)
      · refine wm_iinc (v := (v4 + 1)) (ℓ' := [(4, .int (v4 + 1)), (0, va_rf (some h0)), (2, .int v2), (3, .int y3)]) X 3 dX1_block_110 rfl rfl (by decide) rfl ?_
        refine wm_goto X 70 dX1_block_113 (by decide) ?_
        refine wm_sub (ℓ' := [(0, va_rf (some h0)), (2, .int v2), (3, .int y3), (4, .int (v4 + 1))]) [1, 2, 3, 0] rfl ?_
        exact ih _ _ _ _ _ _ _ _ h hC hZ hkx116
      · refine wm_aload_n X 0 dX1_block_91 rfl ?_
        refine wm_iload X 3 dX1_block_92 rfl ?_
        refine wm_iload_n X 1 dX1_block_94 rfl ?_
        obtain ⟨s42, h⟩ := ck_e h
        refine wm_cV_i (As := [.int v4, .int v2]) (st := []) X hS cd_1 s42 rfl h (fun _ _ hF => ctX1_takesFrom l hF) mdX1_takesFrom mvX1_takesFrom q1867 dX1_block_95 rfl rfl c1_0 (Nat.le_of_ble_eq_true rfl) ⟨Nat.le_of_ble_eq_true rfl, Nat.le_of_ble_eq_true rfl⟩ ⟨le_p hC, le_p hZ⟩ (fun x43 σ44 _ h => ?_)
        refine wm_if_ne X 110 h dX1_block_98 (by decide) (fun c45 h => ?_) (fun c45 h => ?_)
        · refine wm_iinc (v := (v4 + 1)) (ℓ' := [(4, .int (v4 + 1)), (0, va_rf (some h0)), (2, .int v2), (3, .int y3)]) X 3 dX1_block_110 rfl rfl (by decide) rfl ?_
          refine wm_goto X 70 dX1_block_113 (by decide) ?_
          refine wm_sub (ℓ' := [(0, va_rf (some h0)), (2, .int v2), (3, .int y3), (4, .int (v4 + 1))]) [1, 2, 3, 0] rfl ?_
          exact ih _ _ _ _ _ _ _ _ h hC hZ hkx116
        · refine wm_iload_n X 1 dX1_block_101 rfl ?_
          refine wm_iconst (v := 1) X dX1_block_102 (by decide) ?_
          refine wm_iload X 3 dX1_block_103 rfl ?_
          refine wm_ishl X dX1_block_105 ?_
          refine wm_iconst (v := (-1)) X dX1_block_106 (by decide) ?_
          refine wm_ixor X dX1_block_107 ?_
          refine wm_iand X dX1_block_108 ?_
          refine wm_istore_n (ℓ' := [(2, .int (v2 &&& ((1 <<< (v4 &&& 31)) ^^^ (-1)))), (0, va_rf (some h0)), (3, .int y3), (4, .int v4)]) X dX1_block_109 (by decide) rfl ?_
          refine wm_iinc (v := (v4 + 1)) (ℓ' := [(4, .int (v4 + 1)), (2, .int (v2 &&& ((1 <<< (v4 &&& 31)) ^^^ (-1)))), (0, va_rf (some h0)), (3, .int y3)]) X 3 dX1_block_110 rfl rfl (by decide) rfl ?_
          refine wm_goto X 70 dX1_block_113 (by decide) ?_
          refine wm_sub (ℓ' := [(0, va_rf (some h0)), (2, .int (v2 &&& ((1 <<< (v4 &&& 31)) ^^^ (-1)))), (3, .int y3), (4, .int (v4 + 1))]) [2, 1, 3, 0] rfl ?_
          exact ih _ _ _ _ _ _ _ _ h hC hZ hkx116
set_option maxHeartbeats 4000000 in
theorem wX1_block_60 {p : Program} {l : Launch} {e : Env} {s : State} {m : MethodId} {args : Array Value} {below : List Frame} {meth : Method} {c : Code} {D : va_G} {dA : Nat → ClassId} {sz0 : Nat} {ad0 : Nat → Nat} {N0 : Nat} {xo : (Int32 × Mm) ⊕ (Nat × Mm)} {mc ms : Nat} (X : CX p s m args meth c cX1_block 5 RX1) (hS : ST D dA sz0 ad0 s) (hr : meth.sig.returnType = (some FieldType.boolean)) (hnm : meth.name = yX1_block.name) (hl : l.stackTraces = false) (hno : ∀ x ∈ c.exceptionTable.toList, False) (h0 : Nat) : ∀ (n : Nat) (v2 : Int32) (v3 : Int32) (σ : Mm) (kx119 : Int32 → Mm → DX (Int32 × Mm)) (C Z kc kz : Nat), FX1_block_60 h0 n v2 v3 σ kx119 = some (xo, C, Z) → kc + C ≤ mc → kz + Z ≤ ms → (∀ (w2 : Int32) (σ : Mm) (C Z kc kz : Nat), kx119 w2 σ = some (xo, C, Z) → kc + C ≤ mc → kz + Z ≤ ms → WMxi p l e s m args below meth c 7 130 mc ms 5 D dA sz0 ad0 N0 xo kc kz σ [(2, .int w2)] [] 119) → WMxi p l e s m args below meth c 7 130 mc ms 5 D dA sz0 ad0 N0 xo kc kz σ [(0, va_rf (some h0)), (2, .int v2), (3, .int v3)] [] 60 := by
  intro n
  induction n with
  | zero =>
    intro v2 v3 σ kx119 C Z kc kz h hC hZ hkx119
    cases h
  | succ n ih =>
    intro v2 v3 σ kx119 C Z kc kz h hC hZ hkx119
    rw [FX1_block_60] at h
    refine wm_iload_n X 1 dX1_block_60 rfl ?_
    refine wm_iload_n X 2 dX1_block_61 rfl ?_
    refine wm_icmp_eq X 119 h dX1_block_62 (by decide) (fun c49 h => ?_) (fun c49 h => ?_)
    · refine wm_sub (ℓ' := [(2, .int v2)]) [1] rfl ?_
      exact hkx119 _ _ _ _ _ _ h hC hZ
    · refine wm_iload_n X 1 dX1_block_65 rfl ?_
      refine wm_istore_n (ℓ' := [(3, .int v2), (0, va_rf (some h0)), (2, .int v2)]) X dX1_block_66 (by decide) rfl ?_
      refine wm_iconst (v := 0) X dX1_block_67 (by decide) ?_
      refine wm_istore (ℓ' := [(4, .int 0), (3, .int v2), (0, va_rf (some h0)), (2, .int v2)]) X dX1_block_68 (by decide) rfl ?_
      refine wm_sub (ℓ' := [(0, va_rf (some h0)), (2, .int v2), (3, .int v2), (4, .int 0)]) [2, 3, 1, 0] rfl ?_
      refine wX1_block_70 X hS hr hnm hl hno _ _ fu _ _ _ _ _ _ _ _ h hC hZ (fun x48 σ C Z kc kz h hC hZ => ?_)
      · refine wm_goto X 60 dX1_block_116 (by decide) ?_
        exact ih _ _ _ _ _ _ _ _ h hC hZ hkx119
set_option maxHeartbeats 4000000 in
theorem ctX1_block (l : Launch) (hl : l.stackTraces = false) {h0 : Nat} {x1 : Int32} {σ : Mm} {xo : (Int32 × Mm) ⊕ (Nat × Mm)} {mc ms : Nat} (h : FX1_block h0 x1 σ = some (xo, mc, ms)) : CTXi l yX1_block (ws_ yX1_block cX1_block 5 ((some FieldType.boolean))) 7 130 mc ms [va_rf (some h0), .int x1] σ xo := by
  refine ctx_start (n := 1) mdX1_block (Nat.le_of_ble_eq_true rfl) (c1_r (c1_i c1_0)) (fun p e s m args below meth c D dA sz0 ad0 X hS hr hnm hno => ?_)
  have X : CX p s m args meth c cX1_block 5 RX1 := X
  have hC : 0 + mc ≤ mc := Nat.le_of_eq (Nat.zero_add mc)
  have hZ : 0 + ms ≤ ms := Nat.le_of_eq (Nat.zero_add ms)
  generalize mN σ = N0
  unfold FX1_block at h
  refine wm_iload_n X 1 dX1_block_0 rfl ?_
  refine wm_aload_n X 0 dX1_block_1 rfl ?_
  refine wm_gR X hS cd_1 0 h dX1_block_2 (Nat.le_of_ble_eq_true rfl) rfl q434 (fun x21 h => ?_)
  obtain ⟨q22, eq22, h⟩ := Option.bind_eq_some_iff.mp h
  obtain ⟨eq22, s23⟩ := rv_some eq22
  refine wm_cV_i (As := []) (st := [.int x1]) X hS cd_2 s23 rfl h (fun _ _ hF => ctX2_all l hF) mdX2_all mvX2_all q1863 dX1_block_5 rfl (by rw [eq22]; first | done | rfl) (c1_i c1_0) (Nat.le_of_ble_eq_true rfl) ⟨Nat.le_of_ble_eq_true rfl, Nat.le_of_ble_eq_true rfl⟩ ⟨le_p hC, le_p hZ⟩ (fun x24 σ25 _ h => ?_)
  refine wm_iand X dX1_block_8 ?_
  refine wm_istore_n (ℓ' := [(2, .int (x1 &&& x24)), (0, va_rf (some h0)), (1, .int x1)]) X dX1_block_9 (by decide) rfl ?_
  refine wm_iconst (v := 0) X dX1_block_10 (by decide) ?_
  refine wm_istore_n (ℓ' := [(3, .int 0), (2, .int (x1 &&& x24)), (0, va_rf (some h0)), (1, .int x1)]) X dX1_block_11 (by decide) rfl ?_
  refine wm_sub (ℓ' := [(0, va_rf (some h0)), (2, .int (x1 &&& x24)), (3, .int 0)]) [2, 1, 0] rfl ?_
  refine wX1_block_12 X hS hr hnm hl hno _ _ fu _ _ _ _ _ _ _ h hC hZ (fun σ C Z kc kz h hC hZ => ?_)
  · refine wm_iconst (v := (-1)) X dX1_block_58 (by decide) ?_
    refine wm_istore_n (ℓ' := [(3, .int (-1)), (0, va_rf (some h0)), (2, .int (x1 &&& x24))]) X dX1_block_59 (by decide) rfl ?_
    refine wm_sub (ℓ' := [(0, va_rf (some h0)), (2, .int (x1 &&& x24)), (3, .int (-1))]) [1, 2, 0] rfl ?_
    refine wX1_block_60 X hS hr hnm hl hno _ fu _ _ _ _ _ _ _ _ h hC hZ (fun x50 σ C Z kc kz h hC hZ => ?_)
    · refine wm_iload_n X 0 dX1_block_119 rfl ?_
      refine wm_if_eq X 127 h dX1_block_120 (by decide) (fun c51 h => ?_) (fun c51 h => ?_)
      · refine wm_iconst (v := 0) X dX1_block_127 (by decide) ?_
        exact wm_xzret X hr (rZd_e h) dX1_block_128 (le_p hC) (le_p hZ)
      · refine wm_iconst (v := 1) X dX1_block_123 (by decide) ?_
        refine wm_goto X 128 dX1_block_124 (by decide) ?_
        exact wm_xzret X hr (rZd_e h) dX1_block_128 (le_p hC) (le_p hZ)
theorem mdX1_askedOf : MD yX1_askedOf 1 := by unfold MD; decide +kernel
theorem mvX1_askedOf : MV yX1_askedOf cX1_askedOf 2 (none) := ⟨q1888, qs47, q128, q1889⟩
set_option maxHeartbeats 4000000 in
theorem ctX1_askedOf (l : Launch) (hl : l.stackTraces = false) {h0 : Nat} {x1 : Int32} {σ : Mm} {xo : Mm ⊕ (Nat × Mm)} {mc ms : Nat} (h : FX1_askedOf h0 x1 σ = some (xo, mc, ms)) : CTXv l yX1_askedOf (ws_ yX1_askedOf cX1_askedOf 2 (none)) 6 110 mc ms [va_rf (some h0), .int x1] σ xo := by
  refine ctx_start (n := 1) mdX1_askedOf (Nat.le_of_ble_eq_true rfl) (c1_r (c1_i c1_0)) (fun p e s m args below meth c D dA sz0 ad0 X hS hr hnm hno => ?_)
  have X : CX p s m args meth c cX1_askedOf 2 RX1 := X
  have hC : 0 + mc ≤ mc := Nat.le_of_eq (Nat.zero_add mc)
  have hZ : 0 + ms ≤ ms := Nat.le_of_eq (Nat.zero_add ms)
  generalize mN σ = N0
  unfold FX1_askedOf at h
  refine wm_iload_n X 1 dX1_askedOf_0 rfl ?_
  refine wm_iconst (v := 0) X dX1_askedOf_1 (by decide) ?_
  refine wm_aload_n X 0 dX1_askedOf_2 rfl ?_
  refine wm_gR X hS cd_1 0 h dX1_askedOf_3 (Nat.le_of_ble_eq_true rfl) rfl q434 (fun x21 h => ?_)
  refine wm_gIN X hS cd_2 1 h dX1_askedOf_6 (Nat.le_of_ble_eq_true rfl) rfl 1 rfl (fun x22 h => ?_)
  refine wm_iconst (v := 1) X dX1_askedOf_9 (by decide) ?_
  refine wm_isub X dX1_askedOf_10 ?_
  refine wm_cS_i (As := [.int x1, .int 0, .int (x22 - 1)]) (st := []) X hS h (fun _ _ hF => ctX1_in l hF) mdX1_in msX1_in q625 dX1_askedOf_11 rfl rfl c1_0 (Nat.le_of_ble_eq_true rfl) ⟨Nat.le_of_ble_eq_true rfl, Nat.le_of_ble_eq_true rfl⟩ ⟨le_p hC, le_p hZ⟩ (fun x23 σ24 _ h => ?_)
  refine wm_if_eq X 18 h dX1_askedOf_14 (by decide) (fun c29 h => ?_) (fun c29 h => ?_)
  · refine wm_aload_n X 0 dX1_askedOf_18 rfl ?_
    refine wm_gR X hS cd_1 4 h dX1_askedOf_19 (Nat.le_of_ble_eq_true rfl) rfl q441 (fun x25 h => ?_)
    obtain ⟨q26, eq26, h⟩ := Option.bind_eq_some_iff.mp h
    obtain ⟨eq26, s27⟩ := rv_some eq26
    refine wm_cV_v (As := []) (st := []) X hS cd_3 s27 rfl h (fun _ hF => ctX3_begins l hF) mdX3_begins mvX3_begins q716 dX1_askedOf_22 rfl (by rw [eq26]; first | done | rfl) c1_0 (Nat.le_of_ble_eq_true rfl) ⟨Nat.le_of_ble_eq_true rfl, Nat.le_of_ble_eq_true rfl⟩ ⟨le_p hC, le_p hZ⟩ (fun σ28 _ h => ?_)
    obtain ⟨h9, rfl, rfl⟩ := thw_e h
    exact wm_throw0 (k := 2) X hS hl hno h9 rfl at2 q1540 q167 (by decide +kernel) (by decide +kernel) dX1_askedOf_25 dX1_askedOf_28 dX1_askedOf_29 dX1_askedOf_32 c1_0 (Nat.le_of_ble_eq_true rfl) (Nat.le_of_ble_eq_true rfl) (Nat.le_of_ble_eq_true rfl) hC hZ hC hZ
  · exact wm_xvret X hr (rt_e h) dX1_askedOf_17 (le_p hC) (le_p hZ)
theorem mdX1_saidAll : MD yX1_saidAll 0 := by unfold MD; decide +kernel
theorem mvX1_saidAll : MV yX1_saidAll cX1_saidAll 3 ((some FieldType.int)) := ⟨q1892, qs48, q128, q1893⟩
set_option maxHeartbeats 4000000 in
theorem wX1_saidAll_37 {p : Program} {l : Launch} {e : Env} {s : State} {m : MethodId} {args : Array Value} {below : List Frame} {meth : Method} {c : Code} {D : va_G} {dA : Nat → ClassId} {sz0 : Nat} {ad0 : Nat → Nat} {N0 : Nat} {xo : (Int32 × Mm) ⊕ (Nat × Mm)} {mc ms : Nat} (X : CX p s m args meth c cX1_saidAll 3 RX1) (hS : ST D dA sz0 ad0 s) (hr : meth.sig.returnType = (some FieldType.int)) (hnm : meth.name = yX1_saidAll.name) (hl : l.stackTraces = false) (hno : ∀ x ∈ c.exceptionTable.toList, False) (h0 : Nat) (y1 : Option Nat) : ∀ (n : Nat) (v2 : Int32) (σ : Mm) (kx121 : Mm → DX (Int32 × Mm)) (C Z kc kz : Nat), FX1_saidAll_37 h0 y1 n v2 σ kx121 = some (xo, C, Z) → kc + C ≤ mc → kz + Z ≤ ms → (∀  (σ : Mm) (C Z kc kz : Nat), kx121 σ = some (xo, C, Z) → kc + C ≤ mc → kz + Z ≤ ms → WMxi p l e s m args below meth c 7 130 mc ms 3 D dA sz0 ad0 N0 xo kc kz σ [(1, va_rf y1)] [] 121) → WMxi p l e s m args below meth c 7 130 mc ms 3 D dA sz0 ad0 N0 xo kc kz σ [(0, va_rf (some h0)), (1, va_rf y1), (2, .int v2)] [] 37 := by
  intro n
  induction n with
  | zero =>
    intro v2 σ kx121 C Z kc kz h hC hZ hkx121
    cases h
  | succ n ih =>
    intro v2 σ kx121 C Z kc kz h hC hZ hkx121
    rw [FX1_saidAll_37] at h
    refine wm_iload_n X 2 dX1_saidAll_37 rfl ?_
    refine wm_aload_n X 1 dX1_saidAll_38 rfl ?_
    refine wm_gIN X hS cd_3 2 h dX1_saidAll_39 (Nat.le_of_ble_eq_true rfl) rfl 22 rfl (fun x29 h => ?_)
    refine wm_icmp_ge X 121 h dX1_saidAll_42 (by decide) (fun c51 h => ?_) (fun c51 h => ?_)
    · refine wm_sub (ℓ' := [(1, va_rf y1)]) [1] rfl ?_
      exact hkx121 _ _ _ _ _ h hC hZ
    · refine wm_aload_n X 1 dX1_saidAll_45 rfl ?_
      refine wm_gRN X hS cd_3 0 h dX1_saidAll_46 (Nat.le_of_ble_eq_true rfl) rfl 21 rfl (fun x30 h => ?_)
      refine wm_iload_n X 2 dX1_saidAll_49 rfl ?_
      refine wm_baload X hS h dX1_saidAll_50 (fun x31 h => ?_)
      refine wm_iconst (v := 0) X dX1_saidAll_51 (by decide) ?_
      refine wm_aload_n X 0 dX1_saidAll_52 rfl ?_
      refine wm_gR X hS cd_1 0 h dX1_saidAll_53 (Nat.le_of_ble_eq_true rfl) rfl q434 (fun x32 h => ?_)
      refine wm_gIN X hS cd_2 1 h dX1_saidAll_56 (Nat.le_of_ble_eq_true rfl) rfl 1 rfl (fun x33 h => ?_)
      refine wm_iconst (v := 1) X dX1_saidAll_59 (by decide) ?_
      refine wm_isub X dX1_saidAll_60 ?_
      refine wm_cS_i (As := [.int x31, .int 0, .int (x33 - 1)]) (st := []) X hS h (fun _ _ hF => ctX1_in l hF) mdX1_in msX1_in q625 dX1_saidAll_61 rfl rfl c1_0 (Nat.le_of_ble_eq_true rfl) ⟨Nat.le_of_ble_eq_true rfl, Nat.le_of_ble_eq_true rfl⟩ ⟨le_p hC, le_p hZ⟩ (fun x34 σ35 _ h => ?_)
      obtain ⟨J112, eJ112, h⟩ := jn_e h
      have hJ112 : ∀ (z36 : Int32) (σ : Mm) (C Z kc kz : Nat), J112 z36 σ = some (xo, C, Z) → kc + C ≤ mc → kz + Z ≤ ms → WMxi p l e s m args below meth c 7 130 mc ms 3 D dA sz0 ad0 N0 xo kc kz σ [(0, va_rf (some h0)), (1, va_rf y1), (2, .int v2)] [.int z36] 112 := by
        intro z36 σ C Z kc kz h hC hZ
        rw [eJ112] at h
        refine wm_dS_v (As := [.int z36]) (st := []) X hS hno h hC hZ (fun _ _ _ hF => ctX1_demand l hl hF) mdX1_demand msX1_demand q1613 dX1_saidAll_112 rfl rfl c1_0 (Nat.le_of_ble_eq_true rfl) ⟨Nat.le_of_ble_eq_true rfl, Nat.le_of_ble_eq_true rfl⟩ (Nat.le_refl _) (Nat.le_refl _) (fun σ37 c1 z1 C Z _ h hC hZ => ?_)
        refine wm_iinc (v := (v2 + 3)) (ℓ' := [(2, .int (v2 + 3)), (0, va_rf (some h0)), (1, va_rf y1)]) X 2 dX1_saidAll_115 rfl rfl (by decide) rfl ?_
        refine wm_goto X 37 dX1_saidAll_118 (by decide) ?_
        refine wm_sub (ℓ' := [(0, va_rf (some h0)), (1, va_rf y1), (2, .int (v2 + 3))]) [1, 2, 0] rfl ?_
        exact ih _ _ _ _ _ _ _ h hC hZ hkx121
      clear eJ112
      refine wm_if_eq X 111 h dX1_saidAll_64 (by decide) (fun c50 h => ?_) (fun c50 h => ?_)
      · refine wm_iconst (v := 0) X dX1_saidAll_111 (by decide) ?_
        exact hJ112 _ _ _ _ _ _ h hC hZ
      · refine wm_aload_n X 1 dX1_saidAll_67 rfl ?_
        refine wm_gRN X hS cd_3 0 h dX1_saidAll_68 (Nat.le_of_ble_eq_true rfl) rfl 21 rfl (fun x38 h => ?_)
        refine wm_iload_n X 2 dX1_saidAll_71 rfl ?_
        refine wm_iconst (v := 1) X dX1_saidAll_72 (by decide) ?_
        refine wm_iadd X dX1_saidAll_73 ?_
        refine wm_baload X hS h dX1_saidAll_74 (fun x39 h => ?_)
        refine wm_iconst (v := 0) X dX1_saidAll_75 (by decide) ?_
        refine wm_aload_n X 0 dX1_saidAll_76 rfl ?_
        refine wm_gR X hS cd_1 0 h dX1_saidAll_77 (Nat.le_of_ble_eq_true rfl) rfl q434 (fun x40 h => ?_)
        refine wm_gIN X hS cd_2 1 h dX1_saidAll_80 (Nat.le_of_ble_eq_true rfl) rfl 1 rfl (fun x41 h => ?_)
        refine wm_iconst (v := 1) X dX1_saidAll_83 (by decide) ?_
        refine wm_isub X dX1_saidAll_84 ?_
        refine wm_cS_i (As := [.int x39, .int 0, .int (x41 - 1)]) (st := []) X hS h (fun _ _ hF => ctX1_in l hF) mdX1_in msX1_in q625 dX1_saidAll_85 rfl rfl c1_0 (Nat.le_of_ble_eq_true rfl) ⟨Nat.le_of_ble_eq_true rfl, Nat.le_of_ble_eq_true rfl⟩ ⟨le_p hC, le_p hZ⟩ (fun x42 σ43 _ h => ?_)
        refine wm_if_eq X 111 h dX1_saidAll_88 (by decide) (fun c49 h => ?_) (fun c49 h => ?_)
        · refine wm_iconst (v := 0) X dX1_saidAll_111 (by decide) ?_
          exact hJ112 _ _ _ _ _ _ h hC hZ
        · refine wm_aload_n X 1 dX1_saidAll_91 rfl ?_
          refine wm_gRN X hS cd_3 0 h dX1_saidAll_92 (Nat.le_of_ble_eq_true rfl) rfl 21 rfl (fun x44 h => ?_)
          refine wm_iload_n X 2 dX1_saidAll_95 rfl ?_
          refine wm_iconst (v := 2) X dX1_saidAll_96 (by decide) ?_
          refine wm_iadd X dX1_saidAll_97 ?_
          refine wm_baload X hS h dX1_saidAll_98 (fun x45 h => ?_)
          refine wm_iconst (v := 0) X dX1_saidAll_99 (by decide) ?_
          refine wm_iconst (v := 1) X dX1_saidAll_100 (by decide) ?_
          refine wm_cS_i (As := [.int x45, .int 0, .int 1]) (st := []) X hS h (fun _ _ hF => ctX1_in l hF) mdX1_in msX1_in q625 dX1_saidAll_101 rfl rfl c1_0 (Nat.le_of_ble_eq_true rfl) ⟨Nat.le_of_ble_eq_true rfl, Nat.le_of_ble_eq_true rfl⟩ ⟨le_p hC, le_p hZ⟩ (fun x46 σ47 _ h => ?_)
          refine wm_if_eq X 111 h dX1_saidAll_104 (by decide) (fun c48 h => ?_) (fun c48 h => ?_)
          · refine wm_iconst (v := 0) X dX1_saidAll_111 (by decide) ?_
            exact hJ112 _ _ _ _ _ _ h hC hZ
          · refine wm_iconst (v := 1) X dX1_saidAll_107 (by decide) ?_
            refine wm_goto X 112 dX1_saidAll_108 (by decide) ?_
            exact hJ112 _ _ _ _ _ _ h hC hZ
set_option maxHeartbeats 4000000 in
theorem ctX1_saidAll (l : Launch) (hl : l.stackTraces = false) {h0 : Nat} {σ : Mm} {xo : (Int32 × Mm) ⊕ (Nat × Mm)} {mc ms : Nat} (h : FX1_saidAll h0 σ = some (xo, mc, ms)) : CTXi l yX1_saidAll (ws_ yX1_saidAll cX1_saidAll 3 ((some FieldType.int))) 7 130 mc ms [va_rf (some h0)] σ xo := by
  refine ctx_start (n := 0) mdX1_saidAll (Nat.le_of_ble_eq_true rfl) (c1_r c1_0) (fun p e s m args below meth c D dA sz0 ad0 X hS hr hnm hno => ?_)
  have X : CX p s m args meth c cX1_saidAll 3 RX1 := X
  have hC : 0 + mc ≤ mc := Nat.le_of_eq (Nat.zero_add mc)
  have hZ : 0 + ms ≤ ms := Nat.le_of_eq (Nat.zero_add ms)
  generalize mN σ = N0
  unfold FX1_saidAll at h
  refine wm_aload_n X 0 dX1_saidAll_0 rfl ?_
  refine wm_gR X hS cd_1 4 h dX1_saidAll_1 (Nat.le_of_ble_eq_true rfl) rfl q441 (fun x21 h => ?_)
  refine wm_astore_n (ℓ' := [(1, va_rf x21), (0, va_rf (some h0))]) X dX1_saidAll_4 (by decide) rfl ?_
  refine wm_aload_n X 0 dX1_saidAll_5 rfl ?_
  obtain ⟨q22, eq22, h⟩ := Option.bind_eq_some_iff.mp h
  obtain ⟨eq22, s23⟩ := rv_some eq22
  refine wm_cV_v (As := []) (st := []) X hS cd_3 s23 rfl h (fun _ hF => ctX3_begins l hF) mdX3_begins mvX3_begins q716 dX1_saidAll_6 rfl (by rw [eq22]; first | done | rfl) c1_0 (Nat.le_of_ble_eq_true rfl) ⟨Nat.le_of_ble_eq_true rfl, Nat.le_of_ble_eq_true rfl⟩ ⟨le_p hC, le_p hZ⟩ (fun σ24 _ h => ?_)
  refine wm_aload_n X 0 dX1_saidAll_9 rfl ?_
  refine wm_gIN X hS cd_3 2 h dX1_saidAll_10 (Nat.le_of_ble_eq_true rfl) rfl 22 rfl (fun x25 h => ?_)
  refine wm_iconst (v := 3) X dX1_saidAll_13 (by decide) ?_
  refine wm_irem X h dX1_saidAll_14 (fun x26 h => ?_)
  obtain ⟨J32, eJ32, h⟩ := jn_e h
  have hJ32 : ∀ (z27 : Int32) (σ : Mm) (C Z kc kz : Nat), J32 z27 σ = some (xo, C, Z) → kc + C ≤ mc → kz + Z ≤ ms → WMxi p l e s m args below meth c 7 130 mc ms 3 D dA sz0 ad0 N0 xo kc kz σ [(0, va_rf (some h0)), (1, va_rf x21)] [.int z27] 32 := by
    intro z27 σ C Z kc kz h hC hZ
    rw [eJ32] at h
    refine wm_dS_v (As := [.int z27]) (st := []) X hS hno h hC hZ (fun _ _ _ hF => ctX1_demand l hl hF) mdX1_demand msX1_demand q1613 dX1_saidAll_32 rfl rfl c1_0 (Nat.le_of_ble_eq_true rfl) ⟨Nat.le_of_ble_eq_true rfl, Nat.le_of_ble_eq_true rfl⟩ (Nat.le_refl _) (Nat.le_refl _) (fun σ28 c1 z1 C Z _ h hC hZ => ?_)
    refine wm_iconst (v := 0) X dX1_saidAll_35 (by decide) ?_
    refine wm_istore_n (ℓ' := [(2, .int 0), (0, va_rf (some h0)), (1, va_rf x21)]) X dX1_saidAll_36 (by decide) rfl ?_
    refine wm_sub (ℓ' := [(0, va_rf (some h0)), (1, va_rf x21), (2, .int 0)]) [1, 2, 0] rfl ?_
    refine wX1_saidAll_37 X hS hr hnm hl hno _ _ fu _ _ _ _ _ _ _ h hC hZ (fun σ C Z kc kz h hC hZ => ?_)
    · refine wm_iconst (v := 1) X dX1_saidAll_121 (by decide) ?_
      refine wm_aload_n X 0 dX1_saidAll_122 rfl ?_
      refine wm_gIN X hS cd_3 2 h dX1_saidAll_123 (Nat.le_of_ble_eq_true rfl) rfl 22 rfl (fun x52 h => ?_)
      refine wm_iconst (v := 3) X dX1_saidAll_126 (by decide) ?_
      refine wm_idiv X h dX1_saidAll_127 (fun x53 h => ?_)
      refine wm_ishl X dX1_saidAll_128 ?_
      refine wm_iconst (v := 1) X dX1_saidAll_129 (by decide) ?_
      refine wm_isub X dX1_saidAll_130 ?_
      exact wm_xiret X hr (rt_e h) dX1_saidAll_131 (le_p hC) (le_p hZ)
  clear eJ32
  refine wm_if_ne X 31 h dX1_saidAll_15 (by decide) (fun c56 h => ?_) (fun c56 h => ?_)
  · refine wm_iconst (v := 0) X dX1_saidAll_31 (by decide) ?_
    refine wm_sub (ℓ' := [(0, va_rf (some h0)), (1, va_rf x21)]) [1, 0] rfl ?_
    exact hJ32 _ _ _ _ _ _ h hC hZ
  · refine wm_aload_n X 0 dX1_saidAll_18 rfl ?_
    refine wm_gIN X hS cd_3 2 h dX1_saidAll_19 (Nat.le_of_ble_eq_true rfl) rfl 22 rfl (fun x54 h => ?_)
    refine wm_bipush (v := 36) X dX1_saidAll_22 (by decide) ?_
    refine wm_icmp_gt X 31 h dX1_saidAll_24 (by decide) (fun c55 h => ?_) (fun c55 h => ?_)
    · refine wm_iconst (v := 0) X dX1_saidAll_31 (by decide) ?_
      refine wm_sub (ℓ' := [(0, va_rf (some h0)), (1, va_rf x21)]) [1, 0] rfl ?_
      exact hJ32 _ _ _ _ _ _ h hC hZ
    · refine wm_iconst (v := 1) X dX1_saidAll_27 (by decide) ?_
      refine wm_goto X 32 dX1_saidAll_28 (by decide) ?_
      refine wm_sub (ℓ' := [(0, va_rf (some h0)), (1, va_rf x21)]) [1, 0] rfl ?_
      exact hJ32 _ _ _ _ _ _ h hC hZ
theorem mdX6_says : MD yX6_says 3 := by unfold MD; decide +kernel
theorem mvX6_says : MV yX6_says cX6_says 4 (none) := ⟨q1903, qs49, q137, q1904⟩
set_option maxHeartbeats 4000000 in
theorem ctX6_says (l : Launch) {h0 : Nat} {x1 : Int32} {x2 : Int32} {x3 : Int32} {σ σf : Mm} (h : FX6_says h0 x1 x2 x3 σ = some σf) : CTv l yX6_says (ws_ yX6_says cX6_says 4 (none)) 0 0 0 0 [va_rf (some h0), .int x1, .int x2, .int x3] σ σf := by
  refine ct_start (n := 3) mdX6_says (Nat.le_of_ble_eq_true rfl) (c1_r (c1_i (c1_i (c1_i c1_0)))) (fun p e s m args below meth c D dA sz0 ad0 X hS hr hnm => ?_)
  have X : CX p s m args meth c cX6_says 4 RX6 := X
  generalize mN σ = N0
  unfold FX6_says at h
  refine wm_aload_n X 0 dX6_says_0 rfl ?_
  refine wm_gR X hS cd_6 0 h dX6_says_1 (Nat.le_of_ble_eq_true rfl) rfl q404 (fun x21 h => ?_)
  refine wm_iload_n X 1 dX6_says_4 rfl ?_
  refine wm_dup2 X dX6_says_5 rfl (catR _) ?_
  refine wm_iaload X hS h dX6_says_6 (fun x22 h => ?_)
  refine wm_iload_n X 3 dX6_says_7 rfl ?_
  obtain ⟨J22, eJ22, h⟩ := jn_e h
  have hJ22 : ∀ (z23 : Int32) (σ : Mm), J22 z23 σ = some σf → WMv p l e s m args below meth c 0 0 0 0 4 D dA sz0 ad0 N0 σf 0 0 σ [] [.int z23, .int x22, .int x1, va_rf x21] 22 := by
    intro z23 σ h
    rw [eJ22] at h
    refine wm_iand X dX6_says_22 ?_
    refine wm_iastore X hS h dX6_says_23 (fun σ24 _ h => ?_)
    exact wm_vret X hr h dX6_says_24 (Nat.le_of_ble_eq_true rfl) (Nat.le_of_ble_eq_true rfl)
  clear eJ22
  refine wm_if_eq X 17 h dX6_says_8 (by decide) (fun c25 h => ?_) (fun c25 h => ?_)
  · refine wm_iconst (v := 1) X dX6_says_17 (by decide) ?_
    refine wm_iload_n X 2 dX6_says_18 rfl ?_
    refine wm_ishl X dX6_says_19 ?_
    refine wm_iconst (v := (-1)) X dX6_says_20 (by decide) ?_
    refine wm_ixor X dX6_says_21 ?_
    refine wm_sub (ℓ' := []) [] rfl ?_
    exact hJ22 _ _ h
  · refine wm_iconst (v := 1) X dX6_says_11 (by decide) ?_
    refine wm_iload_n X 2 dX6_says_12 rfl ?_
    refine wm_ishl X dX6_says_13 ?_
    refine wm_goto X 22 dX6_says_14 (by decide) ?_
    refine wm_sub (ℓ' := []) [] rfl ?_
    exact hJ22 _ _ h
theorem mdX6_by : MD yX6_by 1 := by unfold MD; decide +kernel
theorem mvX6_by : MV yX6_by cX6_by 3 ((some (FieldType.object "HungFaces$Owners"))) := ⟨q1895, q1896, q137, q1897⟩
set_option maxHeartbeats 4000000 in
theorem wX6_by_19 {p : Program} {l : Launch} {e : Env} {s : State} {m : MethodId} {args : Array Value} {below : List Frame} {meth : Method} {c : Code} {D : va_G} {dA : Nat → ClassId} {sz0 : Nat} {ad0 : Nat → Nat} {N0 : Nat} {r : Option Nat} {σf : Mm} (X : CX p s m args meth c cX6_by 3 RX6) (hS : ST D dA sz0 ad0 s) (hr : meth.sig.returnType = (some (FieldType.object "HungFaces$Owners"))) (hnm : meth.name = yX6_by.name) (h0 : Nat) (y1 : Int32) : ∀ (n : Nat) (v2 : Int32) (σ : Mm) (kx108 : Mm → Option (Option Nat × Mm)), FX6_by_19 h0 y1 n v2 σ kx108 = some (r, σf) → (∀  (σ : Mm), kx108 σ = some (r, σf) → WMr p l e s m args below meth c 1 23 0 0 3 D dA sz0 ad0 N0 r σf 0 0 σ [(0, va_rf (some h0))] [] 108) → WMr p l e s m args below meth c 1 23 0 0 3 D dA sz0 ad0 N0 r σf 0 0 σ [(0, va_rf (some h0)), (1, .int y1), (2, .int v2)] [] 19 := by
  intro n
  induction n with
  | zero =>
    intro v2 σ kx108 h hkx108
    cases h
  | succ n ih =>
    intro v2 σ kx108 h hkx108
    rw [FX6_by_19] at h
    refine wm_iconst (v := 3) X dX6_by_19 (by decide) ?_
    refine wm_iload_n X 2 dX6_by_20 rfl ?_
    refine wm_imul X dX6_by_21 ?_
    refine wm_aload_n X 0 dX6_by_22 rfl ?_
    refine wm_gR X hS cd_6 2 h dX6_by_23 (Nat.le_of_ble_eq_true rfl) rfl q406 (fun x29 h => ?_)
    refine wm_gRN X hS cd_1 4 h dX6_by_26 (Nat.le_of_ble_eq_true rfl) rfl 62 rfl (fun x30 h => ?_)
    refine wm_gIN X hS cd_3 2 h dX6_by_29 (Nat.le_of_ble_eq_true rfl) rfl 60 rfl (fun x31 h => ?_)
    refine wm_icmp_ge X 108 h dX6_by_32 (by decide) (fun c51 h => ?_) (fun c51 h => ?_)
    · refine wm_sub (ℓ' := [(0, va_rf (some h0))]) [0] rfl ?_
      exact hkx108 _ h
    · refine wm_iload_n X 1 dX6_by_35 rfl ?_
      refine wm_iload_n X 2 dX6_by_36 rfl ?_
      refine wm_cSN_i (As := [.int y1, .int v2]) (st := []) X hS h (fun _ _ hF => ctX1_has l hF) mdX1_has msX1_has 63 rfl dX6_by_37 rfl rfl c1_0 (Nat.le_of_ble_eq_true rfl) ⟨Nat.le_of_ble_eq_true rfl, Nat.le_of_ble_eq_true rfl⟩ ⟨Nat.le_of_ble_eq_true rfl, Nat.le_of_ble_eq_true rfl⟩ (fun x32 σ33 _ h => ?_)
      refine wm_if_eq X 102 h dX6_by_40 (by decide) (fun c50 h => ?_) (fun c50 h => ?_)
      · refine wm_iinc (v := (v2 + 1)) (ℓ' := [(2, .int (v2 + 1)), (0, va_rf (some h0)), (1, .int y1)]) X 2 dX6_by_102 rfl rfl (by decide) rfl ?_
        refine wm_goto X 19 dX6_by_105 (by decide) ?_
        refine wm_sub (ℓ' := [(0, va_rf (some h0)), (1, .int y1), (2, .int (v2 + 1))]) [1, 2, 0] rfl ?_
        exact ih _ _ _ h hkx108
      · refine wm_aload_n X 0 dX6_by_43 rfl ?_
        refine wm_aload_n X 0 dX6_by_44 rfl ?_
        refine wm_gR X hS cd_6 2 h dX6_by_45 (Nat.le_of_ble_eq_true rfl) rfl q406 (fun x34 h => ?_)
        refine wm_gRN X hS cd_1 4 h dX6_by_48 (Nat.le_of_ble_eq_true rfl) rfl 62 rfl (fun x35 h => ?_)
        refine wm_gRN X hS cd_3 0 h dX6_by_51 (Nat.le_of_ble_eq_true rfl) rfl 59 rfl (fun x36 h => ?_)
        refine wm_iconst (v := 3) X dX6_by_54 (by decide) ?_
        refine wm_iload_n X 2 dX6_by_55 rfl ?_
        refine wm_imul X dX6_by_56 ?_
        refine wm_baload X hS h dX6_by_57 (fun x37 h => ?_)
        refine wm_aload_n X 0 dX6_by_58 rfl ?_
        refine wm_gR X hS cd_6 2 h dX6_by_59 (Nat.le_of_ble_eq_true rfl) rfl q406 (fun x38 h => ?_)
        refine wm_gRN X hS cd_1 4 h dX6_by_62 (Nat.le_of_ble_eq_true rfl) rfl 62 rfl (fun x39 h => ?_)
        refine wm_gRN X hS cd_3 0 h dX6_by_65 (Nat.le_of_ble_eq_true rfl) rfl 59 rfl (fun x40 h => ?_)
        refine wm_iconst (v := 3) X dX6_by_68 (by decide) ?_
        refine wm_iload_n X 2 dX6_by_69 rfl ?_
        refine wm_imul X dX6_by_70 ?_
        refine wm_iconst (v := 1) X dX6_by_71 (by decide) ?_
        refine wm_iadd X dX6_by_72 ?_
        refine wm_baload X hS h dX6_by_73 (fun x41 h => ?_)
        refine wm_aload_n X 0 dX6_by_74 rfl ?_
        refine wm_gR X hS cd_6 2 h dX6_by_75 (Nat.le_of_ble_eq_true rfl) rfl q406 (fun x42 h => ?_)
        refine wm_gRN X hS cd_1 4 h dX6_by_78 (Nat.le_of_ble_eq_true rfl) rfl 62 rfl (fun x43 h => ?_)
        refine wm_gRN X hS cd_3 0 h dX6_by_81 (Nat.le_of_ble_eq_true rfl) rfl 59 rfl (fun x44 h => ?_)
        refine wm_iconst (v := 3) X dX6_by_84 (by decide) ?_
        refine wm_iload_n X 2 dX6_by_85 rfl ?_
        refine wm_imul X dX6_by_86 ?_
        refine wm_iconst (v := 2) X dX6_by_87 (by decide) ?_
        refine wm_iadd X dX6_by_88 ?_
        refine wm_baload X hS h dX6_by_89 (fun x45 h => ?_)
        refine wm_iconst (v := 1) X dX6_by_90 (by decide) ?_
        obtain ⟨J99, eJ99, h⟩ := jn_e h
        have hJ99 : ∀ (z46 : Int32) (σ : Mm), J99 z46 σ = some (r, σf) → WMr p l e s m args below meth c 1 23 0 0 3 D dA sz0 ad0 N0 r σf 0 0 σ [(0, va_rf (some h0)), (1, .int y1), (2, .int v2)] [.int z46, .int x41, .int x37, va_rf (some h0)] 99 := by
          intro z46 σ h
          rw [eJ99] at h
          obtain ⟨s47, h⟩ := ck_e h
          refine wm_cV_v (As := [.int x37, .int x41, .int z46]) (st := []) X hS cd_6 s47 rfl h (fun _ hF => ctX6_says l hF) mdX6_says mvX6_says q1901 dX6_by_99 rfl rfl c1_0 (Nat.le_of_ble_eq_true rfl) ⟨Nat.le_of_ble_eq_true rfl, Nat.le_of_ble_eq_true rfl⟩ ⟨Nat.le_of_ble_eq_true rfl, Nat.le_of_ble_eq_true rfl⟩ (fun σ48 _ h => ?_)
          refine wm_iinc (v := (v2 + 1)) (ℓ' := [(2, .int (v2 + 1)), (0, va_rf (some h0)), (1, .int y1)]) X 2 dX6_by_102 rfl rfl (by decide) rfl ?_
          refine wm_goto X 19 dX6_by_105 (by decide) ?_
          refine wm_sub (ℓ' := [(0, va_rf (some h0)), (1, .int y1), (2, .int (v2 + 1))]) [1, 2, 0] rfl ?_
          exact ih _ _ _ h hkx108
        clear eJ99
        refine wm_icmp_ne X 98 h dX6_by_91 (by decide) (fun c49 h => ?_) (fun c49 h => ?_)
        · refine wm_iconst (v := 0) X dX6_by_98 (by decide) ?_
          exact hJ99 _ _ h
        · refine wm_iconst (v := 1) X dX6_by_94 (by decide) ?_
          refine wm_goto X 99 dX6_by_95 (by decide) ?_
          exact hJ99 _ _ h
set_option maxHeartbeats 4000000 in
theorem ctX6_by (l : Launch) {h0 : Nat} {x1 : Int32} {σ σf : Mm} {r : Option Nat} (h : FX6_by h0 x1 σ = some (r, σf)) : CTr l yX6_by (ws_ yX6_by cX6_by 3 ((some (FieldType.object "HungFaces$Owners")))) 1 23 0 0 [va_rf (some h0), .int x1] σ r σf := by
  refine ct_start (n := 1) mdX6_by (Nat.le_of_ble_eq_true rfl) (c1_r (c1_i c1_0)) (fun p e s m args below meth c D dA sz0 ad0 X hS hr hnm => ?_)
  have X : CX p s m args meth c cX6_by 3 RX6 := X
  generalize mN σ = N0
  unfold FX6_by at h
  refine wm_aload_n X 0 dX6_by_0 rfl ?_
  refine wm_gR X hS cd_6 0 h dX6_by_1 (Nat.le_of_ble_eq_true rfl) rfl q404 (fun x21 h => ?_)
  refine wm_aload_n X 0 dX6_by_4 rfl ?_
  refine wm_gR X hS cd_6 2 h dX6_by_5 (Nat.le_of_ble_eq_true rfl) rfl q406 (fun x22 h => ?_)
  refine wm_gRN X hS cd_1 0 h dX6_by_8 (Nat.le_of_ble_eq_true rfl) rfl 61 rfl (fun x23 h => ?_)
  obtain ⟨q24, eq24, h⟩ := Option.bind_eq_some_iff.mp h
  obtain ⟨eq24, s25⟩ := rv_some eq24
  refine wm_cV_i (As := []) (st := [va_rf x21]) X hS cd_2 s25 rfl h (fun _ _ hF => ctX2_all l hF) mdX2_all mvX2_all q1898 dX6_by_11 rfl (by rw [eq24]; first | done | rfl) (c1_r c1_0) (Nat.le_of_ble_eq_true rfl) ⟨Nat.le_of_ble_eq_true rfl, Nat.le_of_ble_eq_true rfl⟩ ⟨Nat.le_of_ble_eq_true rfl, Nat.le_of_ble_eq_true rfl⟩ (fun x26 σ27 _ h => ?_)
  refine wm_cS_v (As := [va_rf x21, .int x26]) (st := []) X hS h (fun _ hF => ctJ0_fill l hF) mdJ0_fill msJ0_fill q1899 dX6_by_14 rfl rfl c1_0 (Nat.le_of_ble_eq_true rfl) ⟨Nat.le_of_ble_eq_true rfl, Nat.le_of_ble_eq_true rfl⟩ ⟨Nat.le_of_ble_eq_true rfl, Nat.le_of_ble_eq_true rfl⟩ (fun σ28 _ h => ?_)
  refine wm_iconst (v := 0) X dX6_by_17 (by decide) ?_
  refine wm_istore_n (ℓ' := [(2, .int 0), (0, va_rf (some h0)), (1, .int x1)]) X dX6_by_18 (by decide) rfl ?_
  refine wm_sub (ℓ' := [(0, va_rf (some h0)), (1, .int x1), (2, .int 0)]) [1, 2, 0] rfl ?_
  refine wX6_by_19 X hS hr hnm _ _ fu _ _ _ h (fun σ h => ?_)
  · refine wm_aload_n X 0 dX6_by_108 rfl ?_
    exact wm_aret X hr (Or.inl ⟨_, rfl⟩) h dX6_by_109 (Nat.le_of_ble_eq_true rfl) (Nat.le_of_ble_eq_true rfl)
theorem mdX6_many : MD yX6_many 0 := by unfold MD; decide +kernel
theorem mvX6_many : MV yX6_many cX6_many 5 ((some FieldType.int)) := ⟨q1906, q1907, q137, q1908⟩
set_option maxHeartbeats 4000000 in
theorem wX6_many_43 {p : Program} {l : Launch} {e : Env} {s : State} {m : MethodId} {args : Array Value} {below : List Frame} {meth : Method} {c : Code} {D : va_G} {dA : Nat → ClassId} {sz0 : Nat} {ad0 : Nat → Nat} {N0 : Nat} {r : Int32} {σf : Mm} (X : CX p s m args meth c cX6_many 5 RX6) (hS : ST D dA sz0 ad0 s) (hr : meth.sig.returnType = (some FieldType.int)) (hnm : meth.name = yX6_many.name) (h0 : Nat) (y1 : Int32) (y2 : Int32) : ∀ (n : Nat) (v3 : Int32) (v4 : Int32) (σ : Mm) (kx115 : Int32 → Mm → Option (Int32 × Mm)), FX6_many_43 h0 y1 y2 n v3 v4 σ kx115 = some (r, σf) → (∀ (w3 : Int32) (σ : Mm), kx115 w3 σ = some (r, σf) → WMi p l e s m args below meth c 1 21 0 0 5 D dA sz0 ad0 N0 r σf 0 0 σ [(0, va_rf (some h0)), (1, .int y1), (3, .int w3)] [] 115) → WMi p l e s m args below meth c 1 21 0 0 5 D dA sz0 ad0 N0 r σf 0 0 σ [(0, va_rf (some h0)), (1, .int y1), (2, .int y2), (3, .int v3), (4, .int v4)] [] 43 := by
  intro n
  induction n with
  | zero =>
    intro v3 v4 σ kx115 h hkx115
    cases h
  | succ n ih =>
    intro v3 v4 σ kx115 h hkx115
    rw [FX6_many_43] at h
    refine wm_iload X 4 dX6_many_43 rfl ?_
    refine wm_aload_n X 0 dX6_many_45 rfl ?_
    refine wm_gR X hS cd_6 2 h dX6_many_46 (Nat.le_of_ble_eq_true rfl) rfl q406 (fun x36 h => ?_)
    refine wm_gRN X hS cd_1 0 h dX6_many_49 (Nat.le_of_ble_eq_true rfl) rfl 61 rfl (fun x37 h => ?_)
    refine wm_gIN X hS cd_2 1 h dX6_many_52 (Nat.le_of_ble_eq_true rfl) rfl 58 rfl (fun x38 h => ?_)
    refine wm_icmp_ge X 115 h dX6_many_55 (by decide) (fun c53 h => ?_) (fun c53 h => ?_)
    · refine wm_sub (ℓ' := [(0, va_rf (some h0)), (1, .int y1), (3, .int v3)]) [0, 1, 3] rfl ?_
      exact hkx115 _ _ h
    · refine wm_iload_n X 2 dX6_many_58 rfl ?_
      refine wm_aload_n X 0 dX6_many_59 rfl ?_
      refine wm_gR X hS cd_6 2 h dX6_many_60 (Nat.le_of_ble_eq_true rfl) rfl q406 (fun x39 h => ?_)
      refine wm_gRN X hS cd_1 0 h dX6_many_63 (Nat.le_of_ble_eq_true rfl) rfl 61 rfl (fun x40 h => ?_)
      refine wm_gIN X hS cd_2 1 h dX6_many_66 (Nat.le_of_ble_eq_true rfl) rfl 58 rfl (fun x41 h => ?_)
      refine wm_icmp_ge X 115 h dX6_many_69 (by decide) (fun c52 h => ?_) (fun c52 h => ?_)
      · refine wm_sub (ℓ' := [(0, va_rf (some h0)), (1, .int y1), (3, .int v3)]) [0, 1, 3] rfl ?_
        exact hkx115 _ _ h
      · refine wm_iload_n X 1 dX6_many_72 rfl ?_
        refine wm_iload X 4 dX6_many_73 rfl ?_
        refine wm_cSN_i (As := [.int y1, .int v4]) (st := []) X hS h (fun _ _ hF => ctX1_has l hF) mdX1_has msX1_has 63 rfl dX6_many_75 rfl rfl c1_0 (Nat.le_of_ble_eq_true rfl) ⟨Nat.le_of_ble_eq_true rfl, Nat.le_of_ble_eq_true rfl⟩ ⟨Nat.le_of_ble_eq_true rfl, Nat.le_of_ble_eq_true rfl⟩ (fun x42 σ43 _ h => ?_)
        refine wm_if_ne X 109 h dX6_many_78 (by decide) (fun c51 h => ?_) (fun c51 h => ?_)
        · refine wm_iinc (v := (v4 + 1)) (ℓ' := [(4, .int (v4 + 1)), (0, va_rf (some h0)), (1, .int y1), (2, .int y2), (3, .int v3)]) X 4 dX6_many_109 rfl rfl (by decide) rfl ?_
          refine wm_goto X 43 dX6_many_112 (by decide) ?_
          refine wm_sub (ℓ' := [(0, va_rf (some h0)), (1, .int y1), (2, .int y2), (3, .int v3), (4, .int (v4 + 1))]) [1, 2, 3, 4, 0] rfl ?_
          exact ih _ _ _ _ h hkx115
        · refine wm_aload_n X 0 dX6_many_81 rfl ?_
          refine wm_gR X hS cd_6 0 h dX6_many_82 (Nat.le_of_ble_eq_true rfl) rfl q404 (fun x44 h => ?_)
          refine wm_iload_n X 2 dX6_many_85 rfl ?_
          refine wm_iaload X hS h dX6_many_86 (fun x45 h => ?_)
          refine wm_iload X 4 dX6_many_87 rfl ?_
          refine wm_cSN_i (As := [.int x45, .int v4]) (st := []) X hS h (fun _ _ hF => ctX1_has l hF) mdX1_has msX1_has 63 rfl dX6_many_89 rfl rfl c1_0 (Nat.le_of_ble_eq_true rfl) ⟨Nat.le_of_ble_eq_true rfl, Nat.le_of_ble_eq_true rfl⟩ ⟨Nat.le_of_ble_eq_true rfl, Nat.le_of_ble_eq_true rfl⟩ (fun x46 σ47 _ h => ?_)
          refine wm_if_eq X 109 h dX6_many_92 (by decide) (fun c50 h => ?_) (fun c50 h => ?_)
          · refine wm_iinc (v := (v4 + 1)) (ℓ' := [(4, .int (v4 + 1)), (0, va_rf (some h0)), (1, .int y1), (2, .int y2), (3, .int v3)]) X 4 dX6_many_109 rfl rfl (by decide) rfl ?_
            refine wm_goto X 43 dX6_many_112 (by decide) ?_
            refine wm_sub (ℓ' := [(0, va_rf (some h0)), (1, .int y1), (2, .int y2), (3, .int v3), (4, .int (v4 + 1))]) [1, 2, 3, 4, 0] rfl ?_
            exact ih _ _ _ _ h hkx115
          · refine wm_iload_n X 3 dX6_many_95 rfl ?_
            refine wm_aload_n X 0 dX6_many_96 rfl ?_
            refine wm_gR X hS cd_6 1 h dX6_many_97 (Nat.le_of_ble_eq_true rfl) rfl q405 (fun x48 h => ?_)
            refine wm_iload_n X 1 dX6_many_100 rfl ?_
            refine wm_iconst (v := 1) X dX6_many_101 (by decide) ?_
            refine wm_iload X 4 dX6_many_102 rfl ?_
            refine wm_ishl X dX6_many_104 ?_
            refine wm_ior X dX6_many_105 ?_
            refine wm_iaload X hS h dX6_many_106 (fun x49 h => ?_)
            refine wm_iadd X dX6_many_107 ?_
            refine wm_istore_n (ℓ' := [(3, .int (v3 + x49)), (0, va_rf (some h0)), (1, .int y1), (2, .int y2), (4, .int v4)]) X dX6_many_108 (by decide) rfl ?_
            refine wm_iinc (v := (v4 + 1)) (ℓ' := [(4, .int (v4 + 1)), (3, .int (v3 + x49)), (0, va_rf (some h0)), (1, .int y1), (2, .int y2)]) X 4 dX6_many_109 rfl rfl (by decide) rfl ?_
            refine wm_goto X 43 dX6_many_112 (by decide) ?_
            refine wm_sub (ℓ' := [(0, va_rf (some h0)), (1, .int y1), (2, .int y2), (3, .int (v3 + x49)), (4, .int (v4 + 1))]) [2, 3, 4, 1, 0] rfl ?_
            exact ih _ _ _ _ h hkx115
set_option maxHeartbeats 4000000 in
theorem wX6_many_11 {p : Program} {l : Launch} {e : Env} {s : State} {m : MethodId} {args : Array Value} {below : List Frame} {meth : Method} {c : Code} {D : va_G} {dA : Nat → ClassId} {sz0 : Nat} {ad0 : Nat → Nat} {N0 : Nat} {r : Int32} {σf : Mm} (X : CX p s m args meth c cX6_many 5 RX6) (hS : ST D dA sz0 ad0 s) (hr : meth.sig.returnType = (some FieldType.int)) (hnm : meth.name = yX6_many.name) (h0 : Nat) : ∀ (n : Nat) (v1 : Int32) (σ : Mm) (kx128 : Mm → Option (Int32 × Mm)), FX6_many_11 h0 n v1 σ kx128 = some (r, σf) → (∀  (σ : Mm), kx128 σ = some (r, σf) → WMi p l e s m args below meth c 1 21 0 0 5 D dA sz0 ad0 N0 r σf 0 0 σ [(0, va_rf (some h0))] [] 128) → WMi p l e s m args below meth c 1 21 0 0 5 D dA sz0 ad0 N0 r σf 0 0 σ [(0, va_rf (some h0)), (1, .int v1)] [] 11 := by
  intro n
  induction n with
  | zero =>
    intro v1 σ kx128 h hkx128
    cases h
  | succ n ih =>
    intro v1 σ kx128 h hkx128
    rw [FX6_many_11] at h
    refine wm_iload_n X 1 dX6_many_11 rfl ?_
    refine wm_if_lt X 128 h dX6_many_12 (by decide) (fun c58 h => ?_) (fun c58 h => ?_)
    · refine wm_sub (ℓ' := [(0, va_rf (some h0))]) [0] rfl ?_
      exact hkx128 _ h
    · refine wm_iload_n X 1 dX6_many_15 rfl ?_
      refine wm_cS_i (As := [.int v1]) (st := []) X hS h (fun _ _ hF => ctJ16_bitCount l hF) mdJ16_bitCount msJ16_bitCount q1909 dX6_many_16 rfl rfl c1_0 (Nat.le_of_ble_eq_true rfl) ⟨Nat.le_of_ble_eq_true rfl, Nat.le_of_ble_eq_true rfl⟩ ⟨Nat.le_of_ble_eq_true rfl, Nat.le_of_ble_eq_true rfl⟩ (fun x27 σ28 _ h => ?_)
      refine wm_istore_n (ℓ' := [(2, .int x27), (0, va_rf (some h0)), (1, .int v1)]) X dX6_many_19 (by decide) rfl ?_
      refine wm_iload_n X 2 dX6_many_20 rfl ?_
      refine wm_aload_n X 1 dX6_many_21 rfl ?_
      refine wm_gR X hS cd_6 2 h dX6_many_22 (Nat.le_of_ble_eq_true rfl) rfl q406 (fun x29 h => ?_)
      refine wm_gRN X hS cd_1 0 h dX6_many_25 (Nat.le_of_ble_eq_true rfl) rfl 61 rfl (fun x30 h => ?_)
      obtain ⟨q31, eq31, h⟩ := Option.bind_eq_some_iff.mp h
      obtain ⟨eq31, s32⟩ := rv_some eq31
      refine wm_cV_i (As := []) (st := [.int v1]) X hS cd_2 s32 rfl h (fun _ _ hF => ctX2_all l hF) mdX2_all mvX2_all q1898 dX6_many_28 rfl (by rw [eq31]; first | done | rfl) (c1_i c1_0) (Nat.le_of_ble_eq_true rfl) ⟨Nat.le_of_ble_eq_true rfl, Nat.le_of_ble_eq_true rfl⟩ ⟨Nat.le_of_ble_eq_true rfl, Nat.le_of_ble_eq_true rfl⟩ (fun x33 σ34 _ h => ?_)
      obtain ⟨J39, eJ39, h⟩ := jn_e h
      have hJ39 : ∀ (z35 : Int32) (σ : Mm), J39 z35 σ = some (r, σf) → WMi p l e s m args below meth c 1 21 0 0 5 D dA sz0 ad0 N0 r σf 0 0 σ [(0, va_rf (some h0)), (1, .int v1), (2, .int x27)] [.int z35] 39 := by
        intro z35 σ h
        rw [eJ39] at h
        refine wm_istore_n (ℓ' := [(3, .int z35), (0, va_rf (some h0)), (1, .int v1), (2, .int x27)]) X dX6_many_39 (by decide) rfl ?_
        refine wm_iconst (v := 0) X dX6_many_40 (by decide) ?_
        refine wm_istore (ℓ' := [(4, .int 0), (3, .int z35), (0, va_rf (some h0)), (1, .int v1), (2, .int x27)]) X dX6_many_41 (by decide) rfl ?_
        refine wm_sub (ℓ' := [(0, va_rf (some h0)), (1, .int v1), (2, .int x27), (3, .int z35), (4, .int 0)]) [2, 3, 4, 1, 0] rfl ?_
        refine wX6_many_43 X hS hr hnm _ _ _ fu _ _ _ _ h (fun x54 σ h => ?_)
        · refine wm_aload_n X 0 dX6_many_115 rfl ?_
          refine wm_gR X hS cd_6 1 h dX6_many_116 (Nat.le_of_ble_eq_true rfl) rfl q405 (fun x55 h => ?_)
          refine wm_iload_n X 1 dX6_many_119 rfl ?_
          refine wm_iload_n X 2 dX6_many_120 rfl ?_
          refine wm_iastore X hS h dX6_many_121 (fun σ56 _ h => ?_)
          refine wm_iinc (v := (v1 + (-1))) (ℓ' := [(1, .int (v1 + (-1))), (0, va_rf (some h0)), (3, .int x54)]) X 1 dX6_many_122 rfl rfl (by decide) rfl ?_
          refine wm_goto X 11 dX6_many_125 (by decide) ?_
          refine wm_sub (ℓ' := [(0, va_rf (some h0)), (1, .int (v1 + (-1)))]) [1, 0] rfl ?_
          exact ih _ _ _ h hkx128
      clear eJ39
      refine wm_icmp_ne X 38 h dX6_many_31 (by decide) (fun c57 h => ?_) (fun c57 h => ?_)
      · refine wm_iconst (v := 0) X dX6_many_38 (by decide) ?_
        refine wm_sub (ℓ' := [(0, va_rf (some h0)), (1, .int v1), (2, .int x27)]) [1, 2, 0] rfl ?_
        exact hJ39 _ _ h
      · refine wm_iconst (v := 1) X dX6_many_34 (by decide) ?_
        refine wm_goto X 39 dX6_many_35 (by decide) ?_
        refine wm_sub (ℓ' := [(0, va_rf (some h0)), (1, .int v1), (2, .int x27)]) [1, 2, 0] rfl ?_
        exact hJ39 _ _ h
set_option maxHeartbeats 4000000 in
theorem ctX6_many (l : Launch) {h0 : Nat} {σ σf : Mm} {r : Int32} (h : FX6_many h0 σ = some (r, σf)) : CTi l yX6_many (ws_ yX6_many cX6_many 5 ((some FieldType.int))) 1 21 0 0 [va_rf (some h0)] σ r σf := by
  refine ct_start (n := 0) mdX6_many (Nat.le_of_ble_eq_true rfl) (c1_r c1_0) (fun p e s m args below meth c D dA sz0 ad0 X hS hr hnm => ?_)
  have X : CX p s m args meth c cX6_many 5 RX6 := X
  generalize mN σ = N0
  unfold FX6_many at h
  refine wm_aload_n X 0 dX6_many_0 rfl ?_
  refine wm_gR X hS cd_6 2 h dX6_many_1 (Nat.le_of_ble_eq_true rfl) rfl q406 (fun x21 h => ?_)
  refine wm_gRN X hS cd_1 0 h dX6_many_4 (Nat.le_of_ble_eq_true rfl) rfl 61 rfl (fun x22 h => ?_)
  obtain ⟨q23, eq23, h⟩ := Option.bind_eq_some_iff.mp h
  obtain ⟨eq23, s24⟩ := rv_some eq23
  refine wm_cV_i (As := []) (st := []) X hS cd_2 s24 rfl h (fun _ _ hF => ctX2_all l hF) mdX2_all mvX2_all q1898 dX6_many_7 rfl (by rw [eq23]; first | done | rfl) c1_0 (Nat.le_of_ble_eq_true rfl) ⟨Nat.le_of_ble_eq_true rfl, Nat.le_of_ble_eq_true rfl⟩ ⟨Nat.le_of_ble_eq_true rfl, Nat.le_of_ble_eq_true rfl⟩ (fun x25 σ26 _ h => ?_)
  refine wm_istore_n (ℓ' := [(1, .int x25), (0, va_rf (some h0))]) X dX6_many_10 (by decide) rfl ?_
  refine wm_sub (ℓ' := [(0, va_rf (some h0)), (1, .int x25)]) [1, 0] rfl ?_
  refine wX6_many_11 X hS hr hnm _ fu _ _ _ h (fun σ h => ?_)
  · refine wm_aload_n X 0 dX6_many_128 rfl ?_
    refine wm_gR X hS cd_6 1 h dX6_many_129 (Nat.le_of_ble_eq_true rfl) rfl q405 (fun x59 h => ?_)
    refine wm_iconst (v := 0) X dX6_many_132 (by decide) ?_
    refine wm_iaload X hS h dX6_many_133 (fun x60 h => ?_)
    exact wm_iret X hr h dX6_many_134 (Nat.le_of_ble_eq_true rfl) (Nat.le_of_ble_eq_true rfl)
theorem mdX6_having : MD yX6_having 2 := by unfold MD; decide +kernel
theorem mvX6_having : MV yX6_having cX6_having 5 ((some FieldType.int)) := ⟨q1911, q1912, q137, q1913⟩
set_option maxHeartbeats 4000000 in
theorem ctX6_having (l : Launch) {h0 : Nat} {x1 : Int32} {x2 : Int32} {σ σf : Mm} {r : Int32} (h : FX6_having h0 x1 x2 σ = some (r, σf)) : CTi l yX6_having (ws_ yX6_having cX6_having 5 ((some FieldType.int))) 2 45 0 0 [va_rf (some h0), .int x1, .int x2] σ r σf := by
  refine ct_start (n := 2) mdX6_having (Nat.le_of_ble_eq_true rfl) (c1_r (c1_i (c1_i c1_0))) (fun p e s m args below meth c D dA sz0 ad0 X hS hr hnm => ?_)
  have X : CX p s m args meth c cX6_having 5 RX6 := X
  generalize mN σ = N0
  unfold FX6_having at h
  refine wm_aload_n X 0 dX6_having_0 rfl ?_
  refine wm_gR X hS cd_6 0 h dX6_having_1 (Nat.le_of_ble_eq_true rfl) rfl q404 (fun x21 h => ?_)
  refine wm_iload_n X 1 dX6_having_4 rfl ?_
  refine wm_iaload X hS h dX6_having_5 (fun x22 h => ?_)
  refine wm_istore_n (ℓ' := [(3, .int x22), (0, va_rf (some h0)), (1, .int x1), (2, .int x2)]) X dX6_having_6 (by decide) rfl ?_
  refine wm_aload_n X 1 dX6_having_7 rfl ?_
  refine wm_gR X hS cd_6 0 h dX6_having_8 (Nat.le_of_ble_eq_true rfl) rfl q404 (fun x23 h => ?_)
  refine wm_iload_n X 2 dX6_having_11 rfl ?_
  refine wm_dup2 X dX6_having_12 rfl (catR _) ?_
  refine wm_iaload X hS h dX6_having_13 (fun x24 h => ?_)
  refine wm_iconst (v := 1) X dX6_having_14 (by decide) ?_
  refine wm_iload_n X 3 dX6_having_15 rfl ?_
  refine wm_ishl X dX6_having_16 ?_
  refine wm_iand X dX6_having_17 ?_
  refine wm_iastore X hS h dX6_having_18 (fun σ25 _ h => ?_)
  refine wm_aload_n X 1 dX6_having_19 rfl ?_
  obtain ⟨s26, h⟩ := ck_e h
  refine wm_cV_i (As := []) (st := []) X hS cd_6 s26 rfl h (fun _ _ hF => ctX6_many l hF) mdX6_many mvX6_many q1914 dX6_having_20 rfl rfl c1_0 (Nat.le_of_ble_eq_true rfl) ⟨Nat.le_of_ble_eq_true rfl, Nat.le_of_ble_eq_true rfl⟩ ⟨Nat.le_of_ble_eq_true rfl, Nat.le_of_ble_eq_true rfl⟩ (fun x27 σ28 _ h => ?_)
  refine wm_istore (ℓ' := [(4, .int x27), (3, .int x22), (0, va_rf (some h0)), (1, .int x1), (2, .int x2)]) X dX6_having_23 (by decide) rfl ?_
  refine wm_aload_n X 2 dX6_having_25 rfl ?_
  refine wm_gR X hS cd_6 0 h dX6_having_26 (Nat.le_of_ble_eq_true rfl) rfl q404 (fun x29 h => ?_)
  refine wm_iload_n X 3 dX6_having_29 rfl ?_
  refine wm_iload_n X 1 dX6_having_30 rfl ?_
  refine wm_iastore X hS h dX6_having_31 (fun σ30 _ h => ?_)
  refine wm_iload X 0 dX6_having_32 rfl ?_
  exact wm_iret X hr h dX6_having_34 (Nat.le_of_ble_eq_true rfl) (Nat.le_of_ble_eq_true rfl)
theorem mdX1_fits : MD yX1_fits 1 := by unfold MD; decide +kernel
theorem mvX1_fits : MV yX1_fits cX1_fits 4 ((some FieldType.int)) := ⟨q1883, q1884, q128, q1885⟩
set_option maxHeartbeats 4000000 in
theorem wX1_fits_39 {p : Program} {l : Launch} {e : Env} {s : State} {m : MethodId} {args : Array Value} {below : List Frame} {meth : Method} {c : Code} {D : va_G} {dA : Nat → ClassId} {sz0 : Nat} {ad0 : Nat → Nat} {N0 : Nat} {xo : (Int32 × Mm) ⊕ (Nat × Mm)} {mc ms : Nat} (X : CX p s m args meth c cX1_fits 4 RX1) (hS : ST D dA sz0 ad0 s) (hr : meth.sig.returnType = (some FieldType.int)) (hnm : meth.name = yX1_fits.name) (hl : l.stackTraces = false) (hno : ∀ x ∈ c.exceptionTable.toList, False) (h0 : Nat) (y1 : Int32) (y2 : Int32) : ∀ (n : Nat) (v3 : Int32) (σ : Mm) (kx75 : Mm → DX (Int32 × Mm)) (kx67 : Int32 → Mm → DX (Int32 × Mm)) (C Z kc kz : Nat), FX1_fits_39 h0 y1 y2 n v3 σ kx75 kx67 = some (xo, C, Z) → kc + C ≤ mc → kz + Z ≤ ms → (∀  (σ : Mm) (C Z kc kz : Nat), kx75 σ = some (xo, C, Z) → kc + C ≤ mc → kz + Z ≤ ms → WMxi p l e s m args below meth c 8 152 mc ms 4 D dA sz0 ad0 N0 xo kc kz σ [] [] 75) → (∀ (w3 : Int32) (σ : Mm) (C Z kc kz : Nat), kx67 w3 σ = some (xo, C, Z) → kc + C ≤ mc → kz + Z ≤ ms → WMxi p l e s m args below meth c 8 152 mc ms 4 D dA sz0 ad0 N0 xo kc kz σ [(3, .int w3)] [] 67) → WMxi p l e s m args below meth c 8 152 mc ms 4 D dA sz0 ad0 N0 xo kc kz σ [(0, va_rf (some h0)), (1, .int y1), (2, .int y2), (3, .int v3)] [] 39 := by
  intro n
  induction n with
  | zero =>
    intro v3 σ kx75 kx67 C Z kc kz h hC hZ hkx75 hkx67
    cases h
  | succ n ih =>
    intro v3 σ kx75 kx67 C Z kc kz h hC hZ hkx75 hkx67
    rw [FX1_fits_39] at h
    refine wm_iload_n X 3 dX1_fits_39 rfl ?_
    refine wm_aload_n X 0 dX1_fits_40 rfl ?_
    refine wm_gR X hS cd_1 0 h dX1_fits_41 (Nat.le_of_ble_eq_true rfl) rfl q434 (fun x34 h => ?_)
    refine wm_gIN X hS cd_2 1 h dX1_fits_44 (Nat.le_of_ble_eq_true rfl) rfl 1 rfl (fun x35 h => ?_)
    refine wm_icmp_ge X 75 h dX1_fits_47 (by decide) (fun c43 h => ?_) (fun c43 h => ?_)
    · refine wm_sub (ℓ' := []) [] rfl ?_
      exact hkx75 _ _ _ _ _ h hC hZ
    · refine wm_iload_n X 2 dX1_fits_50 rfl ?_
      refine wm_if_le X 75 h dX1_fits_51 (by decide) (fun c42 h => ?_) (fun c42 h => ?_)
      · refine wm_sub (ℓ' := []) [] rfl ?_
        exact hkx75 _ _ _ _ _ h hC hZ
      · refine wm_aload_n X 0 dX1_fits_54 rfl ?_
        refine wm_gR X hS cd_1 8 h dX1_fits_55 (Nat.le_of_ble_eq_true rfl) rfl q446 (fun x36 h => ?_)
        refine wm_iload_n X 1 dX1_fits_58 rfl ?_
        refine wm_iload_n X 3 dX1_fits_59 rfl ?_
        obtain ⟨q37, eq37, h⟩ := Option.bind_eq_some_iff.mp h
        obtain ⟨eq37, s38⟩ := rv_some eq37
        refine wm_cV_i (As := [.int y1, .int v3]) (st := []) X hS cd_6 s38 rfl h (fun _ _ hF => ctX6_having l hF) mdX6_having mvX6_having q1910 dX1_fits_60 rfl (by rw [eq37]; first | done | rfl) c1_0 (Nat.le_of_ble_eq_true rfl) ⟨Nat.le_of_ble_eq_true rfl, Nat.le_of_ble_eq_true rfl⟩ ⟨le_p hC, le_p hZ⟩ (fun x39 σ40 _ h => ?_)
        refine wm_iload_n X 2 dX1_fits_63 rfl ?_
        refine wm_icmp_ne X 69 h dX1_fits_64 (by decide) (fun c41 h => ?_) (fun c41 h => ?_)
        · refine wm_iinc (v := (v3 + 1)) (ℓ' := [(3, .int (v3 + 1)), (0, va_rf (some h0)), (1, .int y1), (2, .int y2)]) X 3 dX1_fits_69 rfl rfl (by decide) rfl ?_
          refine wm_goto X 39 dX1_fits_72 (by decide) ?_
          refine wm_sub (ℓ' := [(0, va_rf (some h0)), (1, .int y1), (2, .int y2), (3, .int (v3 + 1))]) [1, 2, 3, 0] rfl ?_
          exact ih _ _ _ _ _ _ _ _ h hC hZ hkx75 hkx67
        · refine wm_sub (ℓ' := [(3, .int v3)]) [3] rfl ?_
          exact hkx67 _ _ _ _ _ _ h hC hZ
set_option maxHeartbeats 4000000 in
theorem ctX1_fits (l : Launch) (hl : l.stackTraces = false) {h0 : Nat} {x1 : Int32} {σ : Mm} {xo : (Int32 × Mm) ⊕ (Nat × Mm)} {mc ms : Nat} (h : FX1_fits h0 x1 σ = some (xo, mc, ms)) : CTXi l yX1_fits (ws_ yX1_fits cX1_fits 4 ((some FieldType.int))) 8 152 mc ms [va_rf (some h0), .int x1] σ xo := by
  refine ctx_start (n := 1) mdX1_fits (Nat.le_of_ble_eq_true rfl) (c1_r (c1_i c1_0)) (fun p e s m args below meth c D dA sz0 ad0 X hS hr hnm hno => ?_)
  have X : CX p s m args meth c cX1_fits 4 RX1 := X
  have hC : 0 + mc ≤ mc := Nat.le_of_eq (Nat.zero_add mc)
  have hZ : 0 + ms ≤ ms := Nat.le_of_eq (Nat.zero_add ms)
  generalize mN σ = N0
  unfold FX1_fits at h
  refine wm_iload_n X 1 dX1_fits_0 rfl ?_
  refine wm_iconst (v := (-1)) X dX1_fits_1 (by decide) ?_
  obtain ⟨J10, eJ10, h⟩ := jn_e h
  have hJ10 : ∀  (σ : Mm) (C Z kc kz : Nat), J10  σ = some (xo, C, Z) → kc + C ≤ mc → kz + Z ≤ ms → WMxi p l e s m args below meth c 8 152 mc ms 4 D dA sz0 ad0 N0 xo kc kz σ [(0, va_rf (some h0)), (1, .int x1)] [] 10 := by
    intro  σ C Z kc kz h hC hZ
    rw [eJ10] at h
    refine wm_aload_n X 0 dX1_fits_10 rfl ?_
    refine wm_gR X hS cd_1 8 h dX1_fits_11 (Nat.le_of_ble_eq_true rfl) rfl q446 (fun x21 h => ?_)
    refine wm_aload_n X 0 dX1_fits_14 rfl ?_
    obtain ⟨s22, h⟩ := ck_e h
    refine wm_dV_i (As := []) (st := [va_rf x21]) X hS hno cd_1 s22 rfl h hC hZ (fun _ _ _ hF => ctX1_saidAll l hl hF) mdX1_saidAll mvX1_saidAll q1890 dX1_fits_15 rfl rfl (c1_r c1_0) (Nat.le_of_ble_eq_true rfl) ⟨Nat.le_of_ble_eq_true rfl, Nat.le_of_ble_eq_true rfl⟩ (Nat.le_refl _) (Nat.le_refl _) (fun x23 σ24 c1 z1 C Z _ h hC hZ => ?_)
    obtain ⟨q25, eq25, h⟩ := Option.bind_eq_some_iff.mp h
    obtain ⟨eq25, s26⟩ := rv_some eq25
    refine wm_cV_r (As := [.int x23]) (st := []) X hS cd_6 s26 rfl h (fun _ _ hF => ctX6_by l hF) mdX6_by mvX6_by q1894 dX1_fits_18 rfl (by rw [eq25]; first | done | rfl) c1_0 (Nat.le_of_ble_eq_true rfl) ⟨Nat.le_of_ble_eq_true rfl, Nat.le_of_ble_eq_true rfl⟩ ⟨le_p hC, le_p hZ⟩ (fun x27 σ28 _ h => ?_)
    refine wm_pop X dX1_fits_21 (catR _) ?_
    refine wm_aload_n X 0 dX1_fits_22 rfl ?_
    refine wm_gR X hS cd_1 8 h dX1_fits_23 (Nat.le_of_ble_eq_true rfl) rfl q446 (fun x29 h => ?_)
    obtain ⟨q30, eq30, h⟩ := Option.bind_eq_some_iff.mp h
    obtain ⟨eq30, s31⟩ := rv_some eq30
    refine wm_cV_i (As := []) (st := []) X hS cd_6 s31 rfl h (fun _ _ hF => ctX6_many l hF) mdX6_many mvX6_many q1905 dX1_fits_26 rfl (by rw [eq30]; first | done | rfl) c1_0 (Nat.le_of_ble_eq_true rfl) ⟨Nat.le_of_ble_eq_true rfl, Nat.le_of_ble_eq_true rfl⟩ ⟨le_p hC, le_p hZ⟩ (fun x32 σ33 _ h => ?_)
    refine wm_istore_n (ℓ' := [(2, .int x32), (0, va_rf (some h0)), (1, .int x1)]) X dX1_fits_29 (by decide) rfl ?_
    refine wm_iload_n X 2 dX1_fits_30 rfl ?_
    refine wm_iconst (v := (-1)) X dX1_fits_31 (by decide) ?_
    refine wm_icmp_ne X 37 h dX1_fits_32 (by decide) (fun c45 h => ?_) (fun c45 h => ?_)
    · refine wm_iconst (v := 0) X dX1_fits_37 (by decide) ?_
      refine wm_istore_n (ℓ' := [(3, .int 0), (2, .int x32), (0, va_rf (some h0)), (1, .int x1)]) X dX1_fits_38 (by decide) rfl ?_
      refine wm_sub (ℓ' := [(0, va_rf (some h0)), (1, .int x1), (2, .int x32), (3, .int 0)]) [2, 3, 1, 0] rfl ?_
      refine wX1_fits_39 X hS hr hnm hl hno _ _ _ fu _ _ _ _ _ _ _ _ h hC hZ (fun σ C Z kc kz h hC hZ => ?_) (fun x44 σ C Z kc kz h hC hZ => ?_)
      · refine wm_iconst (v := (-1)) X dX1_fits_75 (by decide) ?_
        exact wm_xiret X hr (rt_e h) dX1_fits_76 (le_p hC) (le_p hZ)
      · refine wm_iload_n X 0 dX1_fits_67 rfl ?_
        exact wm_xiret X hr (rt_e h) dX1_fits_68 (le_p hC) (le_p hZ)
    · refine wm_iload_n X 0 dX1_fits_35 rfl ?_
      exact wm_xiret X hr (rt_e h) dX1_fits_36 (le_p hC) (le_p hZ)
  clear eJ10
  refine wm_icmp_eq X 10 h dX1_fits_2 (by decide) (fun c48 h => ?_) (fun c48 h => ?_)
  · exact hJ10 _ _ _ _ _ h hC hZ
  · refine wm_aload_n X 0 dX1_fits_5 rfl ?_
    refine wm_iload_n X 1 dX1_fits_6 rfl ?_
    obtain ⟨s46, h⟩ := ck_e h
    refine wm_dV_v (As := [.int x1]) (st := []) X hS hno cd_1 s46 rfl h hC hZ (fun _ _ _ hF => ctX1_askedOf l hl hF) mdX1_askedOf mvX1_askedOf q1886 dX1_fits_7 rfl rfl c1_0 (Nat.le_of_ble_eq_true rfl) ⟨Nat.le_of_ble_eq_true rfl, Nat.le_of_ble_eq_true rfl⟩ (Nat.le_refl _) (Nat.le_refl _) (fun σ47 c1 z1 C Z _ h hC hZ => ?_)
    exact hJ10 _ _ _ _ _ h hC hZ
theorem mdX1_ask : MD yX1_ask 1 := by unfold MD; decide +kernel
theorem mvX1_ask : MV yX1_ask cX1_ask 8 ((some FieldType.int)) := ⟨q1919, q1920, q128, q1921⟩
set_option maxHeartbeats 4000000 in
theorem wX1_ask_42 {p : Program} {l : Launch} {e : Env} {s : State} {m : MethodId} {args : Array Value} {below : List Frame} {meth : Method} {c : Code} {D : va_G} {dA : Nat → ClassId} {sz0 : Nat} {ad0 : Nat → Nat} {N0 : Nat} {xo : (Int32 × Mm) ⊕ (Nat × Mm)} {mc ms : Nat} (X : CX p s m args meth c cX1_ask 8 RX1) (hS : ST D dA sz0 ad0 s) (hr : meth.sig.returnType = (some FieldType.int)) (hnm : meth.name = yX1_ask.name) (hl : l.stackTraces = false) (hno : ∀ x ∈ c.exceptionTable.toList, False) (h0 : Nat) (y1 : Int32) (y2 : Int32) : ∀ (n : Nat) (v3 : Int32) (v4 : Int32) (v5 : Int32) (σ : Mm) (kx100 : Int32 → Mm → DX (Int32 × Mm)) (C Z kc kz : Nat), FX1_ask_42 h0 y1 y2 n v3 v4 v5 σ kx100 = some (xo, C, Z) → kc + C ≤ mc → kz + Z ≤ ms → (∀ (w3 : Int32) (σ : Mm) (C Z kc kz : Nat), kx100 w3 σ = some (xo, C, Z) → kc + C ≤ mc → kz + Z ≤ ms → WMxi p l e s m args below meth c 8 152 mc ms 8 D dA sz0 ad0 N0 xo kc kz σ [(3, .int w3)] [] 100) → WMxi p l e s m args below meth c 8 152 mc ms 8 D dA sz0 ad0 N0 xo kc kz σ [(0, va_rf (some h0)), (1, .int y1), (2, .int y2), (3, .int v3), (4, .int v4), (5, .int v5)] [] 42 := by
  intro n
  induction n with
  | zero =>
    intro v3 v4 v5 σ kx100 C Z kc kz h hC hZ hkx100
    cases h
  | succ n ih =>
    intro v3 v4 v5 σ kx100 C Z kc kz h hC hZ hkx100
    rw [FX1_ask_42] at h
    refine wm_iload X 5 dX1_ask_42 rfl ?_
    refine wm_aload_n X 0 dX1_ask_44 rfl ?_
    refine wm_gR X hS cd_1 0 h dX1_ask_45 (Nat.le_of_ble_eq_true rfl) rfl q434 (fun x36 h => ?_)
    refine wm_gIN X hS cd_2 1 h dX1_ask_48 (Nat.le_of_ble_eq_true rfl) rfl 1 rfl (fun x37 h => ?_)
    refine wm_icmp_ge X 100 h dX1_ask_51 (by decide) (fun c44 h => ?_) (fun c44 h => ?_)
    · refine wm_sub (ℓ' := [(3, .int v3)]) [3] rfl ?_
      exact hkx100 _ _ _ _ _ _ h hC hZ
    · refine wm_aload_n X 0 dX1_ask_54 rfl ?_
      refine wm_gR X hS cd_1 8 h dX1_ask_55 (Nat.le_of_ble_eq_true rfl) rfl q446 (fun x38 h => ?_)
      refine wm_iload_n X 1 dX1_ask_58 rfl ?_
      refine wm_iload X 5 dX1_ask_59 rfl ?_
      obtain ⟨q39, eq39, h⟩ := Option.bind_eq_some_iff.mp h
      obtain ⟨eq39, s40⟩ := rv_some eq39
      refine wm_cV_i (As := [.int y1, .int v5]) (st := []) X hS cd_6 s40 rfl h (fun _ _ hF => ctX6_having l hF) mdX6_having mvX6_having q1910 dX1_ask_61 rfl (by rw [eq39]; first | done | rfl) c1_0 (Nat.le_of_ble_eq_true rfl) ⟨Nat.le_of_ble_eq_true rfl, Nat.le_of_ble_eq_true rfl⟩ ⟨le_p hC, le_p hZ⟩ (fun x41 σ42 _ h => ?_)
      refine wm_istore (ℓ' := [(6, .int x41), (0, va_rf (some h0)), (1, .int y1), (2, .int y2), (3, .int v3), (4, .int v4), (5, .int v5)]) X dX1_ask_64 (by decide) rfl ?_
      refine wm_iload X 0 dX1_ask_66 rfl ?_
      refine wm_iload_n X 3 dX1_ask_68 rfl ?_
      refine wm_iload X 0 dX1_ask_69 rfl ?_
      refine wm_isub X dX1_ask_71 ?_
      refine wm_mmax X dX1_ask_72 q1922 q795 q146 q796 (Nat.le_of_ble_eq_true rfl) c1_0 (Nat.le_of_ble_eq_true rfl) (Nat.le_of_ble_eq_true rfl) (le_p hC) (le_p hZ) ?_
      refine wm_istore (ℓ' := [(7, .int (imax x41 (y2 - x41))), (6, .int x41), (0, va_rf (some h0)), (1, .int y1), (2, .int y2), (3, .int v3), (4, .int v4), (5, .int v5)]) X dX1_ask_75 (by decide) rfl ?_
      refine wm_iload X 0 dX1_ask_77 rfl ?_
      refine wm_iload X 6 dX1_ask_79 rfl ?_
      refine wm_icmp_lt X 87 h dX1_ask_81 (by decide) (fun c43 h => ?_) (fun c43 h => ?_)
      · refine wm_iload X 7 dX1_ask_87 rfl ?_
        refine wm_istore_n (ℓ' := [(3, .int v5), (7, .int (imax x41 (y2 - x41))), (6, .int x41), (0, va_rf (some h0)), (1, .int y1), (2, .int y2), (4, .int v4), (5, .int v5)]) X dX1_ask_89 (by decide) rfl ?_
        refine wm_iload X 1 dX1_ask_90 rfl ?_
        refine wm_istore (ℓ' := [(4, .int (imax x41 (y2 - x41))), (3, .int v5), (7, .int (imax x41 (y2 - x41))), (6, .int x41), (0, va_rf (some h0)), (1, .int y1), (2, .int y2), (5, .int v5)]) X dX1_ask_92 (by decide) rfl ?_
        refine wm_iinc (v := (v5 + 1)) (ℓ' := [(5, .int (v5 + 1)), (4, .int (imax x41 (y2 - x41))), (3, .int v5), (7, .int (imax x41 (y2 - x41))), (6, .int x41), (0, va_rf (some h0)), (1, .int y1), (2, .int y2)]) X 7 dX1_ask_94 rfl rfl (by decide) rfl ?_
        refine wm_goto X 42 dX1_ask_97 (by decide) ?_
        refine wm_sub (ℓ' := [(0, va_rf (some h0)), (1, .int y1), (2, .int y2), (3, .int v5), (4, .int (imax x41 (y2 - x41))), (5, .int (v5 + 1))]) [5, 6, 7, 2, 1, 0] rfl ?_
        exact ih _ _ _ _ _ _ _ _ _ h hC hZ hkx100
      · refine wm_goto X 94 dX1_ask_84 (by decide) ?_
        refine wm_iinc (v := (v5 + 1)) (ℓ' := [(5, .int (v5 + 1)), (7, .int (imax x41 (y2 - x41))), (6, .int x41), (0, va_rf (some h0)), (1, .int y1), (2, .int y2), (3, .int v3), (4, .int v4)]) X 7 dX1_ask_94 rfl rfl (by decide) rfl ?_
        refine wm_goto X 42 dX1_ask_97 (by decide) ?_
        refine wm_sub (ℓ' := [(0, va_rf (some h0)), (1, .int y1), (2, .int y2), (3, .int v3), (4, .int v4), (5, .int (v5 + 1))]) [3, 4, 5, 6, 7, 0] rfl ?_
        exact ih _ _ _ _ _ _ _ _ _ h hC hZ hkx100
set_option maxHeartbeats 4000000 in
theorem ctX1_ask (l : Launch) (hl : l.stackTraces = false) {h0 : Nat} {x1 : Int32} {σ : Mm} {xo : (Int32 × Mm) ⊕ (Nat × Mm)} {mc ms : Nat} (h : FX1_ask h0 x1 σ = some (xo, mc, ms)) : CTXi l yX1_ask (ws_ yX1_ask cX1_ask 8 ((some FieldType.int))) 8 152 mc ms [va_rf (some h0), .int x1] σ xo := by
  refine ctx_start (n := 1) mdX1_ask (Nat.le_of_ble_eq_true rfl) (c1_r (c1_i c1_0)) (fun p e s m args below meth c D dA sz0 ad0 X hS hr hnm hno => ?_)
  have X : CX p s m args meth c cX1_ask 8 RX1 := X
  have hC : 0 + mc ≤ mc := Nat.le_of_eq (Nat.zero_add mc)
  have hZ : 0 + ms ≤ ms := Nat.le_of_eq (Nat.zero_add ms)
  generalize mN σ = N0
  unfold FX1_ask at h
  refine wm_aload_n X 0 dX1_ask_0 rfl ?_
  refine wm_iload_n X 1 dX1_ask_1 rfl ?_
  obtain ⟨s21, h⟩ := ck_e h
  refine wm_dV_v (As := [.int x1]) (st := []) X hS hno cd_1 s21 rfl h hC hZ (fun _ _ _ hF => ctX1_askedOf l hl hF) mdX1_askedOf mvX1_askedOf q1886 dX1_ask_2 rfl rfl c1_0 (Nat.le_of_ble_eq_true rfl) ⟨Nat.le_of_ble_eq_true rfl, Nat.le_of_ble_eq_true rfl⟩ (Nat.le_refl _) (Nat.le_refl _) (fun σ22 c1 z1 C Z _ h hC hZ => ?_)
  refine wm_aload_n X 0 dX1_ask_5 rfl ?_
  refine wm_gR X hS cd_1 8 h dX1_ask_6 (Nat.le_of_ble_eq_true rfl) rfl q446 (fun x23 h => ?_)
  refine wm_aload_n X 0 dX1_ask_9 rfl ?_
  obtain ⟨s24, h⟩ := ck_e h
  refine wm_dV_i (As := []) (st := [va_rf x23]) X hS hno cd_1 s24 rfl h hC hZ (fun _ _ _ hF => ctX1_saidAll l hl hF) mdX1_saidAll mvX1_saidAll q1890 dX1_ask_10 rfl rfl (c1_r c1_0) (Nat.le_of_ble_eq_true rfl) ⟨Nat.le_of_ble_eq_true rfl, Nat.le_of_ble_eq_true rfl⟩ (Nat.le_refl _) (Nat.le_refl _) (fun x25 σ26 c1 z1 C Z _ h hC hZ => ?_)
  obtain ⟨q27, eq27, h⟩ := Option.bind_eq_some_iff.mp h
  obtain ⟨eq27, s28⟩ := rv_some eq27
  refine wm_cV_r (As := [.int x25]) (st := []) X hS cd_6 s28 rfl h (fun _ _ hF => ctX6_by l hF) mdX6_by mvX6_by q1894 dX1_ask_13 rfl (by rw [eq27]; first | done | rfl) c1_0 (Nat.le_of_ble_eq_true rfl) ⟨Nat.le_of_ble_eq_true rfl, Nat.le_of_ble_eq_true rfl⟩ ⟨le_p hC, le_p hZ⟩ (fun x29 σ30 _ h => ?_)
  refine wm_pop X dX1_ask_16 (catR _) ?_
  refine wm_aload_n X 0 dX1_ask_17 rfl ?_
  refine wm_gR X hS cd_1 8 h dX1_ask_18 (Nat.le_of_ble_eq_true rfl) rfl q446 (fun x31 h => ?_)
  obtain ⟨q32, eq32, h⟩ := Option.bind_eq_some_iff.mp h
  obtain ⟨eq32, s33⟩ := rv_some eq32
  refine wm_cV_i (As := []) (st := []) X hS cd_6 s33 rfl h (fun _ _ hF => ctX6_many l hF) mdX6_many mvX6_many q1905 dX1_ask_21 rfl (by rw [eq32]; first | done | rfl) c1_0 (Nat.le_of_ble_eq_true rfl) ⟨Nat.le_of_ble_eq_true rfl, Nat.le_of_ble_eq_true rfl⟩ ⟨le_p hC, le_p hZ⟩ (fun x34 σ35 _ h => ?_)
  refine wm_istore_n (ℓ' := [(2, .int x34), (0, va_rf (some h0)), (1, .int x1)]) X dX1_ask_24 (by decide) rfl ?_
  refine wm_iload_n X 0 dX1_ask_25 rfl ?_
  refine wm_iconst (v := 2) X dX1_ask_26 (by decide) ?_
  refine wm_icmp_ge X 32 h dX1_ask_27 (by decide) (fun c46 h => ?_) (fun c46 h => ?_)
  · refine wm_iconst (v := (-1)) X dX1_ask_32 (by decide) ?_
    refine wm_istore_n (ℓ' := [(3, .int (-1)), (2, .int x34), (0, va_rf (some h0)), (1, .int x1)]) X dX1_ask_33 (by decide) rfl ?_
    refine wm_iload_n X 1 dX1_ask_34 rfl ?_
    refine wm_iconst (v := 1) X dX1_ask_35 (by decide) ?_
    refine wm_iadd X dX1_ask_36 ?_
    refine wm_istore (ℓ' := [(4, .int (x34 + 1)), (3, .int (-1)), (2, .int x34), (0, va_rf (some h0)), (1, .int x1)]) X dX1_ask_37 (by decide) rfl ?_
    refine wm_iconst (v := 0) X dX1_ask_39 (by decide) ?_
    refine wm_istore (ℓ' := [(5, .int 0), (4, .int (x34 + 1)), (3, .int (-1)), (2, .int x34), (0, va_rf (some h0)), (1, .int x1)]) X dX1_ask_40 (by decide) rfl ?_
    refine wm_sub (ℓ' := [(0, va_rf (some h0)), (1, .int x1), (2, .int x34), (3, .int (-1)), (4, .int (x34 + 1)), (5, .int 0)]) [4, 5, 3, 2, 1, 0] rfl ?_
    refine wX1_ask_42 X hS hr hnm hl hno _ _ _ fu _ _ _ _ _ _ _ _ _ h hC hZ (fun x45 σ C Z kc kz h hC hZ => ?_)
    · refine wm_iload_n X 0 dX1_ask_100 rfl ?_
      exact wm_xiret X hr (rt_e h) dX1_ask_101 (le_p hC) (le_p hZ)
  · refine wm_iconst (v := (-1)) X dX1_ask_30 (by decide) ?_
    exact wm_xiret X hr (rt_e h) dX1_ask_31 (le_p hC) (le_p hZ)
theorem mdX1_clash : MD yX1_clash 0 := by unfold MD; decide +kernel
theorem mvX1_clash : MV yX1_clash cX1_clash 4 ((some FieldType.int)) := ⟨q1927, q1928, q128, q1929⟩
set_option maxHeartbeats 4000000 in
theorem wX1_clash_25 {p : Program} {l : Launch} {e : Env} {s : State} {m : MethodId} {args : Array Value} {below : List Frame} {meth : Method} {c : Code} {D : va_G} {dA : Nat → ClassId} {sz0 : Nat} {ad0 : Nat → Nat} {N0 : Nat} {xo : (Int32 × Mm) ⊕ (Nat × Mm)} {mc ms : Nat} (X : CX p s m args meth c cX1_clash 4 RX1) (hS : ST D dA sz0 ad0 s) (hr : meth.sig.returnType = (some FieldType.int)) (hnm : meth.name = yX1_clash.name) (hl : l.stackTraces = false) (hno : ∀ x ∈ c.exceptionTable.toList, False) (h0 : Nat) : ∀ (n : Nat) (v2 : Int32) (v3 : Int32) (σ : Mm) (kx62 : Int32 → Mm → DX (Int32 × Mm)) (C Z kc kz : Nat), FX1_clash_25 h0 n v2 v3 σ kx62 = some (xo, C, Z) → kc + C ≤ mc → kz + Z ≤ ms → (∀ (w2 : Int32) (σ : Mm) (C Z kc kz : Nat), kx62 w2 σ = some (xo, C, Z) → kc + C ≤ mc → kz + Z ≤ ms → WMxi p l e s m args below meth c 8 152 mc ms 4 D dA sz0 ad0 N0 xo kc kz σ [(2, .int w2)] [] 62) → WMxi p l e s m args below meth c 8 152 mc ms 4 D dA sz0 ad0 N0 xo kc kz σ [(0, va_rf (some h0)), (2, .int v2), (3, .int v3)] [] 25 := by
  intro n
  induction n with
  | zero =>
    intro v2 v3 σ kx62 C Z kc kz h hC hZ hkx62
    cases h
  | succ n ih =>
    intro v2 v3 σ kx62 C Z kc kz h hC hZ hkx62
    rw [FX1_clash_25] at h
    refine wm_iload_n X 2 dX1_clash_25 rfl ?_
    refine wm_if_le X 62 h dX1_clash_26 (by decide) (fun c48 h => ?_) (fun c48 h => ?_)
    · refine wm_sub (ℓ' := [(2, .int v2)]) [1] rfl ?_
      exact hkx62 _ _ _ _ _ _ h hC hZ
    · refine wm_iload_n X 2 dX1_clash_29 rfl ?_
      refine wm_cS_i (As := [.int v3]) (st := []) X hS h (fun _ _ hF => ctJ16_bitCount l hF) mdJ16_bitCount msJ16_bitCount q538 dX1_clash_30 rfl rfl c1_0 (Nat.le_of_ble_eq_true rfl) ⟨Nat.le_of_ble_eq_true rfl, Nat.le_of_ble_eq_true rfl⟩ ⟨le_p hC, le_p hZ⟩ (fun x33 σ34 _ h => ?_)
      refine wm_iload_n X 1 dX1_clash_33 rfl ?_
      refine wm_cS_i (As := [.int v2]) (st := [.int x33]) X hS h (fun _ _ hF => ctJ16_bitCount l hF) mdJ16_bitCount msJ16_bitCount q538 dX1_clash_34 rfl rfl (c1_i c1_0) (Nat.le_of_ble_eq_true rfl) ⟨Nat.le_of_ble_eq_true rfl, Nat.le_of_ble_eq_true rfl⟩ ⟨le_p hC, le_p hZ⟩ (fun x35 σ36 _ h => ?_)
      refine wm_icmp_gt X 56 h dX1_clash_37 (by decide) (fun c47 h => ?_) (fun c47 h => ?_)
      · refine wm_iinc (v := (v3 + (-1))) (ℓ' := [(3, .int (v3 + (-1))), (0, va_rf (some h0)), (2, .int v2)]) X 2 dX1_clash_56 rfl rfl (by decide) rfl ?_
        refine wm_goto X 25 dX1_clash_59 (by decide) ?_
        refine wm_sub (ℓ' := [(0, va_rf (some h0)), (2, .int v2), (3, .int (v3 + (-1)))]) [1, 2, 0] rfl ?_
        exact ih _ _ _ _ _ _ _ _ h hC hZ hkx62
      · refine wm_aload_n X 0 dX1_clash_40 rfl ?_
        refine wm_gR X hS cd_1 8 h dX1_clash_41 (Nat.le_of_ble_eq_true rfl) rfl q446 (fun x37 h => ?_)
        refine wm_iload_n X 2 dX1_clash_44 rfl ?_
        obtain ⟨q38, eq38, h⟩ := Option.bind_eq_some_iff.mp h
        obtain ⟨eq38, s39⟩ := rv_some eq38
        refine wm_cV_r (As := [.int v3]) (st := []) X hS cd_6 s39 rfl h (fun _ _ hF => ctX6_by l hF) mdX6_by mvX6_by q1894 dX1_clash_45 rfl (by rw [eq38]; first | done | rfl) c1_0 (Nat.le_of_ble_eq_true rfl) ⟨Nat.le_of_ble_eq_true rfl, Nat.le_of_ble_eq_true rfl⟩ ⟨le_p hC, le_p hZ⟩ (fun x40 σ41 _ h => ?_)
        obtain ⟨q42, eq42, h⟩ := Option.bind_eq_some_iff.mp h
        obtain ⟨eq42, s43⟩ := rv_some eq42
        refine wm_cV_i (As := []) (st := []) X hS cd_6 s43 rfl h (fun _ _ hF => ctX6_many l hF) mdX6_many mvX6_many q1905 dX1_clash_48 rfl (by rw [eq42]; first | done | rfl) c1_0 (Nat.le_of_ble_eq_true rfl) ⟨Nat.le_of_ble_eq_true rfl, Nat.le_of_ble_eq_true rfl⟩ ⟨le_p hC, le_p hZ⟩ (fun x44 σ45 _ h => ?_)
        refine wm_if_ne X 56 h dX1_clash_51 (by decide) (fun c46 h => ?_) (fun c46 h => ?_)
        · refine wm_iinc (v := (v3 + (-1))) (ℓ' := [(3, .int (v3 + (-1))), (0, va_rf (some h0)), (2, .int v2)]) X 2 dX1_clash_56 rfl rfl (by decide) rfl ?_
          refine wm_goto X 25 dX1_clash_59 (by decide) ?_
          refine wm_sub (ℓ' := [(0, va_rf (some h0)), (2, .int v2), (3, .int (v3 + (-1)))]) [1, 2, 0] rfl ?_
          exact ih _ _ _ _ _ _ _ _ h hC hZ hkx62
        · refine wm_iload_n X 2 dX1_clash_54 rfl ?_
          refine wm_istore_n (ℓ' := [(2, .int v3), (0, va_rf (some h0)), (3, .int v3)]) X dX1_clash_55 (by decide) rfl ?_
          refine wm_iinc (v := (v3 + (-1))) (ℓ' := [(3, .int (v3 + (-1))), (2, .int v3), (0, va_rf (some h0))]) X 2 dX1_clash_56 rfl rfl (by decide) rfl ?_
          refine wm_goto X 25 dX1_clash_59 (by decide) ?_
          refine wm_sub (ℓ' := [(0, va_rf (some h0)), (2, .int v3), (3, .int (v3 + (-1)))]) [2, 1, 0] rfl ?_
          exact ih _ _ _ _ _ _ _ _ h hC hZ hkx62
set_option maxHeartbeats 4000000 in
theorem ctX1_clash (l : Launch) (hl : l.stackTraces = false) {h0 : Nat} {σ : Mm} {xo : (Int32 × Mm) ⊕ (Nat × Mm)} {mc ms : Nat} (h : FX1_clash h0 σ = some (xo, mc, ms)) : CTXi l yX1_clash (ws_ yX1_clash cX1_clash 4 ((some FieldType.int))) 8 152 mc ms [va_rf (some h0)] σ xo := by
  refine ctx_start (n := 0) mdX1_clash (Nat.le_of_ble_eq_true rfl) (c1_r c1_0) (fun p e s m args below meth c D dA sz0 ad0 X hS hr hnm hno => ?_)
  have X : CX p s m args meth c cX1_clash 4 RX1 := X
  have hC : 0 + mc ≤ mc := Nat.le_of_eq (Nat.zero_add mc)
  have hZ : 0 + ms ≤ ms := Nat.le_of_eq (Nat.zero_add ms)
  generalize mN σ = N0
  unfold FX1_clash at h
  refine wm_aload_n X 0 dX1_clash_0 rfl ?_
  obtain ⟨s21, h⟩ := ck_e h
  refine wm_dV_i (As := []) (st := []) X hS hno cd_1 s21 rfl h hC hZ (fun _ _ _ hF => ctX1_saidAll l hl hF) mdX1_saidAll mvX1_saidAll q1890 dX1_clash_1 rfl rfl c1_0 (Nat.le_of_ble_eq_true rfl) ⟨Nat.le_of_ble_eq_true rfl, Nat.le_of_ble_eq_true rfl⟩ (Nat.le_refl _) (Nat.le_refl _) (fun x22 σ23 c1 z1 C Z _ h hC hZ => ?_)
  refine wm_istore_n (ℓ' := [(1, .int x22), (0, va_rf (some h0))]) X dX1_clash_4 (by decide) rfl ?_
  refine wm_aload_n X 1 dX1_clash_5 rfl ?_
  refine wm_gR X hS cd_1 8 h dX1_clash_6 (Nat.le_of_ble_eq_true rfl) rfl q446 (fun x24 h => ?_)
  refine wm_iload_n X 0 dX1_clash_9 rfl ?_
  obtain ⟨q25, eq25, h⟩ := Option.bind_eq_some_iff.mp h
  obtain ⟨eq25, s26⟩ := rv_some eq25
  refine wm_cV_r (As := [.int x22]) (st := []) X hS cd_6 s26 rfl h (fun _ _ hF => ctX6_by l hF) mdX6_by mvX6_by q1894 dX1_clash_10 rfl (by rw [eq25]; first | done | rfl) c1_0 (Nat.le_of_ble_eq_true rfl) ⟨Nat.le_of_ble_eq_true rfl, Nat.le_of_ble_eq_true rfl⟩ ⟨le_p hC, le_p hZ⟩ (fun x27 σ28 _ h => ?_)
  obtain ⟨q29, eq29, h⟩ := Option.bind_eq_some_iff.mp h
  obtain ⟨eq29, s30⟩ := rv_some eq29
  refine wm_cV_i (As := []) (st := []) X hS cd_6 s30 rfl h (fun _ _ hF => ctX6_many l hF) mdX6_many mvX6_many q1905 dX1_clash_13 rfl (by rw [eq29]; first | done | rfl) c1_0 (Nat.le_of_ble_eq_true rfl) ⟨Nat.le_of_ble_eq_true rfl, Nat.le_of_ble_eq_true rfl⟩ ⟨le_p hC, le_p hZ⟩ (fun x31 σ32 _ h => ?_)
  refine wm_if_le X 21 h dX1_clash_16 (by decide) (fun c50 h => ?_) (fun c50 h => ?_)
  · refine wm_iload_n X 0 dX1_clash_21 rfl ?_
    refine wm_istore_n (ℓ' := [(2, .int x22), (1, .int x22), (0, va_rf (some h0))]) X dX1_clash_22 (by decide) rfl ?_
    refine wm_iload_n X 1 dX1_clash_23 rfl ?_
    refine wm_istore_n (ℓ' := [(3, .int x22), (2, .int x22), (1, .int x22), (0, va_rf (some h0))]) X dX1_clash_24 (by decide) rfl ?_
    refine wm_sub (ℓ' := [(0, va_rf (some h0)), (2, .int x22), (3, .int x22)]) [3, 1, 0] rfl ?_
    refine wX1_clash_25 X hS hr hnm hl hno _ fu _ _ _ _ _ _ _ _ h hC hZ (fun x49 σ C Z kc kz h hC hZ => ?_)
    · refine wm_iload_n X 0 dX1_clash_62 rfl ?_
      exact wm_xiret X hr (rt_e h) dX1_clash_63 (le_p hC) (le_p hZ)
  · refine wm_iconst (v := 0) X dX1_clash_19 (by decide) ?_
    exact wm_xiret X hr (rt_e h) dX1_clash_20 (le_p hC) (le_p hZ)
theorem mdX1_marksOf : MD yX1_marksOf 1 := by unfold MD; decide +kernel
theorem mvX1_marksOf : MV yX1_marksOf cX1_marksOf 4 ((some FieldType.int)) := ⟨q1939, qs50, q128, q1940⟩
set_option maxHeartbeats 4000000 in
theorem wX1_marksOf_4 {p : Program} {l : Launch} {e : Env} {s : State} {m : MethodId} {args : Array Value} {below : List Frame} {meth : Method} {c : Code} {D : va_G} {dA : Nat → ClassId} {sz0 : Nat} {ad0 : Nat → Nat} {N0 : Nat} {r : Int32} {σf : Mm} (X : CX p s m args meth c cX1_marksOf 4 RX1) (hS : ST D dA sz0 ad0 s) (hr : meth.sig.returnType = (some FieldType.int)) (hnm : meth.name = yX1_marksOf.name) (h0 : Nat) (y1 : Int32) : ∀ (n : Nat) (v2 : Int32) (v3 : Int32) (σ : Mm) (kx45 : Int32 → Mm → Option (Int32 × Mm)), FX1_marksOf_4 h0 y1 n v2 v3 σ kx45 = some (r, σf) → (∀ (w2 : Int32) (σ : Mm), kx45 w2 σ = some (r, σf) → WMi p l e s m args below meth c 1 21 0 0 4 D dA sz0 ad0 N0 r σf 0 0 σ [(2, .int w2)] [] 45) → WMi p l e s m args below meth c 1 21 0 0 4 D dA sz0 ad0 N0 r σf 0 0 σ [(0, va_rf (some h0)), (1, .int y1), (2, .int v2), (3, .int v3)] [] 4 := by
  intro n
  induction n with
  | zero =>
    intro v2 v3 σ kx45 h hkx45
    cases h
  | succ n ih =>
    intro v2 v3 σ kx45 h hkx45
    rw [FX1_marksOf_4] at h
    refine wm_iload_n X 3 dX1_marksOf_4 rfl ?_
    refine wm_aload_n X 0 dX1_marksOf_5 rfl ?_
    refine wm_gR X hS cd_1 0 h dX1_marksOf_6 (Nat.le_of_ble_eq_true rfl) rfl q434 (fun x21 h => ?_)
    refine wm_gIN X hS cd_2 1 h dX1_marksOf_9 (Nat.le_of_ble_eq_true rfl) rfl 1 rfl (fun x22 h => ?_)
    refine wm_icmp_ge X 45 h dX1_marksOf_12 (by decide) (fun c30 h => ?_) (fun c30 h => ?_)
    · refine wm_sub (ℓ' := [(2, .int v2)]) [2] rfl ?_
      exact hkx45 _ _ h
    · refine wm_iload_n X 2 dX1_marksOf_15 rfl ?_
      refine wm_iload_n X 1 dX1_marksOf_16 rfl ?_
      refine wm_iload_n X 3 dX1_marksOf_17 rfl ?_
      refine wm_cS_i (As := [.int y1, .int v3]) (st := [.int v2]) X hS h (fun _ _ hF => ctX1_has l hF) mdX1_has msX1_has q535 dX1_marksOf_18 rfl rfl (c1_i c1_0) (Nat.le_of_ble_eq_true rfl) ⟨Nat.le_of_ble_eq_true rfl, Nat.le_of_ble_eq_true rfl⟩ ⟨Nat.le_of_ble_eq_true rfl, Nat.le_of_ble_eq_true rfl⟩ (fun x23 σ24 _ h => ?_)
      obtain ⟨J37, eJ37, h⟩ := jn_e h
      have hJ37 : ∀ (z25 : Int32) (σ : Mm), J37 z25 σ = some (r, σf) → WMi p l e s m args below meth c 1 21 0 0 4 D dA sz0 ad0 N0 r σf 0 0 σ [(0, va_rf (some h0)), (1, .int y1), (3, .int v3)] [.int z25, .int v2] 37 := by
        intro z25 σ h
        rw [eJ37] at h
        refine wm_ior X dX1_marksOf_37 ?_
        refine wm_istore_n (ℓ' := [(2, .int (v2 ||| z25)), (0, va_rf (some h0)), (1, .int y1), (3, .int v3)]) X dX1_marksOf_38 (by decide) rfl ?_
        refine wm_iinc (v := (v3 + 1)) (ℓ' := [(3, .int (v3 + 1)), (2, .int (v2 ||| z25)), (0, va_rf (some h0)), (1, .int y1)]) X 3 dX1_marksOf_39 rfl rfl (by decide) rfl ?_
        refine wm_goto X 4 dX1_marksOf_42 (by decide) ?_
        refine wm_sub (ℓ' := [(0, va_rf (some h0)), (1, .int y1), (2, .int (v2 ||| z25)), (3, .int (v3 + 1))]) [2, 3, 1, 0] rfl ?_
        exact ih _ _ _ _ h hkx45
      clear eJ37
      refine wm_if_eq X 36 h dX1_marksOf_21 (by decide) (fun c29 h => ?_) (fun c29 h => ?_)
      · refine wm_iconst (v := 0) X dX1_marksOf_36 (by decide) ?_
        refine wm_sub (ℓ' := [(0, va_rf (some h0)), (1, .int y1), (3, .int v3)]) [0, 1, 3] rfl ?_
        exact hJ37 _ _ h
      · refine wm_aload_n X 0 dX1_marksOf_24 rfl ?_
        refine wm_gR X hS cd_1 0 h dX1_marksOf_25 (Nat.le_of_ble_eq_true rfl) rfl q434 (fun x26 h => ?_)
        refine wm_gRN X hS cd_2 8 h dX1_marksOf_28 (Nat.le_of_ble_eq_true rfl) rfl 8 rfl (fun x27 h => ?_)
        refine wm_iload_n X 3 dX1_marksOf_31 rfl ?_
        refine wm_iaload X hS h dX1_marksOf_32 (fun x28 h => ?_)
        refine wm_goto X 37 dX1_marksOf_33 (by decide) ?_
        refine wm_sub (ℓ' := [(0, va_rf (some h0)), (1, .int y1), (3, .int v3)]) [0, 1, 3] rfl ?_
        exact hJ37 _ _ h
set_option maxHeartbeats 4000000 in
theorem ctX1_marksOf (l : Launch) {h0 : Nat} {x1 : Int32} {σ σf : Mm} {r : Int32} (h : FX1_marksOf h0 x1 σ = some (r, σf)) : CTi l yX1_marksOf (ws_ yX1_marksOf cX1_marksOf 4 ((some FieldType.int))) 1 21 0 0 [va_rf (some h0), .int x1] σ r σf := by
  refine ct_start (n := 1) mdX1_marksOf (Nat.le_of_ble_eq_true rfl) (c1_r (c1_i c1_0)) (fun p e s m args below meth c D dA sz0 ad0 X hS hr hnm => ?_)
  have X : CX p s m args meth c cX1_marksOf 4 RX1 := X
  generalize mN σ = N0
  unfold FX1_marksOf at h
  refine wm_iconst (v := 0) X dX1_marksOf_0 (by decide) ?_
  refine wm_istore_n (ℓ' := [(2, .int 0), (0, va_rf (some h0)), (1, .int x1)]) X dX1_marksOf_1 (by decide) rfl ?_
  refine wm_iconst (v := 0) X dX1_marksOf_2 (by decide) ?_
  refine wm_istore_n (ℓ' := [(3, .int 0), (2, .int 0), (0, va_rf (some h0)), (1, .int x1)]) X dX1_marksOf_3 (by decide) rfl ?_
  refine wm_sub (ℓ' := [(0, va_rf (some h0)), (1, .int x1), (2, .int 0), (3, .int 0)]) [2, 3, 1, 0] rfl ?_
  refine wX1_marksOf_4 X hS hr hnm _ _ fu _ _ _ _ h (fun x31 σ h => ?_)
  · refine wm_iload_n X 0 dX1_marksOf_45 rfl ?_
    exact wm_iret X hr h dX1_marksOf_46 (Nat.le_of_ble_eq_true rfl) (Nat.le_of_ble_eq_true rfl)
theorem mdX1_forged : MD yX1_forged 1 := by unfold MD; decide +kernel
theorem mvX1_forged : MV yX1_forged cX1_forged 5 ((some FieldType.int)) := ⟨q1934, q1935, q128, q1936⟩
set_option maxHeartbeats 4000000 in
theorem wX1_forged_15 {p : Program} {l : Launch} {e : Env} {s : State} {m : MethodId} {args : Array Value} {below : List Frame} {meth : Method} {c : Code} {D : va_G} {dA : Nat → ClassId} {sz0 : Nat} {ad0 : Nat → Nat} {N0 : Nat} {xo : (Int32 × Mm) ⊕ (Nat × Mm)} {mc ms : Nat} (X : CX p s m args meth c cX1_forged 5 RX1) (hS : ST D dA sz0 ad0 s) (hr : meth.sig.returnType = (some FieldType.int)) (hnm : meth.name = yX1_forged.name) (hl : l.stackTraces = false) (hno : ∀ x ∈ c.exceptionTable.toList, False) (h0 : Nat) (y1 : Int32) : ∀ (n : Nat) (v2 : Int32) (v3 : Int32) (σ : Mm) (kx63 : Int32 → Mm → DX (Int32 × Mm)) (C Z kc kz : Nat), FX1_forged_15 h0 y1 n v2 v3 σ kx63 = some (xo, C, Z) → kc + C ≤ mc → kz + Z ≤ ms → (∀ (w2 : Int32) (σ : Mm) (C Z kc kz : Nat), kx63 w2 σ = some (xo, C, Z) → kc + C ≤ mc → kz + Z ≤ ms → WMxi p l e s m args below meth c 7 130 mc ms 5 D dA sz0 ad0 N0 xo kc kz σ [(0, va_rf (some h0)), (1, .int y1), (2, .int w2)] [] 63) → WMxi p l e s m args below meth c 7 130 mc ms 5 D dA sz0 ad0 N0 xo kc kz σ [(0, va_rf (some h0)), (1, .int y1), (2, .int v2), (3, .int v3)] [] 15 := by
  intro n
  induction n with
  | zero =>
    intro v2 v3 σ kx63 C Z kc kz h hC hZ hkx63
    cases h
  | succ n ih =>
    intro v2 v3 σ kx63 C Z kc kz h hC hZ hkx63
    rw [FX1_forged_15] at h
    refine wm_iload_n X 3 dX1_forged_15 rfl ?_
    refine wm_aload_n X 0 dX1_forged_16 rfl ?_
    refine wm_gR X hS cd_1 0 h dX1_forged_17 (Nat.le_of_ble_eq_true rfl) rfl q434 (fun x24 h => ?_)
    refine wm_gIN X hS cd_2 2 h dX1_forged_20 (Nat.le_of_ble_eq_true rfl) rfl 2 rfl (fun x25 h => ?_)
    refine wm_icmp_ge X 63 h dX1_forged_23 (by decide) (fun c34 h => ?_) (fun c34 h => ?_)
    · refine wm_sub (ℓ' := [(0, va_rf (some h0)), (1, .int y1), (2, .int v2)]) [0, 1, 2] rfl ?_
      exact hkx63 _ _ _ _ _ _ h hC hZ
    · refine wm_iload_n X 2 dX1_forged_26 rfl ?_
      refine wm_aload_n X 0 dX1_forged_27 rfl ?_
      refine wm_gR X hS cd_1 0 h dX1_forged_28 (Nat.le_of_ble_eq_true rfl) rfl q434 (fun x26 h => ?_)
      refine wm_gRN X hS cd_2 17 h dX1_forged_31 (Nat.le_of_ble_eq_true rfl) rfl 17 rfl (fun x27 h => ?_)
      refine wm_iload_n X 3 dX1_forged_34 rfl ?_
      refine wm_iaload X hS h dX1_forged_35 (fun x28 h => ?_)
      refine wm_iconst (v := (-1)) X dX1_forged_36 (by decide) ?_
      obtain ⟨J55, eJ55, h⟩ := jn_e h
      have hJ55 : ∀ (z29 : Int32) (σ : Mm) (C Z kc kz : Nat), J55 z29 σ = some (xo, C, Z) → kc + C ≤ mc → kz + Z ≤ ms → WMxi p l e s m args below meth c 7 130 mc ms 5 D dA sz0 ad0 N0 xo kc kz σ [(0, va_rf (some h0)), (1, .int y1), (3, .int v3)] [.int z29, .int v2] 55 := by
        intro z29 σ C Z kc kz h hC hZ
        rw [eJ55] at h
        refine wm_ior X dX1_forged_55 ?_
        refine wm_istore_n (ℓ' := [(2, .int (v2 ||| z29)), (0, va_rf (some h0)), (1, .int y1), (3, .int v3)]) X dX1_forged_56 (by decide) rfl ?_
        refine wm_iinc (v := (v3 + 1)) (ℓ' := [(3, .int (v3 + 1)), (2, .int (v2 ||| z29)), (0, va_rf (some h0)), (1, .int y1)]) X 3 dX1_forged_57 rfl rfl (by decide) rfl ?_
        refine wm_goto X 15 dX1_forged_60 (by decide) ?_
        refine wm_sub (ℓ' := [(0, va_rf (some h0)), (1, .int y1), (2, .int (v2 ||| z29)), (3, .int (v3 + 1))]) [2, 3, 1, 0] rfl ?_
        exact ih _ _ _ _ _ _ _ _ h hC hZ hkx63
      clear eJ55
      refine wm_icmp_eq X 54 h dX1_forged_37 (by decide) (fun c33 h => ?_) (fun c33 h => ?_)
      · refine wm_iconst (v := 0) X dX1_forged_54 (by decide) ?_
        refine wm_sub (ℓ' := [(0, va_rf (some h0)), (1, .int y1), (3, .int v3)]) [0, 1, 3] rfl ?_
        exact hJ55 _ _ _ _ _ _ h hC hZ
      · refine wm_iconst (v := 1) X dX1_forged_40 (by decide) ?_
        refine wm_aload_n X 0 dX1_forged_41 rfl ?_
        refine wm_gR X hS cd_1 0 h dX1_forged_42 (Nat.le_of_ble_eq_true rfl) rfl q434 (fun x30 h => ?_)
        refine wm_gRN X hS cd_2 17 h dX1_forged_45 (Nat.le_of_ble_eq_true rfl) rfl 17 rfl (fun x31 h => ?_)
        refine wm_iload_n X 3 dX1_forged_48 rfl ?_
        refine wm_iaload X hS h dX1_forged_49 (fun x32 h => ?_)
        refine wm_ishl X dX1_forged_50 ?_
        refine wm_goto X 55 dX1_forged_51 (by decide) ?_
        refine wm_sub (ℓ' := [(0, va_rf (some h0)), (1, .int y1), (3, .int v3)]) [0, 1, 3] rfl ?_
        exact hJ55 _ _ _ _ _ _ h hC hZ
set_option maxHeartbeats 4000000 in
theorem wX1_forged_68 {p : Program} {l : Launch} {e : Env} {s : State} {m : MethodId} {args : Array Value} {below : List Frame} {meth : Method} {c : Code} {D : va_G} {dA : Nat → ClassId} {sz0 : Nat} {ad0 : Nat → Nat} {N0 : Nat} {xo : (Int32 × Mm) ⊕ (Nat × Mm)} {mc ms : Nat} (X : CX p s m args meth c cX1_forged 5 RX1) (hS : ST D dA sz0 ad0 s) (hr : meth.sig.returnType = (some FieldType.int)) (hnm : meth.name = yX1_forged.name) (hl : l.stackTraces = false) (hno : ∀ x ∈ c.exceptionTable.toList, False) (h0 : Nat) (y1 : Int32) (y2 : Int32) : ∀ (n : Nat) (v3 : Int32) (v4 : Int32) (σ : Mm) (kx124 : Int32 → Mm → DX (Int32 × Mm)) (C Z kc kz : Nat), FX1_forged_68 h0 y1 y2 n v3 v4 σ kx124 = some (xo, C, Z) → kc + C ≤ mc → kz + Z ≤ ms → (∀ (w3 : Int32) (σ : Mm) (C Z kc kz : Nat), kx124 w3 σ = some (xo, C, Z) → kc + C ≤ mc → kz + Z ≤ ms → WMxi p l e s m args below meth c 7 130 mc ms 5 D dA sz0 ad0 N0 xo kc kz σ [(3, .int w3)] [] 124) → WMxi p l e s m args below meth c 7 130 mc ms 5 D dA sz0 ad0 N0 xo kc kz σ [(0, va_rf (some h0)), (1, .int y1), (2, .int y2), (3, .int v3), (4, .int v4)] [] 68 := by
  intro n
  induction n with
  | zero =>
    intro v3 v4 σ kx124 C Z kc kz h hC hZ hkx124
    cases h
  | succ n ih =>
    intro v3 v4 σ kx124 C Z kc kz h hC hZ hkx124
    rw [FX1_forged_68] at h
    refine wm_iload X 4 dX1_forged_68 rfl ?_
    refine wm_if_lt X 124 h dX1_forged_70 (by decide) (fun c47 h => ?_) (fun c47 h => ?_)
    · refine wm_sub (ℓ' := [(3, .int v3)]) [3] rfl ?_
      exact hkx124 _ _ _ _ _ _ h hC hZ
    · refine wm_iload X 4 dX1_forged_73 rfl ?_
      refine wm_iload_n X 2 dX1_forged_75 rfl ?_
      refine wm_iconst (v := (-1)) X dX1_forged_76 (by decide) ?_
      refine wm_ixor X dX1_forged_77 ?_
      refine wm_iand X dX1_forged_78 ?_
      refine wm_if_ne X 118 h dX1_forged_79 (by decide) (fun c46 h => ?_) (fun c46 h => ?_)
      · refine wm_iinc (v := (v4 + (-1))) (ℓ' := [(4, .int (v4 + (-1))), (0, va_rf (some h0)), (1, .int y1), (2, .int y2), (3, .int v3)]) X 4 dX1_forged_118 rfl rfl (by decide) rfl ?_
        refine wm_goto X 68 dX1_forged_121 (by decide) ?_
        refine wm_sub (ℓ' := [(0, va_rf (some h0)), (1, .int y1), (2, .int y2), (3, .int v3), (4, .int (v4 + (-1)))]) [1, 2, 3, 4, 0] rfl ?_
        exact ih _ _ _ _ _ _ _ _ h hC hZ hkx124
      · refine wm_iload_n X 3 dX1_forged_82 rfl ?_
        refine wm_iconst (v := (-1)) X dX1_forged_83 (by decide) ?_
        obtain ⟨J102, eJ102, h⟩ := jn_e h
        have hJ102 : ∀  (σ : Mm) (C Z kc kz : Nat), J102  σ = some (xo, C, Z) → kc + C ≤ mc → kz + Z ≤ ms → WMxi p l e s m args below meth c 7 130 mc ms 5 D dA sz0 ad0 N0 xo kc kz σ [(0, va_rf (some h0)), (1, .int y1), (2, .int y2), (3, .int v3), (4, .int v4)] [] 102 := by
          intro  σ C Z kc kz h hC hZ
          rw [eJ102] at h
          refine wm_iload_n X 1 dX1_forged_102 rfl ?_
          refine wm_aload_n X 0 dX1_forged_103 rfl ?_
          refine wm_iload X 4 dX1_forged_104 rfl ?_
          obtain ⟨s36, h⟩ := ck_e h
          refine wm_cV_i (As := [.int v4]) (st := [.int y1]) X hS cd_1 s36 rfl h (fun _ _ hF => ctX1_marksOf l hF) mdX1_marksOf mvX1_marksOf q1937 dX1_forged_106 rfl rfl (c1_i c1_0) (Nat.le_of_ble_eq_true rfl) ⟨Nat.le_of_ble_eq_true rfl, Nat.le_of_ble_eq_true rfl⟩ ⟨le_p hC, le_p hZ⟩ (fun x37 σ38 _ h => ?_)
          refine wm_iconst (v := (-1)) X dX1_forged_109 (by decide) ?_
          refine wm_ixor X dX1_forged_110 ?_
          refine wm_iand X dX1_forged_111 ?_
          refine wm_if_ne X 118 h dX1_forged_112 (by decide) (fun c39 h => ?_) (fun c39 h => ?_)
          · refine wm_iinc (v := (v4 + (-1))) (ℓ' := [(4, .int (v4 + (-1))), (0, va_rf (some h0)), (1, .int y1), (2, .int y2), (3, .int v3)]) X 4 dX1_forged_118 rfl rfl (by decide) rfl ?_
            refine wm_goto X 68 dX1_forged_121 (by decide) ?_
            refine wm_sub (ℓ' := [(0, va_rf (some h0)), (1, .int y1), (2, .int y2), (3, .int v3), (4, .int (v4 + (-1)))]) [1, 2, 3, 4, 0] rfl ?_
            exact ih _ _ _ _ _ _ _ _ h hC hZ hkx124
          · refine wm_iload X 4 dX1_forged_115 rfl ?_
            refine wm_istore_n (ℓ' := [(3, .int v4), (0, va_rf (some h0)), (1, .int y1), (2, .int y2), (4, .int v4)]) X dX1_forged_117 (by decide) rfl ?_
            refine wm_iinc (v := (v4 + (-1))) (ℓ' := [(4, .int (v4 + (-1))), (3, .int v4), (0, va_rf (some h0)), (1, .int y1), (2, .int y2)]) X 4 dX1_forged_118 rfl rfl (by decide) rfl ?_
            refine wm_goto X 68 dX1_forged_121 (by decide) ?_
            refine wm_sub (ℓ' := [(0, va_rf (some h0)), (1, .int y1), (2, .int y2), (3, .int v4), (4, .int (v4 + (-1)))]) [2, 3, 4, 1, 0] rfl ?_
            exact ih _ _ _ _ _ _ _ _ h hC hZ hkx124
        clear eJ102
        refine wm_icmp_eq X 102 h dX1_forged_84 (by decide) (fun c45 h => ?_) (fun c45 h => ?_)
        · exact hJ102 _ _ _ _ _ h hC hZ
        · refine wm_iload X 4 dX1_forged_87 rfl ?_
          refine wm_cS_i (As := [.int v4]) (st := []) X hS h (fun _ _ hF => ctJ16_bitCount l hF) mdJ16_bitCount msJ16_bitCount q538 dX1_forged_89 rfl rfl c1_0 (Nat.le_of_ble_eq_true rfl) ⟨Nat.le_of_ble_eq_true rfl, Nat.le_of_ble_eq_true rfl⟩ ⟨le_p hC, le_p hZ⟩ (fun x40 σ41 _ h => ?_)
          refine wm_iload_n X 3 dX1_forged_92 rfl ?_
          refine wm_cS_i (As := [.int v3]) (st := [.int x40]) X hS h (fun _ _ hF => ctJ16_bitCount l hF) mdJ16_bitCount msJ16_bitCount q538 dX1_forged_93 rfl rfl (c1_i c1_0) (Nat.le_of_ble_eq_true rfl) ⟨Nat.le_of_ble_eq_true rfl, Nat.le_of_ble_eq_true rfl⟩ ⟨le_p hC, le_p hZ⟩ (fun x42 σ43 _ h => ?_)
          refine wm_icmp_le X 102 h dX1_forged_96 (by decide) (fun c44 h => ?_) (fun c44 h => ?_)
          · exact hJ102 _ _ _ _ _ h hC hZ
          · refine wm_goto X 118 dX1_forged_99 (by decide) ?_
            refine wm_iinc (v := (v4 + (-1))) (ℓ' := [(4, .int (v4 + (-1))), (0, va_rf (some h0)), (1, .int y1), (2, .int y2), (3, .int v3)]) X 4 dX1_forged_118 rfl rfl (by decide) rfl ?_
            refine wm_goto X 68 dX1_forged_121 (by decide) ?_
            refine wm_sub (ℓ' := [(0, va_rf (some h0)), (1, .int y1), (2, .int y2), (3, .int v3), (4, .int (v4 + (-1)))]) [1, 2, 3, 4, 0] rfl ?_
            exact ih _ _ _ _ _ _ _ _ h hC hZ hkx124
set_option maxHeartbeats 4000000 in
theorem ctX1_forged (l : Launch) (hl : l.stackTraces = false) {h0 : Nat} {x1 : Int32} {σ : Mm} {xo : (Int32 × Mm) ⊕ (Nat × Mm)} {mc ms : Nat} (h : FX1_forged h0 x1 σ = some (xo, mc, ms)) : CTXi l yX1_forged (ws_ yX1_forged cX1_forged 5 ((some FieldType.int))) 7 130 mc ms [va_rf (some h0), .int x1] σ xo := by
  refine ctx_start (n := 1) mdX1_forged (Nat.le_of_ble_eq_true rfl) (c1_r (c1_i c1_0)) (fun p e s m args below meth c D dA sz0 ad0 X hS hr hnm hno => ?_)
  have X : CX p s m args meth c cX1_forged 5 RX1 := X
  have hC : 0 + mc ≤ mc := Nat.le_of_eq (Nat.zero_add mc)
  have hZ : 0 + ms ≤ ms := Nat.le_of_eq (Nat.zero_add ms)
  generalize mN σ = N0
  unfold FX1_forged at h
  refine wm_iload_n X 1 dX1_forged_0 rfl ?_
  refine wm_iconst (v := 0) X dX1_forged_1 (by decide) ?_
  refine wm_sipush (v := 255) X dX1_forged_2 (by decide) ?_
  refine wm_cS_i (As := [.int x1, .int 0, .int 255]) (st := []) X hS h (fun _ _ hF => ctX1_in l hF) mdX1_in msX1_in q625 dX1_forged_5 rfl rfl c1_0 (Nat.le_of_ble_eq_true rfl) ⟨Nat.le_of_ble_eq_true rfl, Nat.le_of_ble_eq_true rfl⟩ ⟨le_p hC, le_p hZ⟩ (fun x21 σ22 _ h => ?_)
  refine wm_dS_v (As := [.int x21]) (st := []) X hS hno h hC hZ (fun _ _ _ hF => ctX1_demand l hl hF) mdX1_demand msX1_demand q1613 dX1_forged_8 rfl rfl c1_0 (Nat.le_of_ble_eq_true rfl) ⟨Nat.le_of_ble_eq_true rfl, Nat.le_of_ble_eq_true rfl⟩ (Nat.le_refl _) (Nat.le_refl _) (fun σ23 c1 z1 C Z _ h hC hZ => ?_)
  refine wm_iconst (v := 0) X dX1_forged_11 (by decide) ?_
  refine wm_istore_n (ℓ' := [(2, .int 0), (0, va_rf (some h0)), (1, .int x1)]) X dX1_forged_12 (by decide) rfl ?_
  refine wm_iconst (v := 0) X dX1_forged_13 (by decide) ?_
  refine wm_istore_n (ℓ' := [(3, .int 0), (2, .int 0), (0, va_rf (some h0)), (1, .int x1)]) X dX1_forged_14 (by decide) rfl ?_
  refine wm_sub (ℓ' := [(0, va_rf (some h0)), (1, .int x1), (2, .int 0), (3, .int 0)]) [2, 3, 1, 0] rfl ?_
  refine wX1_forged_15 X hS hr hnm hl hno _ _ fu _ _ _ _ _ _ _ _ h hC hZ (fun x35 σ C Z kc kz h hC hZ => ?_)
  · refine wm_iconst (v := (-1)) X dX1_forged_63 (by decide) ?_
    refine wm_istore_n (ℓ' := [(3, .int (-1)), (0, va_rf (some h0)), (1, .int x1), (2, .int x35)]) X dX1_forged_64 (by decide) rfl ?_
    refine wm_iload_n X 3 dX1_forged_65 rfl ?_
    refine wm_istore (ℓ' := [(4, .int x35), (3, .int (-1)), (0, va_rf (some h0)), (1, .int x1), (2, .int x35)]) X dX1_forged_66 (by decide) rfl ?_
    refine wm_sub (ℓ' := [(0, va_rf (some h0)), (1, .int x1), (2, .int x35), (3, .int (-1)), (4, .int x35)]) [2, 3, 4, 1, 0] rfl ?_
    refine wX1_forged_68 X hS hr hnm hl hno _ _ _ fu _ _ _ _ _ _ _ _ h hC hZ (fun x48 σ C Z kc kz h hC hZ => ?_)
    · refine wm_iload_n X 0 dX1_forged_124 rfl ?_
      exact wm_xiret X hr (rt_e h) dX1_forged_125 (le_p hC) (le_p hZ)
theorem mdX1_choices : MD yX1_choices 2 := by unfold MD; decide +kernel
theorem msX1_choices : MS yX1_choices cX1_choices 4 ((some FieldType.int)) := ⟨q1949, q128, q1950⟩
set_option maxHeartbeats 4000000 in
theorem wX1_choices_4 {p : Program} {l : Launch} {e : Env} {s : State} {m : MethodId} {args : Array Value} {below : List Frame} {meth : Method} {c : Code} {D : va_G} {dA : Nat → ClassId} {sz0 : Nat} {ad0 : Nat → Nat} {N0 : Nat} {r : Int32} {σf : Mm} (X : CX p s m args meth c cX1_choices 4 RX1) (hS : ST D dA sz0 ad0 s) (hr : meth.sig.returnType = (some FieldType.int)) (hnm : meth.name = yX1_choices.name) (y0 : Int32) (y1 : Int32) : ∀ (n : Nat) (v2 : Int32) (v3 : Int32) (σ : Mm) (kx25 : Int32 → Mm → Option (Int32 × Mm)), FX1_choices_4 y0 y1 n v2 v3 σ kx25 = some (r, σf) → (∀ (w2 : Int32) (σ : Mm), kx25 w2 σ = some (r, σf) → WMi p l e s m args below meth c 0 0 0 0 4 D dA sz0 ad0 N0 r σf 0 0 σ [(2, .int w2)] [] 25) → WMi p l e s m args below meth c 0 0 0 0 4 D dA sz0 ad0 N0 r σf 0 0 σ [(0, .int y0), (1, .int y1), (2, .int v2), (3, .int v3)] [] 4 := by
  intro n
  induction n with
  | zero =>
    intro v2 v3 σ kx25 h hkx25
    cases h
  | succ n ih =>
    intro v2 v3 σ kx25 h hkx25
    rw [FX1_choices_4] at h
    refine wm_iload_n X 3 dX1_choices_4 rfl ?_
    refine wm_iload_n X 1 dX1_choices_5 rfl ?_
    refine wm_icmp_ge X 25 h dX1_choices_6 (by decide) (fun c22 h => ?_) (fun c22 h => ?_)
    · refine wm_sub (ℓ' := [(2, .int v2)]) [2] rfl ?_
      exact hkx25 _ _ h
    · refine wm_iload_n X 2 dX1_choices_9 rfl ?_
      refine wm_iload_n X 0 dX1_choices_10 rfl ?_
      refine wm_iload_n X 3 dX1_choices_11 rfl ?_
      refine wm_isub X dX1_choices_12 ?_
      refine wm_imul X dX1_choices_13 ?_
      refine wm_iload_n X 3 dX1_choices_14 rfl ?_
      refine wm_iconst (v := 1) X dX1_choices_15 (by decide) ?_
      refine wm_iadd X dX1_choices_16 ?_
      refine wm_idiv X h dX1_choices_17 (fun x21 h => ?_)
      refine wm_istore_n (ℓ' := [(2, .int x21), (0, .int y0), (1, .int y1), (3, .int v3)]) X dX1_choices_18 (by decide) rfl ?_
      refine wm_iinc (v := (v3 + 1)) (ℓ' := [(3, .int (v3 + 1)), (2, .int x21), (0, .int y0), (1, .int y1)]) X 3 dX1_choices_19 rfl rfl (by decide) rfl ?_
      refine wm_goto X 4 dX1_choices_22 (by decide) ?_
      refine wm_sub (ℓ' := [(0, .int y0), (1, .int y1), (2, .int x21), (3, .int (v3 + 1))]) [2, 3, 1, 0] rfl ?_
      exact ih _ _ _ _ h hkx25
set_option maxHeartbeats 4000000 in
theorem ctX1_choices (l : Launch) {x0 : Int32} {x1 : Int32} {σ σf : Mm} {r : Int32} (h : FX1_choices x0 x1 σ = some (r, σf)) : CTi l yX1_choices (ws_ yX1_choices cX1_choices 4 ((some FieldType.int))) 0 0 0 0 [.int x0, .int x1] σ r σf := by
  refine ct_start (n := 2) mdX1_choices (Nat.le_of_ble_eq_true rfl) (c1_i (c1_i c1_0)) (fun p e s m args below meth c D dA sz0 ad0 X hS hr hnm => ?_)
  have X : CX p s m args meth c cX1_choices 4 RX1 := X
  generalize mN σ = N0
  unfold FX1_choices at h
  refine wm_iconst (v := 1) X dX1_choices_0 (by decide) ?_
  refine wm_istore_n (ℓ' := [(2, .int 1), (0, .int x0), (1, .int x1)]) X dX1_choices_1 (by decide) rfl ?_
  refine wm_iconst (v := 0) X dX1_choices_2 (by decide) ?_
  refine wm_istore_n (ℓ' := [(3, .int 0), (2, .int 1), (0, .int x0), (1, .int x1)]) X dX1_choices_3 (by decide) rfl ?_
  refine wm_sub (ℓ' := [(0, .int x0), (1, .int x1), (2, .int 1), (3, .int 0)]) [2, 3, 1, 0] rfl ?_
  refine wX1_choices_4 X hS hr hnm _ _ fu _ _ _ _ h (fun x23 σ h => ?_)
  · refine wm_iload_n X 0 dX1_choices_25 rfl ?_
    exact wm_iret X hr h dX1_choices_26 (Nat.le_of_ble_eq_true rfl) (Nat.le_of_ble_eq_true rfl)
theorem mdX1_astray : MD yX1_astray 1 := by unfold MD; decide +kernel
theorem msX1_astray : MS yX1_astray cX1_astray 5 ((some FieldType.int)) := ⟨q1952, q128, q1953⟩
set_option maxHeartbeats 4000000 in
theorem wX1_astray_6 {p : Program} {l : Launch} {e : Env} {s : State} {m : MethodId} {args : Array Value} {below : List Frame} {meth : Method} {c : Code} {D : va_G} {dA : Nat → ClassId} {sz0 : Nat} {ad0 : Nat → Nat} {N0 : Nat} {r : Int32} {σf : Mm} (X : CX p s m args meth c cX1_astray 5 RX1) (hS : ST D dA sz0 ad0 s) (hr : meth.sig.returnType = (some FieldType.int)) (hnm : meth.name = yX1_astray.name) (y0 : Int32) : ∀ (n : Nat) (v1 : Int32) (v2 : Int32) (v3 : Int32) (σ : Mm) (kx31 : Int32 → Mm → Option (Int32 × Mm)), FX1_astray_6 y0 n v1 v2 v3 σ kx31 = some (r, σf) → (∀ (w2 : Int32) (σ : Mm), kx31 w2 σ = some (r, σf) → WMi p l e s m args below meth c 0 0 0 0 5 D dA sz0 ad0 N0 r σf 0 0 σ [(0, .int y0), (2, .int w2)] [] 31) → WMi p l e s m args below meth c 0 0 0 0 5 D dA sz0 ad0 N0 r σf 0 0 σ [(0, .int y0), (1, .int v1), (2, .int v2), (3, .int v3)] [] 6 := by
  intro n
  induction n with
  | zero =>
    intro v1 v2 v3 σ kx31 h hkx31
    cases h
  | succ n ih =>
    intro v1 v2 v3 σ kx31 h hkx31
    rw [FX1_astray_6] at h
    refine wm_iload_n X 3 dX1_astray_6 rfl ?_
    refine wm_iload_n X 0 dX1_astray_7 rfl ?_
    refine wm_icmp_gt X 31 h dX1_astray_8 (by decide) (fun c21 h => ?_) (fun c21 h => ?_)
    · refine wm_sub (ℓ' := [(0, .int y0), (2, .int v2)]) [0, 2] rfl ?_
      exact hkx31 _ _ h
    · refine wm_iload_n X 3 dX1_astray_11 rfl ?_
      refine wm_iconst (v := 1) X dX1_astray_12 (by decide) ?_
      refine wm_isub X dX1_astray_13 ?_
      refine wm_iload_n X 1 dX1_astray_14 rfl ?_
      refine wm_iload_n X 2 dX1_astray_15 rfl ?_
      refine wm_iadd X dX1_astray_16 ?_
      refine wm_imul X dX1_astray_17 ?_
      refine wm_istore (ℓ' := [(4, .int ((v3 - 1) * (v1 + v2))), (0, .int y0), (1, .int v1), (2, .int v2), (3, .int v3)]) X dX1_astray_18 (by decide) rfl ?_
      refine wm_iload_n X 3 dX1_astray_20 rfl ?_
      refine wm_istore_n (ℓ' := [(1, .int v2), (4, .int ((v3 - 1) * (v1 + v2))), (0, .int y0), (2, .int v2), (3, .int v3)]) X dX1_astray_21 (by decide) rfl ?_
      refine wm_iload X 1 dX1_astray_22 rfl ?_
      refine wm_istore_n (ℓ' := [(2, .int ((v3 - 1) * (v1 + v2))), (1, .int v2), (4, .int ((v3 - 1) * (v1 + v2))), (0, .int y0), (3, .int v3)]) X dX1_astray_24 (by decide) rfl ?_
      refine wm_iinc (v := (v3 + 1)) (ℓ' := [(3, .int (v3 + 1)), (2, .int ((v3 - 1) * (v1 + v2))), (1, .int v2), (4, .int ((v3 - 1) * (v1 + v2))), (0, .int y0)]) X 4 dX1_astray_25 rfl rfl (by decide) rfl ?_
      refine wm_goto X 6 dX1_astray_28 (by decide) ?_
      refine wm_sub (ℓ' := [(0, .int y0), (1, .int v2), (2, .int ((v3 - 1) * (v1 + v2))), (3, .int (v3 + 1))]) [4, 2, 1, 0] rfl ?_
      exact ih _ _ _ _ _ h hkx31
set_option maxHeartbeats 4000000 in
theorem ctX1_astray (l : Launch) {x0 : Int32} {σ σf : Mm} {r : Int32} (h : FX1_astray x0 σ = some (r, σf)) : CTi l yX1_astray (ws_ yX1_astray cX1_astray 5 ((some FieldType.int))) 0 0 0 0 [.int x0] σ r σf := by
  refine ct_start (n := 1) mdX1_astray (Nat.le_of_ble_eq_true rfl) (c1_i c1_0) (fun p e s m args below meth c D dA sz0 ad0 X hS hr hnm => ?_)
  have X : CX p s m args meth c cX1_astray 5 RX1 := X
  generalize mN σ = N0
  unfold FX1_astray at h
  refine wm_iconst (v := 1) X dX1_astray_0 (by decide) ?_
  refine wm_istore_n (ℓ' := [(1, .int 1), (0, .int x0)]) X dX1_astray_1 (by decide) rfl ?_
  refine wm_iconst (v := 0) X dX1_astray_2 (by decide) ?_
  refine wm_istore_n (ℓ' := [(2, .int 0), (1, .int 1), (0, .int x0)]) X dX1_astray_3 (by decide) rfl ?_
  refine wm_iconst (v := 2) X dX1_astray_4 (by decide) ?_
  refine wm_istore_n (ℓ' := [(3, .int 2), (2, .int 0), (1, .int 1), (0, .int x0)]) X dX1_astray_5 (by decide) rfl ?_
  refine wm_sub (ℓ' := [(0, .int x0), (1, .int 1), (2, .int 0), (3, .int 2)]) [3, 2, 1, 0] rfl ?_
  refine wX1_astray_6 X hS hr hnm _ fu _ _ _ _ _ h (fun x22 σ h => ?_)
  · refine wm_iload_n X 0 dX1_astray_31 rfl ?_
    refine wm_if_ne X 39 h dX1_astray_32 (by decide) (fun c23 h => ?_) (fun c23 h => ?_)
    · refine wm_iload_n X 1 dX1_astray_39 rfl ?_
      exact wm_iret X hr h dX1_astray_40 (Nat.le_of_ble_eq_true rfl) (Nat.le_of_ble_eq_true rfl)
    · refine wm_iconst (v := 1) X dX1_astray_35 (by decide) ?_
      refine wm_goto X 40 dX1_astray_36 (by decide) ?_
      exact wm_iret X hr h dX1_astray_40 (Nat.le_of_ble_eq_true rfl) (Nat.le_of_ble_eq_true rfl)
theorem mdX1_ways : MD yX1_ways 1 := by unfold MD; decide +kernel
theorem mvX1_ways : MV yX1_ways cX1_ways 3 ((some FieldType.int)) := ⟨q1945, q1946, q128, q1947⟩
set_option maxHeartbeats 4000000 in
theorem ctX1_ways (l : Launch) (hl : l.stackTraces = false) {h0 : Nat} {x1 : Int32} {σ : Mm} {xo : (Int32 × Mm) ⊕ (Nat × Mm)} {mc ms : Nat} (h : FX1_ways h0 x1 σ = some (xo, mc, ms)) : CTXi l yX1_ways (ws_ yX1_ways cX1_ways 3 ((some FieldType.int))) 7 130 mc ms [va_rf (some h0), .int x1] σ xo := by
  refine ctx_start (n := 1) mdX1_ways (Nat.le_of_ble_eq_true rfl) (c1_r (c1_i c1_0)) (fun p e s m args below meth c D dA sz0 ad0 X hS hr hnm hno => ?_)
  have X : CX p s m args meth c cX1_ways 3 RX1 := X
  have hC : 0 + mc ≤ mc := Nat.le_of_eq (Nat.zero_add mc)
  have hZ : 0 + ms ≤ ms := Nat.le_of_eq (Nat.zero_add ms)
  generalize mN σ = N0
  unfold FX1_ways at h
  refine wm_iload_n X 1 dX1_ways_0 rfl ?_
  refine wm_iconst (v := 0) X dX1_ways_1 (by decide) ?_
  refine wm_bipush (v := 10) X dX1_ways_2 (by decide) ?_
  refine wm_cS_i (As := [.int x1, .int 0, .int 10]) (st := []) X hS h (fun _ _ hF => ctX1_in l hF) mdX1_in msX1_in q625 dX1_ways_4 rfl rfl c1_0 (Nat.le_of_ble_eq_true rfl) ⟨Nat.le_of_ble_eq_true rfl, Nat.le_of_ble_eq_true rfl⟩ ⟨le_p hC, le_p hZ⟩ (fun x21 σ22 _ h => ?_)
  refine wm_dS_v (As := [.int x21]) (st := []) X hS hno h hC hZ (fun _ _ _ hF => ctX1_demand l hl hF) mdX1_demand msX1_demand q1613 dX1_ways_7 rfl rfl c1_0 (Nat.le_of_ble_eq_true rfl) ⟨Nat.le_of_ble_eq_true rfl, Nat.le_of_ble_eq_true rfl⟩ (Nat.le_refl _) (Nat.le_refl _) (fun σ23 c1 z1 C Z _ h hC hZ => ?_)
  refine wm_aload_n X 0 dX1_ways_10 rfl ?_
  refine wm_gR X hS cd_1 0 h dX1_ways_11 (Nat.le_of_ble_eq_true rfl) rfl q434 (fun x24 h => ?_)
  obtain ⟨q25, eq25, h⟩ := Option.bind_eq_some_iff.mp h
  obtain ⟨eq25, s26⟩ := rv_some eq25
  refine wm_cV_i (As := []) (st := []) X hS cd_2 s26 rfl h (fun _ _ hF => ctX2_withTickets l hF) mdX2_withTickets mvX2_withTickets q701 dX1_ways_14 rfl (by rw [eq25]; first | done | rfl) c1_0 (Nat.le_of_ble_eq_true rfl) ⟨Nat.le_of_ble_eq_true rfl, Nat.le_of_ble_eq_true rfl⟩ ⟨le_p hC, le_p hZ⟩ (fun x27 σ28 _ h => ?_)
  refine wm_cS_i (As := [.int x27]) (st := []) X hS h (fun _ _ hF => ctJ16_bitCount l hF) mdJ16_bitCount msJ16_bitCount q538 dX1_ways_17 rfl rfl c1_0 (Nat.le_of_ble_eq_true rfl) ⟨Nat.le_of_ble_eq_true rfl, Nat.le_of_ble_eq_true rfl⟩ ⟨le_p hC, le_p hZ⟩ (fun x29 σ30 _ h => ?_)
  refine wm_istore_n (ℓ' := [(2, .int x29), (0, va_rf (some h0)), (1, .int x1)]) X dX1_ways_20 (by decide) rfl ?_
  refine wm_iload_n X 2 dX1_ways_21 rfl ?_
  refine wm_iload_n X 0 dX1_ways_22 rfl ?_
  refine wm_icmp_le X 30 h dX1_ways_23 (by decide) (fun c35 h => ?_) (fun c35 h => ?_)
  · refine wm_iload_n X 0 dX1_ways_30 rfl ?_
    refine wm_iload_n X 2 dX1_ways_31 rfl ?_
    refine wm_cS_i (As := [.int x29, .int x1]) (st := []) X hS h (fun _ _ hF => ctX1_choices l hF) mdX1_choices msX1_choices q1948 dX1_ways_32 rfl rfl c1_0 (Nat.le_of_ble_eq_true rfl) ⟨Nat.le_of_ble_eq_true rfl, Nat.le_of_ble_eq_true rfl⟩ ⟨le_p hC, le_p hZ⟩ (fun x31 σ32 _ h => ?_)
    refine wm_iload_n X 0 dX1_ways_35 rfl ?_
    refine wm_iload_n X 2 dX1_ways_36 rfl ?_
    refine wm_isub X dX1_ways_37 ?_
    refine wm_cS_i (As := [.int (x29 - x1)]) (st := [.int x31]) X hS h (fun _ _ hF => ctX1_astray l hF) mdX1_astray msX1_astray q1951 dX1_ways_38 rfl rfl (c1_i c1_0) (Nat.le_of_ble_eq_true rfl) ⟨Nat.le_of_ble_eq_true rfl, Nat.le_of_ble_eq_true rfl⟩ ⟨le_p hC, le_p hZ⟩ (fun x33 σ34 _ h => ?_)
    refine wm_imul X dX1_ways_41 ?_
    exact wm_xiret X hr (rt_e h) dX1_ways_42 (le_p hC) (le_p hZ)
  · refine wm_iconst (v := 0) X dX1_ways_26 (by decide) ?_
    refine wm_goto X 42 dX1_ways_27 (by decide) ?_
    exact wm_xiret X hr (rt_e h) dX1_ways_42 (le_p hC) (le_p hZ)
theorem mdX1_talk : MD yX1_talk 1 := by unfold MD; decide +kernel
theorem mvX1_talk : MV yX1_talk cX1_talk 5 ((some FieldType.int)) := ⟨q1958, q1959, q128, q1960⟩
set_option maxHeartbeats 4000000 in
theorem wX1_talk_22 {p : Program} {l : Launch} {e : Env} {s : State} {m : MethodId} {args : Array Value} {below : List Frame} {meth : Method} {c : Code} {D : va_G} {dA : Nat → ClassId} {sz0 : Nat} {ad0 : Nat → Nat} {N0 : Nat} {xo : (Int32 × Mm) ⊕ (Nat × Mm)} {mc ms : Nat} (X : CX p s m args meth c cX1_talk 5 RX1) (hS : ST D dA sz0 ad0 s) (hr : meth.sig.returnType = (some FieldType.int)) (hnm : meth.name = yX1_talk.name) (hl : l.stackTraces = false) (hno : ∀ x ∈ c.exceptionTable.toList, False) (h0 : Nat) : ∀ (n : Nat) (v2 : Int32) (σ : Mm) (kx47 : Int32 → Mm → DX (Int32 × Mm)) (C Z kc kz : Nat), FX1_talk_22 h0 n v2 σ kx47 = some (xo, C, Z) → kc + C ≤ mc → kz + Z ≤ ms → (∀ (w2 : Int32) (σ : Mm) (C Z kc kz : Nat), kx47 w2 σ = some (xo, C, Z) → kc + C ≤ mc → kz + Z ≤ ms → WMxi p l e s m args below meth c 8 152 mc ms 5 D dA sz0 ad0 N0 xo kc kz σ [(0, va_rf (some h0)), (2, .int w2)] [] 47) → WMxi p l e s m args below meth c 8 152 mc ms 5 D dA sz0 ad0 N0 xo kc kz σ [(0, va_rf (some h0)), (2, .int v2)] [] 22 := by
  intro n
  induction n with
  | zero =>
    intro v2 σ kx47 C Z kc kz h hC hZ hkx47
    cases h
  | succ n ih =>
    intro v2 σ kx47 C Z kc kz h hC hZ hkx47
    rw [FX1_talk_22] at h
    refine wm_iload_n X 1 dX1_talk_22 rfl ?_
    refine wm_if_le X 47 h dX1_talk_23 (by decide) (fun c30 h => ?_) (fun c30 h => ?_)
    · exact hkx47 _ _ _ _ _ _ h hC hZ
    · refine wm_aload_n X 0 dX1_talk_26 rfl ?_
      refine wm_gR X hS cd_1 0 h dX1_talk_27 (Nat.le_of_ble_eq_true rfl) rfl q434 (fun x26 h => ?_)
      refine wm_gRN X hS cd_2 17 h dX1_talk_30 (Nat.le_of_ble_eq_true rfl) rfl 17 rfl (fun x27 h => ?_)
      refine wm_iload_n X 1 dX1_talk_33 rfl ?_
      refine wm_iconst (v := 1) X dX1_talk_34 (by decide) ?_
      refine wm_isub X dX1_talk_35 ?_
      refine wm_iaload X hS h dX1_talk_36 (fun x28 h => ?_)
      refine wm_iconst (v := (-1)) X dX1_talk_37 (by decide) ?_
      refine wm_icmp_eq X 47 h dX1_talk_38 (by decide) (fun c29 h => ?_) (fun c29 h => ?_)
      · exact hkx47 _ _ _ _ _ _ h hC hZ
      · refine wm_iinc (v := (v2 + (-1))) (ℓ' := [(2, .int (v2 + (-1))), (0, va_rf (some h0))]) X 1 dX1_talk_41 rfl rfl (by decide) rfl ?_
        refine wm_goto X 22 dX1_talk_44 (by decide) ?_
        refine wm_sub (ℓ' := [(0, va_rf (some h0)), (2, .int (v2 + (-1)))]) [1, 0] rfl ?_
        exact ih _ _ _ _ _ _ _ h hC hZ hkx47
set_option maxHeartbeats 4000000 in
theorem wX1_talk_52 {p : Program} {l : Launch} {e : Env} {s : State} {m : MethodId} {args : Array Value} {below : List Frame} {meth : Method} {c : Code} {D : va_G} {dA : Nat → ClassId} {sz0 : Nat} {ad0 : Nat → Nat} {N0 : Nat} {xo : (Int32 × Mm) ⊕ (Nat × Mm)} {mc ms : Nat} (X : CX p s m args meth c cX1_talk 5 RX1) (hS : ST D dA sz0 ad0 s) (hr : meth.sig.returnType = (some FieldType.int)) (hnm : meth.name = yX1_talk.name) (hl : l.stackTraces = false) (hno : ∀ x ∈ c.exceptionTable.toList, False) (h0 : Nat) (y2 : Int32) : ∀ (n : Nat) (v3 : Int32) (v4 : Int32) (σ : Mm) (kx85 : Int32 → Mm → DX (Int32 × Mm)) (C Z kc kz : Nat), FX1_talk_52 h0 y2 n v3 v4 σ kx85 = some (xo, C, Z) → kc + C ≤ mc → kz + Z ≤ ms → (∀ (w3 : Int32) (σ : Mm) (C Z kc kz : Nat), kx85 w3 σ = some (xo, C, Z) → kc + C ≤ mc → kz + Z ≤ ms → WMxi p l e s m args below meth c 8 152 mc ms 5 D dA sz0 ad0 N0 xo kc kz σ [(3, .int w3)] [] 85) → WMxi p l e s m args below meth c 8 152 mc ms 5 D dA sz0 ad0 N0 xo kc kz σ [(0, va_rf (some h0)), (2, .int y2), (3, .int v3), (4, .int v4)] [] 52 := by
  intro n
  induction n with
  | zero =>
    intro v3 v4 σ kx85 C Z kc kz h hC hZ hkx85
    cases h
  | succ n ih =>
    intro v3 v4 σ kx85 C Z kc kz h hC hZ hkx85
    rw [FX1_talk_52] at h
    refine wm_iload X 3 dX1_talk_52 rfl ?_
    refine wm_aload_n X 0 dX1_talk_54 rfl ?_
    refine wm_iload_n X 1 dX1_talk_55 rfl ?_
    obtain ⟨s32, h⟩ := ck_e h
    refine wm_cV_i (As := [.int y2]) (st := [.int v4]) X hS cd_1 s32 rfl h (fun _ _ hF => ctX1_rowFrom l hF) mdX1_rowFrom mvX1_rowFrom q636 dX1_talk_56 rfl rfl (c1_i c1_0) (Nat.le_of_ble_eq_true rfl) ⟨Nat.le_of_ble_eq_true rfl, Nat.le_of_ble_eq_true rfl⟩ ⟨le_p hC, le_p hZ⟩ (fun x33 σ34 _ h => ?_)
    refine wm_icmp_ge X 85 h dX1_talk_59 (by decide) (fun c38 h => ?_) (fun c38 h => ?_)
    · refine wm_sub (ℓ' := [(3, .int v3)]) [2] rfl ?_
      exact hkx85 _ _ _ _ _ _ h hC hZ
    · refine wm_iload_n X 2 dX1_talk_62 rfl ?_
      refine wm_iconst (v := 1) X dX1_talk_63 (by decide) ?_
      refine wm_aload_n X 0 dX1_talk_64 rfl ?_
      refine wm_gR X hS cd_1 0 h dX1_talk_65 (Nat.le_of_ble_eq_true rfl) rfl q434 (fun x35 h => ?_)
      refine wm_gRN X hS cd_2 17 h dX1_talk_68 (Nat.le_of_ble_eq_true rfl) rfl 17 rfl (fun x36 h => ?_)
      refine wm_iload_n X 1 dX1_talk_71 rfl ?_
      refine wm_iload X 3 dX1_talk_72 rfl ?_
      refine wm_iadd X dX1_talk_74 ?_
      refine wm_iaload X hS h dX1_talk_75 (fun x37 h => ?_)
      refine wm_ishl X dX1_talk_76 ?_
      refine wm_ior X dX1_talk_77 ?_
      refine wm_istore_n (ℓ' := [(3, .int (v3 ||| (1 <<< (x37 &&& 31)))), (0, va_rf (some h0)), (2, .int y2), (4, .int v4)]) X dX1_talk_78 (by decide) rfl ?_
      refine wm_iinc (v := (v4 + 1)) (ℓ' := [(4, .int (v4 + 1)), (3, .int (v3 ||| (1 <<< (x37 &&& 31)))), (0, va_rf (some h0)), (2, .int y2)]) X 3 dX1_talk_79 rfl rfl (by decide) rfl ?_
      refine wm_goto X 52 dX1_talk_82 (by decide) ?_
      refine wm_sub (ℓ' := [(0, va_rf (some h0)), (2, .int y2), (3, .int (v3 ||| (1 <<< (x37 &&& 31)))), (4, .int (v4 + 1))]) [2, 3, 1, 0] rfl ?_
      exact ih _ _ _ _ _ _ _ _ h hC hZ hkx85
set_option maxHeartbeats 4000000 in
theorem ctX1_talk (l : Launch) (hl : l.stackTraces = false) {h0 : Nat} {x1 : Int32} {σ : Mm} {xo : (Int32 × Mm) ⊕ (Nat × Mm)} {mc ms : Nat} (h : FX1_talk h0 x1 σ = some (xo, mc, ms)) : CTXi l yX1_talk (ws_ yX1_talk cX1_talk 5 ((some FieldType.int))) 8 152 mc ms [va_rf (some h0), .int x1] σ xo := by
  refine ctx_start (n := 1) mdX1_talk (Nat.le_of_ble_eq_true rfl) (c1_r (c1_i c1_0)) (fun p e s m args below meth c D dA sz0 ad0 X hS hr hnm hno => ?_)
  have X : CX p s m args meth c cX1_talk 5 RX1 := X
  have hC : 0 + mc ≤ mc := Nat.le_of_eq (Nat.zero_add mc)
  have hZ : 0 + ms ≤ ms := Nat.le_of_eq (Nat.zero_add ms)
  generalize mN σ = N0
  unfold FX1_talk at h
  refine wm_aload_n X 0 dX1_talk_0 rfl ?_
  refine wm_iload_n X 1 dX1_talk_1 rfl ?_
  obtain ⟨s21, h⟩ := ck_e h
  refine wm_dV_v (As := [.int x1]) (st := []) X hS hno cd_1 s21 rfl h hC hZ (fun _ _ _ hF => ctX1_hookAt l hl hF) mdX1_hookAt mvX1_hookAt q1591 dX1_talk_2 rfl rfl c1_0 (Nat.le_of_ble_eq_true rfl) ⟨Nat.le_of_ble_eq_true rfl, Nat.le_of_ble_eq_true rfl⟩ (Nat.le_refl _) (Nat.le_refl _) (fun σ22 c1 z1 C Z _ h hC hZ => ?_)
  refine wm_aload_n X 0 dX1_talk_5 rfl ?_
  refine wm_gR X hS cd_1 0 h dX1_talk_6 (Nat.le_of_ble_eq_true rfl) rfl q434 (fun x23 h => ?_)
  refine wm_gRN X hS cd_2 17 h dX1_talk_9 (Nat.le_of_ble_eq_true rfl) rfl 17 rfl (fun x24 h => ?_)
  refine wm_iload_n X 1 dX1_talk_12 rfl ?_
  refine wm_iaload X hS h dX1_talk_13 (fun x25 h => ?_)
  refine wm_iconst (v := (-1)) X dX1_talk_14 (by decide) ?_
  refine wm_icmp_ne X 20 h dX1_talk_15 (by decide) (fun c40 h => ?_) (fun c40 h => ?_)
  · refine wm_iload_n X 1 dX1_talk_20 rfl ?_
    refine wm_istore_n (ℓ' := [(2, .int x1), (0, va_rf (some h0)), (1, .int x1)]) X dX1_talk_21 (by decide) rfl ?_
    refine wm_sub (ℓ' := [(0, va_rf (some h0)), (2, .int x1)]) [1, 0] rfl ?_
    refine wX1_talk_22 X hS hr hnm hl hno _ fu _ _ _ _ _ _ _ h hC hZ (fun x31 σ C Z kc kz h hC hZ => ?_)
    · refine wm_iconst (v := 0) X dX1_talk_47 (by decide) ?_
      refine wm_istore_n (ℓ' := [(3, .int 0), (0, va_rf (some h0)), (2, .int x31)]) X dX1_talk_48 (by decide) rfl ?_
      refine wm_iconst (v := 0) X dX1_talk_49 (by decide) ?_
      refine wm_istore (ℓ' := [(4, .int 0), (3, .int 0), (0, va_rf (some h0)), (2, .int x31)]) X dX1_talk_50 (by decide) rfl ?_
      refine wm_sub (ℓ' := [(0, va_rf (some h0)), (2, .int x31), (3, .int 0), (4, .int 0)]) [2, 3, 1, 0] rfl ?_
      refine wX1_talk_52 X hS hr hnm hl hno _ _ fu _ _ _ _ _ _ _ _ h hC hZ (fun x39 σ C Z kc kz h hC hZ => ?_)
      · refine wm_iload_n X 0 dX1_talk_85 rfl ?_
        exact wm_xiret X hr (rt_e h) dX1_talk_86 (le_p hC) (le_p hZ)
  · refine wm_iconst (v := 0) X dX1_talk_18 (by decide) ?_
    exact wm_xiret X hr (rt_e h) dX1_talk_19 (le_p hC) (le_p hZ)
theorem mdX1_chain : MD yX1_chain 2 := by unfold MD; decide +kernel
theorem mvX1_chain : MV yX1_chain cX1_chain 7 ((some FieldType.int)) := ⟨q1965, q1966, q128, q1967⟩
set_option maxHeartbeats 4000000 in
theorem wX1_chain_26 {p : Program} {l : Launch} {e : Env} {s : State} {m : MethodId} {args : Array Value} {below : List Frame} {meth : Method} {c : Code} {D : va_G} {dA : Nat → ClassId} {sz0 : Nat} {ad0 : Nat → Nat} {N0 : Nat} {xo : (Int32 × Mm) ⊕ (Nat × Mm)} {mc ms : Nat} (X : CX p s m args meth c cX1_chain 7 RX1) (hS : ST D dA sz0 ad0 s) (hr : meth.sig.returnType = (some FieldType.int)) (hnm : meth.name = yX1_chain.name) (hl : l.stackTraces = false) (hno : ∀ x ∈ c.exceptionTable.toList, False) (h0 : Nat) (y2 : Int32) (y3 : Int32) (y4 : Int32) : ∀ (n : Nat) (v5 : Int32) (v6 : Int32) (σ : Mm) (kx72 : Int32 → Mm → DX (Int32 × Mm)) (C Z kc kz : Nat), FX1_chain_26 h0 y2 y3 y4 n v5 v6 σ kx72 = some (xo, C, Z) → kc + C ≤ mc → kz + Z ≤ ms → (∀ (w5 : Int32) (σ : Mm) (C Z kc kz : Nat), kx72 w5 σ = some (xo, C, Z) → kc + C ≤ mc → kz + Z ≤ ms → WMxi p l e s m args below meth c 9 174 mc ms 7 D dA sz0 ad0 N0 xo kc kz σ [(0, va_rf (some h0)), (2, .int y2), (4, .int y4), (5, .int w5)] [] 72) → WMxi p l e s m args below meth c 9 174 mc ms 7 D dA sz0 ad0 N0 xo kc kz σ [(0, va_rf (some h0)), (2, .int y2), (3, .int y3), (4, .int y4), (5, .int v5), (6, .int v6)] [] 26 := by
  intro n
  induction n with
  | zero =>
    intro v5 v6 σ kx72 C Z kc kz h hC hZ hkx72
    cases h
  | succ n ih =>
    intro v5 v6 σ kx72 C Z kc kz h hC hZ hkx72
    rw [FX1_chain_26] at h
    refine wm_iload X 5 dX1_chain_26 rfl ?_
    refine wm_aload_n X 0 dX1_chain_28 rfl ?_
    refine wm_gR X hS cd_1 0 h dX1_chain_29 (Nat.le_of_ble_eq_true rfl) rfl q434 (fun x23 h => ?_)
    refine wm_gIN X hS cd_2 1 h dX1_chain_32 (Nat.le_of_ble_eq_true rfl) rfl 1 rfl (fun x24 h => ?_)
    refine wm_icmp_ge X 72 h dX1_chain_35 (by decide) (fun c32 h => ?_) (fun c32 h => ?_)
    · refine wm_sub (ℓ' := [(0, va_rf (some h0)), (2, .int y2), (4, .int y4), (5, .int v5)]) [0, 1, 3, 4] rfl ?_
      exact hkx72 _ _ _ _ _ _ h hC hZ
    · refine wm_iload X 4 dX1_chain_38 rfl ?_
      refine wm_iload_n X 2 dX1_chain_40 rfl ?_
      refine wm_iload X 5 dX1_chain_41 rfl ?_
      refine wm_cS_i (As := [.int y3, .int v6]) (st := [.int v5]) X hS h (fun _ _ hF => ctX1_has l hF) mdX1_has msX1_has q535 dX1_chain_43 rfl rfl (c1_i c1_0) (Nat.le_of_ble_eq_true rfl) ⟨Nat.le_of_ble_eq_true rfl, Nat.le_of_ble_eq_true rfl⟩ ⟨le_p hC, le_p hZ⟩ (fun x25 σ26 _ h => ?_)
      obtain ⟨J63, eJ63, h⟩ := jn_e h
      have hJ63 : ∀ (z27 : Int32) (σ : Mm) (C Z kc kz : Nat), J63 z27 σ = some (xo, C, Z) → kc + C ≤ mc → kz + Z ≤ ms → WMxi p l e s m args below meth c 9 174 mc ms 7 D dA sz0 ad0 N0 xo kc kz σ [(0, va_rf (some h0)), (2, .int y2), (3, .int y3), (4, .int y4), (6, .int v6)] [.int z27, .int v5] 63 := by
        intro z27 σ C Z kc kz h hC hZ
        rw [eJ63] at h
        refine wm_ior X dX1_chain_63 ?_
        refine wm_istore (ℓ' := [(5, .int (v5 ||| z27)), (0, va_rf (some h0)), (2, .int y2), (3, .int y3), (4, .int y4), (6, .int v6)]) X dX1_chain_64 (by decide) rfl ?_
        refine wm_iinc (v := (v6 + 1)) (ℓ' := [(6, .int (v6 + 1)), (5, .int (v5 ||| z27)), (0, va_rf (some h0)), (2, .int y2), (3, .int y3), (4, .int y4)]) X 5 dX1_chain_66 rfl rfl (by decide) rfl ?_
        refine wm_goto X 26 dX1_chain_69 (by decide) ?_
        refine wm_sub (ℓ' := [(0, va_rf (some h0)), (2, .int y2), (3, .int y3), (4, .int y4), (5, .int (v5 ||| z27)), (6, .int (v6 + 1))]) [2, 3, 4, 5, 1, 0] rfl ?_
        exact ih _ _ _ _ _ _ _ _ h hC hZ hkx72
      clear eJ63
      refine wm_if_eq X 62 h dX1_chain_46 (by decide) (fun c31 h => ?_) (fun c31 h => ?_)
      · refine wm_iconst (v := 0) X dX1_chain_62 (by decide) ?_
        refine wm_sub (ℓ' := [(0, va_rf (some h0)), (2, .int y2), (3, .int y3), (4, .int y4), (6, .int v6)]) [0, 1, 2, 3, 5] rfl ?_
        exact hJ63 _ _ _ _ _ _ h hC hZ
      · refine wm_aload_n X 0 dX1_chain_49 rfl ?_
        refine wm_gR X hS cd_1 0 h dX1_chain_50 (Nat.le_of_ble_eq_true rfl) rfl q434 (fun x28 h => ?_)
        refine wm_gRN X hS cd_2 13 h dX1_chain_53 (Nat.le_of_ble_eq_true rfl) rfl 13 rfl (fun x29 h => ?_)
        refine wm_iload X 5 dX1_chain_56 rfl ?_
        refine wm_iaload X hS h dX1_chain_58 (fun x30 h => ?_)
        refine wm_goto X 63 dX1_chain_59 (by decide) ?_
        refine wm_sub (ℓ' := [(0, va_rf (some h0)), (2, .int y2), (3, .int y3), (4, .int y4), (6, .int v6)]) [0, 1, 2, 3, 5] rfl ?_
        exact hJ63 _ _ _ _ _ _ h hC hZ
set_option maxHeartbeats 4000000 in
theorem wX1_chain_13 {p : Program} {l : Launch} {e : Env} {s : State} {m : MethodId} {args : Array Value} {below : List Frame} {meth : Method} {c : Code} {D : va_G} {dA : Nat → ClassId} {sz0 : Nat} {ad0 : Nat → Nat} {N0 : Nat} {xo : (Int32 × Mm) ⊕ (Nat × Mm)} {mc ms : Nat} (X : CX p s m args meth c cX1_chain 7 RX1) (hS : ST D dA sz0 ad0 s) (hr : meth.sig.returnType = (some FieldType.int)) (hnm : meth.name = yX1_chain.name) (hl : l.stackTraces = false) (hno : ∀ x ∈ c.exceptionTable.toList, False) (h0 : Nat) (y2 : Int32) : ∀ (n : Nat) (v3 : Int32) (v4 : Int32) (σ : Mm) (kx93 : Mm → DX (Int32 × Mm)) (kx81 : Int32 → Mm → DX (Int32 × Mm)) (C Z kc kz : Nat), FX1_chain_13 h0 y2 n v3 v4 σ kx93 kx81 = some (xo, C, Z) → kc + C ≤ mc → kz + Z ≤ ms → (∀  (σ : Mm) (C Z kc kz : Nat), kx93 σ = some (xo, C, Z) → kc + C ≤ mc → kz + Z ≤ ms → WMxi p l e s m args below meth c 9 174 mc ms 7 D dA sz0 ad0 N0 xo kc kz σ [] [] 93) → (∀ (w4 : Int32) (σ : Mm) (C Z kc kz : Nat), kx81 w4 σ = some (xo, C, Z) → kc + C ≤ mc → kz + Z ≤ ms → WMxi p l e s m args below meth c 9 174 mc ms 7 D dA sz0 ad0 N0 xo kc kz σ [(4, .int w4)] [] 81) → WMxi p l e s m args below meth c 9 174 mc ms 7 D dA sz0 ad0 N0 xo kc kz σ [(0, va_rf (some h0)), (2, .int y2), (3, .int v3), (4, .int v4)] [] 13 := by
  intro n
  induction n with
  | zero =>
    intro v3 v4 σ kx93 kx81 C Z kc kz h hC hZ hkx93 hkx81
    cases h
  | succ n ih =>
    intro v3 v4 σ kx93 kx81 C Z kc kz h hC hZ hkx93 hkx81
    rw [FX1_chain_13] at h
    refine wm_iload X 3 dX1_chain_13 rfl ?_
    refine wm_bipush (v := 10) X dX1_chain_15 (by decide) ?_
    refine wm_icmp_ge X 93 h dX1_chain_17 (by decide) (fun c37 h => ?_) (fun c37 h => ?_)
    · refine wm_sub (ℓ' := []) [] rfl ?_
      exact hkx93 _ _ _ _ _ h hC hZ
    · refine wm_iload_n X 2 dX1_chain_20 rfl ?_
      refine wm_istore (ℓ' := [(5, .int v3), (0, va_rf (some h0)), (2, .int y2), (3, .int v3), (4, .int v4)]) X dX1_chain_21 (by decide) rfl ?_
      refine wm_iconst (v := 0) X dX1_chain_23 (by decide) ?_
      refine wm_istore (ℓ' := [(6, .int 0), (5, .int v3), (0, va_rf (some h0)), (2, .int y2), (3, .int v3), (4, .int v4)]) X dX1_chain_24 (by decide) rfl ?_
      refine wm_sub (ℓ' := [(0, va_rf (some h0)), (2, .int y2), (3, .int v3), (4, .int v4), (5, .int v3), (6, .int 0)]) [2, 3, 4, 5, 1, 0] rfl ?_
      refine wX1_chain_26 X hS hr hnm hl hno _ _ _ _ fu _ _ _ _ _ _ _ _ h hC hZ (fun x33 σ C Z kc kz h hC hZ => ?_)
      · refine wm_iload X 3 dX1_chain_72 rfl ?_
        refine wm_iload_n X 1 dX1_chain_74 rfl ?_
        refine wm_cS_i (As := [.int x33, .int y2]) (st := []) X hS h (fun _ _ hF => ctX1_has l hF) mdX1_has msX1_has q535 dX1_chain_75 rfl rfl c1_0 (Nat.le_of_ble_eq_true rfl) ⟨Nat.le_of_ble_eq_true rfl, Nat.le_of_ble_eq_true rfl⟩ ⟨le_p hC, le_p hZ⟩ (fun x34 σ35 _ h => ?_)
        refine wm_if_eq X 84 h dX1_chain_78 (by decide) (fun c36 h => ?_) (fun c36 h => ?_)
        · refine wm_iload X 3 dX1_chain_84 rfl ?_
          refine wm_istore_n (ℓ' := [(3, .int x33), (0, va_rf (some h0)), (2, .int y2), (4, .int v4), (5, .int x33)]) X dX1_chain_86 (by decide) rfl ?_
          refine wm_iinc (v := (v4 + 1)) (ℓ' := [(4, .int (v4 + 1)), (3, .int x33), (0, va_rf (some h0)), (2, .int y2), (5, .int x33)]) X 3 dX1_chain_87 rfl rfl (by decide) rfl ?_
          refine wm_goto X 13 dX1_chain_90 (by decide) ?_
          refine wm_sub (ℓ' := [(0, va_rf (some h0)), (2, .int y2), (3, .int x33), (4, .int (v4 + 1))]) [2, 3, 1, 0] rfl ?_
          exact ih _ _ _ _ _ _ _ _ _ h hC hZ hkx93 hkx81
        · refine wm_sub (ℓ' := [(4, .int v4)]) [2] rfl ?_
          exact hkx81 _ _ _ _ _ _ h hC hZ
set_option maxHeartbeats 4000000 in
theorem ctX1_chain (l : Launch) (hl : l.stackTraces = false) {h0 : Nat} {x1 : Int32} {x2 : Int32} {σ : Mm} {xo : (Int32 × Mm) ⊕ (Nat × Mm)} {mc ms : Nat} (h : FX1_chain h0 x1 x2 σ = some (xo, mc, ms)) : CTXi l yX1_chain (ws_ yX1_chain cX1_chain 7 ((some FieldType.int))) 9 174 mc ms [va_rf (some h0), .int x1, .int x2] σ xo := by
  refine ctx_start (n := 2) mdX1_chain (Nat.le_of_ble_eq_true rfl) (c1_r (c1_i (c1_i c1_0))) (fun p e s m args below meth c D dA sz0 ad0 X hS hr hnm hno => ?_)
  have X : CX p s m args meth c cX1_chain 7 RX1 := X
  have hC : 0 + mc ≤ mc := Nat.le_of_eq (Nat.zero_add mc)
  have hZ : 0 + ms ≤ ms := Nat.le_of_eq (Nat.zero_add ms)
  generalize mN σ = N0
  unfold FX1_chain at h
  refine wm_aload_n X 0 dX1_chain_0 rfl ?_
  refine wm_iload_n X 1 dX1_chain_1 rfl ?_
  refine wm_iload_n X 2 dX1_chain_2 rfl ?_
  obtain ⟨s21, h⟩ := ck_e h
  refine wm_dV_v (As := [.int x1, .int x2]) (st := []) X hS hno cd_1 s21 rfl h hC hZ (fun _ _ _ hF => ctX1_twoAt l hl hF) mdX1_twoAt mvX1_twoAt q1609 dX1_chain_3 rfl rfl c1_0 (Nat.le_of_ble_eq_true rfl) ⟨Nat.le_of_ble_eq_true rfl, Nat.le_of_ble_eq_true rfl⟩ (Nat.le_refl _) (Nat.le_refl _) (fun σ22 c1 z1 C Z _ h hC hZ => ?_)
  refine wm_iconst (v := 1) X dX1_chain_6 (by decide) ?_
  refine wm_iload_n X 1 dX1_chain_7 rfl ?_
  refine wm_ishl X dX1_chain_8 ?_
  refine wm_istore_n (ℓ' := [(3, .int (1 <<< (x1 &&& 31))), (0, va_rf (some h0)), (1, .int x1), (2, .int x2)]) X dX1_chain_9 (by decide) rfl ?_
  refine wm_iconst (v := 1) X dX1_chain_10 (by decide) ?_
  refine wm_istore (ℓ' := [(4, .int 1), (3, .int (1 <<< (x1 &&& 31))), (0, va_rf (some h0)), (1, .int x1), (2, .int x2)]) X dX1_chain_11 (by decide) rfl ?_
  refine wm_sub (ℓ' := [(0, va_rf (some h0)), (2, .int x2), (3, .int (1 <<< (x1 &&& 31))), (4, .int 1)]) [2, 4, 1, 0] rfl ?_
  refine wX1_chain_13 X hS hr hnm hl hno _ _ fu _ _ _ _ _ _ _ _ _ h hC hZ (fun σ C Z kc kz h hC hZ => ?_) (fun x38 σ C Z kc kz h hC hZ => ?_)
  · refine wm_iconst (v := (-1)) X dX1_chain_93 (by decide) ?_
    exact wm_xiret X hr (rt_e h) dX1_chain_94 (le_p hC) (le_p hZ)
  · refine wm_iload X 0 dX1_chain_81 rfl ?_
    exact wm_xiret X hr (rt_e h) dX1_chain_83 (le_p hC) (le_p hZ)
theorem mdX1_hears : MD yX1_hears 2 := by unfold MD; decide +kernel
theorem mvX1_hears : MV yX1_hears cX1_hears 7 ((some FieldType.int)) := ⟨q1972, q1973, q128, q1974⟩
set_option maxHeartbeats 4000000 in
theorem wX1_hears_54 {p : Program} {l : Launch} {e : Env} {s : State} {m : MethodId} {args : Array Value} {below : List Frame} {meth : Method} {c : Code} {D : va_G} {dA : Nat → ClassId} {sz0 : Nat} {ad0 : Nat → Nat} {N0 : Nat} {xo : (Int32 × Mm) ⊕ (Nat × Mm)} {mc ms : Nat} (X : CX p s m args meth c cX1_hears 7 RX1) (hS : ST D dA sz0 ad0 s) (hr : meth.sig.returnType = (some FieldType.int)) (hnm : meth.name = yX1_hears.name) (hl : l.stackTraces = false) (hno : ∀ x ∈ c.exceptionTable.toList, False) (y1 : Int32) (y2 : Int32) (y3 : Option Nat) (y4 : Int32) (y5 : Int32) : ∀ (n : Nat) (v6 : Int32) (σ : Mm) (kx107 : Mm → DX (Int32 × Mm)) (C Z kc kz : Nat), FX1_hears_54 y1 y2 y3 y4 y5 n v6 σ kx107 = some (xo, C, Z) → kc + C ≤ mc → kz + Z ≤ ms → (∀  (σ : Mm) (C Z kc kz : Nat), kx107 σ = some (xo, C, Z) → kc + C ≤ mc → kz + Z ≤ ms → WMxi p l e s m args below meth c 8 152 mc ms 7 D dA sz0 ad0 N0 xo kc kz σ [(1, .int y1), (2, .int y2), (3, va_rf y3), (4, .int y4), (5, .int y5)] [] 107) → WMxi p l e s m args below meth c 8 152 mc ms 7 D dA sz0 ad0 N0 xo kc kz σ [(1, .int y1), (2, .int y2), (3, va_rf y3), (4, .int y4), (5, .int y5), (6, .int v6)] [] 54 := by
  intro n
  induction n with
  | zero =>
    intro v6 σ kx107 C Z kc kz h hC hZ hkx107
    cases h
  | succ n ih =>
    intro v6 σ kx107 C Z kc kz h hC hZ hkx107
    rw [FX1_hears_54] at h
    refine wm_iload X 5 dX1_hears_54 rfl ?_
    refine wm_aload_n X 2 dX1_hears_56 rfl ?_
    refine wm_gIN X hS cd_2 1 h dX1_hears_57 (Nat.le_of_ble_eq_true rfl) rfl 1 rfl (fun x33 h => ?_)
    refine wm_icmp_ge X 107 h dX1_hears_60 (by decide) (fun c47 h => ?_) (fun c47 h => ?_)
    · refine wm_sub (ℓ' := [(1, .int y1), (2, .int y2), (3, va_rf y3), (4, .int y4), (5, .int y5)]) [0, 1, 2, 3, 4] rfl ?_
      exact hkx107 _ _ _ _ _ h hC hZ
    · refine wm_aload_n X 2 dX1_hears_63 rfl ?_
      refine wm_gRN X hS cd_2 13 h dX1_hears_64 (Nat.le_of_ble_eq_true rfl) rfl 13 rfl (fun x34 h => ?_)
      refine wm_iload X 4 dX1_hears_67 rfl ?_
      refine wm_iaload X hS h dX1_hears_69 (fun x35 h => ?_)
      refine wm_iload X 5 dX1_hears_70 rfl ?_
      refine wm_cS_i (As := [.int x35, .int v6]) (st := []) X hS h (fun _ _ hF => ctX1_has l hF) mdX1_has msX1_has q535 dX1_hears_72 rfl rfl c1_0 (Nat.le_of_ble_eq_true rfl) ⟨Nat.le_of_ble_eq_true rfl, Nat.le_of_ble_eq_true rfl⟩ ⟨le_p hC, le_p hZ⟩ (fun x36 σ37 _ h => ?_)
      refine wm_if_eq X 101 h dX1_hears_75 (by decide) (fun c46 h => ?_) (fun c46 h => ?_)
      · refine wm_iinc (v := (v6 + 1)) (ℓ' := [(6, .int (v6 + 1)), (1, .int y1), (2, .int y2), (3, va_rf y3), (4, .int y4), (5, .int y5)]) X 5 dX1_hears_101 rfl rfl (by decide) rfl ?_
        refine wm_goto X 54 dX1_hears_104 (by decide) ?_
        refine wm_sub (ℓ' := [(1, .int y1), (2, .int y2), (3, va_rf y3), (4, .int y4), (5, .int y5), (6, .int (v6 + 1))]) [1, 2, 3, 4, 5, 0] rfl ?_
        exact ih _ _ _ _ _ _ _ h hC hZ hkx107
      · refine wm_aload_n X 2 dX1_hears_78 rfl ?_
        refine wm_gRN X hS cd_2 13 h dX1_hears_79 (Nat.le_of_ble_eq_true rfl) rfl 13 rfl (fun x38 h => ?_)
        refine wm_iload X 5 dX1_hears_82 rfl ?_
        refine wm_iaload X hS h dX1_hears_84 (fun x39 h => ?_)
        refine wm_iload X 4 dX1_hears_85 rfl ?_
        refine wm_cS_i (As := [.int x39, .int y5]) (st := []) X hS h (fun _ _ hF => ctX1_has l hF) mdX1_has msX1_has q535 dX1_hears_87 rfl rfl c1_0 (Nat.le_of_ble_eq_true rfl) ⟨Nat.le_of_ble_eq_true rfl, Nat.le_of_ble_eq_true rfl⟩ ⟨le_p hC, le_p hZ⟩ (fun x40 σ41 _ h => ?_)
        refine wm_if_eq X 101 h dX1_hears_90 (by decide) (fun c45 h => ?_) (fun c45 h => ?_)
        · refine wm_iinc (v := (v6 + 1)) (ℓ' := [(6, .int (v6 + 1)), (1, .int y1), (2, .int y2), (3, va_rf y3), (4, .int y4), (5, .int y5)]) X 5 dX1_hears_101 rfl rfl (by decide) rfl ?_
          refine wm_goto X 54 dX1_hears_104 (by decide) ?_
          refine wm_sub (ℓ' := [(1, .int y1), (2, .int y2), (3, va_rf y3), (4, .int y4), (5, .int y5), (6, .int (v6 + 1))]) [1, 2, 3, 4, 5, 0] rfl ?_
          exact ih _ _ _ _ _ _ _ h hC hZ hkx107
        · refine wm_aload_n X 2 dX1_hears_93 rfl ?_
          refine wm_iload X 4 dX1_hears_94 rfl ?_
          refine wm_iload X 5 dX1_hears_96 rfl ?_
          obtain ⟨q42, eq42, h⟩ := Option.bind_eq_some_iff.mp h
          obtain ⟨eq42, s43⟩ := rv_some eq42
          refine wm_cV_v (As := [.int y5, .int v6]) (st := []) X hS cd_2 s43 rfl h (fun _ hF => ctX2_meets l hF) mdX2_meets mvX2_meets q1732 dX1_hears_98 rfl (by rw [eq42]; first | done | rfl) c1_0 (Nat.le_of_ble_eq_true rfl) ⟨Nat.le_of_ble_eq_true rfl, Nat.le_of_ble_eq_true rfl⟩ ⟨le_p hC, le_p hZ⟩ (fun σ44 _ h => ?_)
          refine wm_iinc (v := (v6 + 1)) (ℓ' := [(6, .int (v6 + 1)), (1, .int y1), (2, .int y2), (3, va_rf y3), (4, .int y4), (5, .int y5)]) X 5 dX1_hears_101 rfl rfl (by decide) rfl ?_
          refine wm_goto X 54 dX1_hears_104 (by decide) ?_
          refine wm_sub (ℓ' := [(1, .int y1), (2, .int y2), (3, va_rf y3), (4, .int y4), (5, .int y5), (6, .int (v6 + 1))]) [1, 2, 3, 4, 5, 0] rfl ?_
          exact ih _ _ _ _ _ _ _ h hC hZ hkx107
set_option maxHeartbeats 4000000 in
theorem wX1_hears_39 {p : Program} {l : Launch} {e : Env} {s : State} {m : MethodId} {args : Array Value} {below : List Frame} {meth : Method} {c : Code} {D : va_G} {dA : Nat → ClassId} {sz0 : Nat} {ad0 : Nat → Nat} {N0 : Nat} {xo : (Int32 × Mm) ⊕ (Nat × Mm)} {mc ms : Nat} (X : CX p s m args meth c cX1_hears 7 RX1) (hS : ST D dA sz0 ad0 s) (hr : meth.sig.returnType = (some FieldType.int)) (hnm : meth.name = yX1_hears.name) (hl : l.stackTraces = false) (hno : ∀ x ∈ c.exceptionTable.toList, False) (y1 : Int32) (y2 : Int32) (y3 : Option Nat) (y4 : Int32) : ∀ (n : Nat) (v5 : Int32) (σ : Mm) (kx113 : Mm → DX (Int32 × Mm)) (C Z kc kz : Nat), FX1_hears_39 y1 y2 y3 y4 n v5 σ kx113 = some (xo, C, Z) → kc + C ≤ mc → kz + Z ≤ ms → (∀  (σ : Mm) (C Z kc kz : Nat), kx113 σ = some (xo, C, Z) → kc + C ≤ mc → kz + Z ≤ ms → WMxi p l e s m args below meth c 8 152 mc ms 7 D dA sz0 ad0 N0 xo kc kz σ [(1, .int y1), (2, .int y2), (3, va_rf y3), (4, .int y4)] [] 113) → WMxi p l e s m args below meth c 8 152 mc ms 7 D dA sz0 ad0 N0 xo kc kz σ [(1, .int y1), (2, .int y2), (3, va_rf y3), (4, .int y4), (5, .int v5)] [] 39 := by
  intro n
  induction n with
  | zero =>
    intro v5 σ kx113 C Z kc kz h hC hZ hkx113
    cases h
  | succ n ih =>
    intro v5 σ kx113 C Z kc kz h hC hZ hkx113
    rw [FX1_hears_39] at h
    refine wm_iload X 4 dX1_hears_39 rfl ?_
    refine wm_aload_n X 2 dX1_hears_41 rfl ?_
    refine wm_gIN X hS cd_2 1 h dX1_hears_42 (Nat.le_of_ble_eq_true rfl) rfl 1 rfl (fun x32 h => ?_)
    refine wm_icmp_ge X 113 h dX1_hears_45 (by decide) (fun c48 h => ?_) (fun c48 h => ?_)
    · refine wm_sub (ℓ' := [(1, .int y1), (2, .int y2), (3, va_rf y3), (4, .int y4)]) [0, 1, 2, 3] rfl ?_
      exact hkx113 _ _ _ _ _ h hC hZ
    · refine wm_iload X 4 dX1_hears_48 rfl ?_
      refine wm_iconst (v := 1) X dX1_hears_50 (by decide) ?_
      refine wm_iadd X dX1_hears_51 ?_
      refine wm_istore (ℓ' := [(6, .int (v5 + 1)), (1, .int y1), (2, .int y2), (3, va_rf y3), (4, .int y4), (5, .int v5)]) X dX1_hears_52 (by decide) rfl ?_
      refine wm_sub (ℓ' := [(1, .int y1), (2, .int y2), (3, va_rf y3), (4, .int y4), (5, .int v5), (6, .int (v5 + 1))]) [1, 2, 3, 4, 5, 0] rfl ?_
      refine wX1_hears_54 X hS hr hnm hl hno _ _ _ _ _ fu _ _ _ _ _ _ _ h hC hZ (fun σ C Z kc kz h hC hZ => ?_)
      · refine wm_iinc (v := (v5 + 1)) (ℓ' := [(5, .int (v5 + 1)), (1, .int y1), (2, .int y2), (3, va_rf y3), (4, .int y4)]) X 4 dX1_hears_107 rfl rfl (by decide) rfl ?_
        refine wm_goto X 39 dX1_hears_110 (by decide) ?_
        refine wm_sub (ℓ' := [(1, .int y1), (2, .int y2), (3, va_rf y3), (4, .int y4), (5, .int (v5 + 1))]) [1, 2, 3, 4, 0] rfl ?_
        exact ih _ _ _ _ _ _ _ h hC hZ hkx113
set_option maxHeartbeats 4000000 in
theorem wX1_hears_30 {p : Program} {l : Launch} {e : Env} {s : State} {m : MethodId} {args : Array Value} {below : List Frame} {meth : Method} {c : Code} {D : va_G} {dA : Nat → ClassId} {sz0 : Nat} {ad0 : Nat → Nat} {N0 : Nat} {xo : (Int32 × Mm) ⊕ (Nat × Mm)} {mc ms : Nat} (X : CX p s m args meth c cX1_hears 7 RX1) (hS : ST D dA sz0 ad0 s) (hr : meth.sig.returnType = (some FieldType.int)) (hnm : meth.name = yX1_hears.name) (hl : l.stackTraces = false) (hno : ∀ x ∈ c.exceptionTable.toList, False) (y1 : Int32) (y2 : Int32) (y3 : Option Nat) : ∀ (n : Nat) (v4 : Int32) (σ : Mm) (kx119 : Mm → DX (Int32 × Mm)) (C Z kc kz : Nat), FX1_hears_30 y1 y2 y3 n v4 σ kx119 = some (xo, C, Z) → kc + C ≤ mc → kz + Z ≤ ms → (∀  (σ : Mm) (C Z kc kz : Nat), kx119 σ = some (xo, C, Z) → kc + C ≤ mc → kz + Z ≤ ms → WMxi p l e s m args below meth c 8 152 mc ms 7 D dA sz0 ad0 N0 xo kc kz σ [(1, .int y1), (3, va_rf y3)] [] 119) → WMxi p l e s m args below meth c 8 152 mc ms 7 D dA sz0 ad0 N0 xo kc kz σ [(1, .int y1), (2, .int y2), (3, va_rf y3), (4, .int v4)] [] 30 := by
  intro n
  induction n with
  | zero =>
    intro v4 σ kx119 C Z kc kz h hC hZ hkx119
    cases h
  | succ n ih =>
    intro v4 σ kx119 C Z kc kz h hC hZ hkx119
    rw [FX1_hears_30] at h
    refine wm_iload X 3 dX1_hears_30 rfl ?_
    refine wm_iload_n X 1 dX1_hears_32 rfl ?_
    refine wm_icmp_ge X 119 h dX1_hears_33 (by decide) (fun c49 h => ?_) (fun c49 h => ?_)
    · refine wm_sub (ℓ' := [(1, .int y1), (3, va_rf y3)]) [0, 2] rfl ?_
      exact hkx119 _ _ _ _ _ h hC hZ
    · refine wm_iconst (v := 0) X dX1_hears_36 (by decide) ?_
      refine wm_istore (ℓ' := [(5, .int 0), (1, .int y1), (2, .int y2), (3, va_rf y3), (4, .int v4)]) X dX1_hears_37 (by decide) rfl ?_
      refine wm_sub (ℓ' := [(1, .int y1), (2, .int y2), (3, va_rf y3), (4, .int v4), (5, .int 0)]) [1, 2, 3, 4, 0] rfl ?_
      refine wX1_hears_39 X hS hr hnm hl hno _ _ _ _ fu _ _ _ _ _ _ _ h hC hZ (fun σ C Z kc kz h hC hZ => ?_)
      · refine wm_iinc (v := (v4 + 1)) (ℓ' := [(4, .int (v4 + 1)), (1, .int y1), (2, .int y2), (3, va_rf y3)]) X 3 dX1_hears_113 rfl rfl (by decide) rfl ?_
        refine wm_goto X 30 dX1_hears_116 (by decide) ?_
        refine wm_sub (ℓ' := [(1, .int y1), (2, .int y2), (3, va_rf y3), (4, .int (v4 + 1))]) [1, 2, 3, 0] rfl ?_
        exact ih _ _ _ _ _ _ _ h hC hZ hkx119
set_option maxHeartbeats 4000000 in
theorem ctX1_hears (l : Launch) (hl : l.stackTraces = false) {h0 : Nat} {x1 : Int32} {x2 : Int32} {σ : Mm} {xo : (Int32 × Mm) ⊕ (Nat × Mm)} {mc ms : Nat} (h : FX1_hears h0 x1 x2 σ = some (xo, mc, ms)) : CTXi l yX1_hears (ws_ yX1_hears cX1_hears 7 ((some FieldType.int))) 8 152 mc ms [va_rf (some h0), .int x1, .int x2] σ xo := by
  refine ctx_start (n := 2) mdX1_hears (Nat.le_of_ble_eq_true rfl) (c1_r (c1_i (c1_i c1_0))) (fun p e s m args below meth c D dA sz0 ad0 X hS hr hnm hno => ?_)
  have X : CX p s m args meth c cX1_hears 7 RX1 := X
  have hC : 0 + mc ≤ mc := Nat.le_of_eq (Nat.zero_add mc)
  have hZ : 0 + ms ≤ ms := Nat.le_of_eq (Nat.zero_add ms)
  generalize mN σ = N0
  unfold FX1_hears at h
  refine wm_aload_n X 0 dX1_hears_0 rfl ?_
  refine wm_iload_n X 1 dX1_hears_1 rfl ?_
  obtain ⟨s21, h⟩ := ck_e h
  refine wm_dV_v (As := [.int x1]) (st := []) X hS hno cd_1 s21 rfl h hC hZ (fun _ _ _ hF => ctX1_personAt l hl hF) mdX1_personAt mvX1_personAt q1533 dX1_hears_2 rfl rfl c1_0 (Nat.le_of_ble_eq_true rfl) ⟨Nat.le_of_ble_eq_true rfl, Nat.le_of_ble_eq_true rfl⟩ (Nat.le_refl _) (Nat.le_refl _) (fun σ22 c1 z1 C Z _ h hC hZ => ?_)
  refine wm_iload_n X 2 dX1_hears_5 rfl ?_
  refine wm_iconst (v := 0) X dX1_hears_6 (by decide) ?_
  refine wm_bipush (v := 20) X dX1_hears_7 (by decide) ?_
  refine wm_cS_i (As := [.int x2, .int 0, .int 20]) (st := []) X hS h (fun _ _ hF => ctX1_in l hF) mdX1_in msX1_in q625 dX1_hears_9 rfl rfl c1_0 (Nat.le_of_ble_eq_true rfl) ⟨Nat.le_of_ble_eq_true rfl, Nat.le_of_ble_eq_true rfl⟩ ⟨le_p hC, le_p hZ⟩ (fun x23 σ24 _ h => ?_)
  refine wm_dS_v (As := [.int x23]) (st := []) X hS hno h hC hZ (fun _ _ _ hF => ctX1_demand l hl hF) mdX1_demand msX1_demand q1613 dX1_hears_12 rfl rfl c1_0 (Nat.le_of_ble_eq_true rfl) ⟨Nat.le_of_ble_eq_true rfl, Nat.le_of_ble_eq_true rfl⟩ (Nat.le_refl _) (Nat.le_refl _) (fun σ25 c1 z1 C Z _ h hC hZ => ?_)
  refine wm_aload_n X 0 dX1_hears_15 rfl ?_
  refine wm_gR X hS cd_1 10 h dX1_hears_16 (Nat.le_of_ble_eq_true rfl) rfl q448 (fun x26 h => ?_)
  refine wm_aload_n X 0 dX1_hears_19 rfl ?_
  refine wm_gR X hS cd_1 0 h dX1_hears_20 (Nat.le_of_ble_eq_true rfl) rfl q434 (fun x27 h => ?_)
  obtain ⟨q28, eq28, h⟩ := Option.bind_eq_some_iff.mp h
  obtain ⟨eq28, s29⟩ := rv_some eq28
  refine wm_cV_r (As := [va_rf x27]) (st := []) X hS cd_2 s29 rfl h (fun _ _ hF => ctX2_likens l hF) mdX2_likens mvX2_likens q673 dX1_hears_23 rfl (by rw [eq28]; first | done | rfl) c1_0 (Nat.le_of_ble_eq_true rfl) ⟨Nat.le_of_ble_eq_true rfl, Nat.le_of_ble_eq_true rfl⟩ ⟨le_p hC, le_p hZ⟩ (fun x30 σ31 _ h => ?_)
  refine wm_astore_n (ℓ' := [(3, va_rf x30), (0, va_rf (some h0)), (1, .int x1), (2, .int x2)]) X dX1_hears_26 (by decide) rfl ?_
  refine wm_iconst (v := 0) X dX1_hears_27 (by decide) ?_
  refine wm_istore (ℓ' := [(4, .int 0), (3, va_rf x30), (0, va_rf (some h0)), (1, .int x1), (2, .int x2)]) X dX1_hears_28 (by decide) rfl ?_
  refine wm_sub (ℓ' := [(1, .int x1), (2, .int x2), (3, va_rf x30), (4, .int 0)]) [3, 4, 1, 0] rfl ?_
  refine wX1_hears_30 X hS hr hnm hl hno _ _ _ fu _ _ _ _ _ _ _ h hC hZ (fun σ C Z kc kz h hC hZ => ?_)
  · refine wm_aload_n X 1 dX1_hears_119 rfl ?_
    refine wm_gRN X hS cd_2 13 h dX1_hears_120 (Nat.le_of_ble_eq_true rfl) rfl 13 rfl (fun x50 h => ?_)
    refine wm_iload_n X 0 dX1_hears_123 rfl ?_
    refine wm_iaload X hS h dX1_hears_124 (fun x51 h => ?_)
    exact wm_xiret X hr (rt_e h) dX1_hears_125 (le_p hC) (le_p hZ)
theorem mdX1_tries : MD yX1_tries 1 := by unfold MD; decide +kernel
theorem mvX1_tries : MV yX1_tries cX1_tries 3 ((some FieldType.int)) := ⟨q1984, qs51, q128, q1985⟩
set_option maxHeartbeats 4000000 in
theorem wX1_tries_2 {p : Program} {l : Launch} {e : Env} {s : State} {m : MethodId} {args : Array Value} {below : List Frame} {meth : Method} {c : Code} {D : va_G} {dA : Nat → ClassId} {sz0 : Nat} {ad0 : Nat → Nat} {N0 : Nat} {r : Int32} {σf : Mm} (X : CX p s m args meth c cX1_tries 3 RX1) (hS : ST D dA sz0 ad0 s) (hr : meth.sig.returnType = (some FieldType.int)) (hnm : meth.name = yX1_tries.name) (h0 : Nat) (y1 : Int32) : ∀ (n : Nat) (v2 : Int32) (σ : Mm) (kx22 : Mm → Option (Int32 × Mm)), FX1_tries_2 h0 y1 n v2 σ kx22 = some (r, σf) → (∀  (σ : Mm), kx22 σ = some (r, σf) → WMi p l e s m args below meth c 407 12158 0 0 3 D dA sz0 ad0 N0 r σf 0 0 σ [(0, va_rf (some h0))] [] 22) → WMi p l e s m args below meth c 407 12158 0 0 3 D dA sz0 ad0 N0 r σf 0 0 σ [(0, va_rf (some h0)), (1, .int y1), (2, .int v2)] [] 2 := by
  intro n
  induction n with
  | zero =>
    intro v2 σ kx22 h hkx22
    cases h
  | succ n ih =>
    intro v2 σ kx22 h hkx22
    rw [FX1_tries_2] at h
    refine wm_iload_n X 2 dX1_tries_2 rfl ?_
    refine wm_iload_n X 1 dX1_tries_3 rfl ?_
    refine wm_icmp_ge X 22 h dX1_tries_4 (by decide) (fun c25 h => ?_) (fun c25 h => ?_)
    · refine wm_sub (ℓ' := [(0, va_rf (some h0))]) [0] rfl ?_
      exact hkx22 _ h
    · refine wm_aload_n X 0 dX1_tries_7 rfl ?_
      refine wm_aload_n X 0 dX1_tries_8 rfl ?_
      refine wm_gR X hS cd_1 10 h dX1_tries_9 (Nat.le_of_ble_eq_true rfl) rfl q448 (fun x21 h => ?_)
      obtain ⟨s22, h⟩ := ck_e h
      refine wm_cV_i (As := [va_rf x21]) (st := []) X hS cd_1 s22 rfl h (fun _ _ hF => ctX1_anHour l hF) mdX1_anHour mvX1_anHour q1743 dX1_tries_12 rfl rfl c1_0 (Nat.le_of_ble_eq_true rfl) ⟨Nat.le_of_ble_eq_true rfl, Nat.le_of_ble_eq_true rfl⟩ ⟨Nat.le_of_ble_eq_true rfl, Nat.le_of_ble_eq_true rfl⟩ (fun x23 σ24 _ h => ?_)
      refine wm_pop X dX1_tries_15 rfl ?_
      refine wm_iinc (v := (v2 + 1)) (ℓ' := [(2, .int (v2 + 1)), (0, va_rf (some h0)), (1, .int y1)]) X 2 dX1_tries_16 rfl rfl (by decide) rfl ?_
      refine wm_goto X 2 dX1_tries_19 (by decide) ?_
      refine wm_sub (ℓ' := [(0, va_rf (some h0)), (1, .int y1), (2, .int (v2 + 1))]) [1, 2, 0] rfl ?_
      exact ih _ _ _ h hkx22
set_option maxHeartbeats 4000000 in
theorem ctX1_tries (l : Launch) {h0 : Nat} {x1 : Int32} {σ σf : Mm} {r : Int32} (h : FX1_tries h0 x1 σ = some (r, σf)) : CTi l yX1_tries (ws_ yX1_tries cX1_tries 3 ((some FieldType.int))) 407 12158 0 0 [va_rf (some h0), .int x1] σ r σf := by
  refine ct_start (n := 1) mdX1_tries (Nat.le_of_ble_eq_true rfl) (c1_r (c1_i c1_0)) (fun p e s m args below meth c D dA sz0 ad0 X hS hr hnm => ?_)
  have X : CX p s m args meth c cX1_tries 3 RX1 := X
  generalize mN σ = N0
  unfold FX1_tries at h
  refine wm_iconst (v := 0) X dX1_tries_0 (by decide) ?_
  refine wm_istore_n (ℓ' := [(2, .int 0), (0, va_rf (some h0)), (1, .int x1)]) X dX1_tries_1 (by decide) rfl ?_
  refine wm_sub (ℓ' := [(0, va_rf (some h0)), (1, .int x1), (2, .int 0)]) [1, 2, 0] rfl ?_
  refine wX1_tries_2 X hS hr hnm _ _ fu _ _ _ h (fun σ h => ?_)
  · refine wm_aload_n X 0 dX1_tries_22 rfl ?_
    refine wm_gR X hS cd_1 10 h dX1_tries_23 (Nat.le_of_ble_eq_true rfl) rfl q448 (fun x26 h => ?_)
    refine wm_cS_i (As := [va_rf x26]) (st := []) X hS h (fun _ _ hF => ctX1_wrongOf l hF) mdX1_wrongOf msX1_wrongOf q496 dX1_tries_26 rfl rfl c1_0 (Nat.le_of_ble_eq_true rfl) ⟨Nat.le_of_ble_eq_true rfl, Nat.le_of_ble_eq_true rfl⟩ ⟨Nat.le_of_ble_eq_true rfl, Nat.le_of_ble_eq_true rfl⟩ (fun x27 σ28 _ h => ?_)
    refine wm_cS_i (As := [.int x27]) (st := []) X hS h (fun _ _ hF => ctJ16_bitCount l hF) mdJ16_bitCount msJ16_bitCount q538 dX1_tries_29 rfl rfl c1_0 (Nat.le_of_ble_eq_true rfl) ⟨Nat.le_of_ble_eq_true rfl, Nat.le_of_ble_eq_true rfl⟩ ⟨Nat.le_of_ble_eq_true rfl, Nat.le_of_ble_eq_true rfl⟩ (fun x29 σ30 _ h => ?_)
    exact wm_iret X hr h dX1_tries_32 (Nat.le_of_ble_eq_true rfl) (Nat.le_of_ble_eq_true rfl)
theorem mdX1_trial : MD yX1_trial 1 := by unfold MD; decide +kernel
theorem mvX1_trial : MV yX1_trial cX1_trial 2 ((some FieldType.int)) := ⟨q1979, q1980, q128, q1981⟩
set_option maxHeartbeats 4000000 in
theorem ctX1_trial (l : Launch) (hl : l.stackTraces = false) {h0 : Nat} {x1 : Int32} {σ : Mm} {xo : (Int32 × Mm) ⊕ (Nat × Mm)} {mc ms : Nat} (h : FX1_trial h0 x1 σ = some (xo, mc, ms)) : CTXi l yX1_trial (ws_ yX1_trial cX1_trial 2 ((some FieldType.int))) 408 12180 mc ms [va_rf (some h0), .int x1] σ xo := by
  refine ctx_start (n := 1) mdX1_trial (Nat.le_of_ble_eq_true rfl) (c1_r (c1_i c1_0)) (fun p e s m args below meth c D dA sz0 ad0 X hS hr hnm hno => ?_)
  have X : CX p s m args meth c cX1_trial 2 RX1 := X
  have hC : 0 + mc ≤ mc := Nat.le_of_eq (Nat.zero_add mc)
  have hZ : 0 + ms ≤ ms := Nat.le_of_eq (Nat.zero_add ms)
  generalize mN σ = N0
  unfold FX1_trial at h
  refine wm_iload_n X 1 dX1_trial_0 rfl ?_
  refine wm_iconst (v := 0) X dX1_trial_1 (by decide) ?_
  refine wm_bipush (v := 30) X dX1_trial_2 (by decide) ?_
  refine wm_cS_i (As := [.int x1, .int 0, .int 30]) (st := []) X hS h (fun _ _ hF => ctX1_in l hF) mdX1_in msX1_in q625 dX1_trial_4 rfl rfl c1_0 (Nat.le_of_ble_eq_true rfl) ⟨Nat.le_of_ble_eq_true rfl, Nat.le_of_ble_eq_true rfl⟩ ⟨le_p hC, le_p hZ⟩ (fun x21 σ22 _ h => ?_)
  refine wm_dS_v (As := [.int x21]) (st := []) X hS hno h hC hZ (fun _ _ _ hF => ctX1_demand l hl hF) mdX1_demand msX1_demand q1613 dX1_trial_7 rfl rfl c1_0 (Nat.le_of_ble_eq_true rfl) ⟨Nat.le_of_ble_eq_true rfl, Nat.le_of_ble_eq_true rfl⟩ (Nat.le_refl _) (Nat.le_refl _) (fun σ23 c1 z1 C Z _ h hC hZ => ?_)
  refine wm_aload_n X 0 dX1_trial_10 rfl ?_
  refine wm_gR X hS cd_1 10 h dX1_trial_11 (Nat.le_of_ble_eq_true rfl) rfl q448 (fun x24 h => ?_)
  refine wm_aload_n X 0 dX1_trial_14 rfl ?_
  refine wm_gR X hS cd_1 0 h dX1_trial_15 (Nat.le_of_ble_eq_true rfl) rfl q434 (fun x25 h => ?_)
  obtain ⟨q26, eq26, h⟩ := Option.bind_eq_some_iff.mp h
  obtain ⟨eq26, s27⟩ := rv_some eq26
  refine wm_cV_r (As := [va_rf x25]) (st := []) X hS cd_2 s27 rfl h (fun _ _ hF => ctX2_likens l hF) mdX2_likens mvX2_likens q673 dX1_trial_18 rfl (by rw [eq26]; first | done | rfl) c1_0 (Nat.le_of_ble_eq_true rfl) ⟨Nat.le_of_ble_eq_true rfl, Nat.le_of_ble_eq_true rfl⟩ ⟨le_p hC, le_p hZ⟩ (fun x28 σ29 _ h => ?_)
  refine wm_pop X dX1_trial_21 (catR _) ?_
  refine wm_aload_n X 0 dX1_trial_22 rfl ?_
  refine wm_iload_n X 1 dX1_trial_23 rfl ?_
  obtain ⟨s30, h⟩ := ck_e h
  refine wm_cV_i (As := [.int x1]) (st := []) X hS cd_1 s30 rfl h (fun _ _ hF => ctX1_tries l hF) mdX1_tries mvX1_tries q1982 dX1_trial_24 rfl rfl c1_0 (Nat.le_of_ble_eq_true rfl) ⟨Nat.le_of_ble_eq_true rfl, Nat.le_of_ble_eq_true rfl⟩ ⟨le_p hC, le_p hZ⟩ (fun x31 σ32 _ h => ?_)
  exact wm_xiret X hr (rt_e h) dX1_trial_27 (le_p hC) (le_p hZ)
theorem mdX1_span : MD yX1_span 2 := by unfold MD; decide +kernel
theorem mvX1_span : MV yX1_span cX1_span 6 ((some FieldType.int)) := ⟨q1990, q1991, q128, q1992⟩
set_option maxHeartbeats 4000000 in
theorem wX1_span_15 {p : Program} {l : Launch} {e : Env} {s : State} {m : MethodId} {args : Array Value} {below : List Frame} {meth : Method} {c : Code} {D : va_G} {dA : Nat → ClassId} {sz0 : Nat} {ad0 : Nat → Nat} {N0 : Nat} {xo : (Int32 × Mm) ⊕ (Nat × Mm)} {mc ms : Nat} (X : CX p s m args meth c cX1_span 6 RX1) (hS : ST D dA sz0 ad0 s) (hr : meth.sig.returnType = (some FieldType.int)) (hnm : meth.name = yX1_span.name) (hl : l.stackTraces = false) (hno : ∀ x ∈ c.exceptionTable.toList, False) (h0 : Nat) (y1 : Int32) (y2 : Int32) : ∀ (n : Nat) (v3 : Int32) (v4 : Int32) (σ : Mm) (kx86 : Int32 → Mm → DX (Int32 × Mm)) (C Z kc kz : Nat), FX1_span_15 h0 y1 y2 n v3 v4 σ kx86 = some (xo, C, Z) → kc + C ≤ mc → kz + Z ≤ ms → (∀ (w3 : Int32) (σ : Mm) (C Z kc kz : Nat), kx86 w3 σ = some (xo, C, Z) → kc + C ≤ mc → kz + Z ≤ ms → WMxi p l e s m args below meth c 408 12180 mc ms 6 D dA sz0 ad0 N0 xo kc kz σ [(3, .int w3)] [] 86) → WMxi p l e s m args below meth c 408 12180 mc ms 6 D dA sz0 ad0 N0 xo kc kz σ [(0, va_rf (some h0)), (1, .int y1), (2, .int y2), (3, .int v3), (4, .int v4)] [] 15 := by
  intro n
  induction n with
  | zero =>
    intro v3 v4 σ kx86 C Z kc kz h hC hZ hkx86
    cases h
  | succ n ih =>
    intro v3 v4 σ kx86 C Z kc kz h hC hZ hkx86
    rw [FX1_span_15] at h
    refine wm_iload X 4 dX1_span_15 rfl ?_
    refine wm_bipush (v := 6) X dX1_span_17 (by decide) ?_
    refine wm_icmp_gt X 86 h dX1_span_19 (by decide) (fun c38 h => ?_) (fun c38 h => ?_)
    · refine wm_sub (ℓ' := [(3, .int v3)]) [3] rfl ?_
      exact hkx86 _ _ _ _ _ _ h hC hZ
    · refine wm_aload_n X 0 dX1_span_22 rfl ?_
      refine wm_gR X hS cd_1 10 h dX1_span_23 (Nat.le_of_ble_eq_true rfl) rfl q448 (fun x24 h => ?_)
      refine wm_aload_n X 0 dX1_span_26 rfl ?_
      refine wm_gR X hS cd_1 0 h dX1_span_27 (Nat.le_of_ble_eq_true rfl) rfl q434 (fun x25 h => ?_)
      obtain ⟨q26, eq26, h⟩ := Option.bind_eq_some_iff.mp h
      obtain ⟨eq26, s27⟩ := rv_some eq26
      refine wm_cV_r (As := [va_rf x25]) (st := []) X hS cd_2 s27 rfl h (fun _ _ hF => ctX2_likens l hF) mdX2_likens mvX2_likens q673 dX1_span_30 rfl (by rw [eq26]; first | done | rfl) c1_0 (Nat.le_of_ble_eq_true rfl) ⟨Nat.le_of_ble_eq_true rfl, Nat.le_of_ble_eq_true rfl⟩ ⟨le_p hC, le_p hZ⟩ (fun x28 σ29 _ h => ?_)
      refine wm_pop X dX1_span_33 (catR _) ?_
      refine wm_aload_n X 0 dX1_span_34 rfl ?_
      refine wm_gR X hS cd_1 10 h dX1_span_35 (Nat.le_of_ble_eq_true rfl) rfl q448 (fun x30 h => ?_)
      refine wm_iload X 4 dX1_span_38 rfl ?_
      refine wm_pIN X hS cd_2 7 h dX1_span_40 (Nat.le_of_ble_eq_true rfl) rfl 7 rfl rfl rfl (fun σ31 _ h => ?_)
      refine wm_aload_n X 0 dX1_span_43 rfl ?_
      refine wm_iload_n X 1 dX1_span_44 rfl ?_
      obtain ⟨s32, h⟩ := ck_e h
      refine wm_cV_i (As := [.int y1]) (st := []) X hS cd_1 s32 rfl h (fun _ _ hF => ctX1_tries l hF) mdX1_tries mvX1_tries q1982 dX1_span_45 rfl rfl c1_0 (Nat.le_of_ble_eq_true rfl) ⟨Nat.le_of_ble_eq_true rfl, Nat.le_of_ble_eq_true rfl⟩ ⟨le_p hC, le_p hZ⟩ (fun x33 σ34 _ h => ?_)
      refine wm_istore (ℓ' := [(5, .int x33), (0, va_rf (some h0)), (1, .int y1), (2, .int y2), (3, .int v3), (4, .int v4)]) X dX1_span_48 (by decide) rfl ?_
      refine wm_iload_n X 4 dX1_span_50 rfl ?_
      refine wm_iconst (v := (-1)) X dX1_span_51 (by decide) ?_
      obtain ⟨J79, eJ79, h⟩ := jn_e h
      have hJ79 : ∀ (z35 : Int32) (σ : Mm) (C Z kc kz : Nat), J79 z35 σ = some (xo, C, Z) → kc + C ≤ mc → kz + Z ≤ ms → WMxi p l e s m args below meth c 408 12180 mc ms 6 D dA sz0 ad0 N0 xo kc kz σ [(0, va_rf (some h0)), (1, .int y1), (2, .int y2), (4, .int v4)] [.int z35] 79 := by
        intro z35 σ C Z kc kz h hC hZ
        rw [eJ79] at h
        refine wm_istore_n (ℓ' := [(3, .int z35), (0, va_rf (some h0)), (1, .int y1), (2, .int y2), (4, .int v4)]) X dX1_span_79 (by decide) rfl ?_
        refine wm_iinc (v := (v4 + 1)) (ℓ' := [(4, .int (v4 + 1)), (3, .int z35), (0, va_rf (some h0)), (1, .int y1), (2, .int y2)]) X 4 dX1_span_80 rfl rfl (by decide) rfl ?_
        refine wm_goto X 15 dX1_span_83 (by decide) ?_
        refine wm_sub (ℓ' := [(0, va_rf (some h0)), (1, .int y1), (2, .int y2), (3, .int z35), (4, .int (v4 + 1))]) [2, 3, 4, 1, 0] rfl ?_
        exact ih _ _ _ _ _ _ _ _ h hC hZ hkx86
      clear eJ79
      refine wm_icmp_ne X 60 h dX1_span_52 (by decide) (fun c37 h => ?_) (fun c37 h => ?_)
      · refine wm_iload_n X 3 dX1_span_60 rfl ?_
        refine wm_if_eq X 73 h dX1_span_61 (by decide) (fun c36 h => ?_) (fun c36 h => ?_)
        · refine wm_iload_n X 4 dX1_span_73 rfl ?_
          refine wm_iload X 0 dX1_span_74 rfl ?_
          refine wm_mmin X dX1_span_76 q1993 q622 q146 q623 (Nat.le_of_ble_eq_true rfl) c1_0 (Nat.le_of_ble_eq_true rfl) (Nat.le_of_ble_eq_true rfl) (le_p hC) (le_p hZ) ?_
          refine wm_sub (ℓ' := [(0, va_rf (some h0)), (1, .int y1), (2, .int y2), (4, .int v4)]) [1, 2, 3, 5] rfl ?_
          exact hJ79 _ _ _ _ _ _ h hC hZ
        · refine wm_iload_n X 4 dX1_span_64 rfl ?_
          refine wm_iload X 0 dX1_span_65 rfl ?_
          refine wm_mmax X dX1_span_67 q1922 q795 q146 q796 (Nat.le_of_ble_eq_true rfl) c1_0 (Nat.le_of_ble_eq_true rfl) (Nat.le_of_ble_eq_true rfl) (le_p hC) (le_p hZ) ?_
          refine wm_goto X 79 dX1_span_70 (by decide) ?_
          refine wm_sub (ℓ' := [(0, va_rf (some h0)), (1, .int y1), (2, .int y2), (4, .int v4)]) [1, 2, 3, 5] rfl ?_
          exact hJ79 _ _ _ _ _ _ h hC hZ
      · refine wm_iload X 0 dX1_span_55 rfl ?_
        refine wm_goto X 79 dX1_span_57 (by decide) ?_
        refine wm_sub (ℓ' := [(0, va_rf (some h0)), (1, .int y1), (2, .int y2), (4, .int v4)]) [1, 2, 3, 5] rfl ?_
        exact hJ79 _ _ _ _ _ _ h hC hZ
set_option maxHeartbeats 4000000 in
theorem ctX1_span (l : Launch) (hl : l.stackTraces = false) {h0 : Nat} {x1 : Int32} {x2 : Int32} {σ : Mm} {xo : (Int32 × Mm) ⊕ (Nat × Mm)} {mc ms : Nat} (h : FX1_span h0 x1 x2 σ = some (xo, mc, ms)) : CTXi l yX1_span (ws_ yX1_span cX1_span 6 ((some FieldType.int))) 408 12180 mc ms [va_rf (some h0), .int x1, .int x2] σ xo := by
  refine ctx_start (n := 2) mdX1_span (Nat.le_of_ble_eq_true rfl) (c1_r (c1_i (c1_i c1_0))) (fun p e s m args below meth c D dA sz0 ad0 X hS hr hnm hno => ?_)
  have X : CX p s m args meth c cX1_span 6 RX1 := X
  have hC : 0 + mc ≤ mc := Nat.le_of_eq (Nat.zero_add mc)
  have hZ : 0 + ms ≤ ms := Nat.le_of_eq (Nat.zero_add ms)
  generalize mN σ = N0
  unfold FX1_span at h
  refine wm_iload_n X 1 dX1_span_0 rfl ?_
  refine wm_iconst (v := 0) X dX1_span_1 (by decide) ?_
  refine wm_bipush (v := 30) X dX1_span_2 (by decide) ?_
  refine wm_cS_i (As := [.int x1, .int 0, .int 30]) (st := []) X hS h (fun _ _ hF => ctX1_in l hF) mdX1_in msX1_in q625 dX1_span_4 rfl rfl c1_0 (Nat.le_of_ble_eq_true rfl) ⟨Nat.le_of_ble_eq_true rfl, Nat.le_of_ble_eq_true rfl⟩ ⟨le_p hC, le_p hZ⟩ (fun x21 σ22 _ h => ?_)
  refine wm_dS_v (As := [.int x21]) (st := []) X hS hno h hC hZ (fun _ _ _ hF => ctX1_demand l hl hF) mdX1_demand msX1_demand q1613 dX1_span_7 rfl rfl c1_0 (Nat.le_of_ble_eq_true rfl) ⟨Nat.le_of_ble_eq_true rfl, Nat.le_of_ble_eq_true rfl⟩ (Nat.le_refl _) (Nat.le_refl _) (fun σ23 c1 z1 C Z _ h hC hZ => ?_)
  refine wm_iconst (v := (-1)) X dX1_span_10 (by decide) ?_
  refine wm_istore_n (ℓ' := [(3, .int (-1)), (0, va_rf (some h0)), (1, .int x1), (2, .int x2)]) X dX1_span_11 (by decide) rfl ?_
  refine wm_iconst (v := 1) X dX1_span_12 (by decide) ?_
  refine wm_istore (ℓ' := [(4, .int 1), (3, .int (-1)), (0, va_rf (some h0)), (1, .int x1), (2, .int x2)]) X dX1_span_13 (by decide) rfl ?_
  refine wm_sub (ℓ' := [(0, va_rf (some h0)), (1, .int x1), (2, .int x2), (3, .int (-1)), (4, .int 1)]) [2, 3, 4, 1, 0] rfl ?_
  refine wX1_span_15 X hS hr hnm hl hno _ _ _ fu _ _ _ _ _ _ _ _ h hC hZ (fun x39 σ C Z kc kz h hC hZ => ?_)
  · refine wm_iload_n X 0 dX1_span_86 rfl ?_
    exact wm_xiret X hr (rt_e h) dX1_span_87 (le_p hC) (le_p hZ)
theorem mdX1_ofLog : MD yX1_ofLog 2 := by unfold MD; decide +kernel
theorem mvX1_ofLog : MV yX1_ofLog cX1_ofLog 3 ((some FieldType.int)) := ⟨q2007, qs53, q128, q2008⟩
set_option maxHeartbeats 4000000 in
theorem ctX1_ofLog (l : Launch) {h0 : Nat} {x1 : Int32} {x2 : Int32} {σ σf : Mm} {r : Int32} (h : FX1_ofLog h0 x1 x2 σ = some (r, σf)) : CTi l yX1_ofLog (ws_ yX1_ofLog cX1_ofLog 3 ((some FieldType.int))) 0 0 0 0 [va_rf (some h0), .int x1, .int x2] σ r σf := by
  refine ct_start (n := 2) mdX1_ofLog (Nat.le_of_ble_eq_true rfl) (c1_r (c1_i (c1_i c1_0))) (fun p e s m args below meth c D dA sz0 ad0 X hS hr hnm => ?_)
  have X : CX p s m args meth c cX1_ofLog 3 RX1 := X
  generalize mN σ = N0
  unfold FX1_ofLog at h
  refine wm_aload_n X 0 dX1_ofLog_0 rfl ?_
  refine wm_gR X hS cd_1 0 h dX1_ofLog_1 (Nat.le_of_ble_eq_true rfl) rfl q434 (fun x21 h => ?_)
  refine wm_gRN X hS cd_2 18 h dX1_ofLog_4 (Nat.le_of_ble_eq_true rfl) rfl 18 rfl (fun x22 h => ?_)
  refine wm_iconst (v := 5) X dX1_ofLog_7 (by decide) ?_
  refine wm_iload_n X 1 dX1_ofLog_8 rfl ?_
  refine wm_imul X dX1_ofLog_9 ?_
  refine wm_iload_n X 2 dX1_ofLog_10 rfl ?_
  refine wm_iadd X dX1_ofLog_11 ?_
  refine wm_iaload X hS h dX1_ofLog_12 (fun x23 h => ?_)
  exact wm_iret X hr h dX1_ofLog_13 (Nat.le_of_ble_eq_true rfl) (Nat.le_of_ble_eq_true rfl)
theorem mdX1_isTaken : MD yX1_isTaken 2 := by unfold MD; decide +kernel
theorem mvX1_isTaken : MV yX1_isTaken cX1_isTaken 4 ((some FieldType.boolean)) := ⟨q2003, qs52, q128, q2004⟩
set_option maxHeartbeats 4000000 in
theorem ctX1_isTaken (l : Launch) {h0 : Nat} {x1 : Int32} {x2 : Int32} {σ σf : Mm} {r : Int32} (h : FX1_isTaken h0 x1 x2 σ = some (r, σf)) : CTi l yX1_isTaken (ws_ yX1_isTaken cX1_isTaken 4 ((some FieldType.boolean))) 2 60 0 0 [va_rf (some h0), .int x1, .int x2] σ r σf := by
  refine ct_start (n := 2) mdX1_isTaken (Nat.le_of_ble_eq_true rfl) (c1_r (c1_i (c1_i c1_0))) (fun p e s m args below meth c D dA sz0 ad0 X hS hr hnm => ?_)
  have X : CX p s m args meth c cX1_isTaken 4 RX1 := X
  generalize mN σ = N0
  unfold FX1_isTaken at h
  refine wm_aload_n X 0 dX1_isTaken_0 rfl ?_
  refine wm_iload_n X 1 dX1_isTaken_1 rfl ?_
  refine wm_iconst (v := 4) X dX1_isTaken_2 (by decide) ?_
  obtain ⟨s21, h⟩ := ck_e h
  refine wm_cV_i (As := [.int x1, .int 4]) (st := []) X hS cd_1 s21 rfl h (fun _ _ hF => ctX1_ofLog l hF) mdX1_ofLog mvX1_ofLog q2005 dX1_isTaken_3 rfl rfl c1_0 (Nat.le_of_ble_eq_true rfl) ⟨Nat.le_of_ble_eq_true rfl, Nat.le_of_ble_eq_true rfl⟩ ⟨Nat.le_of_ble_eq_true rfl, Nat.le_of_ble_eq_true rfl⟩ (fun x22 σ23 _ h => ?_)
  refine wm_istore_n (ℓ' := [(3, .int x22), (0, va_rf (some h0)), (1, .int x1), (2, .int x2)]) X dX1_isTaken_6 (by decide) rfl ?_
  refine wm_aload_n X 1 dX1_isTaken_7 rfl ?_
  refine wm_iload_n X 2 dX1_isTaken_8 rfl ?_
  refine wm_iconst (v := 3) X dX1_isTaken_9 (by decide) ?_
  obtain ⟨s24, h⟩ := ck_e h
  refine wm_cV_i (As := [.int x1, .int 3]) (st := []) X hS cd_1 s24 rfl h (fun _ _ hF => ctX1_ofLog l hF) mdX1_ofLog mvX1_ofLog q2005 dX1_isTaken_10 rfl rfl c1_0 (Nat.le_of_ble_eq_true rfl) ⟨Nat.le_of_ble_eq_true rfl, Nat.le_of_ble_eq_true rfl⟩ ⟨Nat.le_of_ble_eq_true rfl, Nat.le_of_ble_eq_true rfl⟩ (fun x25 σ26 _ h => ?_)
  refine wm_iload_n X 3 dX1_isTaken_13 rfl ?_
  refine wm_icmp_ne X 41 h dX1_isTaken_14 (by decide) (fun c31 h => ?_) (fun c31 h => ?_)
  · refine wm_iconst (v := 0) X dX1_isTaken_41 (by decide) ?_
    exact wm_zret X hr h dX1_isTaken_42 (Nat.le_of_ble_eq_true rfl) (Nat.le_of_ble_eq_true rfl)
  · refine wm_iload_n X 0 dX1_isTaken_17 rfl ?_
    refine wm_gst X hS 5 (BIG + 101) (by decide) (by decide) rfl (Nat.le_add_right _ _) dX1_isTaken_18 q2009 ?_
    refine wm_ordW X hS h q2010 dX1_isTaken_21 (c1_i c1_0) (Nat.le_of_ble_eq_true rfl) ⟨Nat.le_of_ble_eq_true rfl, Nat.le_of_ble_eq_true rfl⟩ ⟨Nat.le_of_ble_eq_true rfl, Nat.le_of_ble_eq_true rfl⟩ (fun x27 h => ?_)
    refine wm_icmp_eq X 37 h dX1_isTaken_24 (by decide) (fun c30 h => ?_) (fun c30 h => ?_)
    · refine wm_iconst (v := 1) X dX1_isTaken_37 (by decide) ?_
      refine wm_goto X 42 dX1_isTaken_38 (by decide) ?_
      exact wm_zret X hr h dX1_isTaken_42 (Nat.le_of_ble_eq_true rfl) (Nat.le_of_ble_eq_true rfl)
    · refine wm_iload_n X 0 dX1_isTaken_27 rfl ?_
      refine wm_gst X hS 6 (BIG + 102) (by decide) (by decide) rfl (Nat.le_add_right _ _) dX1_isTaken_28 q1701 ?_
      refine wm_ordW X hS h q2010 dX1_isTaken_31 (c1_i c1_0) (Nat.le_of_ble_eq_true rfl) ⟨Nat.le_of_ble_eq_true rfl, Nat.le_of_ble_eq_true rfl⟩ ⟨Nat.le_of_ble_eq_true rfl, Nat.le_of_ble_eq_true rfl⟩ (fun x28 h => ?_)
      refine wm_icmp_ne X 41 h dX1_isTaken_34 (by decide) (fun c29 h => ?_) (fun c29 h => ?_)
      · refine wm_iconst (v := 0) X dX1_isTaken_41 (by decide) ?_
        exact wm_zret X hr h dX1_isTaken_42 (Nat.le_of_ble_eq_true rfl) (Nat.le_of_ble_eq_true rfl)
      · refine wm_iconst (v := 1) X dX1_isTaken_37 (by decide) ?_
        refine wm_goto X 42 dX1_isTaken_38 (by decide) ?_
        exact wm_zret X hr h dX1_isTaken_42 (Nat.le_of_ble_eq_true rfl) (Nat.le_of_ble_eq_true rfl)
theorem mdX1_led : MD yX1_led 2 := by unfold MD; decide +kernel
theorem mvX1_led : MV yX1_led cX1_led 6 ((some FieldType.int)) := ⟨q1998, q1999, q128, q2000⟩
set_option maxHeartbeats 4000000 in
theorem wX1_led_21 {p : Program} {l : Launch} {e : Env} {s : State} {m : MethodId} {args : Array Value} {below : List Frame} {meth : Method} {c : Code} {D : va_G} {dA : Nat → ClassId} {sz0 : Nat} {ad0 : Nat → Nat} {N0 : Nat} {xo : (Int32 × Mm) ⊕ (Nat × Mm)} {mc ms : Nat} (X : CX p s m args meth c cX1_led 6 RX1) (hS : ST D dA sz0 ad0 s) (hr : meth.sig.returnType = (some FieldType.int)) (hnm : meth.name = yX1_led.name) (hl : l.stackTraces = false) (hno : ∀ x ∈ c.exceptionTable.toList, False) (h0 : Nat) (y1 : Int32) (y2 : Int32) : ∀ (n : Nat) (v3 : Int32) (v4 : Int32) (v5 : Int32) (σ : Mm) (kx57 : Int32 → Int32 → Mm → DX (Int32 × Mm)) (C Z kc kz : Nat), FX1_led_21 h0 y1 y2 n v3 v4 v5 σ kx57 = some (xo, C, Z) → kc + C ≤ mc → kz + Z ≤ ms → (∀ (w3 : Int32) (w4 : Int32) (σ : Mm) (C Z kc kz : Nat), kx57 w3 w4 σ = some (xo, C, Z) → kc + C ≤ mc → kz + Z ≤ ms → WMxi p l e s m args below meth c 8 152 mc ms 6 D dA sz0 ad0 N0 xo kc kz σ [(2, .int y2), (3, .int w3), (4, .int w4)] [] 57) → WMxi p l e s m args below meth c 8 152 mc ms 6 D dA sz0 ad0 N0 xo kc kz σ [(0, va_rf (some h0)), (1, .int y1), (2, .int y2), (3, .int v3), (4, .int v4), (5, .int v5)] [] 21 := by
  intro n
  induction n with
  | zero =>
    intro v3 v4 v5 σ kx57 C Z kc kz h hC hZ hkx57
    cases h
  | succ n ih =>
    intro v3 v4 v5 σ kx57 C Z kc kz h hC hZ hkx57
    rw [FX1_led_21] at h
    refine wm_iload X 5 dX1_led_21 rfl ?_
    refine wm_if_lt X 57 h dX1_led_23 (by decide) (fun c32 h => ?_) (fun c32 h => ?_)
    · refine wm_sub (ℓ' := [(2, .int y2), (3, .int v3), (4, .int v4)]) [2, 3, 4] rfl ?_
      exact hkx57 _ _ _ _ _ _ _ h hC hZ
    · refine wm_aload_n X 0 dX1_led_26 rfl ?_
      refine wm_iload X 5 dX1_led_27 rfl ?_
      refine wm_iload_n X 1 dX1_led_29 rfl ?_
      obtain ⟨s25, h⟩ := ck_e h
      refine wm_cV_i (As := [.int v5, .int y1]) (st := []) X hS cd_1 s25 rfl h (fun _ _ hF => ctX1_isTaken l hF) mdX1_isTaken mvX1_isTaken q2001 dX1_led_30 rfl rfl c1_0 (Nat.le_of_ble_eq_true rfl) ⟨Nat.le_of_ble_eq_true rfl, Nat.le_of_ble_eq_true rfl⟩ ⟨le_p hC, le_p hZ⟩ (fun x26 σ27 _ h => ?_)
      refine wm_if_ne X 39 h dX1_led_33 (by decide) (fun c31 h => ?_) (fun c31 h => ?_)
      · refine wm_iinc (v := (v3 + 1)) (ℓ' := [(3, .int (v3 + 1)), (0, va_rf (some h0)), (1, .int y1), (2, .int y2), (4, .int v4), (5, .int v5)]) X 3 dX1_led_39 rfl rfl (by decide) rfl ?_
        refine wm_aload_n X 1 dX1_led_42 rfl ?_
        refine wm_iload X 5 dX1_led_43 rfl ?_
        refine wm_iconst (v := 1) X dX1_led_45 (by decide) ?_
        obtain ⟨s28, h⟩ := ck_e h
        refine wm_cV_i (As := [.int v5, .int 1]) (st := []) X hS cd_1 s28 rfl h (fun _ _ hF => ctX1_ofLog l hF) mdX1_ofLog mvX1_ofLog q2005 dX1_led_46 rfl rfl c1_0 (Nat.le_of_ble_eq_true rfl) ⟨Nat.le_of_ble_eq_true rfl, Nat.le_of_ble_eq_true rfl⟩ ⟨le_p hC, le_p hZ⟩ (fun x29 σ30 _ h => ?_)
        refine wm_istore (ℓ' := [(4, .int x29), (3, .int (v3 + 1)), (0, va_rf (some h0)), (1, .int y1), (2, .int y2), (5, .int v5)]) X dX1_led_49 (by decide) rfl ?_
        refine wm_iinc (v := (v5 + (-1))) (ℓ' := [(5, .int (v5 + (-1))), (4, .int x29), (3, .int (v3 + 1)), (0, va_rf (some h0)), (1, .int y1), (2, .int y2)]) X 5 dX1_led_51 rfl rfl (by decide) rfl ?_
        refine wm_goto X 21 dX1_led_54 (by decide) ?_
        refine wm_sub (ℓ' := [(0, va_rf (some h0)), (1, .int y1), (2, .int y2), (3, .int (v3 + 1)), (4, .int x29), (5, .int (v5 + (-1)))]) [3, 4, 5, 2, 1, 0] rfl ?_
        exact ih _ _ _ _ _ _ _ _ _ h hC hZ hkx57
      · refine wm_goto X 51 dX1_led_36 (by decide) ?_
        refine wm_iinc (v := (v5 + (-1))) (ℓ' := [(5, .int (v5 + (-1))), (0, va_rf (some h0)), (1, .int y1), (2, .int y2), (3, .int v3), (4, .int v4)]) X 5 dX1_led_51 rfl rfl (by decide) rfl ?_
        refine wm_goto X 21 dX1_led_54 (by decide) ?_
        refine wm_sub (ℓ' := [(0, va_rf (some h0)), (1, .int y1), (2, .int y2), (3, .int v3), (4, .int v4), (5, .int (v5 + (-1)))]) [1, 2, 3, 4, 5, 0] rfl ?_
        exact ih _ _ _ _ _ _ _ _ _ h hC hZ hkx57
set_option maxHeartbeats 4000000 in
theorem ctX1_led (l : Launch) (hl : l.stackTraces = false) {h0 : Nat} {x1 : Int32} {x2 : Int32} {σ : Mm} {xo : (Int32 × Mm) ⊕ (Nat × Mm)} {mc ms : Nat} (h : FX1_led h0 x1 x2 σ = some (xo, mc, ms)) : CTXi l yX1_led (ws_ yX1_led cX1_led 6 ((some FieldType.int))) 8 152 mc ms [va_rf (some h0), .int x1, .int x2] σ xo := by
  refine ctx_start (n := 2) mdX1_led (Nat.le_of_ble_eq_true rfl) (c1_r (c1_i (c1_i c1_0))) (fun p e s m args below meth c D dA sz0 ad0 X hS hr hnm hno => ?_)
  have X : CX p s m args meth c cX1_led 6 RX1 := X
  have hC : 0 + mc ≤ mc := Nat.le_of_eq (Nat.zero_add mc)
  have hZ : 0 + ms ≤ ms := Nat.le_of_eq (Nat.zero_add ms)
  generalize mN σ = N0
  unfold FX1_led at h
  refine wm_aload_n X 0 dX1_led_0 rfl ?_
  refine wm_iload_n X 1 dX1_led_1 rfl ?_
  obtain ⟨s21, h⟩ := ck_e h
  refine wm_dV_v (As := [.int x1]) (st := []) X hS hno cd_1 s21 rfl h hC hZ (fun _ _ _ hF => ctX1_personAt l hl hF) mdX1_personAt mvX1_personAt q1533 dX1_led_2 rfl rfl c1_0 (Nat.le_of_ble_eq_true rfl) ⟨Nat.le_of_ble_eq_true rfl, Nat.le_of_ble_eq_true rfl⟩ (Nat.le_refl _) (Nat.le_refl _) (fun σ22 c1 z1 C Z _ h hC hZ => ?_)
  refine wm_iconst (v := 0) X dX1_led_5 (by decide) ?_
  refine wm_istore_n (ℓ' := [(3, .int 0), (0, va_rf (some h0)), (1, .int x1), (2, .int x2)]) X dX1_led_6 (by decide) rfl ?_
  refine wm_iconst (v := (-1)) X dX1_led_7 (by decide) ?_
  refine wm_istore (ℓ' := [(4, .int (-1)), (3, .int 0), (0, va_rf (some h0)), (1, .int x1), (2, .int x2)]) X dX1_led_8 (by decide) rfl ?_
  refine wm_aload_n X 2 dX1_led_10 rfl ?_
  refine wm_gR X hS cd_1 0 h dX1_led_11 (Nat.le_of_ble_eq_true rfl) rfl q434 (fun x23 h => ?_)
  refine wm_gIN X hS cd_2 6 h dX1_led_14 (Nat.le_of_ble_eq_true rfl) rfl 6 rfl (fun x24 h => ?_)
  refine wm_iconst (v := 1) X dX1_led_17 (by decide) ?_
  refine wm_isub X dX1_led_18 ?_
  refine wm_istore (ℓ' := [(5, .int (x24 - 1)), (4, .int (-1)), (3, .int 0), (0, va_rf (some h0)), (1, .int x1), (2, .int x2)]) X dX1_led_19 (by decide) rfl ?_
  refine wm_sub (ℓ' := [(0, va_rf (some h0)), (1, .int x1), (2, .int x2), (3, .int 0), (4, .int (-1)), (5, .int (x24 - 1))]) [3, 4, 5, 2, 1, 0] rfl ?_
  refine wX1_led_21 X hS hr hnm hl hno _ _ _ fu _ _ _ _ _ _ _ _ _ h hC hZ (fun x33 x34 σ C Z kc kz h hC hZ => ?_)
  · refine wm_iload_n X 0 dX1_led_57 rfl ?_
    refine wm_if_eq X 66 h dX1_led_58 (by decide) (fun c35 h => ?_) (fun c35 h => ?_)
    · refine wm_iload_n X 1 dX1_led_66 rfl ?_
      exact wm_xiret X hr (rt_e h) dX1_led_67 (le_p hC) (le_p hZ)
    · refine wm_iload X 2 dX1_led_61 rfl ?_
      refine wm_goto X 67 dX1_led_63 (by decide) ?_
      exact wm_xiret X hr (rt_e h) dX1_led_67 (le_p hC) (le_p hZ)
theorem mdX1_log : MD yX1_log 2 := by unfold MD; decide +kernel
theorem mvX1_log : MV yX1_log cX1_log 3 ((some FieldType.int)) := ⟨q2015, q2016, q128, q2017⟩
set_option maxHeartbeats 4000000 in
theorem ctX1_log (l : Launch) (hl : l.stackTraces = false) {h0 : Nat} {x1 : Int32} {x2 : Int32} {σ : Mm} {xo : (Int32 × Mm) ⊕ (Nat × Mm)} {mc ms : Nat} (h : FX1_log h0 x1 x2 σ = some (xo, mc, ms)) : CTXi l yX1_log (ws_ yX1_log cX1_log 3 ((some FieldType.int))) 7 131 mc ms [va_rf (some h0), .int x1, .int x2] σ xo := by
  refine ctx_start (n := 2) mdX1_log (Nat.le_of_ble_eq_true rfl) (c1_r (c1_i (c1_i c1_0))) (fun p e s m args below meth c D dA sz0 ad0 X hS hr hnm hno => ?_)
  have X : CX p s m args meth c cX1_log 3 RX1 := X
  have hC : 0 + mc ≤ mc := Nat.le_of_eq (Nat.zero_add mc)
  have hZ : 0 + ms ≤ ms := Nat.le_of_eq (Nat.zero_add ms)
  generalize mN σ = N0
  unfold FX1_log at h
  refine wm_iload_n X 2 dX1_log_0 rfl ?_
  refine wm_iconst (v := 4) X dX1_log_1 (by decide) ?_
  refine wm_dS_v (As := [.int x2, .int 4]) (st := []) X hS hno h hC hZ (fun _ _ _ hF => ctX1_question l hl hF) mdX1_question msX1_question q1555 dX1_log_2 rfl rfl c1_0 (Nat.le_of_ble_eq_true rfl) ⟨Nat.le_of_ble_eq_true rfl, Nat.le_of_ble_eq_true rfl⟩ (Nat.le_refl _) (Nat.le_refl _) (fun σ21 c1 z1 C Z _ h hC hZ => ?_)
  refine wm_iload_n X 1 dX1_log_5 rfl ?_
  refine wm_iconst (v := 0) X dX1_log_6 (by decide) ?_
  refine wm_aload_n X 0 dX1_log_7 rfl ?_
  refine wm_gR X hS cd_1 0 h dX1_log_8 (Nat.le_of_ble_eq_true rfl) rfl q434 (fun x22 h => ?_)
  refine wm_gIN X hS cd_2 6 h dX1_log_11 (Nat.le_of_ble_eq_true rfl) rfl 6 rfl (fun x23 h => ?_)
  refine wm_iconst (v := 1) X dX1_log_14 (by decide) ?_
  refine wm_isub X dX1_log_15 ?_
  refine wm_cS_i (As := [.int x1, .int 0, .int (x23 - 1)]) (st := []) X hS h (fun _ _ hF => ctX1_in l hF) mdX1_in msX1_in q625 dX1_log_16 rfl rfl c1_0 (Nat.le_of_ble_eq_true rfl) ⟨Nat.le_of_ble_eq_true rfl, Nat.le_of_ble_eq_true rfl⟩ ⟨le_p hC, le_p hZ⟩ (fun x24 σ25 _ h => ?_)
  refine wm_if_eq X 31 h dX1_log_19 (by decide) (fun c29 h => ?_) (fun c29 h => ?_)
  · refine wm_bipush (v := (-99)) X dX1_log_31 (by decide) ?_
    exact wm_xiret X hr (rt_e h) dX1_log_33 (le_p hC) (le_p hZ)
  · refine wm_aload_n X 0 dX1_log_22 rfl ?_
    refine wm_iload_n X 1 dX1_log_23 rfl ?_
    refine wm_iload_n X 2 dX1_log_24 rfl ?_
    obtain ⟨s26, h⟩ := ck_e h
    refine wm_cV_i (As := [.int x1, .int x2]) (st := []) X hS cd_1 s26 rfl h (fun _ _ hF => ctX1_ofLog l hF) mdX1_ofLog mvX1_ofLog q2005 dX1_log_25 rfl rfl c1_0 (Nat.le_of_ble_eq_true rfl) ⟨Nat.le_of_ble_eq_true rfl, Nat.le_of_ble_eq_true rfl⟩ ⟨le_p hC, le_p hZ⟩ (fun x27 σ28 _ h => ?_)
    refine wm_goto X 33 dX1_log_28 (by decide) ?_
    exact wm_xiret X hr (rt_e h) dX1_log_33 (le_p hC) (le_p hZ)
theorem mdX8_init : MD yX8_init 0 := by unfold MD; decide +kernel
theorem miX8_init : MI yX8_init cX8_init 2 := ⟨q2021, q139, q2022, rfl⟩
set_option maxHeartbeats 4000000 in
theorem wX8_init_137 {p : Program} {l : Launch} {e : Env} {s : State} {m : MethodId} {args : Array Value} {below : List Frame} {meth : Method} {c : Code} {D : va_G} {dA : Nat → ClassId} {sz0 : Nat} {ad0 : Nat → Nat} {N0 : Nat} {σf : Mm} (X : CX p s m args meth c cX8_init 2 RX8) (hS : ST D dA sz0 ad0 s) (hr : meth.sig.returnType = none) (hnm : meth.name = yX8_init.name) (h0 : Nat) : ∀ (n : Nat) (v1 : Int32) (σ : Mm) (kx160 : Mm → Option (Mm)), FX8_init_137 h0 n v1 σ kx160 = some σf → (∀  (σ : Mm), kx160 σ = some σf → WMv p l e s m args below meth c 1 25 12 21296 2 D dA sz0 ad0 N0 σf 12 21296 σ [] [] 160) → WMv p l e s m args below meth c 1 25 12 21296 2 D dA sz0 ad0 N0 σf 12 21296 σ [(0, va_rf (some h0)), (1, .int v1)] [] 137 := by
  intro n
  induction n with
  | zero =>
    intro v1 σ kx160 h hkx160
    cases h
  | succ n ih =>
    intro v1 σ kx160 h hkx160
    rw [FX8_init_137] at h
    refine wm_iload_n X 1 dX8_init_137 rfl ?_
    refine wm_bipush (v := 12) X dX8_init_138 (by decide) ?_
    refine wm_icmp_ge X 160 h dX8_init_140 (by decide) (fun c66 h => ?_) (fun c66 h => ?_)
    · refine wm_sub (ℓ' := []) [] rfl ?_
      exact hkx160 _ h
    · refine wm_aload_n X 0 dX8_init_143 rfl ?_
      refine wm_gR X hS cd_8 1 h dX8_init_144 (Nat.le_of_ble_eq_true rfl) rfl q2025 (fun x64 h => ?_)
      refine wm_sipush (v := 272) X dX8_init_147 (by decide) ?_
      refine wm_iload_n X 1 dX8_init_150 rfl ?_
      refine wm_iadd X dX8_init_151 ?_
      refine wm_iconst (v := (-1)) X dX8_init_152 (by decide) ?_
      refine wm_iastore X hS h dX8_init_153 (fun σ65 _ h => ?_)
      refine wm_iinc (v := (v1 + 1)) (ℓ' := [(1, .int (v1 + 1)), (0, va_rf (some h0))]) X 1 dX8_init_154 rfl rfl (by decide) rfl ?_
      refine wm_goto X 137 dX8_init_157 (by decide) ?_
      refine wm_sub (ℓ' := [(0, va_rf (some h0)), (1, .int (v1 + 1))]) [1, 0] rfl ?_
      exact ih _ _ _ h hkx160
set_option maxHeartbeats 4000000 in
theorem ctX8_init (l : Launch) {h0 : Nat} {σ σf : Mm} (h : FX8_init h0 σ = some σf) : CTv l yX8_init (ws_ yX8_init cX8_init 2 (none)) 1 25 12 21296 [va_rf (some h0)] σ σf := by
  refine ct_start (n := 0) mdX8_init (Nat.le_of_ble_eq_true rfl) (c1_r c1_0) (fun p e s m args below meth c D dA sz0 ad0 X hS hr hnm => ?_)
  have X : CX p s m args meth c cX8_init 2 RX8 := X
  generalize mN σ = N0
  unfold FX8_init at h
  refine wm_aload_n X 0 dX8_init_0 rfl ?_
  refine wm_objInit X dX8_init_1 q2023 q179 q180 (Nat.le_of_ble_eq_true rfl) c1_0 (Nat.le_of_ble_eq_true rfl) (Nat.le_of_ble_eq_true rfl) ?_
  refine wm_aload_n X 0 dX8_init_4 rfl ?_
  refine wm_sipush (v := 984) X dX8_init_5 (by decide) ?_
  refine wm_newarr (z := 984) X hS 100 .int (Or.inl ⟨rfl, rfl⟩) q276 h dX8_init_8 (Nat.le_of_ble_eq_true rfl) rfl (Nat.le_of_ble_eq_true rfl) (fun x21 σ22 _ h => ?_)
  refine wm_pRF X hS cd_8 1 h dX8_init_10 (Nat.le_of_ble_eq_true rfl) rfl q2025 (fun r => by cases r <;> exact ⟨rfl, rfl⟩) rfl hnm rfl (fun σ23 _ h => ?_)
  refine wm_aload_n X 0 dX8_init_13 rfl ?_
  refine wm_sipush (v := 984) X dX8_init_14 (by decide) ?_
  refine wm_newarr (z := 984) X hS 100 .int (Or.inl ⟨rfl, rfl⟩) q276 h dX8_init_17 (Nat.le_of_ble_eq_true rfl) rfl (Nat.le_of_ble_eq_true rfl) (fun x24 σ25 _ h => ?_)
  refine wm_pRF X hS cd_8 2 h dX8_init_19 (Nat.le_of_ble_eq_true rfl) rfl q2026 (fun r => by cases r <;> exact ⟨rfl, rfl⟩) rfl hnm rfl (fun σ26 _ h => ?_)
  refine wm_aload_n X 0 dX8_init_22 rfl ?_
  refine wm_sipush (v := 584) X dX8_init_23 (by decide) ?_
  refine wm_newarr (z := 584) X hS 100 .int (Or.inl ⟨rfl, rfl⟩) q276 h dX8_init_26 (Nat.le_of_ble_eq_true rfl) rfl (Nat.le_of_ble_eq_true rfl) (fun x27 σ28 _ h => ?_)
  refine wm_pRF X hS cd_8 4 h dX8_init_28 (Nat.le_of_ble_eq_true rfl) rfl q2028 (fun r => by cases r <;> exact ⟨rfl, rfl⟩) rfl hnm rfl (fun σ29 _ h => ?_)
  refine wm_aload_n X 0 dX8_init_31 rfl ?_
  refine wm_sipush (v := 7008) X dX8_init_32 (by decide) ?_
  refine wm_newarr (z := 7008) X hS 100 .int (Or.inl ⟨rfl, rfl⟩) q276 h dX8_init_35 (Nat.le_of_ble_eq_true rfl) rfl (Nat.le_of_ble_eq_true rfl) (fun x30 σ31 _ h => ?_)
  refine wm_pRF X hS cd_8 5 h dX8_init_37 (Nat.le_of_ble_eq_true rfl) rfl q2029 (fun r => by cases r <;> exact ⟨rfl, rfl⟩) rfl hnm rfl (fun σ32 _ h => ?_)
  refine wm_aload_n X 0 dX8_init_40 rfl ?_
  refine wm_sipush (v := 400) X dX8_init_41 (by decide) ?_
  refine wm_newarr (z := 400) X hS 100 .int (Or.inl ⟨rfl, rfl⟩) q276 h dX8_init_44 (Nat.le_of_ble_eq_true rfl) rfl (Nat.le_of_ble_eq_true rfl) (fun x33 σ34 _ h => ?_)
  refine wm_pRF X hS cd_8 7 h dX8_init_46 (Nat.le_of_ble_eq_true rfl) rfl q2031 (fun r => by cases r <;> exact ⟨rfl, rfl⟩) rfl hnm rfl (fun σ35 _ h => ?_)
  refine wm_aload_n X 0 dX8_init_49 rfl ?_
  refine wm_iconst (v := (-1)) X dX8_init_50 (by decide) ?_
  refine wm_pI X hS cd_8 12 h dX8_init_51 (Nat.le_of_ble_eq_true rfl) rfl q2036 rfl rfl (fun σ36 _ h => ?_)
  refine wm_aload_n X 0 dX8_init_54 rfl ?_
  refine wm_bipush (v := 6) X dX8_init_55 (by decide) ?_
  refine wm_newarr (z := 6) X hS 100 .int (Or.inl ⟨rfl, rfl⟩) q276 h dX8_init_57 (Nat.le_of_ble_eq_true rfl) rfl (Nat.le_of_ble_eq_true rfl) (fun x37 σ38 _ h => ?_)
  refine wm_pRF X hS cd_8 14 h dX8_init_59 (Nat.le_of_ble_eq_true rfl) rfl q2038 (fun r => by cases r <;> exact ⟨rfl, rfl⟩) rfl hnm rfl (fun σ39 _ h => ?_)
  refine wm_aload_n X 0 dX8_init_62 rfl ?_
  refine wm_bipush (v := 36) X dX8_init_63 (by decide) ?_
  refine wm_newarr (z := 36) X hS 100 .int (Or.inl ⟨rfl, rfl⟩) q276 h dX8_init_65 (Nat.le_of_ble_eq_true rfl) rfl (Nat.le_of_ble_eq_true rfl) (fun x40 σ41 _ h => ?_)
  refine wm_pRF X hS cd_8 19 h dX8_init_67 (Nat.le_of_ble_eq_true rfl) rfl q2043 (fun r => by cases r <;> exact ⟨rfl, rfl⟩) rfl hnm rfl (fun σ42 _ h => ?_)
  refine wm_aload_n X 0 dX8_init_70 rfl ?_
  refine wm_bipush (v := 10) X dX8_init_71 (by decide) ?_
  refine wm_newarr (z := 10) X hS 100 .int (Or.inl ⟨rfl, rfl⟩) q276 h dX8_init_73 (Nat.le_of_ble_eq_true rfl) rfl (Nat.le_of_ble_eq_true rfl) (fun x43 σ44 _ h => ?_)
  refine wm_pRF X hS cd_8 21 h dX8_init_75 (Nat.le_of_ble_eq_true rfl) rfl q2045 (fun r => by cases r <;> exact ⟨rfl, rfl⟩) rfl hnm rfl (fun σ45 _ h => ?_)
  refine wm_aload_n X 0 dX8_init_78 rfl ?_
  refine wm_sipush (v := 1024) X dX8_init_79 (by decide) ?_
  refine wm_newarr (z := 1024) X hS 100 .int (Or.inl ⟨rfl, rfl⟩) q276 h dX8_init_82 (Nat.le_of_ble_eq_true rfl) rfl (Nat.le_of_ble_eq_true rfl) (fun x46 σ47 _ h => ?_)
  refine wm_pRF X hS cd_8 22 h dX8_init_84 (Nat.le_of_ble_eq_true rfl) rfl q2046 (fun r => by cases r <;> exact ⟨rfl, rfl⟩) rfl hnm rfl (fun σ48 _ h => ?_)
  refine wm_aload_n X 0 dX8_init_87 rfl ?_
  refine wm_bipush (v := 10) X dX8_init_88 (by decide) ?_
  refine wm_newarr (z := 10) X hS 100 .int (Or.inl ⟨rfl, rfl⟩) q276 h dX8_init_90 (Nat.le_of_ble_eq_true rfl) rfl (Nat.le_of_ble_eq_true rfl) (fun x49 σ50 _ h => ?_)
  refine wm_pRF X hS cd_8 23 h dX8_init_92 (Nat.le_of_ble_eq_true rfl) rfl q2047 (fun r => by cases r <;> exact ⟨rfl, rfl⟩) rfl hnm rfl (fun σ51 _ h => ?_)
  refine wm_aload_n X 0 dX8_init_95 rfl ?_
  refine wm_sipush (v := 10240) X dX8_init_96 (by decide) ?_
  refine wm_newarr (z := 10240) X hS 100 .int (Or.inl ⟨rfl, rfl⟩) q276 h dX8_init_99 (Nat.le_of_ble_eq_true rfl) rfl (Nat.le_of_ble_eq_true rfl) (fun x52 σ53 _ h => ?_)
  refine wm_pRF X hS cd_8 24 h dX8_init_101 (Nat.le_of_ble_eq_true rfl) rfl q2048 (fun r => by cases r <;> exact ⟨rfl, rfl⟩) rfl hnm rfl (fun σ54 _ h => ?_)
  refine wm_aload_n X 0 dX8_init_104 rfl ?_
  refine wm_bipush (v := 10) X dX8_init_105 (by decide) ?_
  refine wm_newarr (z := 10) X hS 100 .int (Or.inl ⟨rfl, rfl⟩) q276 h dX8_init_107 (Nat.le_of_ble_eq_true rfl) rfl (Nat.le_of_ble_eq_true rfl) (fun x55 σ56 _ h => ?_)
  refine wm_pRF X hS cd_8 25 h dX8_init_109 (Nat.le_of_ble_eq_true rfl) rfl q2049 (fun r => by cases r <;> exact ⟨rfl, rfl⟩) rfl hnm rfl (fun σ57 _ h => ?_)
  refine wm_aload_n X 0 dX8_init_112 rfl ?_
  refine wm_gR X hS cd_8 1 h dX8_init_113 (Nat.le_of_ble_eq_true rfl) rfl q2025 (fun x58 h => ?_)
  refine wm_iconst (v := 1) X dX8_init_116 (by decide) ?_
  refine wm_iconst (v := (-1)) X dX8_init_117 (by decide) ?_
  refine wm_iastore X hS h dX8_init_118 (fun σ59 _ h => ?_)
  refine wm_aload_n X 0 dX8_init_119 rfl ?_
  refine wm_gR X hS cd_8 1 h dX8_init_120 (Nat.le_of_ble_eq_true rfl) rfl q2025 (fun x60 h => ?_)
  refine wm_iconst (v := 4) X dX8_init_123 (by decide) ?_
  refine wm_bipush (v := 6) X dX8_init_124 (by decide) ?_
  refine wm_iastore X hS h dX8_init_126 (fun σ61 _ h => ?_)
  refine wm_aload_n X 0 dX8_init_127 rfl ?_
  refine wm_gR X hS cd_8 1 h dX8_init_128 (Nat.le_of_ble_eq_true rfl) rfl q2025 (fun x62 h => ?_)
  refine wm_bipush (v := 9) X dX8_init_131 (by decide) ?_
  refine wm_iconst (v := 1) X dX8_init_133 (by decide) ?_
  refine wm_iastore X hS h dX8_init_134 (fun σ63 _ h => ?_)
  refine wm_iconst (v := 0) X dX8_init_135 (by decide) ?_
  refine wm_istore_n (ℓ' := [(1, .int 0), (0, va_rf (some h0))]) X dX8_init_136 (by decide) rfl ?_
  refine wm_sub (ℓ' := [(0, va_rf (some h0)), (1, .int 0)]) [1, 0] rfl ?_
  refine wX8_init_137 X hS hr hnm _ fu _ _ _ h (fun σ h => ?_)
  · exact wm_vret X hr h dX8_init_160 (Nat.le_of_ble_eq_true rfl) (Nat.le_of_ble_eq_true rfl)
theorem mdX8_thrown : MD yX8_thrown 0 := by unfold MD; decide +kernel
theorem mvX8_thrown : MV yX8_thrown cX8_thrown 1 ((some FieldType.int)) := ⟨q2104, q2105, q139, q2106⟩
set_option maxHeartbeats 4000000 in
theorem ctX8_thrown (l : Launch) {h0 : Nat} {σ σf : Mm} {r : Int32} (h : FX8_thrown h0 σ = some (r, σf)) : CTi l yX8_thrown (ws_ yX8_thrown cX8_thrown 1 ((some FieldType.int))) 0 0 0 0 [va_rf (some h0)] σ r σf := by
  refine ct_start (n := 0) mdX8_thrown (Nat.le_of_ble_eq_true rfl) (c1_r c1_0) (fun p e s m args below meth c D dA sz0 ad0 X hS hr hnm => ?_)
  have X : CX p s m args meth c cX8_thrown 1 RX8 := X
  generalize mN σ = N0
  unfold FX8_thrown at h
  refine wm_aload_n X 0 dX8_thrown_0 rfl ?_
  refine wm_gI X hS cd_8 0 h dX8_thrown_1 (Nat.le_of_ble_eq_true rfl) rfl q2024 (fun x21 h => ?_)
  exact wm_iret X hr h dX8_thrown_4 (Nat.le_of_ble_eq_true rfl) (Nat.le_of_ble_eq_true rfl)
theorem mdX8_feed : MD yX8_feed 5 := by unfold MD; decide +kernel
theorem mvX8_feed : MV yX8_feed cX8_feed 8 ((some FieldType.int)) := ⟨q2108, q2109, q139, q2110⟩
set_option maxHeartbeats 4000000 in
theorem wX8_feed_23 {p : Program} {l : Launch} {e : Env} {s : State} {m : MethodId} {args : Array Value} {below : List Frame} {meth : Method} {c : Code} {D : va_G} {dA : Nat → ClassId} {sz0 : Nat} {ad0 : Nat → Nat} {N0 : Nat} {r : Int32} {σf : Mm} (X : CX p s m args meth c cX8_feed 8 RX8) (hS : ST D dA sz0 ad0 s) (hr : meth.sig.returnType = (some FieldType.int)) (hnm : meth.name = yX8_feed.name) (h0 : Nat) (y1 : Int32) (y2 : Int32) (y3 : Int32) (y4 : Int32) (y5 : Int32) : ∀ (n : Nat) (v6 : Int32) (σ : Mm) (kx120 : Mm → Option (Int32 × Mm)), FX8_feed_23 h0 y1 y2 y3 y4 y5 n v6 σ kx120 = some (r, σf) → (∀  (σ : Mm), kx120 σ = some (r, σf) → WMi p l e s m args below meth c 0 0 0 0 8 D dA sz0 ad0 N0 r σf 0 0 σ [(0, va_rf (some h0))] [] 120) → WMi p l e s m args below meth c 0 0 0 0 8 D dA sz0 ad0 N0 r σf 0 0 σ [(0, va_rf (some h0)), (1, .int y1), (2, .int y2), (3, .int y3), (4, .int y4), (5, .int y5), (6, .int v6)] [] 23 := by
  intro n
  induction n with
  | zero =>
    intro v6 σ kx120 h hkx120
    cases h
  | succ n ih =>
    intro v6 σ kx120 h hkx120
    rw [FX8_feed_23] at h
    refine wm_iload X 6 dX8_feed_23 rfl ?_
    refine wm_bipush (v := 20) X dX8_feed_25 (by decide) ?_
    refine wm_icmp_ge X 120 h dX8_feed_27 (by decide) (fun c34 h => ?_) (fun c34 h => ?_)
    · refine wm_sub (ℓ' := [(0, va_rf (some h0))]) [0] rfl ?_
      exact hkx120 _ h
    · refine wm_iload X 6 dX8_feed_30 rfl ?_
      refine wm_iconst (v := 4) X dX8_feed_32 (by decide) ?_
      obtain ⟨J76, eJ76, h⟩ := jn_e h
      have hJ76 : ∀ (z23 : Int32) (σ : Mm), J76 z23 σ = some (r, σf) → WMi p l e s m args below meth c 0 0 0 0 8 D dA sz0 ad0 N0 r σf 0 0 σ [(0, va_rf (some h0)), (1, .int y1), (2, .int y2), (3, .int y3), (4, .int y4), (5, .int y5), (6, .int v6)] [.int z23] 76 := by
        intro z23 σ h
        rw [eJ76] at h
        refine wm_istore (ℓ' := [(7, .int z23), (0, va_rf (some h0)), (1, .int y1), (2, .int y2), (3, .int y3), (4, .int y4), (5, .int y5), (6, .int v6)]) X dX8_feed_76 (by decide) rfl ?_
        refine wm_aload_n X 1 dX8_feed_78 rfl ?_
        refine wm_gR X hS cd_8 7 h dX8_feed_79 (Nat.le_of_ble_eq_true rfl) rfl q2031 (fun x24 h => ?_)
        refine wm_aload_n X 1 dX8_feed_82 rfl ?_
        refine wm_gI X hS cd_8 8 h dX8_feed_83 (Nat.le_of_ble_eq_true rfl) rfl q2032 (fun x25 h => ?_)
        refine wm_iload X 0 dX8_feed_86 rfl ?_
        refine wm_bipush (v := 24) X dX8_feed_88 (by decide) ?_
        refine wm_bipush (v := 8) X dX8_feed_90 (by decide) ?_
        refine wm_iload X 7 dX8_feed_92 rfl ?_
        refine wm_iconst (v := 4) X dX8_feed_94 (by decide) ?_
        refine wm_irem X h dX8_feed_95 (fun x26 h => ?_)
        refine wm_imul X dX8_feed_96 ?_
        refine wm_isub X dX8_feed_97 ?_
        refine wm_iushr X dX8_feed_98 ?_
        refine wm_sipush (v := 255) X dX8_feed_99 (by decide) ?_
        refine wm_iand X dX8_feed_102 ?_
        refine wm_iastore X hS h dX8_feed_103 (fun σ27 _ h => ?_)
        refine wm_aload_n X 1 dX8_feed_104 rfl ?_
        refine wm_dup X dX8_feed_105 (catR _) ?_
        refine wm_gI X hS cd_8 8 h dX8_feed_106 (Nat.le_of_ble_eq_true rfl) rfl q2032 (fun x28 h => ?_)
        refine wm_iconst (v := 1) X dX8_feed_109 (by decide) ?_
        refine wm_iadd X dX8_feed_110 ?_
        refine wm_pI X hS cd_8 8 h dX8_feed_111 (Nat.le_of_ble_eq_true rfl) rfl q2032 rfl rfl (fun σ29 _ h => ?_)
        refine wm_iinc (v := (v6 + 1)) (ℓ' := [(6, .int (v6 + 1)), (7, .int z23), (0, va_rf (some h0)), (1, .int y1), (2, .int y2), (3, .int y3), (4, .int y4), (5, .int y5)]) X 7 dX8_feed_114 rfl rfl (by decide) rfl ?_
        refine wm_goto X 23 dX8_feed_117 (by decide) ?_
        refine wm_sub (ℓ' := [(0, va_rf (some h0)), (1, .int y1), (2, .int y2), (3, .int y3), (4, .int y4), (5, .int y5), (6, .int (v6 + 1))]) [2, 3, 4, 5, 6, 7, 0] rfl ?_
        exact ih _ _ _ h hkx120
      clear eJ76
      refine wm_icmp_ge X 40 h dX8_feed_33 (by decide) (fun c33 h => ?_) (fun c33 h => ?_)
      · refine wm_iload X 6 dX8_feed_40 rfl ?_
        refine wm_bipush (v := 8) X dX8_feed_42 (by decide) ?_
        refine wm_icmp_ge X 51 h dX8_feed_44 (by decide) (fun c32 h => ?_) (fun c32 h => ?_)
        · refine wm_iload X 6 dX8_feed_51 rfl ?_
          refine wm_bipush (v := 12) X dX8_feed_53 (by decide) ?_
          refine wm_icmp_ge X 62 h dX8_feed_55 (by decide) (fun c31 h => ?_) (fun c31 h => ?_)
          · refine wm_iload X 6 dX8_feed_62 rfl ?_
            refine wm_bipush (v := 16) X dX8_feed_64 (by decide) ?_
            refine wm_icmp_ge X 74 h dX8_feed_66 (by decide) (fun c30 h => ?_) (fun c30 h => ?_)
            · refine wm_iload X 5 dX8_feed_74 rfl ?_
              exact hJ76 _ _ h
            · refine wm_iload X 4 dX8_feed_69 rfl ?_
              refine wm_goto X 76 dX8_feed_71 (by decide) ?_
              exact hJ76 _ _ h
          · refine wm_iload_n X 3 dX8_feed_58 rfl ?_
            refine wm_goto X 76 dX8_feed_59 (by decide) ?_
            exact hJ76 _ _ h
        · refine wm_iload_n X 2 dX8_feed_47 rfl ?_
          refine wm_goto X 76 dX8_feed_48 (by decide) ?_
          exact hJ76 _ _ h
      · refine wm_iload_n X 1 dX8_feed_36 rfl ?_
        refine wm_goto X 76 dX8_feed_37 (by decide) ?_
        exact hJ76 _ _ h
set_option maxHeartbeats 4000000 in
theorem ctX8_feed (l : Launch) {h0 : Nat} {x1 : Int32} {x2 : Int32} {x3 : Int32} {x4 : Int32} {x5 : Int32} {σ σf : Mm} {r : Int32} (h : FX8_feed h0 x1 x2 x3 x4 x5 σ = some (r, σf)) : CTi l yX8_feed (ws_ yX8_feed cX8_feed 8 ((some FieldType.int))) 0 0 0 0 [va_rf (some h0), .int x1, .int x2, .int x3, .int x4, .int x5] σ r σf := by
  refine ct_start (n := 5) mdX8_feed (Nat.le_of_ble_eq_true rfl) (c1_r (c1_i (c1_i (c1_i (c1_i (c1_i c1_0)))))) (fun p e s m args below meth c D dA sz0 ad0 X hS hr hnm => ?_)
  have X : CX p s m args meth c cX8_feed 8 RX8 := X
  generalize mN σ = N0
  unfold FX8_feed at h
  refine wm_aload_n X 0 dX8_feed_0 rfl ?_
  refine wm_iconst (v := 0) X dX8_feed_1 (by decide) ?_
  refine wm_pI X hS cd_8 0 h dX8_feed_2 (Nat.le_of_ble_eq_true rfl) rfl q2024 rfl rfl (fun σ21 _ h => ?_)
  refine wm_aload_n X 0 dX8_feed_5 rfl ?_
  refine wm_gI X hS cd_8 8 h dX8_feed_6 (Nat.le_of_ble_eq_true rfl) rfl q2032 (fun x22 h => ?_)
  refine wm_bipush (v := 20) X dX8_feed_9 (by decide) ?_
  refine wm_iadd X dX8_feed_11 ?_
  refine wm_sipush (v := 400) X dX8_feed_12 (by decide) ?_
  refine wm_icmp_le X 20 h dX8_feed_15 (by decide) (fun c36 h => ?_) (fun c36 h => ?_)
  · refine wm_iconst (v := 0) X dX8_feed_20 (by decide) ?_
    refine wm_istore (ℓ' := [(6, .int 0), (0, va_rf (some h0)), (1, .int x1), (2, .int x2), (3, .int x3), (4, .int x4), (5, .int x5)]) X dX8_feed_21 (by decide) rfl ?_
    refine wm_sub (ℓ' := [(0, va_rf (some h0)), (1, .int x1), (2, .int x2), (3, .int x3), (4, .int x4), (5, .int x5), (6, .int 0)]) [1, 2, 3, 4, 5, 6, 0] rfl ?_
    refine wX8_feed_23 X hS hr hnm _ _ _ _ _ _ fu _ _ _ h (fun σ h => ?_)
    · refine wm_aload_n X 0 dX8_feed_120 rfl ?_
      refine wm_gI X hS cd_8 8 h dX8_feed_121 (Nat.le_of_ble_eq_true rfl) rfl q2032 (fun x35 h => ?_)
      exact wm_iret X hr h dX8_feed_124 (Nat.le_of_ble_eq_true rfl) (Nat.le_of_ble_eq_true rfl)
  · refine wm_iconst (v := (-1)) X dX8_feed_18 (by decide) ?_
    exact wm_iret X hr h dX8_feed_19 (Nat.le_of_ble_eq_true rfl) (Nat.le_of_ble_eq_true rfl)
theorem mdX8_isIn : MD yX8_isIn 3 := by unfold MD; decide +kernel
theorem msX8_isIn : MS yX8_isIn cX8_isIn 3 ((some FieldType.boolean)) := ⟨q2116, q139, q2117⟩
set_option maxHeartbeats 4000000 in
theorem ctX8_isIn (l : Launch) {x0 : Int32} {x1 : Int32} {x2 : Int32} {σ σf : Mm} {r : Int32} (h : FX8_isIn x0 x1 x2 σ = some (r, σf)) : CTi l yX8_isIn (ws_ yX8_isIn cX8_isIn 3 ((some FieldType.boolean))) 0 0 0 0 [.int x0, .int x1, .int x2] σ r σf := by
  refine ct_start (n := 3) mdX8_isIn (Nat.le_of_ble_eq_true rfl) (c1_i (c1_i (c1_i c1_0))) (fun p e s m args below meth c D dA sz0 ad0 X hS hr hnm => ?_)
  have X : CX p s m args meth c cX8_isIn 3 RX8 := X
  generalize mN σ = N0
  unfold FX8_isIn at h
  refine wm_iload_n X 0 dX8_isIn_0 rfl ?_
  refine wm_iload_n X 1 dX8_isIn_1 rfl ?_
  refine wm_icmp_lt X 14 h dX8_isIn_2 (by decide) (fun c22 h => ?_) (fun c22 h => ?_)
  · refine wm_iconst (v := 0) X dX8_isIn_14 (by decide) ?_
    exact wm_zret X hr h dX8_isIn_15 (Nat.le_of_ble_eq_true rfl) (Nat.le_of_ble_eq_true rfl)
  · refine wm_iload_n X 0 dX8_isIn_5 rfl ?_
    refine wm_iload_n X 2 dX8_isIn_6 rfl ?_
    refine wm_icmp_gt X 14 h dX8_isIn_7 (by decide) (fun c21 h => ?_) (fun c21 h => ?_)
    · refine wm_iconst (v := 0) X dX8_isIn_14 (by decide) ?_
      exact wm_zret X hr h dX8_isIn_15 (Nat.le_of_ble_eq_true rfl) (Nat.le_of_ble_eq_true rfl)
    · refine wm_iconst (v := 1) X dX8_isIn_10 (by decide) ?_
      refine wm_goto X 15 dX8_isIn_11 (by decide) ?_
      exact wm_zret X hr h dX8_isIn_15 (Nat.le_of_ble_eq_true rfl) (Nat.le_of_ble_eq_true rfl)
theorem mdX8_end : MD yX8_end 1 := by unfold MD; decide +kernel
theorem mvX8_end : MV yX8_end cX8_end 2 ((some FieldType.boolean)) := ⟨q2112, q2113, q139, q2114⟩
set_option maxHeartbeats 4000000 in
theorem ctX8_end (l : Launch) {h0 : Nat} {x1 : Int32} {σ σf : Mm} {r : Int32} (h : FX8_end h0 x1 σ = some (r, σf)) : CTi l yX8_end (ws_ yX8_end cX8_end 2 ((some FieldType.boolean))) 1 22 0 0 [va_rf (some h0), .int x1] σ r σf := by
  refine ct_start (n := 1) mdX8_end (Nat.le_of_ble_eq_true rfl) (c1_r (c1_i c1_0)) (fun p e s m args below meth c D dA sz0 ad0 X hS hr hnm => ?_)
  have X : CX p s m args meth c cX8_end 2 RX8 := X
  generalize mN σ = N0
  unfold FX8_end at h
  refine wm_aload_n X 0 dX8_end_0 rfl ?_
  refine wm_iconst (v := 0) X dX8_end_1 (by decide) ?_
  refine wm_pI X hS cd_8 0 h dX8_end_2 (Nat.le_of_ble_eq_true rfl) rfl q2024 rfl rfl (fun σ21 _ h => ?_)
  refine wm_iload_n X 1 dX8_end_5 rfl ?_
  refine wm_iconst (v := 0) X dX8_end_6 (by decide) ?_
  refine wm_aload_n X 0 dX8_end_7 rfl ?_
  refine wm_gI X hS cd_8 8 h dX8_end_8 (Nat.le_of_ble_eq_true rfl) rfl q2032 (fun x22 h => ?_)
  refine wm_cS_i (As := [.int x1, .int 0, .int x22]) (st := []) X hS h (fun _ _ hF => ctX8_isIn l hF) mdX8_isIn msX8_isIn q2115 dX8_end_11 rfl rfl c1_0 (Nat.le_of_ble_eq_true rfl) ⟨Nat.le_of_ble_eq_true rfl, Nat.le_of_ble_eq_true rfl⟩ ⟨Nat.le_of_ble_eq_true rfl, Nat.le_of_ble_eq_true rfl⟩ (fun x23 σ24 _ h => ?_)
  refine wm_if_ne X 19 h dX8_end_14 (by decide) (fun c26 h => ?_) (fun c26 h => ?_)
  · refine wm_aload_n X 0 dX8_end_19 rfl ?_
    refine wm_iload_n X 1 dX8_end_20 rfl ?_
    refine wm_pI X hS cd_8 8 h dX8_end_21 (Nat.le_of_ble_eq_true rfl) rfl q2032 rfl rfl (fun σ25 _ h => ?_)
    refine wm_iconst (v := 1) X dX8_end_24 (by decide) ?_
    exact wm_zret X hr h dX8_end_25 (Nat.le_of_ble_eq_true rfl) (Nat.le_of_ble_eq_true rfl)
  · refine wm_iconst (v := 0) X dX8_end_17 (by decide) ?_
    exact wm_zret X hr h dX8_end_18 (Nat.le_of_ble_eq_true rfl) (Nat.le_of_ble_eq_true rfl)
theorem mdX8_putsAside : MD yX8_putsAside 0 := by unfold MD; decide +kernel
theorem mvX8_putsAside : MV yX8_putsAside cX8_putsAside 2 (none) := ⟨q2124, qs54, q139, q2125⟩
set_option maxHeartbeats 4000000 in
theorem wX8_putsAside_2 {p : Program} {l : Launch} {e : Env} {s : State} {m : MethodId} {args : Array Value} {below : List Frame} {meth : Method} {c : Code} {D : va_G} {dA : Nat → ClassId} {sz0 : Nat} {ad0 : Nat → Nat} {N0 : Nat} {σf : Mm} (X : CX p s m args meth c cX8_putsAside 2 RX8) (hS : ST D dA sz0 ad0 s) (hr : meth.sig.returnType = none) (hnm : meth.name = yX8_putsAside.name) (h0 : Nat) : ∀ (n : Nat) (v1 : Int32) (σ : Mm) (kx27 : Mm → Option (Mm)), FX8_putsAside_2 h0 n v1 σ kx27 = some σf → (∀  (σ : Mm), kx27 σ = some σf → WMv p l e s m args below meth c 0 0 0 0 2 D dA sz0 ad0 N0 σf 0 0 σ [] [] 27) → WMv p l e s m args below meth c 0 0 0 0 2 D dA sz0 ad0 N0 σf 0 0 σ [(0, va_rf (some h0)), (1, .int v1)] [] 2 := by
  intro n
  induction n with
  | zero =>
    intro v1 σ kx27 h hkx27
    cases h
  | succ n ih =>
    intro v1 σ kx27 h hkx27
    rw [FX8_putsAside_2] at h
    refine wm_iload_n X 1 dX8_putsAside_2 rfl ?_
    refine wm_sipush (v := 584) X dX8_putsAside_3 (by decide) ?_
    refine wm_icmp_ge X 27 h dX8_putsAside_6 (by decide) (fun c25 h => ?_) (fun c25 h => ?_)
    · refine wm_sub (ℓ' := []) [] rfl ?_
      exact hkx27 _ h
    · refine wm_aload_n X 0 dX8_putsAside_9 rfl ?_
      refine wm_gR X hS cd_8 4 h dX8_putsAside_10 (Nat.le_of_ble_eq_true rfl) rfl q2028 (fun x21 h => ?_)
      refine wm_iload_n X 1 dX8_putsAside_13 rfl ?_
      refine wm_aload_n X 0 dX8_putsAside_14 rfl ?_
      refine wm_gR X hS cd_8 1 h dX8_putsAside_15 (Nat.le_of_ble_eq_true rfl) rfl q2025 (fun x22 h => ?_)
      refine wm_iload_n X 1 dX8_putsAside_18 rfl ?_
      refine wm_iaload X hS h dX8_putsAside_19 (fun x23 h => ?_)
      refine wm_iastore X hS h dX8_putsAside_20 (fun σ24 _ h => ?_)
      refine wm_iinc (v := (v1 + 1)) (ℓ' := [(1, .int (v1 + 1)), (0, va_rf (some h0))]) X 1 dX8_putsAside_21 rfl rfl (by decide) rfl ?_
      refine wm_goto X 2 dX8_putsAside_24 (by decide) ?_
      refine wm_sub (ℓ' := [(0, va_rf (some h0)), (1, .int (v1 + 1))]) [1, 0] rfl ?_
      exact ih _ _ _ h hkx27
set_option maxHeartbeats 4000000 in
theorem ctX8_putsAside (l : Launch) {h0 : Nat} {σ σf : Mm} (h : FX8_putsAside h0 σ = some σf) : CTv l yX8_putsAside (ws_ yX8_putsAside cX8_putsAside 2 (none)) 0 0 0 0 [va_rf (some h0)] σ σf := by
  refine ct_start (n := 0) mdX8_putsAside (Nat.le_of_ble_eq_true rfl) (c1_r c1_0) (fun p e s m args below meth c D dA sz0 ad0 X hS hr hnm => ?_)
  have X : CX p s m args meth c cX8_putsAside 2 RX8 := X
  generalize mN σ = N0
  unfold FX8_putsAside at h
  refine wm_iconst (v := 0) X dX8_putsAside_0 (by decide) ?_
  refine wm_istore_n (ℓ' := [(1, .int 0), (0, va_rf (some h0))]) X dX8_putsAside_1 (by decide) rfl ?_
  refine wm_sub (ℓ' := [(0, va_rf (some h0)), (1, .int 0)]) [1, 0] rfl ?_
  refine wX8_putsAside_2 X hS hr hnm _ fu _ _ _ h (fun σ h => ?_)
  · exact wm_vret X hr h dX8_putsAside_27 (Nat.le_of_ble_eq_true rfl) (Nat.le_of_ble_eq_true rfl)
theorem mdX8_begins : MD yX8_begins 0 := by unfold MD; decide +kernel
theorem mvX8_begins : MV yX8_begins cX8_begins 1 (none) := ⟨q2128, qs55, q139, q2129⟩
set_option maxHeartbeats 4000000 in
theorem ctX8_begins (l : Launch) {h0 : Nat} {σ σf : Mm} (h : FX8_begins h0 σ = some σf) : CTv l yX8_begins (ws_ yX8_begins cX8_begins 1 (none)) 0 0 0 0 [va_rf (some h0)] σ σf := by
  refine ct_start (n := 0) mdX8_begins (Nat.le_of_ble_eq_true rfl) (c1_r c1_0) (fun p e s m args below meth c D dA sz0 ad0 X hS hr hnm => ?_)
  have X : CX p s m args meth c cX8_begins 1 RX8 := X
  generalize mN σ = N0
  unfold FX8_begins at h
  refine wm_aload_n X 0 dX8_begins_0 rfl ?_
  refine wm_iconst (v := (-1)) X dX8_begins_1 (by decide) ?_
  refine wm_pI X hS cd_8 12 h dX8_begins_2 (Nat.le_of_ble_eq_true rfl) rfl q2036 rfl rfl (fun σ21 _ h => ?_)
  refine wm_aload_n X 0 dX8_begins_5 rfl ?_
  refine wm_iconst (v := (-1)) X dX8_begins_6 (by decide) ?_
  refine wm_pI X hS cd_8 9 h dX8_begins_7 (Nat.le_of_ble_eq_true rfl) rfl q2033 rfl rfl (fun σ22 _ h => ?_)
  refine wm_aload_n X 0 dX8_begins_10 rfl ?_
  refine wm_aload_n X 0 dX8_begins_11 rfl ?_
  refine wm_gI X hS cd_8 8 h dX8_begins_12 (Nat.le_of_ble_eq_true rfl) rfl q2032 (fun x23 h => ?_)
  refine wm_pI X hS cd_8 10 h dX8_begins_15 (Nat.le_of_ble_eq_true rfl) rfl q2034 rfl rfl (fun σ24 _ h => ?_)
  refine wm_aload_n X 0 dX8_begins_18 rfl ?_
  refine wm_iconst (v := 0) X dX8_begins_19 (by decide) ?_
  refine wm_pI X hS cd_8 8 h dX8_begins_20 (Nat.le_of_ble_eq_true rfl) rfl q2032 rfl rfl (fun σ25 _ h => ?_)
  refine wm_aload_n X 0 dX8_begins_23 rfl ?_
  refine wm_iconst (v := 0) X dX8_begins_24 (by decide) ?_
  refine wm_pI X hS cd_8 11 h dX8_begins_25 (Nat.le_of_ble_eq_true rfl) rfl q2035 rfl rfl (fun σ26 _ h => ?_)
  refine wm_aload_n X 0 dX8_begins_28 rfl ?_
  refine wm_iconst (v := 0) X dX8_begins_29 (by decide) ?_
  refine wm_pI X hS cd_8 13 h dX8_begins_30 (Nat.le_of_ble_eq_true rfl) rfl q2037 rfl rfl (fun σ27 _ h => ?_)
  exact wm_vret X hr h dX8_begins_33 (Nat.le_of_ble_eq_true rfl) (Nat.le_of_ble_eq_true rfl)
theorem mdX8_letter : MD yX8_letter 1 := by unfold MD; decide +kernel
theorem mvX8_letter : MV yX8_letter cX8_letter 2 ((some FieldType.int)) := ⟨q2140, qs58, q139, q2141⟩
set_option maxHeartbeats 4000000 in
theorem ctX8_letter (l : Launch) {h0 : Nat} {x1 : Int32} {σ σf : Mm} {r : Int32} (h : FX8_letter h0 x1 σ = some (r, σf)) : CTi l yX8_letter (ws_ yX8_letter cX8_letter 2 ((some FieldType.int))) 0 0 0 0 [va_rf (some h0), .int x1] σ r σf := by
  refine ct_start (n := 1) mdX8_letter (Nat.le_of_ble_eq_true rfl) (c1_r (c1_i c1_0)) (fun p e s m args below meth c D dA sz0 ad0 X hS hr hnm => ?_)
  have X : CX p s m args meth c cX8_letter 2 RX8 := X
  generalize mN σ = N0
  unfold FX8_letter at h
  refine wm_aload_n X 0 dX8_letter_0 rfl ?_
  refine wm_gI X hS cd_8 9 h dX8_letter_1 (Nat.le_of_ble_eq_true rfl) rfl q2033 (fun x21 h => ?_)
  refine wm_iconst (v := (-1)) X dX8_letter_4 (by decide) ?_
  refine wm_icmp_ne X 17 h dX8_letter_5 (by decide) (fun c27 h => ?_) (fun c27 h => ?_)
  · refine wm_aload_n X 0 dX8_letter_17 rfl ?_
    refine wm_gR X hS cd_8 1 h dX8_letter_18 (Nat.le_of_ble_eq_true rfl) rfl q2025 (fun x22 h => ?_)
    refine wm_aload_n X 0 dX8_letter_21 rfl ?_
    refine wm_gI X hS cd_8 9 h dX8_letter_22 (Nat.le_of_ble_eq_true rfl) rfl q2033 (fun x23 h => ?_)
    refine wm_iload_n X 1 dX8_letter_25 rfl ?_
    refine wm_iadd X dX8_letter_26 ?_
    refine wm_iaload X hS h dX8_letter_27 (fun x24 h => ?_)
    exact wm_iret X hr h dX8_letter_28 (Nat.le_of_ble_eq_true rfl) (Nat.le_of_ble_eq_true rfl)
  · refine wm_aload_n X 0 dX8_letter_8 rfl ?_
    refine wm_gR X hS cd_8 7 h dX8_letter_9 (Nat.le_of_ble_eq_true rfl) rfl q2031 (fun x25 h => ?_)
    refine wm_iload_n X 1 dX8_letter_12 rfl ?_
    refine wm_iaload X hS h dX8_letter_13 (fun x26 h => ?_)
    refine wm_goto X 28 dX8_letter_14 (by decide) ?_
    exact wm_iret X hr h dX8_letter_28 (Nat.le_of_ble_eq_true rfl) (Nat.le_of_ble_eq_true rfl)
theorem mdX8_skip : MD yX8_skip 0 := by unfold MD; decide +kernel
theorem mvX8_skip : MV yX8_skip cX8_skip 1 (none) := ⟨q2136, qs57, q139, q2137⟩
set_option maxHeartbeats 4000000 in
theorem wX8_skip_0 {p : Program} {l : Launch} {e : Env} {s : State} {m : MethodId} {args : Array Value} {below : List Frame} {meth : Method} {c : Code} {D : va_G} {dA : Nat → ClassId} {sz0 : Nat} {ad0 : Nat → Nat} {N0 : Nat} {σf : Mm} (X : CX p s m args meth c cX8_skip 1 RX8) (hS : ST D dA sz0 ad0 s) (hr : meth.sig.returnType = none) (hnm : meth.name = yX8_skip.name) (h0 : Nat) : ∀ (n : Nat)  (σ : Mm) (kx37 : Mm → Option (Mm)), FX8_skip_0 h0 n σ kx37 = some σf → (∀  (σ : Mm), kx37 σ = some σf → WMv p l e s m args below meth c 1 21 0 0 1 D dA sz0 ad0 N0 σf 0 0 σ [] [] 37) → WMv p l e s m args below meth c 1 21 0 0 1 D dA sz0 ad0 N0 σf 0 0 σ [(0, va_rf (some h0))] [] 0 := by
  intro n
  induction n with
  | zero =>
    intro σ kx37 h hkx37
    cases h
  | succ n ih =>
    intro σ kx37 h hkx37
    rw [FX8_skip_0] at h
    refine wm_aload_n X 0 dX8_skip_0 rfl ?_
    refine wm_gI X hS cd_8 11 h dX8_skip_1 (Nat.le_of_ble_eq_true rfl) rfl q2035 (fun x21 h => ?_)
    refine wm_aload_n X 0 dX8_skip_4 rfl ?_
    refine wm_gI X hS cd_8 10 h dX8_skip_5 (Nat.le_of_ble_eq_true rfl) rfl q2034 (fun x22 h => ?_)
    refine wm_icmp_ge X 37 h dX8_skip_8 (by decide) (fun c30 h => ?_) (fun c30 h => ?_)
    · refine wm_sub (ℓ' := []) [] rfl ?_
      exact hkx37 _ h
    · refine wm_aload_n X 0 dX8_skip_11 rfl ?_
      refine wm_aload_n X 0 dX8_skip_12 rfl ?_
      refine wm_gI X hS cd_8 11 h dX8_skip_13 (Nat.le_of_ble_eq_true rfl) rfl q2035 (fun x23 h => ?_)
      obtain ⟨s24, h⟩ := ck_e h
      refine wm_cV_i (As := [.int x23]) (st := []) X hS cd_8 s24 rfl h (fun _ _ hF => ctX8_letter l hF) mdX8_letter mvX8_letter q2138 dX8_skip_16 rfl rfl c1_0 (Nat.le_of_ble_eq_true rfl) ⟨Nat.le_of_ble_eq_true rfl, Nat.le_of_ble_eq_true rfl⟩ ⟨Nat.le_of_ble_eq_true rfl, Nat.le_of_ble_eq_true rfl⟩ (fun x25 σ26 _ h => ?_)
      refine wm_bipush (v := 32) X dX8_skip_19 (by decide) ?_
      refine wm_icmp_ne X 37 h dX8_skip_21 (by decide) (fun c29 h => ?_) (fun c29 h => ?_)
      · refine wm_sub (ℓ' := []) [] rfl ?_
        exact hkx37 _ h
      · refine wm_aload_n X 0 dX8_skip_24 rfl ?_
        refine wm_dup X dX8_skip_25 (catR _) ?_
        refine wm_gI X hS cd_8 11 h dX8_skip_26 (Nat.le_of_ble_eq_true rfl) rfl q2035 (fun x27 h => ?_)
        refine wm_iconst (v := 1) X dX8_skip_29 (by decide) ?_
        refine wm_iadd X dX8_skip_30 ?_
        refine wm_pI X hS cd_8 11 h dX8_skip_31 (Nat.le_of_ble_eq_true rfl) rfl q2035 rfl rfl (fun σ28 _ h => ?_)
        refine wm_goto X 0 dX8_skip_34 (by decide) ?_
        exact ih _ _ h hkx37
set_option maxHeartbeats 4000000 in
theorem ctX8_skip (l : Launch) {h0 : Nat} {σ σf : Mm} (h : FX8_skip h0 σ = some σf) : CTv l yX8_skip (ws_ yX8_skip cX8_skip 1 (none)) 1 21 0 0 [va_rf (some h0)] σ σf := by
  refine ct_start (n := 0) mdX8_skip (Nat.le_of_ble_eq_true rfl) (c1_r c1_0) (fun p e s m args below meth c D dA sz0 ad0 X hS hr hnm => ?_)
  have X : CX p s m args meth c cX8_skip 1 RX8 := X
  generalize mN σ = N0
  unfold FX8_skip at h
  refine wX8_skip_0 X hS hr hnm _ fu _ _ h (fun σ h => ?_)
  · exact wm_vret X hr h dX8_skip_37 (Nat.le_of_ble_eq_true rfl) (Nat.le_of_ble_eq_true rfl)
theorem mdX8_wrong : MD yX8_wrong 1 := by unfold MD; decide +kernel
theorem mvX8_wrong : MV yX8_wrong cX8_wrong 2 (none) := ⟨q2144, qs59, q139, q2145⟩
set_option maxHeartbeats 4000000 in
theorem ctX8_wrong (l : Launch) {h0 : Nat} {x1 : Int32} {σ σf : Mm} (h : FX8_wrong h0 x1 σ = some σf) : CTv l yX8_wrong (ws_ yX8_wrong cX8_wrong 2 (none)) 0 0 0 0 [va_rf (some h0), .int x1] σ σf := by
  refine ct_start (n := 1) mdX8_wrong (Nat.le_of_ble_eq_true rfl) (c1_r (c1_i c1_0)) (fun p e s m args below meth c D dA sz0 ad0 X hS hr hnm => ?_)
  have X : CX p s m args meth c cX8_wrong 2 RX8 := X
  generalize mN σ = N0
  unfold FX8_wrong at h
  refine wm_aload_n X 0 dX8_wrong_0 rfl ?_
  refine wm_gI X hS cd_8 12 h dX8_wrong_1 (Nat.le_of_ble_eq_true rfl) rfl q2036 (fun x21 h => ?_)
  refine wm_iconst (v := (-1)) X dX8_wrong_4 (by decide) ?_
  refine wm_icmp_ne X 13 h dX8_wrong_5 (by decide) (fun c23 h => ?_) (fun c23 h => ?_)
  · exact wm_vret X hr h dX8_wrong_13 (Nat.le_of_ble_eq_true rfl) (Nat.le_of_ble_eq_true rfl)
  · refine wm_aload_n X 0 dX8_wrong_8 rfl ?_
    refine wm_iload_n X 1 dX8_wrong_9 rfl ?_
    refine wm_pI X hS cd_8 12 h dX8_wrong_10 (Nat.le_of_ble_eq_true rfl) rfl q2036 rfl rfl (fun σ22 _ h => ?_)
    exact wm_vret X hr h dX8_wrong_13 (Nat.le_of_ble_eq_true rfl) (Nat.le_of_ble_eq_true rfl)
theorem mdJ6_coder : MD yJ6_coder 0 := by unfold MD; decide +kernel
theorem mvJ6_coder : MV yJ6_coder cJ6_coder 1 ((some FieldType.byte)) := ⟨q1002, q1003, q143, q1004⟩
set_option maxHeartbeats 4000000 in
theorem ctJ6_coder (l : Launch) {h0 : Nat} {σ σf : Mm} {r : Int32} (h : FJ6_coder h0 σ = some (r, σf)) : CTi l yJ6_coder (ws_ yJ6_coder cJ6_coder 1 ((some FieldType.byte))) 0 0 0 0 [va_rf (some h0)] σ r σf := by
  refine ct_start (n := 0) mdJ6_coder (Nat.le_of_ble_eq_true rfl) (c1_r c1_0) (fun p e s m args below meth c D dA sz0 ad0 X hS hr hnm => ?_)
  have X : CX p s m args meth c cJ6_coder 1 RJ6 := X
  generalize mN σ = N0
  unfold FJ6_coder at h
  refine wm_gstI X hS dJ6_coder_0 q1005 ?_
  refine wm_if_eq X 13 h dJ6_coder_3 (by decide) (fun c22 h => ?_) (fun c22 h => ?_)
  · refine wm_iconst (v := 1) X dJ6_coder_13 (by decide) ?_
    exact wm_nret X hr h dJ6_coder_14 (Nat.le_of_ble_eq_true rfl) (Nat.le_of_ble_eq_true rfl)
  · refine wm_aload_n X 0 dJ6_coder_6 rfl ?_
    refine wm_gI X hS cd_20 1 h dJ6_coder_7 (Nat.le_of_ble_eq_true rfl) rfl q1061 (fun x21 h => ?_)
    refine wm_goto X 14 dJ6_coder_10 (by decide) ?_
    exact wm_nret X hr h dJ6_coder_14 (Nat.le_of_ble_eq_true rfl) (Nat.le_of_ble_eq_true rfl)
theorem mdJ6_length : MD yJ6_length 0 := by unfold MD; decide +kernel
theorem mvJ6_length : MV yJ6_length cJ6_length 1 ((some FieldType.int)) := ⟨q998, q999, q143, q1000⟩
set_option maxHeartbeats 4000000 in
theorem ctJ6_length (l : Launch) {h0 : Nat} {σ σf : Mm} {r : Int32} (h : FJ6_length h0 σ = some (r, σf)) : CTi l yJ6_length (ws_ yJ6_length cJ6_length 1 ((some FieldType.int))) 1 20 0 0 [va_rf (some h0)] σ r σf := by
  refine ct_start (n := 0) mdJ6_length (Nat.le_of_ble_eq_true rfl) (c1_r c1_0) (fun p e s m args below meth c D dA sz0 ad0 X hS hr hnm => ?_)
  have X : CX p s m args meth c cJ6_length 1 RJ6 := X
  generalize mN σ = N0
  unfold FJ6_length at h
  refine wm_aload_n X 0 dJ6_length_0 rfl ?_
  refine wm_gR X hS cd_20 0 h dJ6_length_1 (Nat.le_of_ble_eq_true rfl) rfl q1060 (fun x21 h => ?_)
  refine wm_alen X hS 101 (by decide) h dJ6_length_4 (fun x22 h => ?_)
  refine wm_aload_n X 0 dJ6_length_5 rfl ?_
  obtain ⟨s23, h⟩ := ck_e h
  refine wm_cV_i (As := []) (st := [.int x22]) X hS cd_20 s23 rfl h (fun _ _ hF => ctJ6_coder l hF) mdJ6_coder mvJ6_coder q1001 dJ6_length_6 rfl rfl (c1_i c1_0) (Nat.le_of_ble_eq_true rfl) ⟨Nat.le_of_ble_eq_true rfl, Nat.le_of_ble_eq_true rfl⟩ ⟨Nat.le_of_ble_eq_true rfl, Nat.le_of_ble_eq_true rfl⟩ (fun x24 σ25 _ h => ?_)
  refine wm_ishr X dJ6_length_9 ?_
  exact wm_iret X hr h dJ6_length_10 (Nat.le_of_ble_eq_true rfl) (Nat.le_of_ble_eq_true rfl)
theorem mdJ6_checkIndex : MD yJ6_checkIndex 2 := by unfold MD; decide +kernel
theorem msJ6_checkIndex : MS yJ6_checkIndex cJ6_checkIndex 2 (none) := ⟨q862, q143, q863⟩
set_option maxHeartbeats 4000000 in
theorem ctJ6_checkIndex (l : Launch) {x0 : Int32} {x1 : Int32} {σ σf : Mm} (h : FJ6_checkIndex x0 x1 σ = some σf) : CTv l yJ6_checkIndex (ws_ yJ6_checkIndex cJ6_checkIndex 2 (none)) 1 22 0 0 [.int x0, .int x1] σ σf := by
  refine ct_start (n := 2) mdJ6_checkIndex (Nat.le_of_ble_eq_true rfl) (c1_i (c1_i c1_0)) (fun p e s m args below meth c D dA sz0 ad0 X hS hr hnm => ?_)
  have X : CX p s m args meth c cJ6_checkIndex 2 RJ6 := X
  generalize mN σ = N0
  unfold FJ6_checkIndex at h
  refine wm_iload_n X 0 dJ6_checkIndex_0 rfl ?_
  refine wm_iload_n X 1 dJ6_checkIndex_1 rfl ?_
  refine wm_gstQ X hS 2 (by decide) dJ6_checkIndex_2 q841 ?_
  refine wm_cS_i (As := [.int x0, .int x1, va_rf (mR σ (BIG + 200) 2)]) (st := []) X hS h (fun _ _ hF => ctJ11_checkIndex l hF) mdJ11_checkIndex msJ11_checkIndex q864 dJ6_checkIndex_5 rfl rfl c1_0 (Nat.le_of_ble_eq_true rfl) ⟨Nat.le_of_ble_eq_true rfl, Nat.le_of_ble_eq_true rfl⟩ ⟨Nat.le_of_ble_eq_true rfl, Nat.le_of_ble_eq_true rfl⟩ (fun x21 σ22 _ h => ?_)
  refine wm_pop X dJ6_checkIndex_8 rfl ?_
  exact wm_vret X hr h dJ6_checkIndex_9 (Nat.le_of_ble_eq_true rfl) (Nat.le_of_ble_eq_true rfl)
theorem mdJ10_charAt : MD yJ10_charAt 2 := by unfold MD; decide +kernel
theorem msJ10_charAt : MS yJ10_charAt cJ10_charAt 2 ((some FieldType.char)) := ⟨q2161, q147, q2162⟩
set_option maxHeartbeats 4000000 in
theorem ctJ10_charAt (l : Launch) {x0 : Option Nat} {x1 : Int32} {σ σf : Mm} {r : Int32} (h : FJ10_charAt x0 x1 σ = some (r, σf)) : CTi l yJ10_charAt (ws_ yJ10_charAt cJ10_charAt 2 ((some FieldType.char))) 2 43 0 0 [va_rf x0, .int x1] σ r σf := by
  refine ct_start (n := 2) mdJ10_charAt (Nat.le_of_ble_eq_true rfl) (c1_r (c1_i c1_0)) (fun p e s m args below meth c D dA sz0 ad0 X hS hr hnm => ?_)
  have X : CX p s m args meth c cJ10_charAt 2 RJ10 := X
  generalize mN σ = N0
  unfold FJ10_charAt at h
  refine wm_iload_n X 1 dJ10_charAt_0 rfl ?_
  refine wm_aload_n X 0 dJ10_charAt_1 rfl ?_
  refine wm_alen X hS 101 (by decide) h dJ10_charAt_2 (fun x21 h => ?_)
  refine wm_cS_v (As := [.int x1, .int x21]) (st := []) X hS h (fun _ hF => ctJ6_checkIndex l hF) mdJ6_checkIndex msJ6_checkIndex q2163 dJ10_charAt_3 rfl rfl c1_0 (Nat.le_of_ble_eq_true rfl) ⟨Nat.le_of_ble_eq_true rfl, Nat.le_of_ble_eq_true rfl⟩ ⟨Nat.le_of_ble_eq_true rfl, Nat.le_of_ble_eq_true rfl⟩ (fun σ22 _ h => ?_)
  refine wm_aload_n X 0 dJ10_charAt_6 rfl ?_
  refine wm_iload_n X 1 dJ10_charAt_7 rfl ?_
  refine wm_baload X hS h dJ10_charAt_8 (fun x23 h => ?_)
  refine wm_sipush (v := 255) X dJ10_charAt_9 (by decide) ?_
  refine wm_iand X dJ10_charAt_12 ?_
  refine wm_i2c X dJ10_charAt_13 ?_
  exact wm_nret X hr h dJ10_charAt_14 (Nat.le_of_ble_eq_true rfl) (Nat.le_of_ble_eq_true rfl)
theorem mdJ6_charAt : MD yJ6_charAt 1 := by unfold MD; decide +kernel
theorem mvJ6_charAt : MV yJ6_charAt cJ6_charAt 2 ((some FieldType.char)) := ⟨q2157, q2158, q143, q2159⟩
set_option maxHeartbeats 4000000 in
theorem ctJ6_charAt (l : Launch) {h0 : Nat} {x1 : Int32} {σ σf : Mm} {r : Int32} (h : FJ6_charAt h0 x1 σ = some (r, σf)) : CTi l yJ6_charAt (ws_ yJ6_charAt cJ6_charAt 2 ((some FieldType.char))) 3 64 0 0 [va_rf (some h0), .int x1] σ r σf := by
  refine ct_start (n := 1) mdJ6_charAt (Nat.le_of_ble_eq_true rfl) (c1_r (c1_i c1_0)) (fun p e s m args below meth c D dA sz0 ad0 X hS hr hnm => ?_)
  have X : CX p s m args meth c cJ6_charAt 2 RJ6 := X
  generalize mN σ = N0
  unfold FJ6_charAt at h
  refine wm_aload_n X 0 dJ6_charAt_0 rfl ?_
  obtain ⟨s21, h⟩ := ck_e h
  refine wm_cV_i (As := []) (st := []) X hS cd_20 s21 rfl h (fun _ _ hF => ctJ6_isLatin1 l hF) mdJ6_isLatin1 mvJ6_isLatin1 q1105 dJ6_charAt_1 rfl rfl c1_0 (Nat.le_of_ble_eq_true rfl) ⟨Nat.le_of_ble_eq_true rfl, Nat.le_of_ble_eq_true rfl⟩ ⟨Nat.le_of_ble_eq_true rfl, Nat.le_of_ble_eq_true rfl⟩ (fun x22 σ23 _ h => ?_)
  refine wm_if_eq X 16 h dJ6_charAt_4 (by decide) (fun c28 h => ?_) (fun c28 h => ?_)
  · refine wm_aload_n X 0 dJ6_charAt_16 rfl ?_
    refine wm_gR X hS cd_20 0 h dJ6_charAt_17 (Nat.le_of_ble_eq_true rfl) rfl q1060 (fun x24 h => ?_)
    refine wm_iload_n X 1 dJ6_charAt_20 rfl ?_
    cases h
  · refine wm_aload_n X 0 dJ6_charAt_7 rfl ?_
    refine wm_gR X hS cd_20 0 h dJ6_charAt_8 (Nat.le_of_ble_eq_true rfl) rfl q1060 (fun x25 h => ?_)
    refine wm_iload_n X 1 dJ6_charAt_11 rfl ?_
    refine wm_cS_i (As := [va_rf x25, .int x1]) (st := []) X hS h (fun _ _ hF => ctJ10_charAt l hF) mdJ10_charAt msJ10_charAt q2160 dJ6_charAt_12 rfl rfl c1_0 (Nat.le_of_ble_eq_true rfl) ⟨Nat.le_of_ble_eq_true rfl, Nat.le_of_ble_eq_true rfl⟩ ⟨Nat.le_of_ble_eq_true rfl, Nat.le_of_ble_eq_true rfl⟩ (fun x26 σ27 _ h => ?_)
    exact wm_nret X hr h dJ6_charAt_15 (Nat.le_of_ble_eq_true rfl) (Nat.le_of_ble_eq_true rfl)
theorem mdX8_has : MD yX8_has 1 := by unfold MD; decide +kernel
theorem mvX8_has : MV yX8_has cX8_has 4 ((some FieldType.boolean)) := ⟨q2153, qs61, q139, q2154⟩
set_option maxHeartbeats 4000000 in
theorem wX8_has_9 {p : Program} {l : Launch} {e : Env} {s : State} {m : MethodId} {args : Array Value} {below : List Frame} {meth : Method} {c : Code} {D : va_G} {dA : Nat → ClassId} {sz0 : Nat} {ad0 : Nat → Nat} {N0 : Nat} {r : Int32} {σf : Mm} (X : CX p s m args meth c cX8_has 4 RX8) (hS : ST D dA sz0 ad0 s) (hr : meth.sig.returnType = (some FieldType.boolean)) (hnm : meth.name = yX8_has.name) (h0 : Nat) (y1 : Option Nat) : ∀ (n : Nat) (v2 : Int32) (σ : Mm) (kx38 : Int32 → Mm → Option (Int32 × Mm)), FX8_has_9 h0 y1 n v2 σ kx38 = some (r, σf) → (∀ (w2 : Int32) (σ : Mm), kx38 w2 σ = some (r, σf) → WMi p l e s m args below meth c 4 85 0 0 4 D dA sz0 ad0 N0 r σf 0 0 σ [(0, va_rf (some h0)), (1, va_rf y1), (2, .int w2)] [] 38) → WMi p l e s m args below meth c 4 85 0 0 4 D dA sz0 ad0 N0 r σf 0 0 σ [(0, va_rf (some h0)), (1, va_rf y1), (2, .int v2)] [] 9 := by
  intro n
  induction n with
  | zero =>
    intro v2 σ kx38 h hkx38
    cases h
  | succ n ih =>
    intro v2 σ kx38 h hkx38
    rw [FX8_has_9] at h
    refine wm_iload_n X 2 dX8_has_9 rfl ?_
    refine wm_aload_n X 0 dX8_has_10 rfl ?_
    refine wm_gI X hS cd_8 10 h dX8_has_11 (Nat.le_of_ble_eq_true rfl) rfl q2034 (fun x24 h => ?_)
    refine wm_icmp_ge X 38 h dX8_has_14 (by decide) (fun c31 h => ?_) (fun c31 h => ?_)
    · exact hkx38 _ _ h
    · refine wm_aload_n X 0 dX8_has_17 rfl ?_
      refine wm_iload_n X 2 dX8_has_18 rfl ?_
      obtain ⟨s25, h⟩ := ck_e h
      refine wm_cV_i (As := [.int v2]) (st := []) X hS cd_8 s25 rfl h (fun _ _ hF => ctX8_letter l hF) mdX8_letter mvX8_letter q2138 dX8_has_19 rfl rfl c1_0 (Nat.le_of_ble_eq_true rfl) ⟨Nat.le_of_ble_eq_true rfl, Nat.le_of_ble_eq_true rfl⟩ ⟨Nat.le_of_ble_eq_true rfl, Nat.le_of_ble_eq_true rfl⟩ (fun x26 σ27 _ h => ?_)
      refine wm_bipush (v := 97) X dX8_has_22 (by decide) ?_
      refine wm_bipush (v := 122) X dX8_has_24 (by decide) ?_
      refine wm_cS_i (As := [.int x26, .int 97, .int 122]) (st := []) X hS h (fun _ _ hF => ctX8_isIn l hF) mdX8_isIn msX8_isIn q2115 dX8_has_26 rfl rfl c1_0 (Nat.le_of_ble_eq_true rfl) ⟨Nat.le_of_ble_eq_true rfl, Nat.le_of_ble_eq_true rfl⟩ ⟨Nat.le_of_ble_eq_true rfl, Nat.le_of_ble_eq_true rfl⟩ (fun x28 σ29 _ h => ?_)
      refine wm_if_eq X 38 h dX8_has_29 (by decide) (fun c30 h => ?_) (fun c30 h => ?_)
      · exact hkx38 _ _ h
      · refine wm_iinc (v := (v2 + 1)) (ℓ' := [(2, .int (v2 + 1)), (0, va_rf (some h0)), (1, va_rf y1)]) X 2 dX8_has_32 rfl rfl (by decide) rfl ?_
        refine wm_goto X 9 dX8_has_35 (by decide) ?_
        refine wm_sub (ℓ' := [(0, va_rf (some h0)), (1, va_rf y1), (2, .int (v2 + 1))]) [1, 2, 0] rfl ?_
        exact ih _ _ _ h hkx38
set_option maxHeartbeats 4000000 in
theorem wX8_has_55 {p : Program} {l : Launch} {e : Env} {s : State} {m : MethodId} {args : Array Value} {below : List Frame} {meth : Method} {c : Code} {D : va_G} {dA : Nat → ClassId} {sz0 : Nat} {ad0 : Nat → Nat} {N0 : Nat} {r : Int32} {σf : Mm} (X : CX p s m args meth c cX8_has 4 RX8) (hS : ST D dA sz0 ad0 s) (hr : meth.sig.returnType = (some FieldType.boolean)) (hnm : meth.name = yX8_has.name) (h0 : Nat) (y1 : Option Nat) (y2 : Int32) : ∀ (n : Nat) (v3 : Int32) (σ : Mm) (kx89 : Mm → Option (Int32 × Mm)) (kx81 : Mm → Option (Int32 × Mm)), FX8_has_55 h0 y1 y2 n v3 σ kx89 kx81 = some (r, σf) → (∀  (σ : Mm), kx89 σ = some (r, σf) → WMi p l e s m args below meth c 4 85 0 0 4 D dA sz0 ad0 N0 r σf 0 0 σ [(0, va_rf (some h0)), (2, .int y2)] [] 89) → (∀  (σ : Mm), kx81 σ = some (r, σf) → WMi p l e s m args below meth c 4 85 0 0 4 D dA sz0 ad0 N0 r σf 0 0 σ [] [] 81) → WMi p l e s m args below meth c 4 85 0 0 4 D dA sz0 ad0 N0 r σf 0 0 σ [(0, va_rf (some h0)), (1, va_rf y1), (2, .int y2), (3, .int v3)] [] 55 := by
  intro n
  induction n with
  | zero =>
    intro v3 σ kx89 kx81 h hkx89 hkx81
    cases h
  | succ n ih =>
    intro v3 σ kx89 kx81 h hkx89 hkx81
    rw [FX8_has_55] at h
    refine wm_iload_n X 3 dX8_has_55 rfl ?_
    refine wm_aload_n X 1 dX8_has_56 rfl ?_
    obtain ⟨q38, eq38, h⟩ := Option.bind_eq_some_iff.mp h
    obtain ⟨eq38, s39⟩ := rv_some eq38
    refine wm_cV_i (As := []) (st := [.int v3]) X hS cd_20 s39 rfl h (fun _ _ hF => ctJ6_length l hF) mdJ6_length mvJ6_length q2155 dX8_has_57 rfl (by rw [eq38]; first | done | rfl) (c1_i c1_0) (Nat.le_of_ble_eq_true rfl) ⟨Nat.le_of_ble_eq_true rfl, Nat.le_of_ble_eq_true rfl⟩ ⟨Nat.le_of_ble_eq_true rfl, Nat.le_of_ble_eq_true rfl⟩ (fun x40 σ41 _ h => ?_)
    refine wm_icmp_ge X 89 h dX8_has_60 (by decide) (fun c51 h => ?_) (fun c51 h => ?_)
    · refine wm_sub (ℓ' := [(0, va_rf (some h0)), (2, .int y2)]) [0, 2] rfl ?_
      exact hkx89 _ h
    · refine wm_aload_n X 0 dX8_has_63 rfl ?_
      refine wm_aload_n X 0 dX8_has_64 rfl ?_
      refine wm_gI X hS cd_8 11 h dX8_has_65 (Nat.le_of_ble_eq_true rfl) rfl q2035 (fun x42 h => ?_)
      refine wm_iload_n X 3 dX8_has_68 rfl ?_
      refine wm_iadd X dX8_has_69 ?_
      obtain ⟨s43, h⟩ := ck_e h
      refine wm_cV_i (As := [.int (x42 + v3)]) (st := []) X hS cd_8 s43 rfl h (fun _ _ hF => ctX8_letter l hF) mdX8_letter mvX8_letter q2138 dX8_has_70 rfl rfl c1_0 (Nat.le_of_ble_eq_true rfl) ⟨Nat.le_of_ble_eq_true rfl, Nat.le_of_ble_eq_true rfl⟩ ⟨Nat.le_of_ble_eq_true rfl, Nat.le_of_ble_eq_true rfl⟩ (fun x44 σ45 _ h => ?_)
      refine wm_aload_n X 1 dX8_has_73 rfl ?_
      refine wm_iload_n X 3 dX8_has_74 rfl ?_
      obtain ⟨q46, eq46, h⟩ := Option.bind_eq_some_iff.mp h
      obtain ⟨eq46, s47⟩ := rv_some eq46
      refine wm_cV_i (As := [.int v3]) (st := [.int x44]) X hS cd_20 s47 rfl h (fun _ _ hF => ctJ6_charAt l hF) mdJ6_charAt mvJ6_charAt q2156 dX8_has_75 rfl (by rw [eq46]; first | done | rfl) (c1_i c1_0) (Nat.le_of_ble_eq_true rfl) ⟨Nat.le_of_ble_eq_true rfl, Nat.le_of_ble_eq_true rfl⟩ ⟨Nat.le_of_ble_eq_true rfl, Nat.le_of_ble_eq_true rfl⟩ (fun x48 σ49 _ h => ?_)
      refine wm_icmp_eq X 83 h dX8_has_78 (by decide) (fun c50 h => ?_) (fun c50 h => ?_)
      · refine wm_iinc (v := (v3 + 1)) (ℓ' := [(3, .int (v3 + 1)), (0, va_rf (some h0)), (1, va_rf y1), (2, .int y2)]) X 3 dX8_has_83 rfl rfl (by decide) rfl ?_
        refine wm_goto X 55 dX8_has_86 (by decide) ?_
        refine wm_sub (ℓ' := [(0, va_rf (some h0)), (1, va_rf y1), (2, .int y2), (3, .int (v3 + 1))]) [1, 2, 3, 0] rfl ?_
        exact ih _ _ _ _ h hkx89 hkx81
      · refine wm_sub (ℓ' := []) [] rfl ?_
        exact hkx81 _ h
set_option maxHeartbeats 4000000 in
theorem ctX8_has (l : Launch) {h0 : Nat} {x1 : Option Nat} {σ σf : Mm} {r : Int32} (h : FX8_has h0 x1 σ = some (r, σf)) : CTi l yX8_has (ws_ yX8_has cX8_has 4 ((some FieldType.boolean))) 4 85 0 0 [va_rf (some h0), va_rf x1] σ r σf := by
  refine ct_start (n := 1) mdX8_has (Nat.le_of_ble_eq_true rfl) (c1_r (c1_r c1_0)) (fun p e s m args below meth c D dA sz0 ad0 X hS hr hnm => ?_)
  have X : CX p s m args meth c cX8_has 4 RX8 := X
  generalize mN σ = N0
  unfold FX8_has at h
  refine wm_aload_n X 0 dX8_has_0 rfl ?_
  obtain ⟨s21, h⟩ := ck_e h
  refine wm_cV_v (As := []) (st := []) X hS cd_8 s21 rfl h (fun _ hF => ctX8_skip l hF) mdX8_skip mvX8_skip q2134 dX8_has_1 rfl rfl c1_0 (Nat.le_of_ble_eq_true rfl) ⟨Nat.le_of_ble_eq_true rfl, Nat.le_of_ble_eq_true rfl⟩ ⟨Nat.le_of_ble_eq_true rfl, Nat.le_of_ble_eq_true rfl⟩ (fun σ22 _ h => ?_)
  refine wm_aload_n X 0 dX8_has_4 rfl ?_
  refine wm_gI X hS cd_8 11 h dX8_has_5 (Nat.le_of_ble_eq_true rfl) rfl q2035 (fun x23 h => ?_)
  refine wm_istore_n (ℓ' := [(2, .int x23), (0, va_rf (some h0)), (1, va_rf x1)]) X dX8_has_8 (by decide) rfl ?_
  refine wm_sub (ℓ' := [(0, va_rf (some h0)), (1, va_rf x1), (2, .int x23)]) [1, 2, 0] rfl ?_
  refine wX8_has_9 X hS hr hnm _ _ fu _ _ _ h (fun x32 σ h => ?_)
  · refine wm_iload_n X 2 dX8_has_38 rfl ?_
    refine wm_aload_n X 0 dX8_has_39 rfl ?_
    refine wm_gI X hS cd_8 11 h dX8_has_40 (Nat.le_of_ble_eq_true rfl) rfl q2035 (fun x33 h => ?_)
    refine wm_isub X dX8_has_43 ?_
    refine wm_aload_n X 1 dX8_has_44 rfl ?_
    obtain ⟨q34, eq34, h⟩ := Option.bind_eq_some_iff.mp h
    obtain ⟨eq34, s35⟩ := rv_some eq34
    refine wm_cV_i (As := []) (st := [.int (x32 - x33)]) X hS cd_20 s35 rfl h (fun _ _ hF => ctJ6_length l hF) mdJ6_length mvJ6_length q2155 dX8_has_45 rfl (by rw [eq34]; first | done | rfl) (c1_i c1_0) (Nat.le_of_ble_eq_true rfl) ⟨Nat.le_of_ble_eq_true rfl, Nat.le_of_ble_eq_true rfl⟩ ⟨Nat.le_of_ble_eq_true rfl, Nat.le_of_ble_eq_true rfl⟩ (fun x36 σ37 _ h => ?_)
    refine wm_icmp_eq X 53 h dX8_has_48 (by decide) (fun c53 h => ?_) (fun c53 h => ?_)
    · refine wm_iconst (v := 0) X dX8_has_53 (by decide) ?_
      refine wm_istore_n (ℓ' := [(3, .int 0), (0, va_rf (some h0)), (1, va_rf x1), (2, .int x32)]) X dX8_has_54 (by decide) rfl ?_
      refine wm_sub (ℓ' := [(0, va_rf (some h0)), (1, va_rf x1), (2, .int x32), (3, .int 0)]) [1, 2, 3, 0] rfl ?_
      refine wX8_has_55 X hS hr hnm _ _ _ fu _ _ _ _ h (fun σ h => ?_) (fun σ h => ?_)
      · refine wm_aload_n X 0 dX8_has_89 rfl ?_
        refine wm_iload_n X 1 dX8_has_90 rfl ?_
        refine wm_pI X hS cd_8 11 h dX8_has_91 (Nat.le_of_ble_eq_true rfl) rfl q2035 rfl rfl (fun σ52 _ h => ?_)
        refine wm_iconst (v := 1) X dX8_has_94 (by decide) ?_
        exact wm_zret X hr h dX8_has_95 (Nat.le_of_ble_eq_true rfl) (Nat.le_of_ble_eq_true rfl)
      · refine wm_iconst (v := 0) X dX8_has_81 (by decide) ?_
        exact wm_zret X hr h dX8_has_82 (Nat.le_of_ble_eq_true rfl) (Nat.le_of_ble_eq_true rfl)
    · refine wm_iconst (v := 0) X dX8_has_51 (by decide) ?_
      exact wm_zret X hr h dX8_has_52 (Nat.le_of_ble_eq_true rfl) (Nat.le_of_ble_eq_true rfl)
theorem mdX8_place : MD yX8_place 0 := by unfold MD; decide +kernel
theorem mvX8_place : MV yX8_place cX8_place 1 ((some FieldType.int)) := ⟨q2183, qs65, q139, q2184⟩
set_option maxHeartbeats 4000000 in
theorem ctX8_place (l : Launch) {h0 : Nat} {σ σf : Mm} {r : Int32} (h : FX8_place h0 σ = some (r, σf)) : CTi l yX8_place (ws_ yX8_place cX8_place 1 ((some FieldType.int))) 2 41 0 0 [va_rf (some h0)] σ r σf := by
  refine ct_start (n := 0) mdX8_place (Nat.le_of_ble_eq_true rfl) (c1_r c1_0) (fun p e s m args below meth c D dA sz0 ad0 X hS hr hnm => ?_)
  have X : CX p s m args meth c cX8_place 1 RX8 := X
  generalize mN σ = N0
  unfold FX8_place at h
  refine wm_aload_n X 0 dX8_place_0 rfl ?_
  obtain ⟨s21, h⟩ := ck_e h
  refine wm_cV_v (As := []) (st := []) X hS cd_8 s21 rfl h (fun _ hF => ctX8_skip l hF) mdX8_skip mvX8_skip q2134 dX8_place_1 rfl rfl c1_0 (Nat.le_of_ble_eq_true rfl) ⟨Nat.le_of_ble_eq_true rfl, Nat.le_of_ble_eq_true rfl⟩ ⟨Nat.le_of_ble_eq_true rfl, Nat.le_of_ble_eq_true rfl⟩ (fun σ22 _ h => ?_)
  refine wm_aload_n X 0 dX8_place_4 rfl ?_
  refine wm_gI X hS cd_8 11 h dX8_place_5 (Nat.le_of_ble_eq_true rfl) rfl q2035 (fun x23 h => ?_)
  exact wm_iret X hr h dX8_place_8 (Nat.le_of_ble_eq_true rfl) (Nat.le_of_ble_eq_true rfl)
theorem mdX8_isSign : MD yX8_isSign 1 := by unfold MD; decide +kernel
theorem mvX8_isSign : MV yX8_isSign cX8_isSign 2 ((some FieldType.boolean)) := ⟨q2188, qs66, q139, q2189⟩
set_option maxHeartbeats 4000000 in
theorem ctX8_isSign (l : Launch) {h0 : Nat} {x1 : Int32} {σ σf : Mm} {r : Int32} (h : FX8_isSign h0 x1 σ = some (r, σf)) : CTi l yX8_isSign (ws_ yX8_isSign cX8_isSign 2 ((some FieldType.boolean))) 2 41 0 0 [va_rf (some h0), .int x1] σ r σf := by
  refine ct_start (n := 1) mdX8_isSign (Nat.le_of_ble_eq_true rfl) (c1_r (c1_i c1_0)) (fun p e s m args below meth c D dA sz0 ad0 X hS hr hnm => ?_)
  have X : CX p s m args meth c cX8_isSign 2 RX8 := X
  generalize mN σ = N0
  unfold FX8_isSign at h
  refine wm_aload_n X 0 dX8_isSign_0 rfl ?_
  obtain ⟨s21, h⟩ := ck_e h
  refine wm_cV_v (As := []) (st := []) X hS cd_8 s21 rfl h (fun _ hF => ctX8_skip l hF) mdX8_skip mvX8_skip q2134 dX8_isSign_1 rfl rfl c1_0 (Nat.le_of_ble_eq_true rfl) ⟨Nat.le_of_ble_eq_true rfl, Nat.le_of_ble_eq_true rfl⟩ ⟨Nat.le_of_ble_eq_true rfl, Nat.le_of_ble_eq_true rfl⟩ (fun σ22 _ h => ?_)
  refine wm_aload_n X 0 dX8_isSign_4 rfl ?_
  refine wm_gI X hS cd_8 11 h dX8_isSign_5 (Nat.le_of_ble_eq_true rfl) rfl q2035 (fun x23 h => ?_)
  refine wm_aload_n X 0 dX8_isSign_8 rfl ?_
  refine wm_gI X hS cd_8 10 h dX8_isSign_9 (Nat.le_of_ble_eq_true rfl) rfl q2034 (fun x24 h => ?_)
  refine wm_icmp_ge X 31 h dX8_isSign_12 (by decide) (fun c30 h => ?_) (fun c30 h => ?_)
  · refine wm_iconst (v := 0) X dX8_isSign_31 (by decide) ?_
    exact wm_zret X hr h dX8_isSign_32 (Nat.le_of_ble_eq_true rfl) (Nat.le_of_ble_eq_true rfl)
  · refine wm_aload_n X 0 dX8_isSign_15 rfl ?_
    refine wm_aload_n X 0 dX8_isSign_16 rfl ?_
    refine wm_gI X hS cd_8 11 h dX8_isSign_17 (Nat.le_of_ble_eq_true rfl) rfl q2035 (fun x25 h => ?_)
    obtain ⟨s26, h⟩ := ck_e h
    refine wm_cV_i (As := [.int x25]) (st := []) X hS cd_8 s26 rfl h (fun _ _ hF => ctX8_letter l hF) mdX8_letter mvX8_letter q2138 dX8_isSign_20 rfl rfl c1_0 (Nat.le_of_ble_eq_true rfl) ⟨Nat.le_of_ble_eq_true rfl, Nat.le_of_ble_eq_true rfl⟩ ⟨Nat.le_of_ble_eq_true rfl, Nat.le_of_ble_eq_true rfl⟩ (fun x27 σ28 _ h => ?_)
    refine wm_iload_n X 1 dX8_isSign_23 rfl ?_
    refine wm_icmp_ne X 31 h dX8_isSign_24 (by decide) (fun c29 h => ?_) (fun c29 h => ?_)
    · refine wm_iconst (v := 0) X dX8_isSign_31 (by decide) ?_
      exact wm_zret X hr h dX8_isSign_32 (Nat.le_of_ble_eq_true rfl) (Nat.le_of_ble_eq_true rfl)
    · refine wm_iconst (v := 1) X dX8_isSign_27 (by decide) ?_
      refine wm_goto X 32 dX8_isSign_28 (by decide) ?_
      exact wm_zret X hr h dX8_isSign_32 (Nat.le_of_ble_eq_true rfl) (Nat.le_of_ble_eq_true rfl)
theorem mdX8_figures : MD yX8_figures 2 := by unfold MD; decide +kernel
theorem mvX8_figures : MV yX8_figures cX8_figures 5 ((some FieldType.int)) := ⟨q2206, qs70, q139, q2207⟩
set_option maxHeartbeats 4000000 in
theorem wX8_figures_18 {p : Program} {l : Launch} {e : Env} {s : State} {m : MethodId} {args : Array Value} {below : List Frame} {meth : Method} {c : Code} {D : va_G} {dA : Nat → ClassId} {sz0 : Nat} {ad0 : Nat → Nat} {N0 : Nat} {r : Int32} {σf : Mm} (X : CX p s m args meth c cX8_figures 5 RX8) (hS : ST D dA sz0 ad0 s) (hr : meth.sig.returnType = (some FieldType.int)) (hnm : meth.name = yX8_figures.name) (h0 : Nat) (y1 : Int32) (y2 : Int32) (y3 : Int32) : ∀ (n : Nat) (v4 : Int32) (σ : Mm) (kx89 : Int32 → Mm → Option (Int32 × Mm)), FX8_figures_18 h0 y1 y2 y3 n v4 σ kx89 = some (r, σf) → (∀ (w4 : Int32) (σ : Mm), kx89 w4 σ = some (r, σf) → WMi p l e s m args below meth c 3 61 0 0 5 D dA sz0 ad0 N0 r σf 0 0 σ [(0, va_rf (some h0)), (1, .int y1), (2, .int y2), (3, .int y3), (4, .int w4)] [] 89) → WMi p l e s m args below meth c 3 61 0 0 5 D dA sz0 ad0 N0 r σf 0 0 σ [(0, va_rf (some h0)), (1, .int y1), (2, .int y2), (3, .int y3), (4, .int v4)] [] 18 := by
  intro n
  induction n with
  | zero =>
    intro v4 σ kx89 h hkx89
    cases h
  | succ n ih =>
    intro v4 σ kx89 h hkx89
    rw [FX8_figures_18] at h
    refine wm_aload_n X 0 dX8_figures_18 rfl ?_
    refine wm_gI X hS cd_8 11 h dX8_figures_19 (Nat.le_of_ble_eq_true rfl) rfl q2035 (fun x25 h => ?_)
    refine wm_aload_n X 0 dX8_figures_22 rfl ?_
    refine wm_gI X hS cd_8 10 h dX8_figures_23 (Nat.le_of_ble_eq_true rfl) rfl q2034 (fun x26 h => ?_)
    refine wm_icmp_ge X 89 h dX8_figures_26 (by decide) (fun c42 h => ?_) (fun c42 h => ?_)
    · exact hkx89 _ _ h
    · refine wm_aload_n X 0 dX8_figures_29 rfl ?_
      refine wm_aload_n X 0 dX8_figures_30 rfl ?_
      refine wm_gI X hS cd_8 11 h dX8_figures_31 (Nat.le_of_ble_eq_true rfl) rfl q2035 (fun x27 h => ?_)
      obtain ⟨s28, h⟩ := ck_e h
      refine wm_cV_i (As := [.int x27]) (st := []) X hS cd_8 s28 rfl h (fun _ _ hF => ctX8_letter l hF) mdX8_letter mvX8_letter q2138 dX8_figures_34 rfl rfl c1_0 (Nat.le_of_ble_eq_true rfl) ⟨Nat.le_of_ble_eq_true rfl, Nat.le_of_ble_eq_true rfl⟩ ⟨Nat.le_of_ble_eq_true rfl, Nat.le_of_ble_eq_true rfl⟩ (fun x29 σ30 _ h => ?_)
      refine wm_bipush (v := 48) X dX8_figures_37 (by decide) ?_
      refine wm_bipush (v := 57) X dX8_figures_39 (by decide) ?_
      refine wm_cS_i (As := [.int x29, .int 48, .int 57]) (st := []) X hS h (fun _ _ hF => ctX8_isIn l hF) mdX8_isIn msX8_isIn q2115 dX8_figures_41 rfl rfl c1_0 (Nat.le_of_ble_eq_true rfl) ⟨Nat.le_of_ble_eq_true rfl, Nat.le_of_ble_eq_true rfl⟩ ⟨Nat.le_of_ble_eq_true rfl, Nat.le_of_ble_eq_true rfl⟩ (fun x31 σ32 _ h => ?_)
      refine wm_if_eq X 89 h dX8_figures_44 (by decide) (fun c41 h => ?_) (fun c41 h => ?_)
      · exact hkx89 _ _ h
      · refine wm_aload_n X 0 dX8_figures_47 rfl ?_
        refine wm_gI X hS cd_8 11 h dX8_figures_48 (Nat.le_of_ble_eq_true rfl) rfl q2035 (fun x33 h => ?_)
        refine wm_iload_n X 3 dX8_figures_51 rfl ?_
        refine wm_isub X dX8_figures_52 ?_
        refine wm_iconst (v := 3) X dX8_figures_53 (by decide) ?_
        refine wm_icmp_gt X 89 h dX8_figures_54 (by decide) (fun c40 h => ?_) (fun c40 h => ?_)
        · exact hkx89 _ _ h
        · refine wm_bipush (v := 10) X dX8_figures_57 (by decide) ?_
          refine wm_iload X 4 dX8_figures_59 rfl ?_
          refine wm_imul X dX8_figures_61 ?_
          refine wm_aload_n X 0 dX8_figures_62 rfl ?_
          refine wm_aload_n X 0 dX8_figures_63 rfl ?_
          refine wm_gI X hS cd_8 11 h dX8_figures_64 (Nat.le_of_ble_eq_true rfl) rfl q2035 (fun x34 h => ?_)
          obtain ⟨s35, h⟩ := ck_e h
          refine wm_cV_i (As := [.int x34]) (st := [.int (10 * v4)]) X hS cd_8 s35 rfl h (fun _ _ hF => ctX8_letter l hF) mdX8_letter mvX8_letter q2138 dX8_figures_67 rfl rfl (c1_i c1_0) (Nat.le_of_ble_eq_true rfl) ⟨Nat.le_of_ble_eq_true rfl, Nat.le_of_ble_eq_true rfl⟩ ⟨Nat.le_of_ble_eq_true rfl, Nat.le_of_ble_eq_true rfl⟩ (fun x36 σ37 _ h => ?_)
          refine wm_iadd X dX8_figures_70 ?_
          refine wm_bipush (v := 48) X dX8_figures_71 (by decide) ?_
          refine wm_isub X dX8_figures_73 ?_
          refine wm_istore (ℓ' := [(4, .int (((10 * v4) + x36) - 48)), (0, va_rf (some h0)), (1, .int y1), (2, .int y2), (3, .int y3)]) X dX8_figures_74 (by decide) rfl ?_
          refine wm_aload_n X 1 dX8_figures_76 rfl ?_
          refine wm_dup X dX8_figures_77 (catR _) ?_
          refine wm_gI X hS cd_8 11 h dX8_figures_78 (Nat.le_of_ble_eq_true rfl) rfl q2035 (fun x38 h => ?_)
          refine wm_iconst (v := 1) X dX8_figures_81 (by decide) ?_
          refine wm_iadd X dX8_figures_82 ?_
          refine wm_pI X hS cd_8 11 h dX8_figures_83 (Nat.le_of_ble_eq_true rfl) rfl q2035 rfl rfl (fun σ39 _ h => ?_)
          refine wm_goto X 18 dX8_figures_86 (by decide) ?_
          refine wm_sub (ℓ' := [(0, va_rf (some h0)), (1, .int y1), (2, .int y2), (3, .int y3), (4, .int (((10 * v4) + x36) - 48))]) [1, 2, 3, 4, 0] rfl ?_
          exact ih _ _ _ h hkx89
set_option maxHeartbeats 4000000 in
theorem ctX8_figures (l : Launch) {h0 : Nat} {x1 : Int32} {x2 : Int32} {σ σf : Mm} {r : Int32} (h : FX8_figures h0 x1 x2 σ = some (r, σf)) : CTi l yX8_figures (ws_ yX8_figures cX8_figures 5 ((some FieldType.int))) 3 61 0 0 [va_rf (some h0), .int x1, .int x2] σ r σf := by
  refine ct_start (n := 2) mdX8_figures (Nat.le_of_ble_eq_true rfl) (c1_r (c1_i (c1_i c1_0))) (fun p e s m args below meth c D dA sz0 ad0 X hS hr hnm => ?_)
  have X : CX p s m args meth c cX8_figures 5 RX8 := X
  generalize mN σ = N0
  unfold FX8_figures at h
  refine wm_aload_n X 0 dX8_figures_0 rfl ?_
  refine wm_gI X hS cd_8 12 h dX8_figures_1 (Nat.le_of_ble_eq_true rfl) rfl q2036 (fun x21 h => ?_)
  refine wm_iconst (v := (-1)) X dX8_figures_4 (by decide) ?_
  refine wm_icmp_eq X 10 h dX8_figures_5 (by decide) (fun c52 h => ?_) (fun c52 h => ?_)
  · refine wm_aload_n X 0 dX8_figures_10 rfl ?_
    obtain ⟨s22, h⟩ := ck_e h
    refine wm_cV_i (As := []) (st := []) X hS cd_8 s22 rfl h (fun _ _ hF => ctX8_place l hF) mdX8_place mvX8_place q2181 dX8_figures_11 rfl rfl c1_0 (Nat.le_of_ble_eq_true rfl) ⟨Nat.le_of_ble_eq_true rfl, Nat.le_of_ble_eq_true rfl⟩ ⟨Nat.le_of_ble_eq_true rfl, Nat.le_of_ble_eq_true rfl⟩ (fun x23 σ24 _ h => ?_)
    refine wm_istore_n (ℓ' := [(3, .int x23), (0, va_rf (some h0)), (1, .int x1), (2, .int x2)]) X dX8_figures_14 (by decide) rfl ?_
    refine wm_iconst (v := 0) X dX8_figures_15 (by decide) ?_
    refine wm_istore (ℓ' := [(4, .int 0), (3, .int x23), (0, va_rf (some h0)), (1, .int x1), (2, .int x2)]) X dX8_figures_16 (by decide) rfl ?_
    refine wm_sub (ℓ' := [(0, va_rf (some h0)), (1, .int x1), (2, .int x2), (3, .int x23), (4, .int 0)]) [2, 3, 4, 1, 0] rfl ?_
    refine wX8_figures_18 X hS hr hnm _ _ _ _ fu _ _ _ h (fun x43 σ h => ?_)
    · refine wm_aload_n X 0 dX8_figures_89 rfl ?_
      refine wm_gI X hS cd_8 11 h dX8_figures_90 (Nat.le_of_ble_eq_true rfl) rfl q2035 (fun x44 h => ?_)
      refine wm_iload_n X 3 dX8_figures_93 rfl ?_
      obtain ⟨J119, eJ119, h⟩ := jn_e h
      have hJ119 : ∀  (σ : Mm), J119  σ = some (r, σf) → WMi p l e s m args below meth c 3 61 0 0 5 D dA sz0 ad0 N0 r σf 0 0 σ [(0, va_rf (some h0)), (3, .int x23), (4, .int x43)] [] 119 := by
        intro  σ h
        rw [eJ119] at h
        refine wm_aload_n X 0 dX8_figures_119 rfl ?_
        refine wm_iload_n X 1 dX8_figures_120 rfl ?_
        obtain ⟨s45, h⟩ := ck_e h
        refine wm_cV_v (As := [.int x23]) (st := []) X hS cd_8 s45 rfl h (fun _ hF => ctX8_wrong l hF) mdX8_wrong mvX8_wrong q2142 dX8_figures_121 rfl rfl c1_0 (Nat.le_of_ble_eq_true rfl) ⟨Nat.le_of_ble_eq_true rfl, Nat.le_of_ble_eq_true rfl⟩ ⟨Nat.le_of_ble_eq_true rfl, Nat.le_of_ble_eq_true rfl⟩ (fun σ46 _ h => ?_)
        refine wm_iload X 2 dX8_figures_124 rfl ?_
        exact wm_iret X hr h dX8_figures_126 (Nat.le_of_ble_eq_true rfl) (Nat.le_of_ble_eq_true rfl)
      clear eJ119
      refine wm_icmp_eq X 119 h dX8_figures_94 (by decide) (fun c51 h => ?_) (fun c51 h => ?_)
      · refine wm_sub (ℓ' := [(0, va_rf (some h0)), (3, .int x23), (4, .int x43)]) [0, 3, 4] rfl ?_
        exact hJ119 _ h
      · refine wm_aload_n X 0 dX8_figures_97 rfl ?_
        refine wm_gI X hS cd_8 11 h dX8_figures_98 (Nat.le_of_ble_eq_true rfl) rfl q2035 (fun x47 h => ?_)
        refine wm_iload_n X 3 dX8_figures_101 rfl ?_
        refine wm_isub X dX8_figures_102 ?_
        refine wm_iconst (v := 3) X dX8_figures_103 (by decide) ?_
        refine wm_icmp_gt X 119 h dX8_figures_104 (by decide) (fun c50 h => ?_) (fun c50 h => ?_)
        · refine wm_sub (ℓ' := [(0, va_rf (some h0)), (3, .int x23), (4, .int x43)]) [0, 3, 4] rfl ?_
          exact hJ119 _ h
        · refine wm_iload X 4 dX8_figures_107 rfl ?_
          refine wm_iload_n X 1 dX8_figures_109 rfl ?_
          refine wm_icmp_lt X 119 h dX8_figures_110 (by decide) (fun c49 h => ?_) (fun c49 h => ?_)
          · refine wm_sub (ℓ' := [(0, va_rf (some h0)), (3, .int x23), (4, .int x43)]) [0, 3, 4] rfl ?_
            exact hJ119 _ h
          · refine wm_iload X 4 dX8_figures_113 rfl ?_
            refine wm_iload_n X 2 dX8_figures_115 rfl ?_
            refine wm_icmp_le X 124 h dX8_figures_116 (by decide) (fun c48 h => ?_) (fun c48 h => ?_)
            · refine wm_iload X 4 dX8_figures_124 rfl ?_
              exact wm_iret X hr h dX8_figures_126 (Nat.le_of_ble_eq_true rfl) (Nat.le_of_ble_eq_true rfl)
            · refine wm_sub (ℓ' := [(0, va_rf (some h0)), (3, .int x23), (4, .int x43)]) [0, 3, 4] rfl ?_
              exact hJ119 _ h
  · refine wm_iconst (v := 0) X dX8_figures_8 (by decide) ?_
    exact wm_iret X hr h dX8_figures_9 (Nat.le_of_ble_eq_true rfl) (Nat.le_of_ble_eq_true rfl)
set_option maxHeartbeats 4000000 in
theorem ctJ6_coderk1 (l : Launch) {h0 : Nat} {σ σf : Mm} {r : Int32} (h : FJ6_coderk1 h0 σ = some (r, σf)) : CTi l yJ6_coder (ws_ yJ6_coder cJ6_coder 1 ((some FieldType.byte))) 0 0 0 0 [va_rf (some h0)] σ r σf := by
  refine ct_start (n := 0) mdJ6_coder (Nat.le_of_ble_eq_true rfl) (c1_r c1_0) (fun p e s m args below meth c D dA sz0 ad0 X hS hr hnm => ?_)
  have X : CX p s m args meth c cJ6_coder 1 RJ6 := X
  generalize mN σ = N0
  unfold FJ6_coderk1 at h
  refine wm_gstI X hS dJ6_coder_0 q1005 ?_
  refine wm_if_eq X 13 h dJ6_coder_3 (by decide) (fun c22 h => ?_) (fun c22 h => ?_)
  · refine wm_iconst (v := 1) X dJ6_coder_13 (by decide) ?_
    exact wm_nret X hr h dJ6_coder_14 (Nat.le_of_ble_eq_true rfl) (Nat.le_of_ble_eq_true rfl)
  · refine wm_aload_n X 0 dJ6_coder_6 rfl ?_
    refine wm_gIk X hS 20 1 rfl h (by decide) (by decide) rfl dJ6_coder_7 q1061 (fun x21 h => ?_)
    refine wm_goto X 14 dJ6_coder_10 (by decide) ?_
    exact wm_nret X hr h dJ6_coder_14 (Nat.le_of_ble_eq_true rfl) (Nat.le_of_ble_eq_true rfl)
set_option maxHeartbeats 4000000 in
theorem ctJ6_lengthk1 (l : Launch) {h0 : Nat} {σ σf : Mm} {r : Int32} (h : FJ6_lengthk1 h0 σ = some (r, σf)) : CTi l yJ6_length (ws_ yJ6_length cJ6_length 1 ((some FieldType.int))) 1 20 0 0 [va_rf (some h0)] σ r σf := by
  refine ct_start (n := 0) mdJ6_length (Nat.le_of_ble_eq_true rfl) (c1_r c1_0) (fun p e s m args below meth c D dA sz0 ad0 X hS hr hnm => ?_)
  have X : CX p s m args meth c cJ6_length 1 RJ6 := X
  generalize mN σ = N0
  unfold FJ6_lengthk1 at h
  refine wm_aload_n X 0 dJ6_length_0 rfl ?_
  refine wm_gRk X hS 20 0 rfl h (by decide) (by decide) rfl dJ6_length_1 q1060 (fun x21 h => ?_)
  refine wm_alenK X hS 601 (by decide) h dJ6_length_4 (fun x22 h => ?_)
  refine wm_aload_n X 0 dJ6_length_5 rfl ?_
  obtain ⟨s23, h⟩ := ck_e h
  refine wm_cK_i (As := []) (st := [.int x22]) X hS s23 rfl mvJ6_coder q1001 h (fun _ _ hF => ctJ6_coderk1 l hF) mdJ6_coder dJ6_length_6 rfl rfl (c1_i c1_0) (Nat.le_of_ble_eq_true rfl) ⟨Nat.le_of_ble_eq_true rfl, Nat.le_of_ble_eq_true rfl⟩ ⟨Nat.le_of_ble_eq_true rfl, Nat.le_of_ble_eq_true rfl⟩ (fun x24 σ25 _ h => ?_)
  refine wm_ishr X dJ6_length_9 ?_
  exact wm_iret X hr h dJ6_length_10 (Nat.le_of_ble_eq_true rfl) (Nat.le_of_ble_eq_true rfl)
set_option maxHeartbeats 4000000 in
theorem ctJ6_isLatin1k1 (l : Launch) {h0 : Nat} {σ σf : Mm} {r : Int32} (h : FJ6_isLatin1k1 h0 σ = some (r, σf)) : CTi l yJ6_isLatin1 (ws_ yJ6_isLatin1 cJ6_isLatin1 1 ((some FieldType.boolean))) 0 0 0 0 [va_rf (some h0)] σ r σf := by
  refine ct_start (n := 0) mdJ6_isLatin1 (Nat.le_of_ble_eq_true rfl) (c1_r c1_0) (fun p e s m args below meth c D dA sz0 ad0 X hS hr hnm => ?_)
  have X : CX p s m args meth c cJ6_isLatin1 1 RJ6 := X
  generalize mN σ = N0
  unfold FJ6_isLatin1k1 at h
  refine wm_gstI X hS dJ6_isLatin1_0 q1005 ?_
  refine wm_if_eq X 17 h dJ6_isLatin1_3 (by decide) (fun c23 h => ?_) (fun c23 h => ?_)
  · refine wm_iconst (v := 0) X dJ6_isLatin1_17 (by decide) ?_
    exact wm_zret X hr h dJ6_isLatin1_18 (Nat.le_of_ble_eq_true rfl) (Nat.le_of_ble_eq_true rfl)
  · refine wm_aload_n X 0 dJ6_isLatin1_6 rfl ?_
    refine wm_gIk X hS 20 1 rfl h (by decide) (by decide) rfl dJ6_isLatin1_7 q1061 (fun x21 h => ?_)
    refine wm_if_ne X 17 h dJ6_isLatin1_10 (by decide) (fun c22 h => ?_) (fun c22 h => ?_)
    · refine wm_iconst (v := 0) X dJ6_isLatin1_17 (by decide) ?_
      exact wm_zret X hr h dJ6_isLatin1_18 (Nat.le_of_ble_eq_true rfl) (Nat.le_of_ble_eq_true rfl)
    · refine wm_iconst (v := 1) X dJ6_isLatin1_13 (by decide) ?_
      refine wm_goto X 18 dJ6_isLatin1_14 (by decide) ?_
      exact wm_zret X hr h dJ6_isLatin1_18 (Nat.le_of_ble_eq_true rfl) (Nat.le_of_ble_eq_true rfl)
set_option maxHeartbeats 4000000 in
theorem ctJ10_charAtk10 (l : Launch) {x0 : Option Nat} {x1 : Int32} {σ σf : Mm} {r : Int32} (h : FJ10_charAtk10 x0 x1 σ = some (r, σf)) : CTi l yJ10_charAt (ws_ yJ10_charAt cJ10_charAt 2 ((some FieldType.char))) 2 43 0 0 [va_rf x0, .int x1] σ r σf := by
  refine ct_start (n := 2) mdJ10_charAt (Nat.le_of_ble_eq_true rfl) (c1_r (c1_i c1_0)) (fun p e s m args below meth c D dA sz0 ad0 X hS hr hnm => ?_)
  have X : CX p s m args meth c cJ10_charAt 2 RJ10 := X
  generalize mN σ = N0
  unfold FJ10_charAtk10 at h
  refine wm_iload_n X 1 dJ10_charAt_0 rfl ?_
  refine wm_aload_n X 0 dJ10_charAt_1 rfl ?_
  refine wm_alenK X hS 601 (by decide) h dJ10_charAt_2 (fun x21 h => ?_)
  refine wm_cS_v (As := [.int x1, .int x21]) (st := []) X hS h (fun _ hF => ctJ6_checkIndex l hF) mdJ6_checkIndex msJ6_checkIndex q2163 dJ10_charAt_3 rfl rfl c1_0 (Nat.le_of_ble_eq_true rfl) ⟨Nat.le_of_ble_eq_true rfl, Nat.le_of_ble_eq_true rfl⟩ ⟨Nat.le_of_ble_eq_true rfl, Nat.le_of_ble_eq_true rfl⟩ (fun σ22 _ h => ?_)
  refine wm_aload_n X 0 dJ10_charAt_6 rfl ?_
  refine wm_iload_n X 1 dJ10_charAt_7 rfl ?_
  refine wm_baloadK X hS h dJ10_charAt_8 (fun x23 h => ?_)
  refine wm_sipush (v := 255) X dJ10_charAt_9 (by decide) ?_
  refine wm_iand X dJ10_charAt_12 ?_
  refine wm_i2c X dJ10_charAt_13 ?_
  exact wm_nret X hr h dJ10_charAt_14 (Nat.le_of_ble_eq_true rfl) (Nat.le_of_ble_eq_true rfl)
set_option maxHeartbeats 4000000 in
theorem ctJ6_charAtk10 (l : Launch) {h0 : Nat} {x1 : Int32} {σ σf : Mm} {r : Int32} (h : FJ6_charAtk10 h0 x1 σ = some (r, σf)) : CTi l yJ6_charAt (ws_ yJ6_charAt cJ6_charAt 2 ((some FieldType.char))) 3 64 0 0 [va_rf (some h0), .int x1] σ r σf := by
  refine ct_start (n := 1) mdJ6_charAt (Nat.le_of_ble_eq_true rfl) (c1_r (c1_i c1_0)) (fun p e s m args below meth c D dA sz0 ad0 X hS hr hnm => ?_)
  have X : CX p s m args meth c cJ6_charAt 2 RJ6 := X
  generalize mN σ = N0
  unfold FJ6_charAtk10 at h
  refine wm_aload_n X 0 dJ6_charAt_0 rfl ?_
  obtain ⟨s21, h⟩ := ck_e h
  refine wm_cK_i (As := []) (st := []) X hS s21 rfl mvJ6_isLatin1 q1105 h (fun _ _ hF => ctJ6_isLatin1k1 l hF) mdJ6_isLatin1 dJ6_charAt_1 rfl rfl c1_0 (Nat.le_of_ble_eq_true rfl) ⟨Nat.le_of_ble_eq_true rfl, Nat.le_of_ble_eq_true rfl⟩ ⟨Nat.le_of_ble_eq_true rfl, Nat.le_of_ble_eq_true rfl⟩ (fun x22 σ23 _ h => ?_)
  refine wm_if_eq X 16 h dJ6_charAt_4 (by decide) (fun c28 h => ?_) (fun c28 h => ?_)
  · refine wm_aload_n X 0 dJ6_charAt_16 rfl ?_
    refine wm_gRk X hS 20 0 rfl h (by decide) (by decide) rfl dJ6_charAt_17 q1060 (fun x24 h => ?_)
    refine wm_iload_n X 1 dJ6_charAt_20 rfl ?_
    cases h
  · refine wm_aload_n X 0 dJ6_charAt_7 rfl ?_
    refine wm_gRk X hS 20 0 rfl h (by decide) (by decide) rfl dJ6_charAt_8 q1060 (fun x25 h => ?_)
    refine wm_iload_n X 1 dJ6_charAt_11 rfl ?_
    refine wm_cS_i (As := [va_rf x25, .int x1]) (st := []) X hS h (fun _ _ hF => ctJ10_charAtk10 l hF) mdJ10_charAt msJ10_charAt q2160 dJ6_charAt_12 rfl rfl c1_0 (Nat.le_of_ble_eq_true rfl) ⟨Nat.le_of_ble_eq_true rfl, Nat.le_of_ble_eq_true rfl⟩ ⟨Nat.le_of_ble_eq_true rfl, Nat.le_of_ble_eq_true rfl⟩ (fun x26 σ27 _ h => ?_)
    exact wm_nret X hr h dJ6_charAt_15 (Nat.le_of_ble_eq_true rfl) (Nat.le_of_ble_eq_true rfl)
set_option maxHeartbeats 4000000 in
theorem wX8_hask01_9 {p : Program} {l : Launch} {e : Env} {s : State} {m : MethodId} {args : Array Value} {below : List Frame} {meth : Method} {c : Code} {D : va_G} {dA : Nat → ClassId} {sz0 : Nat} {ad0 : Nat → Nat} {N0 : Nat} {r : Int32} {σf : Mm} (X : CX p s m args meth c cX8_has 4 RX8) (hS : ST D dA sz0 ad0 s) (hr : meth.sig.returnType = (some FieldType.boolean)) (hnm : meth.name = yX8_has.name) (h0 : Nat) (y1 : Option Nat) : ∀ (n : Nat) (v2 : Int32) (σ : Mm) (kx38 : Int32 → Mm → Option (Int32 × Mm)), FX8_hask01_9 h0 y1 n v2 σ kx38 = some (r, σf) → (∀ (w2 : Int32) (σ : Mm), kx38 w2 σ = some (r, σf) → WMi p l e s m args below meth c 4 85 0 0 4 D dA sz0 ad0 N0 r σf 0 0 σ [(0, va_rf (some h0)), (1, va_rf y1), (2, .int w2)] [] 38) → WMi p l e s m args below meth c 4 85 0 0 4 D dA sz0 ad0 N0 r σf 0 0 σ [(0, va_rf (some h0)), (1, va_rf y1), (2, .int v2)] [] 9 := by
  intro n
  induction n with
  | zero =>
    intro v2 σ kx38 h hkx38
    cases h
  | succ n ih =>
    intro v2 σ kx38 h hkx38
    rw [FX8_hask01_9] at h
    refine wm_iload_n X 2 dX8_has_9 rfl ?_
    refine wm_aload_n X 0 dX8_has_10 rfl ?_
    refine wm_gI X hS cd_8 10 h dX8_has_11 (Nat.le_of_ble_eq_true rfl) rfl q2034 (fun x24 h => ?_)
    refine wm_icmp_ge X 38 h dX8_has_14 (by decide) (fun c31 h => ?_) (fun c31 h => ?_)
    · exact hkx38 _ _ h
    · refine wm_aload_n X 0 dX8_has_17 rfl ?_
      refine wm_iload_n X 2 dX8_has_18 rfl ?_
      obtain ⟨s25, h⟩ := ck_e h
      refine wm_cV_i (As := [.int v2]) (st := []) X hS cd_8 s25 rfl h (fun _ _ hF => ctX8_letter l hF) mdX8_letter mvX8_letter q2138 dX8_has_19 rfl rfl c1_0 (Nat.le_of_ble_eq_true rfl) ⟨Nat.le_of_ble_eq_true rfl, Nat.le_of_ble_eq_true rfl⟩ ⟨Nat.le_of_ble_eq_true rfl, Nat.le_of_ble_eq_true rfl⟩ (fun x26 σ27 _ h => ?_)
      refine wm_bipush (v := 97) X dX8_has_22 (by decide) ?_
      refine wm_bipush (v := 122) X dX8_has_24 (by decide) ?_
      refine wm_cS_i (As := [.int x26, .int 97, .int 122]) (st := []) X hS h (fun _ _ hF => ctX8_isIn l hF) mdX8_isIn msX8_isIn q2115 dX8_has_26 rfl rfl c1_0 (Nat.le_of_ble_eq_true rfl) ⟨Nat.le_of_ble_eq_true rfl, Nat.le_of_ble_eq_true rfl⟩ ⟨Nat.le_of_ble_eq_true rfl, Nat.le_of_ble_eq_true rfl⟩ (fun x28 σ29 _ h => ?_)
      refine wm_if_eq X 38 h dX8_has_29 (by decide) (fun c30 h => ?_) (fun c30 h => ?_)
      · exact hkx38 _ _ h
      · refine wm_iinc (v := (v2 + 1)) (ℓ' := [(2, .int (v2 + 1)), (0, va_rf (some h0)), (1, va_rf y1)]) X 2 dX8_has_32 rfl rfl (by decide) rfl ?_
        refine wm_goto X 9 dX8_has_35 (by decide) ?_
        refine wm_sub (ℓ' := [(0, va_rf (some h0)), (1, va_rf y1), (2, .int (v2 + 1))]) [1, 2, 0] rfl ?_
        exact ih _ _ _ h hkx38
set_option maxHeartbeats 4000000 in
theorem wX8_hask01_55 {p : Program} {l : Launch} {e : Env} {s : State} {m : MethodId} {args : Array Value} {below : List Frame} {meth : Method} {c : Code} {D : va_G} {dA : Nat → ClassId} {sz0 : Nat} {ad0 : Nat → Nat} {N0 : Nat} {r : Int32} {σf : Mm} (X : CX p s m args meth c cX8_has 4 RX8) (hS : ST D dA sz0 ad0 s) (hr : meth.sig.returnType = (some FieldType.boolean)) (hnm : meth.name = yX8_has.name) (h0 : Nat) (y1 : Option Nat) (y2 : Int32) : ∀ (n : Nat) (v3 : Int32) (σ : Mm) (kx89 : Mm → Option (Int32 × Mm)) (kx81 : Mm → Option (Int32 × Mm)), FX8_hask01_55 h0 y1 y2 n v3 σ kx89 kx81 = some (r, σf) → (∀  (σ : Mm), kx89 σ = some (r, σf) → WMi p l e s m args below meth c 4 85 0 0 4 D dA sz0 ad0 N0 r σf 0 0 σ [(0, va_rf (some h0)), (2, .int y2)] [] 89) → (∀  (σ : Mm), kx81 σ = some (r, σf) → WMi p l e s m args below meth c 4 85 0 0 4 D dA sz0 ad0 N0 r σf 0 0 σ [] [] 81) → WMi p l e s m args below meth c 4 85 0 0 4 D dA sz0 ad0 N0 r σf 0 0 σ [(0, va_rf (some h0)), (1, va_rf y1), (2, .int y2), (3, .int v3)] [] 55 := by
  intro n
  induction n with
  | zero =>
    intro v3 σ kx89 kx81 h hkx89 hkx81
    cases h
  | succ n ih =>
    intro v3 σ kx89 kx81 h hkx89 hkx81
    rw [FX8_hask01_55] at h
    refine wm_iload_n X 3 dX8_has_55 rfl ?_
    refine wm_aload_n X 1 dX8_has_56 rfl ?_
    obtain ⟨q38, eq38, h⟩ := Option.bind_eq_some_iff.mp h
    obtain ⟨eq38, s39⟩ := rv_some eq38
    refine wm_cK_i (As := []) (st := [.int v3]) X hS s39 rfl mvJ6_length q2155 h (fun _ _ hF => ctJ6_lengthk1 l hF) mdJ6_length dX8_has_57 rfl (by rw [eq38]; first | done | rfl) (c1_i c1_0) (Nat.le_of_ble_eq_true rfl) ⟨Nat.le_of_ble_eq_true rfl, Nat.le_of_ble_eq_true rfl⟩ ⟨Nat.le_of_ble_eq_true rfl, Nat.le_of_ble_eq_true rfl⟩ (fun x40 σ41 _ h => ?_)
    refine wm_icmp_ge X 89 h dX8_has_60 (by decide) (fun c51 h => ?_) (fun c51 h => ?_)
    · refine wm_sub (ℓ' := [(0, va_rf (some h0)), (2, .int y2)]) [0, 2] rfl ?_
      exact hkx89 _ h
    · refine wm_aload_n X 0 dX8_has_63 rfl ?_
      refine wm_aload_n X 0 dX8_has_64 rfl ?_
      refine wm_gI X hS cd_8 11 h dX8_has_65 (Nat.le_of_ble_eq_true rfl) rfl q2035 (fun x42 h => ?_)
      refine wm_iload_n X 3 dX8_has_68 rfl ?_
      refine wm_iadd X dX8_has_69 ?_
      obtain ⟨s43, h⟩ := ck_e h
      refine wm_cV_i (As := [.int (x42 + v3)]) (st := []) X hS cd_8 s43 rfl h (fun _ _ hF => ctX8_letter l hF) mdX8_letter mvX8_letter q2138 dX8_has_70 rfl rfl c1_0 (Nat.le_of_ble_eq_true rfl) ⟨Nat.le_of_ble_eq_true rfl, Nat.le_of_ble_eq_true rfl⟩ ⟨Nat.le_of_ble_eq_true rfl, Nat.le_of_ble_eq_true rfl⟩ (fun x44 σ45 _ h => ?_)
      refine wm_aload_n X 1 dX8_has_73 rfl ?_
      refine wm_iload_n X 3 dX8_has_74 rfl ?_
      obtain ⟨q46, eq46, h⟩ := Option.bind_eq_some_iff.mp h
      obtain ⟨eq46, s47⟩ := rv_some eq46
      refine wm_cK_i (As := [.int v3]) (st := [.int x44]) X hS s47 rfl mvJ6_charAt q2156 h (fun _ _ hF => ctJ6_charAtk10 l hF) mdJ6_charAt dX8_has_75 rfl (by rw [eq46]; first | done | rfl) (c1_i c1_0) (Nat.le_of_ble_eq_true rfl) ⟨Nat.le_of_ble_eq_true rfl, Nat.le_of_ble_eq_true rfl⟩ ⟨Nat.le_of_ble_eq_true rfl, Nat.le_of_ble_eq_true rfl⟩ (fun x48 σ49 _ h => ?_)
      refine wm_icmp_eq X 83 h dX8_has_78 (by decide) (fun c50 h => ?_) (fun c50 h => ?_)
      · refine wm_iinc (v := (v3 + 1)) (ℓ' := [(3, .int (v3 + 1)), (0, va_rf (some h0)), (1, va_rf y1), (2, .int y2)]) X 3 dX8_has_83 rfl rfl (by decide) rfl ?_
        refine wm_goto X 55 dX8_has_86 (by decide) ?_
        refine wm_sub (ℓ' := [(0, va_rf (some h0)), (1, va_rf y1), (2, .int y2), (3, .int (v3 + 1))]) [1, 2, 3, 0] rfl ?_
        exact ih _ _ _ _ h hkx89 hkx81
      · refine wm_sub (ℓ' := []) [] rfl ?_
        exact hkx81 _ h
set_option maxHeartbeats 4000000 in
theorem ctX8_hask01 (l : Launch) {h0 : Nat} {x1 : Option Nat} {σ σf : Mm} {r : Int32} (h : FX8_hask01 h0 x1 σ = some (r, σf)) : CTi l yX8_has (ws_ yX8_has cX8_has 4 ((some FieldType.boolean))) 4 85 0 0 [va_rf (some h0), va_rf x1] σ r σf := by
  refine ct_start (n := 1) mdX8_has (Nat.le_of_ble_eq_true rfl) (c1_r (c1_r c1_0)) (fun p e s m args below meth c D dA sz0 ad0 X hS hr hnm => ?_)
  have X : CX p s m args meth c cX8_has 4 RX8 := X
  generalize mN σ = N0
  unfold FX8_hask01 at h
  refine wm_aload_n X 0 dX8_has_0 rfl ?_
  obtain ⟨s21, h⟩ := ck_e h
  refine wm_cV_v (As := []) (st := []) X hS cd_8 s21 rfl h (fun _ hF => ctX8_skip l hF) mdX8_skip mvX8_skip q2134 dX8_has_1 rfl rfl c1_0 (Nat.le_of_ble_eq_true rfl) ⟨Nat.le_of_ble_eq_true rfl, Nat.le_of_ble_eq_true rfl⟩ ⟨Nat.le_of_ble_eq_true rfl, Nat.le_of_ble_eq_true rfl⟩ (fun σ22 _ h => ?_)
  refine wm_aload_n X 0 dX8_has_4 rfl ?_
  refine wm_gI X hS cd_8 11 h dX8_has_5 (Nat.le_of_ble_eq_true rfl) rfl q2035 (fun x23 h => ?_)
  refine wm_istore_n (ℓ' := [(2, .int x23), (0, va_rf (some h0)), (1, va_rf x1)]) X dX8_has_8 (by decide) rfl ?_
  refine wm_sub (ℓ' := [(0, va_rf (some h0)), (1, va_rf x1), (2, .int x23)]) [1, 2, 0] rfl ?_
  refine wX8_hask01_9 X hS hr hnm _ _ fu _ _ _ h (fun x32 σ h => ?_)
  · refine wm_iload_n X 2 dX8_has_38 rfl ?_
    refine wm_aload_n X 0 dX8_has_39 rfl ?_
    refine wm_gI X hS cd_8 11 h dX8_has_40 (Nat.le_of_ble_eq_true rfl) rfl q2035 (fun x33 h => ?_)
    refine wm_isub X dX8_has_43 ?_
    refine wm_aload_n X 1 dX8_has_44 rfl ?_
    obtain ⟨q34, eq34, h⟩ := Option.bind_eq_some_iff.mp h
    obtain ⟨eq34, s35⟩ := rv_some eq34
    refine wm_cK_i (As := []) (st := [.int (x32 - x33)]) X hS s35 rfl mvJ6_length q2155 h (fun _ _ hF => ctJ6_lengthk1 l hF) mdJ6_length dX8_has_45 rfl (by rw [eq34]; first | done | rfl) (c1_i c1_0) (Nat.le_of_ble_eq_true rfl) ⟨Nat.le_of_ble_eq_true rfl, Nat.le_of_ble_eq_true rfl⟩ ⟨Nat.le_of_ble_eq_true rfl, Nat.le_of_ble_eq_true rfl⟩ (fun x36 σ37 _ h => ?_)
    refine wm_icmp_eq X 53 h dX8_has_48 (by decide) (fun c53 h => ?_) (fun c53 h => ?_)
    · refine wm_iconst (v := 0) X dX8_has_53 (by decide) ?_
      refine wm_istore_n (ℓ' := [(3, .int 0), (0, va_rf (some h0)), (1, va_rf x1), (2, .int x32)]) X dX8_has_54 (by decide) rfl ?_
      refine wm_sub (ℓ' := [(0, va_rf (some h0)), (1, va_rf x1), (2, .int x32), (3, .int 0)]) [1, 2, 3, 0] rfl ?_
      refine wX8_hask01_55 X hS hr hnm _ _ _ fu _ _ _ _ h (fun σ h => ?_) (fun σ h => ?_)
      · refine wm_aload_n X 0 dX8_has_89 rfl ?_
        refine wm_iload_n X 1 dX8_has_90 rfl ?_
        refine wm_pI X hS cd_8 11 h dX8_has_91 (Nat.le_of_ble_eq_true rfl) rfl q2035 rfl rfl (fun σ52 _ h => ?_)
        refine wm_iconst (v := 1) X dX8_has_94 (by decide) ?_
        exact wm_zret X hr h dX8_has_95 (Nat.le_of_ble_eq_true rfl) (Nat.le_of_ble_eq_true rfl)
      · refine wm_iconst (v := 0) X dX8_has_81 (by decide) ?_
        exact wm_zret X hr h dX8_has_82 (Nat.le_of_ble_eq_true rfl) (Nat.le_of_ble_eq_true rfl)
    · refine wm_iconst (v := 0) X dX8_has_51 (by decide) ?_
      exact wm_zret X hr h dX8_has_52 (Nat.le_of_ble_eq_true rfl) (Nat.le_of_ble_eq_true rfl)
theorem mdX8_part : MD yX8_part 0 := by unfold MD; decide +kernel
theorem mvX8_part : MV yX8_part cX8_part 2 ((some FieldType.int)) := ⟨q2202, qs69, q139, q2203⟩
set_option maxHeartbeats 4000000 in
theorem ctX8_part (l : Launch) {h0 : Nat} {σ σf : Mm} {r : Int32} (h : FX8_part h0 σ = some (r, σf)) : CTi l yX8_part (ws_ yX8_part cX8_part 2 ((some FieldType.int))) 5 108 0 0 [va_rf (some h0)] σ r σf := by
  refine ct_start (n := 0) mdX8_part (Nat.le_of_ble_eq_true rfl) (c1_r c1_0) (fun p e s m args below meth c D dA sz0 ad0 X hS hr hnm => ?_)
  have X : CX p s m args meth c cX8_part 2 RX8 := X
  generalize mN σ = N0
  unfold FX8_part at h
  refine wm_aload_n X 0 dX8_part_0 rfl ?_
  refine wm_gI X hS cd_8 12 h dX8_part_1 (Nat.le_of_ble_eq_true rfl) rfl q2036 (fun x21 h => ?_)
  refine wm_iconst (v := (-1)) X dX8_part_4 (by decide) ?_
  refine wm_icmp_eq X 10 h dX8_part_5 (by decide) (fun c68 h => ?_) (fun c68 h => ?_)
  · refine wm_aload_n X 0 dX8_part_10 rfl ?_
    obtain ⟨s22, h⟩ := ck_e h
    refine wm_cV_v (As := []) (st := []) X hS cd_8 s22 rfl h (fun _ hF => ctX8_skip l hF) mdX8_skip mvX8_skip q2134 dX8_part_11 rfl rfl c1_0 (Nat.le_of_ble_eq_true rfl) ⟨Nat.le_of_ble_eq_true rfl, Nat.le_of_ble_eq_true rfl⟩ ⟨Nat.le_of_ble_eq_true rfl, Nat.le_of_ble_eq_true rfl⟩ (fun σ23 _ h => ?_)
    refine wm_aload_n X 0 dX8_part_14 rfl ?_
    refine wm_gI X hS cd_8 11 h dX8_part_15 (Nat.le_of_ble_eq_true rfl) rfl q2035 (fun x24 h => ?_)
    refine wm_aload_n X 0 dX8_part_18 rfl ?_
    refine wm_gI X hS cd_8 10 h dX8_part_19 (Nat.le_of_ble_eq_true rfl) rfl q2034 (fun x25 h => ?_)
    obtain ⟨J52, eJ52, h⟩ := jn_e h
    have hJ52 : ∀  (σ : Mm), J52  σ = some (r, σf) → WMi p l e s m args below meth c 5 108 0 0 2 D dA sz0 ad0 N0 r σf 0 0 σ [(0, va_rf (some h0))] [] 52 := by
      intro  σ h
      rw [eJ52] at h
      refine wm_aload_n X 0 dX8_part_52 rfl ?_
      refine wm_ldcS X hS 21 15 rfl dX8_part_53 ?_
      obtain ⟨s26, h⟩ := ck_e h
      refine wm_cV_i (As := [va_rf (some (BIG + 2 * 15))]) (st := []) X hS cd_8 s26 rfl h (fun _ _ hF => ctX8_hask01 l hF) mdX8_has mvX8_has q2151 dX8_part_55 rfl rfl c1_0 (Nat.le_of_ble_eq_true rfl) ⟨Nat.le_of_ble_eq_true rfl, Nat.le_of_ble_eq_true rfl⟩ ⟨Nat.le_of_ble_eq_true rfl, Nat.le_of_ble_eq_true rfl⟩ (fun x27 σ28 _ h => ?_)
      obtain ⟨J131, eJ131, h⟩ := jn_e h
      have hJ131 : ∀ (z29 : Int32) (σ : Mm), J131 z29 σ = some (r, σf) → WMi p l e s m args below meth c 5 108 0 0 2 D dA sz0 ad0 N0 r σf 0 0 σ [(0, va_rf (some h0))] [.int z29] 131 := by
        intro z29 σ h
        rw [eJ131] at h
        refine wm_istore_n (ℓ' := [(1, .int z29), (0, va_rf (some h0))]) X dX8_part_131 (by decide) rfl ?_
        refine wm_iload_n X 0 dX8_part_132 rfl ?_
        refine wm_iconst (v := (-1)) X dX8_part_133 (by decide) ?_
        refine wm_icmp_ne X 147 h dX8_part_134 (by decide) (fun c35 h => ?_) (fun c35 h => ?_)
        · refine wm_aload_n X 1 dX8_part_147 rfl ?_
          refine wm_gR X hS cd_8 14 h dX8_part_148 (Nat.le_of_ble_eq_true rfl) rfl q2038 (fun x30 h => ?_)
          refine wm_iload_n X 0 dX8_part_151 rfl ?_
          refine wm_iaload X hS h dX8_part_152 (fun x31 h => ?_)
          exact wm_iret X hr h dX8_part_153 (Nat.le_of_ble_eq_true rfl) (Nat.le_of_ble_eq_true rfl)
        · refine wm_aload_n X 1 dX8_part_137 rfl ?_
          refine wm_aload_n X 1 dX8_part_138 rfl ?_
          refine wm_gI X hS cd_8 11 h dX8_part_139 (Nat.le_of_ble_eq_true rfl) rfl q2035 (fun x32 h => ?_)
          obtain ⟨s33, h⟩ := ck_e h
          refine wm_cV_v (As := [.int x32]) (st := []) X hS cd_8 s33 rfl h (fun _ hF => ctX8_wrong l hF) mdX8_wrong mvX8_wrong q2142 dX8_part_142 rfl rfl c1_0 (Nat.le_of_ble_eq_true rfl) ⟨Nat.le_of_ble_eq_true rfl, Nat.le_of_ble_eq_true rfl⟩ ⟨Nat.le_of_ble_eq_true rfl, Nat.le_of_ble_eq_true rfl⟩ (fun σ34 _ h => ?_)
          refine wm_iconst (v := 0) X dX8_part_145 (by decide) ?_
          exact wm_iret X hr h dX8_part_146 (Nat.le_of_ble_eq_true rfl) (Nat.le_of_ble_eq_true rfl)
      clear eJ131
      refine wm_if_eq X 65 h dX8_part_58 (by decide) (fun c56 h => ?_) (fun c56 h => ?_)
      · refine wm_aload_n X 0 dX8_part_65 rfl ?_
        refine wm_ldcS X hS 22 16 rfl dX8_part_66 ?_
        obtain ⟨s36, h⟩ := ck_e h
        refine wm_cV_i (As := [va_rf (some (BIG + 2 * 16))]) (st := []) X hS cd_8 s36 rfl h (fun _ _ hF => ctX8_hask01 l hF) mdX8_has mvX8_has q2151 dX8_part_68 rfl rfl c1_0 (Nat.le_of_ble_eq_true rfl) ⟨Nat.le_of_ble_eq_true rfl, Nat.le_of_ble_eq_true rfl⟩ ⟨Nat.le_of_ble_eq_true rfl, Nat.le_of_ble_eq_true rfl⟩ (fun x37 σ38 _ h => ?_)
        refine wm_if_eq X 78 h dX8_part_71 (by decide) (fun c55 h => ?_) (fun c55 h => ?_)
        · refine wm_aload_n X 0 dX8_part_78 rfl ?_
          refine wm_ldcS X hS 23 17 rfl dX8_part_79 ?_
          obtain ⟨s39, h⟩ := ck_e h
          refine wm_cV_i (As := [va_rf (some (BIG + 2 * 17))]) (st := []) X hS cd_8 s39 rfl h (fun _ _ hF => ctX8_hask01 l hF) mdX8_has mvX8_has q2151 dX8_part_81 rfl rfl c1_0 (Nat.le_of_ble_eq_true rfl) ⟨Nat.le_of_ble_eq_true rfl, Nat.le_of_ble_eq_true rfl⟩ ⟨Nat.le_of_ble_eq_true rfl, Nat.le_of_ble_eq_true rfl⟩ (fun x40 σ41 _ h => ?_)
          refine wm_if_eq X 91 h dX8_part_84 (by decide) (fun c54 h => ?_) (fun c54 h => ?_)
          · refine wm_aload_n X 0 dX8_part_91 rfl ?_
            refine wm_ldcS X hS 24 18 rfl dX8_part_92 ?_
            obtain ⟨s42, h⟩ := ck_e h
            refine wm_cV_i (As := [va_rf (some (BIG + 2 * 18))]) (st := []) X hS cd_8 s42 rfl h (fun _ _ hF => ctX8_hask01 l hF) mdX8_has mvX8_has q2151 dX8_part_94 rfl rfl c1_0 (Nat.le_of_ble_eq_true rfl) ⟨Nat.le_of_ble_eq_true rfl, Nat.le_of_ble_eq_true rfl⟩ ⟨Nat.le_of_ble_eq_true rfl, Nat.le_of_ble_eq_true rfl⟩ (fun x43 σ44 _ h => ?_)
            refine wm_if_eq X 104 h dX8_part_97 (by decide) (fun c53 h => ?_) (fun c53 h => ?_)
            · refine wm_aload_n X 0 dX8_part_104 rfl ?_
              refine wm_ldcS X hS 25 19 rfl dX8_part_105 ?_
              obtain ⟨s45, h⟩ := ck_e h
              refine wm_cV_i (As := [va_rf (some (BIG + 2 * 19))]) (st := []) X hS cd_8 s45 rfl h (fun _ _ hF => ctX8_hask01 l hF) mdX8_has mvX8_has q2151 dX8_part_107 rfl rfl c1_0 (Nat.le_of_ble_eq_true rfl) ⟨Nat.le_of_ble_eq_true rfl, Nat.le_of_ble_eq_true rfl⟩ ⟨Nat.le_of_ble_eq_true rfl, Nat.le_of_ble_eq_true rfl⟩ (fun x46 σ47 _ h => ?_)
              refine wm_if_eq X 117 h dX8_part_110 (by decide) (fun c52 h => ?_) (fun c52 h => ?_)
              · refine wm_aload_n X 0 dX8_part_117 rfl ?_
                refine wm_ldcS X hS 26 20 rfl dX8_part_118 ?_
                obtain ⟨s48, h⟩ := ck_e h
                refine wm_cV_i (As := [va_rf (some (BIG + 2 * 20))]) (st := []) X hS cd_8 s48 rfl h (fun _ _ hF => ctX8_hask01 l hF) mdX8_has mvX8_has q2151 dX8_part_120 rfl rfl c1_0 (Nat.le_of_ble_eq_true rfl) ⟨Nat.le_of_ble_eq_true rfl, Nat.le_of_ble_eq_true rfl⟩ ⟨Nat.le_of_ble_eq_true rfl, Nat.le_of_ble_eq_true rfl⟩ (fun x49 σ50 _ h => ?_)
                refine wm_if_eq X 130 h dX8_part_123 (by decide) (fun c51 h => ?_) (fun c51 h => ?_)
                · refine wm_iconst (v := (-1)) X dX8_part_130 (by decide) ?_
                  exact hJ131 _ _ h
                · refine wm_iconst (v := 5) X dX8_part_126 (by decide) ?_
                  refine wm_goto X 131 dX8_part_127 (by decide) ?_
                  exact hJ131 _ _ h
              · refine wm_iconst (v := 4) X dX8_part_113 (by decide) ?_
                refine wm_goto X 131 dX8_part_114 (by decide) ?_
                exact hJ131 _ _ h
            · refine wm_iconst (v := 3) X dX8_part_100 (by decide) ?_
              refine wm_goto X 131 dX8_part_101 (by decide) ?_
              exact hJ131 _ _ h
          · refine wm_iconst (v := 2) X dX8_part_87 (by decide) ?_
            refine wm_goto X 131 dX8_part_88 (by decide) ?_
            exact hJ131 _ _ h
        · refine wm_iconst (v := 1) X dX8_part_74 (by decide) ?_
          refine wm_goto X 131 dX8_part_75 (by decide) ?_
          exact hJ131 _ _ h
      · refine wm_iconst (v := 0) X dX8_part_61 (by decide) ?_
        refine wm_goto X 131 dX8_part_62 (by decide) ?_
        exact hJ131 _ _ h
    clear eJ52
    refine wm_icmp_ge X 52 h dX8_part_22 (by decide) (fun c67 h => ?_) (fun c67 h => ?_)
    · exact hJ52 _ h
    · refine wm_aload_n X 0 dX8_part_25 rfl ?_
      refine wm_aload_n X 0 dX8_part_26 rfl ?_
      refine wm_gI X hS cd_8 11 h dX8_part_27 (Nat.le_of_ble_eq_true rfl) rfl q2035 (fun x57 h => ?_)
      obtain ⟨s58, h⟩ := ck_e h
      refine wm_cV_i (As := [.int x57]) (st := []) X hS cd_8 s58 rfl h (fun _ _ hF => ctX8_letter l hF) mdX8_letter mvX8_letter q2138 dX8_part_30 rfl rfl c1_0 (Nat.le_of_ble_eq_true rfl) ⟨Nat.le_of_ble_eq_true rfl, Nat.le_of_ble_eq_true rfl⟩ ⟨Nat.le_of_ble_eq_true rfl, Nat.le_of_ble_eq_true rfl⟩ (fun x59 σ60 _ h => ?_)
      refine wm_bipush (v := 48) X dX8_part_33 (by decide) ?_
      refine wm_bipush (v := 57) X dX8_part_35 (by decide) ?_
      refine wm_cS_i (As := [.int x59, .int 48, .int 57]) (st := []) X hS h (fun _ _ hF => ctX8_isIn l hF) mdX8_isIn msX8_isIn q2115 dX8_part_37 rfl rfl c1_0 (Nat.le_of_ble_eq_true rfl) ⟨Nat.le_of_ble_eq_true rfl, Nat.le_of_ble_eq_true rfl⟩ ⟨Nat.le_of_ble_eq_true rfl, Nat.le_of_ble_eq_true rfl⟩ (fun x61 σ62 _ h => ?_)
      refine wm_if_eq X 52 h dX8_part_40 (by decide) (fun c66 h => ?_) (fun c66 h => ?_)
      · exact hJ52 _ h
      · refine wm_aload_n X 0 dX8_part_43 rfl ?_
        refine wm_iconst (v := 0) X dX8_part_44 (by decide) ?_
        refine wm_sipush (v := 999) X dX8_part_45 (by decide) ?_
        obtain ⟨s63, h⟩ := ck_e h
        refine wm_cV_i (As := [.int 0, .int 999]) (st := []) X hS cd_8 s63 rfl h (fun _ _ hF => ctX8_figures l hF) mdX8_figures mvX8_figures q2204 dX8_part_48 rfl rfl c1_0 (Nat.le_of_ble_eq_true rfl) ⟨Nat.le_of_ble_eq_true rfl, Nat.le_of_ble_eq_true rfl⟩ ⟨Nat.le_of_ble_eq_true rfl, Nat.le_of_ble_eq_true rfl⟩ (fun x64 σ65 _ h => ?_)
        exact wm_iret X hr h dX8_part_51 (Nat.le_of_ble_eq_true rfl) (Nat.le_of_ble_eq_true rfl)
  · refine wm_iconst (v := 0) X dX8_part_8 (by decide) ?_
    exact wm_iret X hr h dX8_part_9 (Nat.le_of_ble_eq_true rfl) (Nat.le_of_ble_eq_true rfl)
theorem mdX8_sum : MD yX8_sum 0 := by unfold MD; decide +kernel
theorem mvX8_sum : MV yX8_sum cX8_sum 2 ((some FieldType.int)) := ⟨q2198, qs68, q139, q2199⟩
set_option maxHeartbeats 4000000 in
theorem wX8_sum_5 {p : Program} {l : Launch} {e : Env} {s : State} {m : MethodId} {args : Array Value} {below : List Frame} {meth : Method} {c : Code} {D : va_G} {dA : Nat → ClassId} {sz0 : Nat} {ad0 : Nat → Nat} {N0 : Nat} {r : Int32} {σf : Mm} (X : CX p s m args meth c cX8_sum 2 RX8) (hS : ST D dA sz0 ad0 s) (hr : meth.sig.returnType = (some FieldType.int)) (hnm : meth.name = yX8_sum.name) (h0 : Nat) : ∀ (n : Nat) (v1 : Int32) (σ : Mm) (kx42 : Int32 → Mm → Option (Int32 × Mm)), FX8_sum_5 h0 n v1 σ kx42 = some (r, σf) → (∀ (w1 : Int32) (σ : Mm), kx42 w1 σ = some (r, σf) → WMi p l e s m args below meth c 6 129 0 0 2 D dA sz0 ad0 N0 r σf 0 0 σ [(1, .int w1)] [] 42) → WMi p l e s m args below meth c 6 129 0 0 2 D dA sz0 ad0 N0 r σf 0 0 σ [(0, va_rf (some h0)), (1, .int v1)] [] 5 := by
  intro n
  induction n with
  | zero =>
    intro v1 σ kx42 h hkx42
    cases h
  | succ n ih =>
    intro v1 σ kx42 h hkx42
    rw [FX8_sum_5] at h
    refine wm_aload_n X 0 dX8_sum_5 rfl ?_
    refine wm_gI X hS cd_8 12 h dX8_sum_6 (Nat.le_of_ble_eq_true rfl) rfl q2036 (fun x24 h => ?_)
    refine wm_iconst (v := (-1)) X dX8_sum_9 (by decide) ?_
    refine wm_icmp_ne X 42 h dX8_sum_10 (by decide) (fun c34 h => ?_) (fun c34 h => ?_)
    · refine wm_sub (ℓ' := [(1, .int v1)]) [1] rfl ?_
      exact hkx42 _ _ h
    · refine wm_aload_n X 0 dX8_sum_13 rfl ?_
      refine wm_bipush (v := 43) X dX8_sum_14 (by decide) ?_
      obtain ⟨s25, h⟩ := ck_e h
      refine wm_cV_i (As := [.int 43]) (st := []) X hS cd_8 s25 rfl h (fun _ _ hF => ctX8_isSign l hF) mdX8_isSign mvX8_isSign q2186 dX8_sum_16 rfl rfl c1_0 (Nat.le_of_ble_eq_true rfl) ⟨Nat.le_of_ble_eq_true rfl, Nat.le_of_ble_eq_true rfl⟩ ⟨Nat.le_of_ble_eq_true rfl, Nat.le_of_ble_eq_true rfl⟩ (fun x26 σ27 _ h => ?_)
      refine wm_if_eq X 42 h dX8_sum_19 (by decide) (fun c33 h => ?_) (fun c33 h => ?_)
      · refine wm_sub (ℓ' := [(1, .int v1)]) [1] rfl ?_
        exact hkx42 _ _ h
      · refine wm_aload_n X 0 dX8_sum_22 rfl ?_
        refine wm_dup X dX8_sum_23 (catR _) ?_
        refine wm_gI X hS cd_8 11 h dX8_sum_24 (Nat.le_of_ble_eq_true rfl) rfl q2035 (fun x28 h => ?_)
        refine wm_iconst (v := 1) X dX8_sum_27 (by decide) ?_
        refine wm_iadd X dX8_sum_28 ?_
        refine wm_pI X hS cd_8 11 h dX8_sum_29 (Nat.le_of_ble_eq_true rfl) rfl q2035 rfl rfl (fun σ29 _ h => ?_)
        refine wm_iload_n X 1 dX8_sum_32 rfl ?_
        refine wm_aload_n X 0 dX8_sum_33 rfl ?_
        obtain ⟨s30, h⟩ := ck_e h
        refine wm_cV_i (As := []) (st := [.int v1]) X hS cd_8 s30 rfl h (fun _ _ hF => ctX8_part l hF) mdX8_part mvX8_part q2200 dX8_sum_34 rfl rfl (c1_i c1_0) (Nat.le_of_ble_eq_true rfl) ⟨Nat.le_of_ble_eq_true rfl, Nat.le_of_ble_eq_true rfl⟩ ⟨Nat.le_of_ble_eq_true rfl, Nat.le_of_ble_eq_true rfl⟩ (fun x31 σ32 _ h => ?_)
        refine wm_iadd X dX8_sum_37 ?_
        refine wm_istore_n (ℓ' := [(1, .int (v1 + x31)), (0, va_rf (some h0))]) X dX8_sum_38 (by decide) rfl ?_
        refine wm_goto X 5 dX8_sum_39 (by decide) ?_
        refine wm_sub (ℓ' := [(0, va_rf (some h0)), (1, .int (v1 + x31))]) [1, 0] rfl ?_
        exact ih _ _ _ h hkx42
set_option maxHeartbeats 4000000 in
theorem ctX8_sum (l : Launch) {h0 : Nat} {σ σf : Mm} {r : Int32} (h : FX8_sum h0 σ = some (r, σf)) : CTi l yX8_sum (ws_ yX8_sum cX8_sum 2 ((some FieldType.int))) 6 129 0 0 [va_rf (some h0)] σ r σf := by
  refine ct_start (n := 0) mdX8_sum (Nat.le_of_ble_eq_true rfl) (c1_r c1_0) (fun p e s m args below meth c D dA sz0 ad0 X hS hr hnm => ?_)
  have X : CX p s m args meth c cX8_sum 2 RX8 := X
  generalize mN σ = N0
  unfold FX8_sum at h
  refine wm_aload_n X 0 dX8_sum_0 rfl ?_
  obtain ⟨s21, h⟩ := ck_e h
  refine wm_cV_i (As := []) (st := []) X hS cd_8 s21 rfl h (fun _ _ hF => ctX8_part l hF) mdX8_part mvX8_part q2200 dX8_sum_1 rfl rfl c1_0 (Nat.le_of_ble_eq_true rfl) ⟨Nat.le_of_ble_eq_true rfl, Nat.le_of_ble_eq_true rfl⟩ ⟨Nat.le_of_ble_eq_true rfl, Nat.le_of_ble_eq_true rfl⟩ (fun x22 σ23 _ h => ?_)
  refine wm_istore_n (ℓ' := [(1, .int x22), (0, va_rf (some h0))]) X dX8_sum_4 (by decide) rfl ?_
  refine wm_sub (ℓ' := [(0, va_rf (some h0)), (1, .int x22)]) [1, 0] rfl ?_
  refine wX8_sum_5 X hS hr hnm _ fu _ _ _ h (fun x35 σ h => ?_)
  · refine wm_iload_n X 0 dX8_sum_42 rfl ?_
    exact wm_iret X hr h dX8_sum_43 (Nat.le_of_ble_eq_true rfl) (Nat.le_of_ble_eq_true rfl)
theorem mdX8_plain : MD yX8_plain 0 := by unfold MD; decide +kernel
theorem mvX8_plain : MV yX8_plain cX8_plain 4 ((some FieldType.boolean)) := ⟨q2192, qs67, q139, q2193⟩
set_option maxHeartbeats 4000000 in
theorem ctX8_plain (l : Launch) {h0 : Nat} {σ σf : Mm} {r : Int32} (h : FX8_plain h0 σ = some (r, σf)) : CTi l yX8_plain (ws_ yX8_plain cX8_plain 4 ((some FieldType.boolean))) 7 150 0 0 [va_rf (some h0)] σ r σf := by
  refine ct_start (n := 0) mdX8_plain (Nat.le_of_ble_eq_true rfl) (c1_r c1_0) (fun p e s m args below meth c D dA sz0 ad0 X hS hr hnm => ?_)
  have X : CX p s m args meth c cX8_plain 4 RX8 := X
  generalize mN σ = N0
  unfold FX8_plain at h
  refine wm_aload_n X 0 dX8_plain_0 rfl ?_
  refine wm_ldcS X hS 19 11 rfl dX8_plain_1 ?_
  obtain ⟨s21, h⟩ := ck_e h
  refine wm_cV_i (As := [va_rf (some (BIG + 2 * 11))]) (st := []) X hS cd_8 s21 rfl h (fun _ _ hF => ctX8_hask01 l hF) mdX8_has mvX8_has q2151 dX8_plain_3 rfl rfl c1_0 (Nat.le_of_ble_eq_true rfl) ⟨Nat.le_of_ble_eq_true rfl, Nat.le_of_ble_eq_true rfl⟩ ⟨Nat.le_of_ble_eq_true rfl, Nat.le_of_ble_eq_true rfl⟩ (fun x22 σ23 _ h => ?_)
  refine wm_if_eq X 14 h dX8_plain_6 (by decide) (fun c54 h => ?_) (fun c54 h => ?_)
  · refine wm_aload_n X 0 dX8_plain_14 rfl ?_
    refine wm_ldcS X hS 20 2 rfl dX8_plain_15 ?_
    obtain ⟨s24, h⟩ := ck_e h
    refine wm_cV_i (As := [va_rf (some (BIG + 2 * 2))]) (st := []) X hS cd_8 s24 rfl h (fun _ _ hF => ctX8_hask01 l hF) mdX8_has mvX8_has q2151 dX8_plain_17 rfl rfl c1_0 (Nat.le_of_ble_eq_true rfl) ⟨Nat.le_of_ble_eq_true rfl, Nat.le_of_ble_eq_true rfl⟩ ⟨Nat.le_of_ble_eq_true rfl, Nat.le_of_ble_eq_true rfl⟩ (fun x25 σ26 _ h => ?_)
    refine wm_if_eq X 28 h dX8_plain_20 (by decide) (fun c52 h => ?_) (fun c52 h => ?_)
    · refine wm_aload_n X 0 dX8_plain_28 rfl ?_
      obtain ⟨s27, h⟩ := ck_e h
      refine wm_cV_i (As := []) (st := []) X hS cd_8 s27 rfl h (fun _ _ hF => ctX8_sum l hF) mdX8_sum mvX8_sum q2196 dX8_plain_29 rfl rfl c1_0 (Nat.le_of_ble_eq_true rfl) ⟨Nat.le_of_ble_eq_true rfl, Nat.le_of_ble_eq_true rfl⟩ ⟨Nat.le_of_ble_eq_true rfl, Nat.le_of_ble_eq_true rfl⟩ (fun x28 σ29 _ h => ?_)
      refine wm_istore_n (ℓ' := [(1, .int x28), (0, va_rf (some h0))]) X dX8_plain_32 (by decide) rfl ?_
      refine wm_aload_n X 1 dX8_plain_33 rfl ?_
      refine wm_gI X hS cd_8 12 h dX8_plain_34 (Nat.le_of_ble_eq_true rfl) rfl q2036 (fun x30 h => ?_)
      refine wm_iconst (v := (-1)) X dX8_plain_37 (by decide) ?_
      refine wm_icmp_eq X 43 h dX8_plain_38 (by decide) (fun c50 h => ?_) (fun c50 h => ?_)
      · refine wm_aload_n X 1 dX8_plain_43 rfl ?_
        refine wm_bipush (v := 60) X dX8_plain_44 (by decide) ?_
        obtain ⟨s31, h⟩ := ck_e h
        refine wm_cV_i (As := [.int 60]) (st := []) X hS cd_8 s31 rfl h (fun _ _ hF => ctX8_isSign l hF) mdX8_isSign mvX8_isSign q2186 dX8_plain_46 rfl rfl c1_0 (Nat.le_of_ble_eq_true rfl) ⟨Nat.le_of_ble_eq_true rfl, Nat.le_of_ble_eq_true rfl⟩ ⟨Nat.le_of_ble_eq_true rfl, Nat.le_of_ble_eq_true rfl⟩ (fun x32 σ33 _ h => ?_)
        refine wm_istore_n (ℓ' := [(2, .int x32), (1, .int x28), (0, va_rf (some h0))]) X dX8_plain_49 (by decide) rfl ?_
        refine wm_iload_n X 0 dX8_plain_50 rfl ?_
        obtain ⟨J73, eJ73, h⟩ := jn_e h
        have hJ73 : ∀  (σ : Mm), J73  σ = some (r, σf) → WMi p l e s m args below meth c 7 150 0 0 4 D dA sz0 ad0 N0 r σf 0 0 σ [(0, va_rf (some h0)), (1, .int x28), (2, .int x32)] [] 73 := by
          intro  σ h
          rw [eJ73] at h
          refine wm_aload_n X 0 dX8_plain_73 rfl ?_
          refine wm_dup X dX8_plain_74 (catR _) ?_
          refine wm_gI X hS cd_8 11 h dX8_plain_75 (Nat.le_of_ble_eq_true rfl) rfl q2035 (fun x34 h => ?_)
          refine wm_iconst (v := 1) X dX8_plain_78 (by decide) ?_
          refine wm_iadd X dX8_plain_79 ?_
          refine wm_pI X hS cd_8 11 h dX8_plain_80 (Nat.le_of_ble_eq_true rfl) rfl q2035 rfl rfl (fun σ35 _ h => ?_)
          refine wm_aload_n X 0 dX8_plain_83 rfl ?_
          obtain ⟨s36, h⟩ := ck_e h
          refine wm_cV_i (As := []) (st := []) X hS cd_8 s36 rfl h (fun _ _ hF => ctX8_sum l hF) mdX8_sum mvX8_sum q2196 dX8_plain_84 rfl rfl c1_0 (Nat.le_of_ble_eq_true rfl) ⟨Nat.le_of_ble_eq_true rfl, Nat.le_of_ble_eq_true rfl⟩ ⟨Nat.le_of_ble_eq_true rfl, Nat.le_of_ble_eq_true rfl⟩ (fun x37 σ38 _ h => ?_)
          refine wm_istore_n (ℓ' := [(3, .int x37), (0, va_rf (some h0)), (1, .int x28), (2, .int x32)]) X dX8_plain_87 (by decide) rfl ?_
          refine wm_iload_n X 3 dX8_plain_88 rfl ?_
          refine wm_if_eq X 105 h dX8_plain_89 (by decide) (fun c41 h => ?_) (fun c41 h => ?_)
          · refine wm_iload_n X 2 dX8_plain_105 rfl ?_
            refine wm_iload_n X 0 dX8_plain_106 rfl ?_
            refine wm_icmp_le X 114 h dX8_plain_107 (by decide) (fun c39 h => ?_) (fun c39 h => ?_)
            · refine wm_iconst (v := 0) X dX8_plain_114 (by decide) ?_
              exact wm_zret X hr h dX8_plain_115 (Nat.le_of_ble_eq_true rfl) (Nat.le_of_ble_eq_true rfl)
            · refine wm_iconst (v := 1) X dX8_plain_110 (by decide) ?_
              refine wm_goto X 115 dX8_plain_111 (by decide) ?_
              exact wm_zret X hr h dX8_plain_115 (Nat.le_of_ble_eq_true rfl) (Nat.le_of_ble_eq_true rfl)
          · refine wm_iload_n X 2 dX8_plain_92 rfl ?_
            refine wm_iload_n X 0 dX8_plain_93 rfl ?_
            refine wm_icmp_ge X 101 h dX8_plain_94 (by decide) (fun c40 h => ?_) (fun c40 h => ?_)
            · refine wm_iconst (v := 0) X dX8_plain_101 (by decide) ?_
              refine wm_goto X 115 dX8_plain_102 (by decide) ?_
              exact wm_zret X hr h dX8_plain_115 (Nat.le_of_ble_eq_true rfl) (Nat.le_of_ble_eq_true rfl)
            · refine wm_iconst (v := 1) X dX8_plain_97 (by decide) ?_
              refine wm_goto X 115 dX8_plain_98 (by decide) ?_
              exact wm_zret X hr h dX8_plain_115 (Nat.le_of_ble_eq_true rfl) (Nat.le_of_ble_eq_true rfl)
        clear eJ73
        refine wm_if_ne X 73 h dX8_plain_51 (by decide) (fun c49 h => ?_) (fun c49 h => ?_)
        · refine wm_sub (ℓ' := [(0, va_rf (some h0)), (1, .int x28), (2, .int x32)]) [2, 1, 0] rfl ?_
          exact hJ73 _ h
        · refine wm_aload_n X 2 dX8_plain_54 rfl ?_
          refine wm_bipush (v := 62) X dX8_plain_55 (by decide) ?_
          obtain ⟨s42, h⟩ := ck_e h
          refine wm_cV_i (As := [.int 62]) (st := []) X hS cd_8 s42 rfl h (fun _ _ hF => ctX8_isSign l hF) mdX8_isSign mvX8_isSign q2186 dX8_plain_57 rfl rfl c1_0 (Nat.le_of_ble_eq_true rfl) ⟨Nat.le_of_ble_eq_true rfl, Nat.le_of_ble_eq_true rfl⟩ ⟨Nat.le_of_ble_eq_true rfl, Nat.le_of_ble_eq_true rfl⟩ (fun x43 σ44 _ h => ?_)
          refine wm_if_ne X 73 h dX8_plain_60 (by decide) (fun c48 h => ?_) (fun c48 h => ?_)
          · refine wm_sub (ℓ' := [(0, va_rf (some h0)), (1, .int x28), (2, .int x32)]) [2, 1, 0] rfl ?_
            exact hJ73 _ h
          · refine wm_aload_n X 2 dX8_plain_63 rfl ?_
            refine wm_aload_n X 2 dX8_plain_64 rfl ?_
            refine wm_gI X hS cd_8 11 h dX8_plain_65 (Nat.le_of_ble_eq_true rfl) rfl q2035 (fun x45 h => ?_)
            obtain ⟨s46, h⟩ := ck_e h
            refine wm_cV_v (As := [.int x45]) (st := []) X hS cd_8 s46 rfl h (fun _ hF => ctX8_wrong l hF) mdX8_wrong mvX8_wrong q2142 dX8_plain_68 rfl rfl c1_0 (Nat.le_of_ble_eq_true rfl) ⟨Nat.le_of_ble_eq_true rfl, Nat.le_of_ble_eq_true rfl⟩ ⟨Nat.le_of_ble_eq_true rfl, Nat.le_of_ble_eq_true rfl⟩ (fun σ47 _ h => ?_)
            refine wm_iconst (v := 0) X dX8_plain_71 (by decide) ?_
            exact wm_zret X hr h dX8_plain_72 (Nat.le_of_ble_eq_true rfl) (Nat.le_of_ble_eq_true rfl)
      · refine wm_iconst (v := 0) X dX8_plain_41 (by decide) ?_
        exact wm_zret X hr h dX8_plain_42 (Nat.le_of_ble_eq_true rfl) (Nat.le_of_ble_eq_true rfl)
    · refine wm_aload_n X 0 dX8_plain_23 rfl ?_
      refine wm_gI X hS cd_8 16 h dX8_plain_24 (Nat.le_of_ble_eq_true rfl) rfl q2040 (fun x51 h => ?_)
      exact wm_zret X hr h dX8_plain_27 (Nat.le_of_ble_eq_true rfl) (Nat.le_of_ble_eq_true rfl)
  · refine wm_aload_n X 0 dX8_plain_9 rfl ?_
    refine wm_gI X hS cd_8 15 h dX8_plain_10 (Nat.le_of_ble_eq_true rfl) rfl q2039 (fun x53 h => ?_)
    exact wm_zret X hr h dX8_plain_13 (Nat.le_of_ble_eq_true rfl) (Nat.le_of_ble_eq_true rfl)
theorem mdX8_atom : MD yX8_atom 0 := by unfold MD; decide +kernel
theorem mvX8_atom : MV yX8_atom cX8_atom 4 ((some FieldType.boolean)) := ⟨q2179, qs64, q139, q2180⟩
theorem mdX8_every : MD yX8_every 0 := by unfold MD; decide +kernel
theorem mvX8_every : MV yX8_every cX8_every 3 ((some FieldType.boolean)) := ⟨q2175, qs63, q139, q2176⟩
set_option maxHeartbeats 4000000 in
theorem wX8_every_5 {p : Program} {l : Launch} {e : Env} {s : State} {m : MethodId} {args : Array Value} {below : List Frame} {meth : Method} {c : Code} {D : va_G} {dA : Nat → ClassId} {sz0 : Nat} {ad0 : Nat → Nat} {N0 : Nat} {r : Int32} {σf : Mm} (X : CX p s m args meth c cX8_every 3 RX8) (hS : ST D dA sz0 ad0 s) (hr : meth.sig.returnType = (some FieldType.boolean)) (hnm : meth.name = yX8_every.name) {fr0 lo0 : Nat} (Rf : Nat → Mm → Option (Int32 × Mm)) (hRf : ∀ (h0 : Nat) (σ : Mm) (r : Int32) (σf : Mm), Rf h0 σ = some (r, σf) → CTi l yX8_atom (ws_ yX8_atom cX8_atom 4 (some .boolean)) fr0 lo0 0 0 [va_rf (some h0)] σ r σf) (h0 : Nat) : ∀ (n : Nat) (v1 : Int32) (σ : Mm) (kx44 : Int32 → Mm → Option (Int32 × Mm)), RX8_every_5 Rf h0 n v1 σ kx44 = some (r, σf) → (∀ (w1 : Int32) (σ : Mm), kx44 w1 σ = some (r, σf) → WMi p l e s m args below meth c (fr0 + 5) (lo0 + 108) 0 0 3 D dA sz0 ad0 N0 r σf 0 0 σ [(1, .int w1)] [] 44) → WMi p l e s m args below meth c (fr0 + 5) (lo0 + 108) 0 0 3 D dA sz0 ad0 N0 r σf 0 0 σ [(0, va_rf (some h0)), (1, .int v1)] [] 5 := by
  intro n
  induction n with
  | zero =>
    intro v1 σ kx44 h hkx44
    cases h
  | succ n ih =>
    intro v1 σ kx44 h hkx44
    rw [RX8_every_5] at h
    refine wm_aload_n X 0 dX8_every_5 rfl ?_
    refine wm_gI X hS cd_8 12 h dX8_every_6 (Nat.le_of_ble_eq_true rfl) rfl q2036 (fun x24 h => ?_)
    refine wm_iconst (v := (-1)) X dX8_every_9 (by decide) ?_
    refine wm_icmp_ne X 44 h dX8_every_10 (by decide) (fun c34 h => ?_) (fun c34 h => ?_)
    · refine wm_sub (ℓ' := [(1, .int v1)]) [1] rfl ?_
      exact hkx44 _ _ h
    · refine wm_aload_n X 0 dX8_every_13 rfl ?_
      refine wm_ldcS X hS 27 12 rfl dX8_every_14 ?_
      obtain ⟨s25, h⟩ := ck_e h
      refine wm_cV_i (As := [va_rf (some (BIG + 2 * 12))]) (st := []) X hS cd_8 s25 rfl h (fun _ _ hF => ctX8_hask01 l hF) mdX8_has mvX8_has q2151 dX8_every_16 rfl rfl c1_0 (Nat.le_of_ble_eq_true rfl) ⟨Nat.le_of_ble_eq_true rfl, Nat.le_of_ble_eq_true rfl⟩ ⟨Nat.le_of_ble_eq_true rfl, Nat.le_of_ble_eq_true rfl⟩ (fun x26 σ27 _ h => ?_)
      refine wm_if_eq X 44 h dX8_every_19 (by decide) (fun c33 h => ?_) (fun c33 h => ?_)
      · refine wm_sub (ℓ' := [(1, .int v1)]) [1] rfl ?_
        exact hkx44 _ _ h
      · refine wm_aload_n X 0 dX8_every_22 rfl ?_
        obtain ⟨s28, h⟩ := ck_e h
        refine wm_cV_i (As := []) (st := []) X hS cd_8 s28 rfl h (fun _ _ hF => hRf _ _ _ _ hF) mdX8_atom mvX8_atom q2177 dX8_every_23 rfl rfl c1_0 (Nat.le_of_ble_eq_true rfl) ⟨rmf (by omega), rml (by omega)⟩ ⟨Nat.le_of_ble_eq_true rfl, Nat.le_of_ble_eq_true rfl⟩ (fun x29 σ30 _ h => ?_)
        refine wm_istore_n (ℓ' := [(2, .int x29), (0, va_rf (some h0)), (1, .int v1)]) X dX8_every_26 (by decide) rfl ?_
        refine wm_iload_n X 2 dX8_every_27 rfl ?_
        refine wm_if_eq X 39 h dX8_every_28 (by decide) (fun c32 h => ?_) (fun c32 h => ?_)
        · refine wm_iconst (v := 0) X dX8_every_39 (by decide) ?_
          refine wm_istore_n (ℓ' := [(1, .int 0), (2, .int x29), (0, va_rf (some h0))]) X dX8_every_40 (by decide) rfl ?_
          refine wm_goto X 5 dX8_every_41 (by decide) ?_
          refine wm_sub (ℓ' := [(0, va_rf (some h0)), (1, .int 0)]) [2, 0] rfl ?_
          exact ih _ _ _ h hkx44
        · refine wm_iload_n X 0 dX8_every_31 rfl ?_
          refine wm_if_eq X 39 h dX8_every_32 (by decide) (fun c31 h => ?_) (fun c31 h => ?_)
          · refine wm_iconst (v := 0) X dX8_every_39 (by decide) ?_
            refine wm_istore_n (ℓ' := [(1, .int 0), (2, .int x29), (0, va_rf (some h0))]) X dX8_every_40 (by decide) rfl ?_
            refine wm_goto X 5 dX8_every_41 (by decide) ?_
            refine wm_sub (ℓ' := [(0, va_rf (some h0)), (1, .int 0)]) [2, 0] rfl ?_
            exact ih _ _ _ h hkx44
          · refine wm_iconst (v := 1) X dX8_every_35 (by decide) ?_
            refine wm_goto X 40 dX8_every_36 (by decide) ?_
            refine wm_istore_n (ℓ' := [(1, .int 1), (2, .int x29), (0, va_rf (some h0))]) X dX8_every_40 (by decide) rfl ?_
            refine wm_goto X 5 dX8_every_41 (by decide) ?_
            refine wm_sub (ℓ' := [(0, va_rf (some h0)), (1, .int 1)]) [2, 0] rfl ?_
            exact ih _ _ _ h hkx44
set_option maxHeartbeats 4000000 in
theorem crX8_every (l : Launch) {fr0 lo0 : Nat} (Rf : Nat → Mm → Option (Int32 × Mm)) (hRf : ∀ (h0 : Nat) (σ : Mm) (r : Int32) (σf : Mm), Rf h0 σ = some (r, σf) → CTi l yX8_atom (ws_ yX8_atom cX8_atom 4 (some .boolean)) fr0 lo0 0 0 [va_rf (some h0)] σ r σf) {h0 : Nat} {σ σf : Mm} {r : Int32} (h : RX8_every Rf h0 σ = some (r, σf)) : CTi l yX8_every (ws_ yX8_every cX8_every 3 ((some FieldType.boolean))) (fr0 + 5) (lo0 + 108) 0 0 [va_rf (some h0)] σ r σf := by
  refine ct_start (n := 0) mdX8_every (Nat.le_of_ble_eq_true rfl) (c1_r c1_0) (fun p e s m args below meth c D dA sz0 ad0 X hS hr hnm => ?_)
  have X : CX p s m args meth c cX8_every 3 RX8 := X
  generalize mN σ = N0
  unfold RX8_every at h
  refine wm_aload_n X 0 dX8_every_0 rfl ?_
  obtain ⟨s21, h⟩ := ck_e h
  refine wm_cV_i (As := []) (st := []) X hS cd_8 s21 rfl h (fun _ _ hF => hRf _ _ _ _ hF) mdX8_atom mvX8_atom q2177 dX8_every_1 rfl rfl c1_0 (Nat.le_of_ble_eq_true rfl) ⟨rmf (by omega), rml (by omega)⟩ ⟨Nat.le_of_ble_eq_true rfl, Nat.le_of_ble_eq_true rfl⟩ (fun x22 σ23 _ h => ?_)
  refine wm_istore_n (ℓ' := [(1, .int x22), (0, va_rf (some h0))]) X dX8_every_4 (by decide) rfl ?_
  refine wm_sub (ℓ' := [(0, va_rf (some h0)), (1, .int x22)]) [1, 0] rfl ?_
  refine wX8_every_5 X hS hr hnm Rf hRf _ fu _ _ _ h (fun x35 σ h => ?_)
  · refine wm_iload_n X 0 dX8_every_44 rfl ?_
    exact wm_zret X hr h dX8_every_45 (Nat.le_of_ble_eq_true rfl) (Nat.le_of_ble_eq_true rfl)
theorem mdX8_some : MD yX8_some 0 := by unfold MD; decide +kernel
theorem mvX8_some : MV yX8_some cX8_some 3 ((some FieldType.boolean)) := ⟨q2171, qs62, q139, q2172⟩
set_option maxHeartbeats 4000000 in
theorem wX8_some_5 {p : Program} {l : Launch} {e : Env} {s : State} {m : MethodId} {args : Array Value} {below : List Frame} {meth : Method} {c : Code} {D : va_G} {dA : Nat → ClassId} {sz0 : Nat} {ad0 : Nat → Nat} {N0 : Nat} {r : Int32} {σf : Mm} (X : CX p s m args meth c cX8_some 3 RX8) (hS : ST D dA sz0 ad0 s) (hr : meth.sig.returnType = (some FieldType.boolean)) (hnm : meth.name = yX8_some.name) {fr0 lo0 : Nat} (Rf : Nat → Mm → Option (Int32 × Mm)) (hRf : ∀ (h0 : Nat) (σ : Mm) (r : Int32) (σf : Mm), Rf h0 σ = some (r, σf) → CTi l yX8_atom (ws_ yX8_atom cX8_atom 4 (some .boolean)) fr0 lo0 0 0 [va_rf (some h0)] σ r σf) (h0 : Nat) : ∀ (n : Nat) (v1 : Int32) (σ : Mm) (kx44 : Int32 → Mm → Option (Int32 × Mm)), RX8_some_5 Rf h0 n v1 σ kx44 = some (r, σf) → (∀ (w1 : Int32) (σ : Mm), kx44 w1 σ = some (r, σf) → WMi p l e s m args below meth c (fr0 + 6) (lo0 + 130) 0 0 3 D dA sz0 ad0 N0 r σf 0 0 σ [(1, .int w1)] [] 44) → WMi p l e s m args below meth c (fr0 + 6) (lo0 + 130) 0 0 3 D dA sz0 ad0 N0 r σf 0 0 σ [(0, va_rf (some h0)), (1, .int v1)] [] 5 := by
  intro n
  induction n with
  | zero =>
    intro v1 σ kx44 h hkx44
    cases h
  | succ n ih =>
    intro v1 σ kx44 h hkx44
    rw [RX8_some_5] at h
    refine wm_aload_n X 0 dX8_some_5 rfl ?_
    refine wm_gI X hS cd_8 12 h dX8_some_6 (Nat.le_of_ble_eq_true rfl) rfl q2036 (fun x24 h => ?_)
    refine wm_iconst (v := (-1)) X dX8_some_9 (by decide) ?_
    refine wm_icmp_ne X 44 h dX8_some_10 (by decide) (fun c34 h => ?_) (fun c34 h => ?_)
    · refine wm_sub (ℓ' := [(1, .int v1)]) [1] rfl ?_
      exact hkx44 _ _ h
    · refine wm_aload_n X 0 dX8_some_13 rfl ?_
      refine wm_ldcS X hS 28 13 rfl dX8_some_14 ?_
      obtain ⟨s25, h⟩ := ck_e h
      refine wm_cV_i (As := [va_rf (some (BIG + 2 * 13))]) (st := []) X hS cd_8 s25 rfl h (fun _ _ hF => ctX8_hask01 l hF) mdX8_has mvX8_has q2151 dX8_some_16 rfl rfl c1_0 (Nat.le_of_ble_eq_true rfl) ⟨Nat.le_of_ble_eq_true rfl, Nat.le_of_ble_eq_true rfl⟩ ⟨Nat.le_of_ble_eq_true rfl, Nat.le_of_ble_eq_true rfl⟩ (fun x26 σ27 _ h => ?_)
      refine wm_if_eq X 44 h dX8_some_19 (by decide) (fun c33 h => ?_) (fun c33 h => ?_)
      · refine wm_sub (ℓ' := [(1, .int v1)]) [1] rfl ?_
        exact hkx44 _ _ h
      · refine wm_aload_n X 0 dX8_some_22 rfl ?_
        obtain ⟨s28, h⟩ := ck_e h
        refine wm_cV_i (As := []) (st := []) X hS cd_8 s28 rfl h (fun _ _ hF => crX8_every l Rf hRf hF) mdX8_every mvX8_every q2173 dX8_some_23 rfl rfl c1_0 (Nat.le_of_ble_eq_true rfl) ⟨rmf (by omega), rml (by omega)⟩ ⟨Nat.le_of_ble_eq_true rfl, Nat.le_of_ble_eq_true rfl⟩ (fun x29 σ30 _ h => ?_)
        refine wm_istore_n (ℓ' := [(2, .int x29), (0, va_rf (some h0)), (1, .int v1)]) X dX8_some_26 (by decide) rfl ?_
        refine wm_iload_n X 2 dX8_some_27 rfl ?_
        refine wm_if_ne X 35 h dX8_some_28 (by decide) (fun c32 h => ?_) (fun c32 h => ?_)
        · refine wm_iconst (v := 1) X dX8_some_35 (by decide) ?_
          refine wm_goto X 40 dX8_some_36 (by decide) ?_
          refine wm_istore_n (ℓ' := [(1, .int 1), (2, .int x29), (0, va_rf (some h0))]) X dX8_some_40 (by decide) rfl ?_
          refine wm_goto X 5 dX8_some_41 (by decide) ?_
          refine wm_sub (ℓ' := [(0, va_rf (some h0)), (1, .int 1)]) [2, 0] rfl ?_
          exact ih _ _ _ h hkx44
        · refine wm_iload_n X 0 dX8_some_31 rfl ?_
          refine wm_if_eq X 39 h dX8_some_32 (by decide) (fun c31 h => ?_) (fun c31 h => ?_)
          · refine wm_iconst (v := 0) X dX8_some_39 (by decide) ?_
            refine wm_istore_n (ℓ' := [(1, .int 0), (2, .int x29), (0, va_rf (some h0))]) X dX8_some_40 (by decide) rfl ?_
            refine wm_goto X 5 dX8_some_41 (by decide) ?_
            refine wm_sub (ℓ' := [(0, va_rf (some h0)), (1, .int 0)]) [2, 0] rfl ?_
            exact ih _ _ _ h hkx44
          · refine wm_iconst (v := 1) X dX8_some_35 (by decide) ?_
            refine wm_goto X 40 dX8_some_36 (by decide) ?_
            refine wm_istore_n (ℓ' := [(1, .int 1), (2, .int x29), (0, va_rf (some h0))]) X dX8_some_40 (by decide) rfl ?_
            refine wm_goto X 5 dX8_some_41 (by decide) ?_
            refine wm_sub (ℓ' := [(0, va_rf (some h0)), (1, .int 1)]) [2, 0] rfl ?_
            exact ih _ _ _ h hkx44
set_option maxHeartbeats 4000000 in
theorem crX8_some (l : Launch) {fr0 lo0 : Nat} (Rf : Nat → Mm → Option (Int32 × Mm)) (hRf : ∀ (h0 : Nat) (σ : Mm) (r : Int32) (σf : Mm), Rf h0 σ = some (r, σf) → CTi l yX8_atom (ws_ yX8_atom cX8_atom 4 (some .boolean)) fr0 lo0 0 0 [va_rf (some h0)] σ r σf) {h0 : Nat} {σ σf : Mm} {r : Int32} (h : RX8_some Rf h0 σ = some (r, σf)) : CTi l yX8_some (ws_ yX8_some cX8_some 3 ((some FieldType.boolean))) (fr0 + 6) (lo0 + 130) 0 0 [va_rf (some h0)] σ r σf := by
  refine ct_start (n := 0) mdX8_some (Nat.le_of_ble_eq_true rfl) (c1_r c1_0) (fun p e s m args below meth c D dA sz0 ad0 X hS hr hnm => ?_)
  have X : CX p s m args meth c cX8_some 3 RX8 := X
  generalize mN σ = N0
  unfold RX8_some at h
  refine wm_aload_n X 0 dX8_some_0 rfl ?_
  obtain ⟨s21, h⟩ := ck_e h
  refine wm_cV_i (As := []) (st := []) X hS cd_8 s21 rfl h (fun _ _ hF => crX8_every l Rf hRf hF) mdX8_every mvX8_every q2173 dX8_some_1 rfl rfl c1_0 (Nat.le_of_ble_eq_true rfl) ⟨rmf (by omega), rml (by omega)⟩ ⟨Nat.le_of_ble_eq_true rfl, Nat.le_of_ble_eq_true rfl⟩ (fun x22 σ23 _ h => ?_)
  refine wm_istore_n (ℓ' := [(1, .int x22), (0, va_rf (some h0))]) X dX8_some_4 (by decide) rfl ?_
  refine wm_sub (ℓ' := [(0, va_rf (some h0)), (1, .int x22)]) [1, 0] rfl ?_
  refine wX8_some_5 X hS hr hnm Rf hRf _ fu _ _ _ h (fun x35 σ h => ?_)
  · refine wm_iload_n X 0 dX8_some_44 rfl ?_
    exact wm_zret X hr h dX8_some_45 (Nat.le_of_ble_eq_true rfl) (Nat.le_of_ble_eq_true rfl)
set_option maxHeartbeats 4000000 in
theorem crX8_atom (l : Launch) {fr0 lo0 : Nat} (Rf : Nat → Mm → Option (Int32 × Mm)) (hRf : ∀ (h0 : Nat) (σ : Mm) (r : Int32) (σf : Mm), Rf h0 σ = some (r, σf) → CTi l yX8_atom (ws_ yX8_atom cX8_atom 4 (some .boolean)) fr0 lo0 0 0 [va_rf (some h0)] σ r σf) {h0 : Nat} {σ σf : Mm} {r : Int32} (h : RX8_atom Rf h0 σ = some (r, σf)) : CTi l yX8_atom (ws_ yX8_atom cX8_atom 4 ((some FieldType.boolean))) (fr0 + 10) (lo0 + 219) 0 0 [va_rf (some h0)] σ r σf := by
  refine ct_start (n := 0) mdX8_atom (Nat.le_of_ble_eq_true rfl) (c1_r c1_0) (fun p e s m args below meth c D dA sz0 ad0 X hS hr hnm => ?_)
  have X : CX p s m args meth c cX8_atom 4 RX8 := X
  generalize mN σ = N0
  unfold RX8_atom at h
  refine wm_aload_n X 0 dX8_atom_0 rfl ?_
  refine wm_gI X hS cd_8 12 h dX8_atom_1 (Nat.le_of_ble_eq_true rfl) rfl q2036 (fun x21 h => ?_)
  refine wm_iconst (v := (-1)) X dX8_atom_4 (by decide) ?_
  refine wm_icmp_eq X 10 h dX8_atom_5 (by decide) (fun c66 h => ?_) (fun c66 h => ?_)
  · refine wm_aload_n X 0 dX8_atom_10 rfl ?_
    obtain ⟨s22, h⟩ := ck_e h
    refine wm_cV_i (As := []) (st := []) X hS cd_8 s22 rfl h (fun _ _ hF => ctX8_place l hF) mdX8_place mvX8_place q2181 dX8_atom_11 rfl rfl c1_0 (Nat.le_of_ble_eq_true rfl) ⟨Nat.le_of_ble_eq_true rfl, Nat.le_of_ble_eq_true rfl⟩ ⟨Nat.le_of_ble_eq_true rfl, Nat.le_of_ble_eq_true rfl⟩ (fun x23 σ24 _ h => ?_)
    refine wm_istore_n (ℓ' := [(1, .int x23), (0, va_rf (some h0))]) X dX8_atom_14 (by decide) rfl ?_
    refine wm_aload_n X 1 dX8_atom_15 rfl ?_
    refine wm_ldcS X hS 18 10 rfl dX8_atom_16 ?_
    obtain ⟨s25, h⟩ := ck_e h
    refine wm_cV_i (As := [va_rf (some (BIG + 2 * 10))]) (st := []) X hS cd_8 s25 rfl h (fun _ _ hF => ctX8_hask01 l hF) mdX8_has mvX8_has q2151 dX8_atom_18 rfl rfl c1_0 (Nat.le_of_ble_eq_true rfl) ⟨Nat.le_of_ble_eq_true rfl, Nat.le_of_ble_eq_true rfl⟩ ⟨Nat.le_of_ble_eq_true rfl, Nat.le_of_ble_eq_true rfl⟩ (fun x26 σ27 _ h => ?_)
    refine wm_istore_n (ℓ' := [(2, .int x26), (1, .int x23), (0, va_rf (some h0))]) X dX8_atom_21 (by decide) rfl ?_
    refine wm_iload_n X 0 dX8_atom_22 rfl ?_
    obtain ⟨J40, eJ40, h⟩ := jn_e h
    have hJ40 : ∀  (σ : Mm), J40  σ = some (r, σf) → WMi p l e s m args below meth c (fr0 + 10) (lo0 + 219) 0 0 4 D dA sz0 ad0 N0 r σf 0 0 σ [(0, va_rf (some h0)), (1, .int x23), (2, .int x26)] [] 40 := by
      intro  σ h
      rw [eJ40] at h
      refine wm_aload_n X 0 dX8_atom_40 rfl ?_
      refine wm_gI X hS cd_8 13 h dX8_atom_41 (Nat.le_of_ble_eq_true rfl) rfl q2037 (fun x28 h => ?_)
      refine wm_bipush (v := 6) X dX8_atom_44 (by decide) ?_
      refine wm_icmp_ne X 56 h dX8_atom_46 (by decide) (fun c57 h => ?_) (fun c57 h => ?_)
      · refine wm_aload_n X 0 dX8_atom_56 rfl ?_
        refine wm_dup X dX8_atom_57 (catR _) ?_
        refine wm_gI X hS cd_8 13 h dX8_atom_58 (Nat.le_of_ble_eq_true rfl) rfl q2037 (fun x29 h => ?_)
        refine wm_iconst (v := 1) X dX8_atom_61 (by decide) ?_
        refine wm_iadd X dX8_atom_62 ?_
        refine wm_pI X hS cd_8 13 h dX8_atom_63 (Nat.le_of_ble_eq_true rfl) rfl q2037 rfl rfl (fun σ30 _ h => ?_)
        refine wm_iconst (v := 0) X dX8_atom_66 (by decide) ?_
        refine wm_istore_n (ℓ' := [(3, .int 0), (0, va_rf (some h0)), (1, .int x23), (2, .int x26)]) X dX8_atom_67 (by decide) rfl ?_
        refine wm_iload_n X 3 dX8_atom_68 rfl ?_
        obtain ⟨J138, eJ138, h⟩ := jn_e h
        have hJ138 : ∀ (x31 : Int32) (σ : Mm), J138 x31 σ = some (r, σf) → WMi p l e s m args below meth c (fr0 + 10) (lo0 + 219) 0 0 4 D dA sz0 ad0 N0 r σf 0 0 σ [(0, va_rf (some h0)), (3, .int x31)] [] 138 := by
          intro x31 σ h
          rw [eJ138] at h
          refine wm_aload_n X 0 dX8_atom_138 rfl ?_
          refine wm_dup X dX8_atom_139 (catR _) ?_
          refine wm_gI X hS cd_8 13 h dX8_atom_140 (Nat.le_of_ble_eq_true rfl) rfl q2037 (fun x32 h => ?_)
          refine wm_iconst (v := 1) X dX8_atom_143 (by decide) ?_
          refine wm_isub X dX8_atom_144 ?_
          refine wm_pI X hS cd_8 13 h dX8_atom_145 (Nat.le_of_ble_eq_true rfl) rfl q2037 rfl rfl (fun σ33 _ h => ?_)
          refine wm_iload_n X 1 dX8_atom_148 rfl ?_
          exact wm_zret X hr h dX8_atom_149 (Nat.le_of_ble_eq_true rfl) (Nat.le_of_ble_eq_true rfl)
        clear eJ138
        refine wm_if_eq X 88 h dX8_atom_69 (by decide) (fun c54 h => ?_) (fun c54 h => ?_)
        · refine wm_aload_n X 1 dX8_atom_88 rfl ?_
          refine wm_dup X dX8_atom_89 (catR _) ?_
          refine wm_gI X hS cd_8 11 h dX8_atom_90 (Nat.le_of_ble_eq_true rfl) rfl q2035 (fun x34 h => ?_)
          refine wm_iconst (v := 1) X dX8_atom_93 (by decide) ?_
          refine wm_iadd X dX8_atom_94 ?_
          refine wm_pI X hS cd_8 11 h dX8_atom_95 (Nat.le_of_ble_eq_true rfl) rfl q2035 rfl rfl (fun σ35 _ h => ?_)
          refine wm_aload_n X 1 dX8_atom_98 rfl ?_
          obtain ⟨s36, h⟩ := ck_e h
          refine wm_cV_i (As := []) (st := []) X hS cd_8 s36 rfl h (fun _ _ hF => crX8_some l Rf hRf hF) mdX8_some mvX8_some q2169 dX8_atom_99 rfl rfl c1_0 (Nat.le_of_ble_eq_true rfl) ⟨rmf (by omega), rml (by omega)⟩ ⟨Nat.le_of_ble_eq_true rfl, Nat.le_of_ble_eq_true rfl⟩ (fun x37 σ38 _ h => ?_)
          refine wm_istore_n (ℓ' := [(3, .int x37), (0, va_rf (some h0)), (1, .int x23), (2, .int x26)]) X dX8_atom_102 (by decide) rfl ?_
          refine wm_aload_n X 1 dX8_atom_103 rfl ?_
          refine wm_gI X hS cd_8 12 h dX8_atom_104 (Nat.le_of_ble_eq_true rfl) rfl q2036 (fun x39 h => ?_)
          refine wm_iconst (v := (-1)) X dX8_atom_107 (by decide) ?_
          obtain ⟨J128, eJ128, h⟩ := jn_e h
          have hJ128 : ∀  (σ : Mm), J128  σ = some (r, σf) → WMi p l e s m args below meth c (fr0 + 10) (lo0 + 219) 0 0 4 D dA sz0 ad0 N0 r σf 0 0 σ [(0, va_rf (some h0)), (3, .int x37)] [] 128 := by
            intro  σ h
            rw [eJ128] at h
            refine wm_aload_n X 0 dX8_atom_128 rfl ?_
            refine wm_dup X dX8_atom_129 (catR _) ?_
            refine wm_gI X hS cd_8 11 h dX8_atom_130 (Nat.le_of_ble_eq_true rfl) rfl q2035 (fun x40 h => ?_)
            refine wm_iconst (v := 1) X dX8_atom_133 (by decide) ?_
            refine wm_iadd X dX8_atom_134 ?_
            refine wm_pI X hS cd_8 11 h dX8_atom_135 (Nat.le_of_ble_eq_true rfl) rfl q2035 rfl rfl (fun σ41 _ h => ?_)
            exact hJ138 _ _ h
          clear eJ128
          refine wm_icmp_ne X 128 h dX8_atom_108 (by decide) (fun c49 h => ?_) (fun c49 h => ?_)
          · refine wm_sub (ℓ' := [(0, va_rf (some h0)), (3, .int x37)]) [1, 0] rfl ?_
            exact hJ128 _ h
          · refine wm_aload_n X 1 dX8_atom_111 rfl ?_
            refine wm_bipush (v := 41) X dX8_atom_112 (by decide) ?_
            obtain ⟨s42, h⟩ := ck_e h
            refine wm_cV_i (As := [.int 41]) (st := []) X hS cd_8 s42 rfl h (fun _ _ hF => ctX8_isSign l hF) mdX8_isSign mvX8_isSign q2186 dX8_atom_114 rfl rfl c1_0 (Nat.le_of_ble_eq_true rfl) ⟨Nat.le_of_ble_eq_true rfl, Nat.le_of_ble_eq_true rfl⟩ ⟨Nat.le_of_ble_eq_true rfl, Nat.le_of_ble_eq_true rfl⟩ (fun x43 σ44 _ h => ?_)
            refine wm_if_ne X 128 h dX8_atom_117 (by decide) (fun c48 h => ?_) (fun c48 h => ?_)
            · refine wm_sub (ℓ' := [(0, va_rf (some h0)), (3, .int x37)]) [1, 0] rfl ?_
              exact hJ128 _ h
            · refine wm_aload_n X 1 dX8_atom_120 rfl ?_
              refine wm_aload_n X 1 dX8_atom_121 rfl ?_
              refine wm_gI X hS cd_8 11 h dX8_atom_122 (Nat.le_of_ble_eq_true rfl) rfl q2035 (fun x45 h => ?_)
              obtain ⟨s46, h⟩ := ck_e h
              refine wm_cV_v (As := [.int x45]) (st := []) X hS cd_8 s46 rfl h (fun _ hF => ctX8_wrong l hF) mdX8_wrong mvX8_wrong q2142 dX8_atom_125 rfl rfl c1_0 (Nat.le_of_ble_eq_true rfl) ⟨Nat.le_of_ble_eq_true rfl, Nat.le_of_ble_eq_true rfl⟩ ⟨Nat.le_of_ble_eq_true rfl, Nat.le_of_ble_eq_true rfl⟩ (fun σ47 _ h => ?_)
              refine wm_sub (ℓ' := [(0, va_rf (some h0)), (3, .int x37)]) [1, 0] rfl ?_
              exact hJ128 _ h
        · refine wm_aload_n X 1 dX8_atom_72 rfl ?_
          obtain ⟨s50, h⟩ := ck_e h
          refine wm_cV_i (As := []) (st := []) X hS cd_8 s50 rfl h (fun _ _ hF => hRf _ _ _ _ hF) mdX8_atom mvX8_atom q2177 dX8_atom_73 rfl rfl c1_0 (Nat.le_of_ble_eq_true rfl) ⟨rmf (by omega), rml (by omega)⟩ ⟨Nat.le_of_ble_eq_true rfl, Nat.le_of_ble_eq_true rfl⟩ (fun x51 σ52 _ h => ?_)
          refine wm_if_ne X 83 h dX8_atom_76 (by decide) (fun c53 h => ?_) (fun c53 h => ?_)
          · refine wm_iconst (v := 0) X dX8_atom_83 (by decide) ?_
            refine wm_istore_n (ℓ' := [(3, .int 0), (0, va_rf (some h0)), (1, .int x23), (2, .int x26)]) X dX8_atom_84 (by decide) rfl ?_
            refine wm_goto X 138 dX8_atom_85 (by decide) ?_
            refine wm_sub (ℓ' := [(0, va_rf (some h0)), (3, .int 0)]) [1, 0] rfl ?_
            exact hJ138 _ _ h
          · refine wm_iconst (v := 1) X dX8_atom_79 (by decide) ?_
            refine wm_goto X 84 dX8_atom_80 (by decide) ?_
            refine wm_istore_n (ℓ' := [(3, .int 1), (0, va_rf (some h0)), (1, .int x23), (2, .int x26)]) X dX8_atom_84 (by decide) rfl ?_
            refine wm_goto X 138 dX8_atom_85 (by decide) ?_
            refine wm_sub (ℓ' := [(0, va_rf (some h0)), (3, .int 1)]) [1, 0] rfl ?_
            exact hJ138 _ _ h
      · refine wm_aload_n X 0 dX8_atom_49 rfl ?_
        refine wm_iload_n X 1 dX8_atom_50 rfl ?_
        obtain ⟨s55, h⟩ := ck_e h
        refine wm_cV_v (As := [.int x23]) (st := []) X hS cd_8 s55 rfl h (fun _ hF => ctX8_wrong l hF) mdX8_wrong mvX8_wrong q2142 dX8_atom_51 rfl rfl c1_0 (Nat.le_of_ble_eq_true rfl) ⟨Nat.le_of_ble_eq_true rfl, Nat.le_of_ble_eq_true rfl⟩ ⟨Nat.le_of_ble_eq_true rfl, Nat.le_of_ble_eq_true rfl⟩ (fun σ56 _ h => ?_)
        refine wm_iconst (v := 0) X dX8_atom_54 (by decide) ?_
        exact wm_zret X hr h dX8_atom_55 (Nat.le_of_ble_eq_true rfl) (Nat.le_of_ble_eq_true rfl)
    clear eJ40
    refine wm_if_ne X 40 h dX8_atom_23 (by decide) (fun c65 h => ?_) (fun c65 h => ?_)
    · refine wm_sub (ℓ' := [(0, va_rf (some h0)), (1, .int x23), (2, .int x26)]) [2, 1, 0] rfl ?_
      exact hJ40 _ h
    · refine wm_aload_n X 2 dX8_atom_26 rfl ?_
      refine wm_bipush (v := 40) X dX8_atom_27 (by decide) ?_
      obtain ⟨s58, h⟩ := ck_e h
      refine wm_cV_i (As := [.int 40]) (st := []) X hS cd_8 s58 rfl h (fun _ _ hF => ctX8_isSign l hF) mdX8_isSign mvX8_isSign q2186 dX8_atom_29 rfl rfl c1_0 (Nat.le_of_ble_eq_true rfl) ⟨Nat.le_of_ble_eq_true rfl, Nat.le_of_ble_eq_true rfl⟩ ⟨Nat.le_of_ble_eq_true rfl, Nat.le_of_ble_eq_true rfl⟩ (fun x59 σ60 _ h => ?_)
      refine wm_if_ne X 40 h dX8_atom_32 (by decide) (fun c64 h => ?_) (fun c64 h => ?_)
      · refine wm_sub (ℓ' := [(0, va_rf (some h0)), (1, .int x23), (2, .int x26)]) [2, 1, 0] rfl ?_
        exact hJ40 _ h
      · refine wm_aload_n X 2 dX8_atom_35 rfl ?_
        obtain ⟨s61, h⟩ := ck_e h
        refine wm_cV_i (As := []) (st := []) X hS cd_8 s61 rfl h (fun _ _ hF => ctX8_plain l hF) mdX8_plain mvX8_plain q2190 dX8_atom_36 rfl rfl c1_0 (Nat.le_of_ble_eq_true rfl) ⟨Nat.le_of_ble_eq_true rfl, Nat.le_of_ble_eq_true rfl⟩ ⟨Nat.le_of_ble_eq_true rfl, Nat.le_of_ble_eq_true rfl⟩ (fun x62 σ63 _ h => ?_)
        exact wm_zret X hr h dX8_atom_39 (Nat.le_of_ble_eq_true rfl) (Nat.le_of_ble_eq_true rfl)
  · refine wm_iconst (v := 0) X dX8_atom_8 (by decide) ?_
    exact wm_zret X hr h dX8_atom_9 (Nat.le_of_ble_eq_true rfl) (Nat.le_of_ble_eq_true rfl)
theorem cdX8_atom (l : Launch) (d : Nat) : ∀ (h0 : Nat) (σ : Mm) (r : Int32) (σf : Mm), FX8_atom d h0 σ = some (r, σf) → CTi l yX8_atom (ws_ yX8_atom cX8_atom 4 ((some FieldType.boolean))) (d * 10) (d * 219) 0 0 [va_rf (some h0)] σ r σf := by
  induction d with
  | zero => intro h0 σ r σf h; cases h
  | succ d ih =>
    intro h0 σ r σf h
    rw [Nat.succ_mul, Nat.succ_mul]
    exact crX8_atom l (FX8_atom d) ih h
theorem ctX8_some (l : Launch) {h0 : Nat} {σ σf : Mm} {r : Int32} (h : FX8_some h0 σ = some (r, σf)) : CTi l yX8_some (ws_ yX8_some cX8_some 3 ((some FieldType.boolean))) 86 1882 0 0 [va_rf (some h0)] σ r σf := crX8_some l (FX8_atom 8) (cdX8_atom l 8) h
theorem ctX8_every (l : Launch) {h0 : Nat} {σ σf : Mm} {r : Int32} (h : FX8_every h0 σ = some (r, σf)) : CTi l yX8_every (ws_ yX8_every cX8_every 3 ((some FieldType.boolean))) 85 1860 0 0 [va_rf (some h0)] σ r σf := crX8_every l (FX8_atom 8) (cdX8_atom l 8) h
theorem mdX8_lawLine : MD yX8_lawLine 0 := by unfold MD; decide +kernel
theorem mvX8_lawLine : MV yX8_lawLine cX8_lawLine 3 (none) := ⟨q2148, qs60, q139, q2149⟩
set_option maxHeartbeats 4000000 in
theorem ctX8_lawLine (l : Launch) {h0 : Nat} {σ σf : Mm} (h : FX8_lawLine h0 σ = some σf) : CTv l yX8_lawLine (ws_ yX8_lawLine cX8_lawLine 3 (none)) 87 1904 0 0 [va_rf (some h0)] σ σf := by
  refine ct_start (n := 0) mdX8_lawLine (Nat.le_of_ble_eq_true rfl) (c1_r c1_0) (fun p e s m args below meth c D dA sz0 ad0 X hS hr hnm => ?_)
  have X : CX p s m args meth c cX8_lawLine 3 RX8 := X
  generalize mN σ = N0
  unfold FX8_lawLine at h
  refine wm_aload_n X 0 dX8_lawLine_0 rfl ?_
  refine wm_ldcS X hS 15 7 rfl dX8_lawLine_1 ?_
  obtain ⟨s21, h⟩ := ck_e h
  refine wm_cV_i (As := [va_rf (some (BIG + 2 * 7))]) (st := []) X hS cd_8 s21 rfl h (fun _ _ hF => ctX8_hask01 l hF) mdX8_has mvX8_has q2151 dX8_lawLine_3 rfl rfl c1_0 (Nat.le_of_ble_eq_true rfl) ⟨Nat.le_of_ble_eq_true rfl, Nat.le_of_ble_eq_true rfl⟩ ⟨Nat.le_of_ble_eq_true rfl, Nat.le_of_ble_eq_true rfl⟩ (fun x22 σ23 _ h => ?_)
  refine wm_istore_n (ℓ' := [(1, .int x22), (0, va_rf (some h0))]) X dX8_lawLine_6 (by decide) rfl ?_
  refine wm_iload_n X 0 dX8_lawLine_7 rfl ?_
  obtain ⟨J29, eJ29, h⟩ := jn_e h
  have hJ29 : ∀  (σ : Mm), J29  σ = some σf → WMv p l e s m args below meth c 87 1904 0 0 3 D dA sz0 ad0 N0 σf 0 0 σ [(0, va_rf (some h0)), (1, .int x22)] [] 29 := by
    intro  σ h
    rw [eJ29] at h
    refine wm_aload_n X 0 dX8_lawLine_29 rfl ?_
    refine wm_ldcS X hS 17 9 rfl dX8_lawLine_30 ?_
    obtain ⟨s24, h⟩ := ck_e h
    refine wm_cV_i (As := [va_rf (some (BIG + 2 * 9))]) (st := []) X hS cd_8 s24 rfl h (fun _ _ hF => ctX8_hask01 l hF) mdX8_has mvX8_has q2151 dX8_lawLine_32 rfl rfl c1_0 (Nat.le_of_ble_eq_true rfl) ⟨Nat.le_of_ble_eq_true rfl, Nat.le_of_ble_eq_true rfl⟩ ⟨Nat.le_of_ble_eq_true rfl, Nat.le_of_ble_eq_true rfl⟩ (fun x25 σ26 _ h => ?_)
    obtain ⟨J50, eJ50, h⟩ := jn_e h
    have hJ50 : ∀ (z27 : Int32) (σ : Mm), J50 z27 σ = some σf → WMv p l e s m args below meth c 87 1904 0 0 3 D dA sz0 ad0 N0 σf 0 0 σ [(0, va_rf (some h0)), (1, .int x22)] [.int z27] 50 := by
      intro z27 σ h
      rw [eJ50] at h
      refine wm_istore_n (ℓ' := [(2, .int z27), (0, va_rf (some h0)), (1, .int x22)]) X dX8_lawLine_50 (by decide) rfl ?_
      refine wm_aload_n X 1 dX8_lawLine_51 rfl ?_
      refine wm_gI X hS cd_8 12 h dX8_lawLine_52 (Nat.le_of_ble_eq_true rfl) rfl q2036 (fun x28 h => ?_)
      refine wm_iconst (v := (-1)) X dX8_lawLine_55 (by decide) ?_
      refine wm_icmp_ne X 63 h dX8_lawLine_56 (by decide) (fun c33 h => ?_) (fun c33 h => ?_)
      · exact wm_vret X hr h dX8_lawLine_63 (Nat.le_of_ble_eq_true rfl) (Nat.le_of_ble_eq_true rfl)
      · refine wm_iload_n X 0 dX8_lawLine_59 rfl ?_
        refine wm_if_ne X 64 h dX8_lawLine_60 (by decide) (fun c32 h => ?_) (fun c32 h => ?_)
        · refine wm_iload_n X 2 dX8_lawLine_64 rfl ?_
          refine wm_if_eq X 76 h dX8_lawLine_65 (by decide) (fun c31 h => ?_) (fun c31 h => ?_)
          · refine wm_aload_n X 1 dX8_lawLine_76 rfl ?_
            refine wm_iconst (v := 1) X dX8_lawLine_77 (by decide) ?_
            refine wm_pZ X hS cd_8 18 h dX8_lawLine_78 (Nat.le_of_ble_eq_true rfl) rfl q2042 rfl rfl (fun σ29 _ h => ?_)
            exact wm_vret X hr h dX8_lawLine_81 (Nat.le_of_ble_eq_true rfl) (Nat.le_of_ble_eq_true rfl)
          · refine wm_aload_n X 1 dX8_lawLine_68 rfl ?_
            refine wm_iconst (v := 1) X dX8_lawLine_69 (by decide) ?_
            refine wm_pZ X hS cd_8 17 h dX8_lawLine_70 (Nat.le_of_ble_eq_true rfl) rfl q2041 rfl rfl (fun σ30 _ h => ?_)
            refine wm_goto X 81 dX8_lawLine_73 (by decide) ?_
            exact wm_vret X hr h dX8_lawLine_81 (Nat.le_of_ble_eq_true rfl) (Nat.le_of_ble_eq_true rfl)
        · exact wm_vret X hr h dX8_lawLine_63 (Nat.le_of_ble_eq_true rfl) (Nat.le_of_ble_eq_true rfl)
    clear eJ50
    refine wm_if_eq X 45 h dX8_lawLine_35 (by decide) (fun c38 h => ?_) (fun c38 h => ?_)
    · refine wm_iconst (v := 1) X dX8_lawLine_45 (by decide) ?_
      refine wm_goto X 50 dX8_lawLine_46 (by decide) ?_
      exact hJ50 _ _ h
    · refine wm_aload_n X 0 dX8_lawLine_38 rfl ?_
      obtain ⟨s34, h⟩ := ck_e h
      refine wm_cV_i (As := []) (st := []) X hS cd_8 s34 rfl h (fun _ _ hF => ctX8_some l hF) mdX8_some mvX8_some q2169 dX8_lawLine_39 rfl rfl c1_0 (Nat.le_of_ble_eq_true rfl) ⟨Nat.le_of_ble_eq_true rfl, Nat.le_of_ble_eq_true rfl⟩ ⟨Nat.le_of_ble_eq_true rfl, Nat.le_of_ble_eq_true rfl⟩ (fun x35 σ36 _ h => ?_)
      refine wm_if_eq X 49 h dX8_lawLine_42 (by decide) (fun c37 h => ?_) (fun c37 h => ?_)
      · refine wm_iconst (v := 0) X dX8_lawLine_49 (by decide) ?_
        exact hJ50 _ _ h
      · refine wm_iconst (v := 1) X dX8_lawLine_45 (by decide) ?_
        refine wm_goto X 50 dX8_lawLine_46 (by decide) ?_
        exact hJ50 _ _ h
  clear eJ29
  refine wm_if_ne X 29 h dX8_lawLine_8 (by decide) (fun c46 h => ?_) (fun c46 h => ?_)
  · refine wm_sub (ℓ' := [(0, va_rf (some h0)), (1, .int x22)]) [1, 0] rfl ?_
    exact hJ29 _ h
  · refine wm_aload_n X 1 dX8_lawLine_11 rfl ?_
    refine wm_ldcS X hS 16 8 rfl dX8_lawLine_12 ?_
    obtain ⟨s39, h⟩ := ck_e h
    refine wm_cV_i (As := [va_rf (some (BIG + 2 * 8))]) (st := []) X hS cd_8 s39 rfl h (fun _ _ hF => ctX8_hask01 l hF) mdX8_has mvX8_has q2151 dX8_lawLine_14 rfl rfl c1_0 (Nat.le_of_ble_eq_true rfl) ⟨Nat.le_of_ble_eq_true rfl, Nat.le_of_ble_eq_true rfl⟩ ⟨Nat.le_of_ble_eq_true rfl, Nat.le_of_ble_eq_true rfl⟩ (fun x40 σ41 _ h => ?_)
    refine wm_if_ne X 29 h dX8_lawLine_17 (by decide) (fun c45 h => ?_) (fun c45 h => ?_)
    · refine wm_sub (ℓ' := [(0, va_rf (some h0)), (1, .int x22)]) [1, 0] rfl ?_
      exact hJ29 _ h
    · refine wm_aload_n X 1 dX8_lawLine_20 rfl ?_
      refine wm_aload_n X 1 dX8_lawLine_21 rfl ?_
      refine wm_gI X hS cd_8 11 h dX8_lawLine_22 (Nat.le_of_ble_eq_true rfl) rfl q2035 (fun x42 h => ?_)
      obtain ⟨s43, h⟩ := ck_e h
      refine wm_cV_v (As := [.int x42]) (st := []) X hS cd_8 s43 rfl h (fun _ hF => ctX8_wrong l hF) mdX8_wrong mvX8_wrong q2142 dX8_lawLine_25 rfl rfl c1_0 (Nat.le_of_ble_eq_true rfl) ⟨Nat.le_of_ble_eq_true rfl, Nat.le_of_ble_eq_true rfl⟩ ⟨Nat.le_of_ble_eq_true rfl, Nat.le_of_ble_eq_true rfl⟩ (fun σ44 _ h => ?_)
      exact wm_vret X hr h dX8_lawLine_28 (Nat.le_of_ble_eq_true rfl) (Nat.le_of_ble_eq_true rfl)
theorem mdX8_eight : MD yX8_eight 0 := by unfold MD; decide +kernel
theorem mvX8_eight : MV yX8_eight cX8_eight 5 ((some FieldType.int)) := ⟨q2227, qs73, q139, q2228⟩
set_option maxHeartbeats 4000000 in
theorem wX8_eight_22 {p : Program} {l : Launch} {e : Env} {s : State} {m : MethodId} {args : Array Value} {below : List Frame} {meth : Method} {c : Code} {D : va_G} {dA : Nat → ClassId} {sz0 : Nat} {ad0 : Nat → Nat} {N0 : Nat} {r : Int32} {σf : Mm} (X : CX p s m args meth c cX8_eight 5 RX8) (hS : ST D dA sz0 ad0 s) (hr : meth.sig.returnType = (some FieldType.int)) (hnm : meth.name = yX8_eight.name) (h0 : Nat) (y1 : Int32) : ∀ (n : Nat) (v2 : Int32) (v3 : Int32) (v4 : Int32) (σ : Mm) (kx122 : Int32 → Int32 → Int32 → Mm → Option (Int32 × Mm)), FX8_eight_22 h0 y1 n v2 v3 v4 σ kx122 = some (r, σf) → (∀ (w2 : Int32) (w3 : Int32) (w4 : Int32) (σ : Mm), kx122 w2 w3 w4 σ = some (r, σf) → WMi p l e s m args below meth c 3 61 0 0 5 D dA sz0 ad0 N0 r σf 0 0 σ [(0, va_rf (some h0)), (1, .int y1), (2, .int w2), (3, .int w3), (4, .int w4)] [] 122) → WMi p l e s m args below meth c 3 61 0 0 5 D dA sz0 ad0 N0 r σf 0 0 σ [(0, va_rf (some h0)), (1, .int y1), (2, .int v2), (3, .int v3), (4, .int v4)] [] 22 := by
  intro n
  induction n with
  | zero =>
    intro v2 v3 v4 σ kx122 h hkx122
    cases h
  | succ n ih =>
    intro v2 v3 v4 σ kx122 h hkx122
    rw [FX8_eight_22] at h
    refine wm_aload_n X 0 dX8_eight_22 rfl ?_
    refine wm_gI X hS cd_8 11 h dX8_eight_23 (Nat.le_of_ble_eq_true rfl) rfl q2035 (fun x25 h => ?_)
    refine wm_aload_n X 0 dX8_eight_26 rfl ?_
    refine wm_gI X hS cd_8 10 h dX8_eight_27 (Nat.le_of_ble_eq_true rfl) rfl q2034 (fun x26 h => ?_)
    refine wm_icmp_ge X 122 h dX8_eight_30 (by decide) (fun c51 h => ?_) (fun c51 h => ?_)
    · exact hkx122 _ _ _ _ h
    · refine wm_aload_n X 0 dX8_eight_33 rfl ?_
      refine wm_aload_n X 0 dX8_eight_34 rfl ?_
      refine wm_gI X hS cd_8 11 h dX8_eight_35 (Nat.le_of_ble_eq_true rfl) rfl q2035 (fun x27 h => ?_)
      obtain ⟨s28, h⟩ := ck_e h
      refine wm_cV_i (As := [.int x27]) (st := []) X hS cd_8 s28 rfl h (fun _ _ hF => ctX8_letter l hF) mdX8_letter mvX8_letter q2138 dX8_eight_38 rfl rfl c1_0 (Nat.le_of_ble_eq_true rfl) ⟨Nat.le_of_ble_eq_true rfl, Nat.le_of_ble_eq_true rfl⟩ ⟨Nat.le_of_ble_eq_true rfl, Nat.le_of_ble_eq_true rfl⟩ (fun x29 σ30 _ h => ?_)
      refine wm_bipush (v := 48) X dX8_eight_41 (by decide) ?_
      refine wm_bipush (v := 57) X dX8_eight_43 (by decide) ?_
      refine wm_cS_i (As := [.int x29, .int 48, .int 57]) (st := []) X hS h (fun _ _ hF => ctX8_isIn l hF) mdX8_isIn msX8_isIn q2115 dX8_eight_45 rfl rfl c1_0 (Nat.le_of_ble_eq_true rfl) ⟨Nat.le_of_ble_eq_true rfl, Nat.le_of_ble_eq_true rfl⟩ ⟨Nat.le_of_ble_eq_true rfl, Nat.le_of_ble_eq_true rfl⟩ (fun x31 σ32 _ h => ?_)
      refine wm_if_eq X 122 h dX8_eight_48 (by decide) (fun c50 h => ?_) (fun c50 h => ?_)
      · exact hkx122 _ _ _ _ h
      · refine wm_iload X 4 dX8_eight_51 rfl ?_
        obtain ⟨J80, eJ80, h⟩ := jn_e h
        have hJ80 : ∀ (z33 : Int32) (σ : Mm), J80 z33 σ = some (r, σf) → WMi p l e s m args below meth c 3 61 0 0 5 D dA sz0 ad0 N0 r σf 0 0 σ [(0, va_rf (some h0)), (1, .int y1), (2, .int v2), (3, .int v3)] [.int z33] 80 := by
          intro z33 σ h
          rw [eJ80] at h
          refine wm_istore (ℓ' := [(4, .int z33), (0, va_rf (some h0)), (1, .int y1), (2, .int v2), (3, .int v3)]) X dX8_eight_80 (by decide) rfl ?_
          refine wm_iload X 0 dX8_eight_82 rfl ?_
          obtain ⟨J106, eJ106, h⟩ := jn_e h
          have hJ106 : ∀ (x34 : Int32) (σ : Mm), J106 x34 σ = some (r, σf) → WMi p l e s m args below meth c 3 61 0 0 5 D dA sz0 ad0 N0 r σf 0 0 σ [(0, va_rf (some h0)), (1, .int y1), (2, .int x34), (3, .int v3), (4, .int z33)] [] 106 := by
            intro x34 σ h
            rw [eJ106] at h
            refine wm_iinc (v := (v3 + 1)) (ℓ' := [(3, .int (v3 + 1)), (0, va_rf (some h0)), (1, .int y1), (2, .int x34), (4, .int z33)]) X 3 dX8_eight_106 rfl rfl (by decide) rfl ?_
            refine wm_aload_n X 1 dX8_eight_109 rfl ?_
            refine wm_dup X dX8_eight_110 (catR _) ?_
            refine wm_gI X hS cd_8 11 h dX8_eight_111 (Nat.le_of_ble_eq_true rfl) rfl q2035 (fun x35 h => ?_)
            refine wm_iconst (v := 1) X dX8_eight_114 (by decide) ?_
            refine wm_iadd X dX8_eight_115 ?_
            refine wm_pI X hS cd_8 11 h dX8_eight_116 (Nat.le_of_ble_eq_true rfl) rfl q2035 rfl rfl (fun σ36 _ h => ?_)
            refine wm_goto X 22 dX8_eight_119 (by decide) ?_
            refine wm_sub (ℓ' := [(0, va_rf (some h0)), (1, .int y1), (2, .int x34), (3, .int (v3 + 1)), (4, .int z33)]) [1, 2, 3, 0, 4] rfl ?_
            exact ih _ _ _ _ _ h hkx122
          clear eJ106
          refine wm_if_eq X 106 h dX8_eight_84 (by decide) (fun c42 h => ?_) (fun c42 h => ?_)
          · refine wm_sub (ℓ' := [(0, va_rf (some h0)), (1, .int y1), (2, .int v2), (3, .int v3), (4, .int z33)]) [1, 2, 3, 4, 0] rfl ?_
            exact hJ106 _ _ h
          · refine wm_aload_n X 1 dX8_eight_87 rfl ?_
            refine wm_aload_n X 1 dX8_eight_88 rfl ?_
            refine wm_gI X hS cd_8 11 h dX8_eight_89 (Nat.le_of_ble_eq_true rfl) rfl q2035 (fun x37 h => ?_)
            obtain ⟨s38, h⟩ := ck_e h
            refine wm_cV_i (As := [.int x37]) (st := []) X hS cd_8 s38 rfl h (fun _ _ hF => ctX8_letter l hF) mdX8_letter mvX8_letter q2138 dX8_eight_92 rfl rfl c1_0 (Nat.le_of_ble_eq_true rfl) ⟨Nat.le_of_ble_eq_true rfl, Nat.le_of_ble_eq_true rfl⟩ ⟨Nat.le_of_ble_eq_true rfl, Nat.le_of_ble_eq_true rfl⟩ (fun x39 σ40 _ h => ?_)
            refine wm_bipush (v := 49) X dX8_eight_95 (by decide) ?_
            refine wm_icmp_ne X 106 h dX8_eight_97 (by decide) (fun c41 h => ?_) (fun c41 h => ?_)
            · refine wm_sub (ℓ' := [(0, va_rf (some h0)), (1, .int y1), (2, .int v2), (3, .int v3), (4, .int z33)]) [1, 2, 3, 4, 0] rfl ?_
              exact hJ106 _ _ h
            · refine wm_iload_n X 3 dX8_eight_100 rfl ?_
              refine wm_iconst (v := 1) X dX8_eight_101 (by decide) ?_
              refine wm_iload_n X 4 dX8_eight_102 rfl ?_
              refine wm_ishl X dX8_eight_103 ?_
              refine wm_ior X dX8_eight_104 ?_
              refine wm_istore_n (ℓ' := [(2, .int (v2 ||| (1 <<< (v3 &&& 31)))), (4, .int z33), (0, va_rf (some h0)), (1, .int y1), (3, .int v3)]) X dX8_eight_105 (by decide) rfl ?_
              refine wm_sub (ℓ' := [(0, va_rf (some h0)), (1, .int y1), (2, .int (v2 ||| (1 <<< (v3 &&& 31)))), (3, .int v3), (4, .int z33)]) [2, 3, 0, 4, 1] rfl ?_
              exact hJ106 _ _ h
        clear eJ80
        refine wm_if_eq X 79 h dX8_eight_53 (by decide) (fun c49 h => ?_) (fun c49 h => ?_)
        · refine wm_iconst (v := 0) X dX8_eight_79 (by decide) ?_
          refine wm_sub (ℓ' := [(0, va_rf (some h0)), (1, .int y1), (2, .int v2), (3, .int v3)]) [0, 1, 2, 3] rfl ?_
          exact hJ80 _ _ h
        · refine wm_aload_n X 0 dX8_eight_56 rfl ?_
          refine wm_aload_n X 0 dX8_eight_57 rfl ?_
          refine wm_gI X hS cd_8 11 h dX8_eight_58 (Nat.le_of_ble_eq_true rfl) rfl q2035 (fun x43 h => ?_)
          obtain ⟨s44, h⟩ := ck_e h
          refine wm_cV_i (As := [.int x43]) (st := []) X hS cd_8 s44 rfl h (fun _ _ hF => ctX8_letter l hF) mdX8_letter mvX8_letter q2138 dX8_eight_61 rfl rfl c1_0 (Nat.le_of_ble_eq_true rfl) ⟨Nat.le_of_ble_eq_true rfl, Nat.le_of_ble_eq_true rfl⟩ ⟨Nat.le_of_ble_eq_true rfl, Nat.le_of_ble_eq_true rfl⟩ (fun x45 σ46 _ h => ?_)
          refine wm_bipush (v := 49) X dX8_eight_64 (by decide) ?_
          refine wm_icmp_gt X 79 h dX8_eight_66 (by decide) (fun c48 h => ?_) (fun c48 h => ?_)
          · refine wm_iconst (v := 0) X dX8_eight_79 (by decide) ?_
            refine wm_sub (ℓ' := [(0, va_rf (some h0)), (1, .int y1), (2, .int v2), (3, .int v3)]) [0, 1, 2, 3] rfl ?_
            exact hJ80 _ _ h
          · refine wm_iload_n X 3 dX8_eight_69 rfl ?_
            refine wm_bipush (v := 8) X dX8_eight_70 (by decide) ?_
            refine wm_icmp_ge X 79 h dX8_eight_72 (by decide) (fun c47 h => ?_) (fun c47 h => ?_)
            · refine wm_iconst (v := 0) X dX8_eight_79 (by decide) ?_
              refine wm_sub (ℓ' := [(0, va_rf (some h0)), (1, .int y1), (2, .int v2), (3, .int v3)]) [0, 1, 2, 3] rfl ?_
              exact hJ80 _ _ h
            · refine wm_iconst (v := 1) X dX8_eight_75 (by decide) ?_
              refine wm_goto X 80 dX8_eight_76 (by decide) ?_
              refine wm_sub (ℓ' := [(0, va_rf (some h0)), (1, .int y1), (2, .int v2), (3, .int v3)]) [0, 1, 2, 3] rfl ?_
              exact hJ80 _ _ h
set_option maxHeartbeats 4000000 in
theorem ctX8_eight (l : Launch) {h0 : Nat} {σ σf : Mm} {r : Int32} (h : FX8_eight h0 σ = some (r, σf)) : CTi l yX8_eight (ws_ yX8_eight cX8_eight 5 ((some FieldType.int))) 3 61 0 0 [va_rf (some h0)] σ r σf := by
  refine ct_start (n := 0) mdX8_eight (Nat.le_of_ble_eq_true rfl) (c1_r c1_0) (fun p e s m args below meth c D dA sz0 ad0 X hS hr hnm => ?_)
  have X : CX p s m args meth c cX8_eight 5 RX8 := X
  generalize mN σ = N0
  unfold FX8_eight at h
  refine wm_aload_n X 0 dX8_eight_0 rfl ?_
  refine wm_gI X hS cd_8 12 h dX8_eight_1 (Nat.le_of_ble_eq_true rfl) rfl q2036 (fun x21 h => ?_)
  refine wm_iconst (v := (-1)) X dX8_eight_4 (by decide) ?_
  refine wm_icmp_eq X 10 h dX8_eight_5 (by decide) (fun c59 h => ?_) (fun c59 h => ?_)
  · refine wm_aload_n X 0 dX8_eight_10 rfl ?_
    obtain ⟨s22, h⟩ := ck_e h
    refine wm_cV_i (As := []) (st := []) X hS cd_8 s22 rfl h (fun _ _ hF => ctX8_place l hF) mdX8_place mvX8_place q2181 dX8_eight_11 rfl rfl c1_0 (Nat.le_of_ble_eq_true rfl) ⟨Nat.le_of_ble_eq_true rfl, Nat.le_of_ble_eq_true rfl⟩ ⟨Nat.le_of_ble_eq_true rfl, Nat.le_of_ble_eq_true rfl⟩ (fun x23 σ24 _ h => ?_)
    refine wm_istore_n (ℓ' := [(1, .int x23), (0, va_rf (some h0))]) X dX8_eight_14 (by decide) rfl ?_
    refine wm_iconst (v := 0) X dX8_eight_15 (by decide) ?_
    refine wm_istore_n (ℓ' := [(2, .int 0), (1, .int x23), (0, va_rf (some h0))]) X dX8_eight_16 (by decide) rfl ?_
    refine wm_iconst (v := 0) X dX8_eight_17 (by decide) ?_
    refine wm_istore_n (ℓ' := [(3, .int 0), (2, .int 0), (1, .int x23), (0, va_rf (some h0))]) X dX8_eight_18 (by decide) rfl ?_
    refine wm_iconst (v := 1) X dX8_eight_19 (by decide) ?_
    refine wm_istore (ℓ' := [(4, .int 1), (3, .int 0), (2, .int 0), (1, .int x23), (0, va_rf (some h0))]) X dX8_eight_20 (by decide) rfl ?_
    refine wm_sub (ℓ' := [(0, va_rf (some h0)), (1, .int x23), (2, .int 0), (3, .int 0), (4, .int 1)]) [4, 3, 2, 1, 0] rfl ?_
    refine wX8_eight_22 X hS hr hnm _ _ fu _ _ _ _ _ h (fun x52 x53 x54 σ h => ?_)
    · refine wm_iload X 4 dX8_eight_122 rfl ?_
      obtain ⟨J133, eJ133, h⟩ := jn_e h
      have hJ133 : ∀  (σ : Mm), J133  σ = some (r, σf) → WMi p l e s m args below meth c 3 61 0 0 5 D dA sz0 ad0 N0 r σf 0 0 σ [(0, va_rf (some h0)), (1, .int x23), (2, .int x52)] [] 133 := by
        intro  σ h
        rw [eJ133] at h
        refine wm_aload_n X 0 dX8_eight_133 rfl ?_
        refine wm_iload_n X 1 dX8_eight_134 rfl ?_
        obtain ⟨s55, h⟩ := ck_e h
        refine wm_cV_v (As := [.int x23]) (st := []) X hS cd_8 s55 rfl h (fun _ hF => ctX8_wrong l hF) mdX8_wrong mvX8_wrong q2142 dX8_eight_135 rfl rfl c1_0 (Nat.le_of_ble_eq_true rfl) ⟨Nat.le_of_ble_eq_true rfl, Nat.le_of_ble_eq_true rfl⟩ ⟨Nat.le_of_ble_eq_true rfl, Nat.le_of_ble_eq_true rfl⟩ (fun σ56 _ h => ?_)
        refine wm_iload_n X 2 dX8_eight_138 rfl ?_
        exact wm_iret X hr h dX8_eight_139 (Nat.le_of_ble_eq_true rfl) (Nat.le_of_ble_eq_true rfl)
      clear eJ133
      refine wm_if_eq X 133 h dX8_eight_124 (by decide) (fun c58 h => ?_) (fun c58 h => ?_)
      · refine wm_sub (ℓ' := [(0, va_rf (some h0)), (1, .int x23), (2, .int x52)]) [0, 1, 2] rfl ?_
        exact hJ133 _ h
      · refine wm_iload_n X 3 dX8_eight_127 rfl ?_
        refine wm_bipush (v := 8) X dX8_eight_128 (by decide) ?_
        refine wm_icmp_eq X 138 h dX8_eight_130 (by decide) (fun c57 h => ?_) (fun c57 h => ?_)
        · refine wm_iload_n X 2 dX8_eight_138 rfl ?_
          exact wm_iret X hr h dX8_eight_139 (Nat.le_of_ble_eq_true rfl) (Nat.le_of_ble_eq_true rfl)
        · refine wm_sub (ℓ' := [(0, va_rf (some h0)), (1, .int x23), (2, .int x52)]) [0, 1, 2] rfl ?_
          exact hJ133 _ h
  · refine wm_iconst (v := 0) X dX8_eight_8 (by decide) ?_
    exact wm_iret X hr h dX8_eight_9 (Nat.le_of_ble_eq_true rfl) (Nat.le_of_ble_eq_true rfl)
theorem mdX8_has_2 : MD yX8_has_2 3 := by unfold MD; decide +kernel
theorem mvX8_has_2 : MV yX8_has_2 cX8_has_2 4 (none) := ⟨q2231, qs74, q139, q2232⟩
set_option maxHeartbeats 4000000 in
theorem ctX8_has_2 (l : Launch) {h0 : Nat} {x1 : Int32} {x2 : Int32} {x3 : Int32} {σ σf : Mm} (h : FX8_has_2 h0 x1 x2 x3 σ = some σf) : CTv l yX8_has_2 (ws_ yX8_has_2 cX8_has_2 4 (none)) 0 0 0 0 [va_rf (some h0), .int x1, .int x2, .int x3] σ σf := by
  refine ct_start (n := 3) mdX8_has_2 (Nat.le_of_ble_eq_true rfl) (c1_r (c1_i (c1_i (c1_i c1_0)))) (fun p e s m args below meth c D dA sz0 ad0 X hS hr hnm => ?_)
  have X : CX p s m args meth c cX8_has_2 4 RX8 := X
  generalize mN σ = N0
  unfold FX8_has_2 at h
  refine wm_aload_n X 0 dX8_has_2_0 rfl ?_
  refine wm_gR X hS cd_8 1 h dX8_has_2_1 (Nat.le_of_ble_eq_true rfl) rfl q2025 (fun x21 h => ?_)
  refine wm_bipush (v := 12) X dX8_has_2_4 (by decide) ?_
  refine wm_bipush (v := 6) X dX8_has_2_6 (by decide) ?_
  refine wm_iload_n X 1 dX8_has_2_8 rfl ?_
  refine wm_imul X dX8_has_2_9 ?_
  refine wm_iadd X dX8_has_2_10 ?_
  refine wm_iload_n X 2 dX8_has_2_11 rfl ?_
  refine wm_iadd X dX8_has_2_12 ?_
  refine wm_iload_n X 3 dX8_has_2_13 rfl ?_
  refine wm_iastore X hS h dX8_has_2_14 (fun σ22 _ h => ?_)
  exact wm_vret X hr h dX8_has_2_15 (Nat.le_of_ble_eq_true rfl) (Nat.le_of_ble_eq_true rfl)
theorem mdX8_personLine : MD yX8_personLine 1 := by unfold MD; decide +kernel
theorem mvX8_personLine : MV yX8_personLine cX8_personLine 6 (none) := ⟨q2223, qs72, q139, q2224⟩
set_option maxHeartbeats 4000000 in
theorem wX8_personLine_95 {p : Program} {l : Launch} {e : Env} {s : State} {m : MethodId} {args : Array Value} {below : List Frame} {meth : Method} {c : Code} {D : va_G} {dA : Nat → ClassId} {sz0 : Nat} {ad0 : Nat → Nat} {N0 : Nat} {σf : Mm} (X : CX p s m args meth c cX8_personLine 6 RX8) (hS : ST D dA sz0 ad0 s) (hr : meth.sig.returnType = none) (hnm : meth.name = yX8_personLine.name) (h0 : Nat) (y4 : Int32) : ∀ (n : Nat) (v5 : Int32) (σ : Mm) (kx162 : Mm → Option (Mm)), FX8_personLine_95 h0 y4 n v5 σ kx162 = some σf → (∀  (σ : Mm), kx162 σ = some σf → WMv p l e s m args below meth c 4 85 0 0 6 D dA sz0 ad0 N0 σf 0 0 σ [(0, va_rf (some h0))] [] 162) → WMv p l e s m args below meth c 4 85 0 0 6 D dA sz0 ad0 N0 σf 0 0 σ [(0, va_rf (some h0)), (4, .int y4), (5, .int v5)] [] 95 := by
  intro n
  induction n with
  | zero =>
    intro v5 σ kx162 h hkx162
    cases h
  | succ n ih =>
    intro v5 σ kx162 h hkx162
    rw [FX8_personLine_95] at h
    refine wm_iload X 2 dX8_personLine_95 rfl ?_
    refine wm_bipush (v := 10) X dX8_personLine_97 (by decide) ?_
    refine wm_icmp_ge X 162 h dX8_personLine_99 (by decide) (fun c50 h => ?_) (fun c50 h => ?_)
    · refine wm_sub (ℓ' := [(0, va_rf (some h0))]) [0] rfl ?_
      exact hkx162 _ h
    · refine wm_aload_n X 0 dX8_personLine_102 rfl ?_
      refine wm_gR X hS cd_8 1 h dX8_personLine_103 (Nat.le_of_ble_eq_true rfl) rfl q2025 (fun x44 h => ?_)
      refine wm_bipush (v := 72) X dX8_personLine_106 (by decide) ?_
      refine wm_bipush (v := 10) X dX8_personLine_108 (by decide) ?_
      refine wm_iload X 1 dX8_personLine_110 rfl ?_
      refine wm_imul X dX8_personLine_112 ?_
      refine wm_iadd X dX8_personLine_113 ?_
      refine wm_iload X 2 dX8_personLine_114 rfl ?_
      refine wm_iadd X dX8_personLine_116 ?_
      refine wm_iload X 2 dX8_personLine_117 rfl ?_
      refine wm_iastore X hS h dX8_personLine_119 (fun σ45 _ h => ?_)
      refine wm_aload_n X 0 dX8_personLine_120 rfl ?_
      refine wm_gR X hS cd_8 1 h dX8_personLine_121 (Nat.le_of_ble_eq_true rfl) rfl q2025 (fun x46 h => ?_)
      refine wm_sipush (v := 172) X dX8_personLine_124 (by decide) ?_
      refine wm_bipush (v := 10) X dX8_personLine_127 (by decide) ?_
      refine wm_iload X 1 dX8_personLine_129 rfl ?_
      refine wm_imul X dX8_personLine_131 ?_
      refine wm_iadd X dX8_personLine_132 ?_
      refine wm_iload X 2 dX8_personLine_133 rfl ?_
      refine wm_iadd X dX8_personLine_135 ?_
      refine wm_iconst (v := 0) X dX8_personLine_136 (by decide) ?_
      refine wm_iastore X hS h dX8_personLine_137 (fun σ47 _ h => ?_)
      refine wm_aload_n X 0 dX8_personLine_138 rfl ?_
      refine wm_gR X hS cd_8 1 h dX8_personLine_139 (Nat.le_of_ble_eq_true rfl) rfl q2025 (fun x48 h => ?_)
      refine wm_sipush (v := 172) X dX8_personLine_142 (by decide) ?_
      refine wm_bipush (v := 10) X dX8_personLine_145 (by decide) ?_
      refine wm_iload X 2 dX8_personLine_147 rfl ?_
      refine wm_imul X dX8_personLine_149 ?_
      refine wm_iadd X dX8_personLine_150 ?_
      refine wm_iload X 1 dX8_personLine_151 rfl ?_
      refine wm_iadd X dX8_personLine_153 ?_
      refine wm_iconst (v := 0) X dX8_personLine_154 (by decide) ?_
      refine wm_iastore X hS h dX8_personLine_155 (fun σ49 _ h => ?_)
      refine wm_iinc (v := (v5 + 1)) (ℓ' := [(5, .int (v5 + 1)), (0, va_rf (some h0)), (4, .int y4)]) X 2 dX8_personLine_156 rfl rfl (by decide) rfl ?_
      refine wm_goto X 95 dX8_personLine_159 (by decide) ?_
      refine wm_sub (ℓ' := [(0, va_rf (some h0)), (4, .int y4), (5, .int (v5 + 1))]) [1, 2, 0] rfl ?_
      exact ih _ _ _ h hkx162
set_option maxHeartbeats 4000000 in
theorem ctX8_personLine (l : Launch) {h0 : Nat} {x1 : Int32} {σ σf : Mm} (h : FX8_personLine h0 x1 σ = some σf) : CTv l yX8_personLine (ws_ yX8_personLine cX8_personLine 6 (none)) 4 85 0 0 [va_rf (some h0), .int x1] σ σf := by
  refine ct_start (n := 1) mdX8_personLine (Nat.le_of_ble_eq_true rfl) (c1_r (c1_i c1_0)) (fun p e s m args below meth c D dA sz0 ad0 X hS hr hnm => ?_)
  have X : CX p s m args meth c cX8_personLine 6 RX8 := X
  generalize mN σ = N0
  unfold FX8_personLine at h
  refine wm_aload_n X 0 dX8_personLine_0 rfl ?_
  refine wm_gR X hS cd_8 1 h dX8_personLine_1 (Nat.le_of_ble_eq_true rfl) rfl q2025 (fun x21 h => ?_)
  refine wm_iconst (v := 3) X dX8_personLine_4 (by decide) ?_
  refine wm_iaload X hS h dX8_personLine_5 (fun x22 h => ?_)
  refine wm_bipush (v := 10) X dX8_personLine_6 (by decide) ?_
  obtain ⟨J16, eJ16, h⟩ := jn_e h
  have hJ16 : ∀  (σ : Mm), J16  σ = some σf → WMv p l e s m args below meth c 4 85 0 0 6 D dA sz0 ad0 N0 σf 0 0 σ [(0, va_rf (some h0))] [] 16 := by
    intro  σ h
    rw [eJ16] at h
    refine wm_aload_n X 0 dX8_personLine_16 rfl ?_
    obtain ⟨s23, h⟩ := ck_e h
    refine wm_cV_i (As := []) (st := []) X hS cd_8 s23 rfl h (fun _ _ hF => ctX8_eight l hF) mdX8_eight mvX8_eight q2225 dX8_personLine_17 rfl rfl c1_0 (Nat.le_of_ble_eq_true rfl) ⟨Nat.le_of_ble_eq_true rfl, Nat.le_of_ble_eq_true rfl⟩ ⟨Nat.le_of_ble_eq_true rfl, Nat.le_of_ble_eq_true rfl⟩ (fun x24 σ25 _ h => ?_)
    refine wm_istore_n (ℓ' := [(2, .int x24), (0, va_rf (some h0))]) X dX8_personLine_20 (by decide) rfl ?_
    refine wm_aload_n X 1 dX8_personLine_21 rfl ?_
    obtain ⟨s26, h⟩ := ck_e h
    refine wm_cV_i (As := []) (st := []) X hS cd_8 s26 rfl h (fun _ _ hF => ctX8_eight l hF) mdX8_eight mvX8_eight q2225 dX8_personLine_22 rfl rfl c1_0 (Nat.le_of_ble_eq_true rfl) ⟨Nat.le_of_ble_eq_true rfl, Nat.le_of_ble_eq_true rfl⟩ ⟨Nat.le_of_ble_eq_true rfl, Nat.le_of_ble_eq_true rfl⟩ (fun x27 σ28 _ h => ?_)
    refine wm_istore_n (ℓ' := [(3, .int x27), (2, .int x24), (0, va_rf (some h0))]) X dX8_personLine_25 (by decide) rfl ?_
    refine wm_aload_n X 2 dX8_personLine_26 rfl ?_
    refine wm_gI X hS cd_8 12 h dX8_personLine_27 (Nat.le_of_ble_eq_true rfl) rfl q2036 (fun x29 h => ?_)
    refine wm_iconst (v := (-1)) X dX8_personLine_30 (by decide) ?_
    refine wm_icmp_eq X 35 h dX8_personLine_31 (by decide) (fun c54 h => ?_) (fun c54 h => ?_)
    · refine wm_aload_n X 2 dX8_personLine_35 rfl ?_
      refine wm_gR X hS cd_8 1 h dX8_personLine_36 (Nat.le_of_ble_eq_true rfl) rfl q2025 (fun x30 h => ?_)
      refine wm_iconst (v := 3) X dX8_personLine_39 (by decide) ?_
      refine wm_iaload X hS h dX8_personLine_40 (fun x31 h => ?_)
      refine wm_istore (ℓ' := [(4, .int x31), (3, .int x27), (2, .int x24), (0, va_rf (some h0))]) X dX8_personLine_41 (by decide) rfl ?_
      refine wm_aload_n X 3 dX8_personLine_43 rfl ?_
      refine wm_iload X 0 dX8_personLine_44 rfl ?_
      refine wm_iconst (v := 0) X dX8_personLine_46 (by decide) ?_
      refine wm_iload_n X 2 dX8_personLine_47 rfl ?_
      obtain ⟨s32, h⟩ := ck_e h
      refine wm_cV_v (As := [.int x31, .int 0, .int x24]) (st := []) X hS cd_8 s32 rfl h (fun _ hF => ctX8_has_2 l hF) mdX8_has_2 mvX8_has_2 q2229 dX8_personLine_48 rfl rfl c1_0 (Nat.le_of_ble_eq_true rfl) ⟨Nat.le_of_ble_eq_true rfl, Nat.le_of_ble_eq_true rfl⟩ ⟨Nat.le_of_ble_eq_true rfl, Nat.le_of_ble_eq_true rfl⟩ (fun σ33 _ h => ?_)
      refine wm_aload_n X 3 dX8_personLine_51 rfl ?_
      refine wm_iload X 0 dX8_personLine_52 rfl ?_
      refine wm_iconst (v := 1) X dX8_personLine_54 (by decide) ?_
      refine wm_iload_n X 1 dX8_personLine_55 rfl ?_
      obtain ⟨s34, h⟩ := ck_e h
      refine wm_cV_v (As := [.int x31, .int 1, .int x27]) (st := []) X hS cd_8 s34 rfl h (fun _ hF => ctX8_has_2 l hF) mdX8_has_2 mvX8_has_2 q2229 dX8_personLine_56 rfl rfl c1_0 (Nat.le_of_ble_eq_true rfl) ⟨Nat.le_of_ble_eq_true rfl, Nat.le_of_ble_eq_true rfl⟩ ⟨Nat.le_of_ble_eq_true rfl, Nat.le_of_ble_eq_true rfl⟩ (fun σ35 _ h => ?_)
      refine wm_aload_n X 3 dX8_personLine_59 rfl ?_
      refine wm_iload X 0 dX8_personLine_60 rfl ?_
      refine wm_iconst (v := 2) X dX8_personLine_62 (by decide) ?_
      refine wm_iload X 0 dX8_personLine_63 rfl ?_
      obtain ⟨s36, h⟩ := ck_e h
      refine wm_cV_v (As := [.int x31, .int 2, .int x31]) (st := []) X hS cd_8 s36 rfl h (fun _ hF => ctX8_has_2 l hF) mdX8_has_2 mvX8_has_2 q2229 dX8_personLine_65 rfl rfl c1_0 (Nat.le_of_ble_eq_true rfl) ⟨Nat.le_of_ble_eq_true rfl, Nat.le_of_ble_eq_true rfl⟩ ⟨Nat.le_of_ble_eq_true rfl, Nat.le_of_ble_eq_true rfl⟩ (fun σ37 _ h => ?_)
      refine wm_aload_n X 3 dX8_personLine_68 rfl ?_
      refine wm_iload X 0 dX8_personLine_69 rfl ?_
      refine wm_iconst (v := 3) X dX8_personLine_71 (by decide) ?_
      refine wm_iconst (v := (-1)) X dX8_personLine_72 (by decide) ?_
      obtain ⟨s38, h⟩ := ck_e h
      refine wm_cV_v (As := [.int x31, .int 3, .int (-1)]) (st := []) X hS cd_8 s38 rfl h (fun _ hF => ctX8_has_2 l hF) mdX8_has_2 mvX8_has_2 q2229 dX8_personLine_73 rfl rfl c1_0 (Nat.le_of_ble_eq_true rfl) ⟨Nat.le_of_ble_eq_true rfl, Nat.le_of_ble_eq_true rfl⟩ ⟨Nat.le_of_ble_eq_true rfl, Nat.le_of_ble_eq_true rfl⟩ (fun σ39 _ h => ?_)
      refine wm_aload_n X 3 dX8_personLine_76 rfl ?_
      refine wm_iload X 0 dX8_personLine_77 rfl ?_
      refine wm_iconst (v := 4) X dX8_personLine_79 (by decide) ?_
      refine wm_iconst (v := (-1)) X dX8_personLine_80 (by decide) ?_
      obtain ⟨s40, h⟩ := ck_e h
      refine wm_cV_v (As := [.int x31, .int 4, .int (-1)]) (st := []) X hS cd_8 s40 rfl h (fun _ hF => ctX8_has_2 l hF) mdX8_has_2 mvX8_has_2 q2229 dX8_personLine_81 rfl rfl c1_0 (Nat.le_of_ble_eq_true rfl) ⟨Nat.le_of_ble_eq_true rfl, Nat.le_of_ble_eq_true rfl⟩ ⟨Nat.le_of_ble_eq_true rfl, Nat.le_of_ble_eq_true rfl⟩ (fun σ41 _ h => ?_)
      refine wm_aload_n X 3 dX8_personLine_84 rfl ?_
      refine wm_iload X 0 dX8_personLine_85 rfl ?_
      refine wm_iconst (v := 5) X dX8_personLine_87 (by decide) ?_
      refine wm_iconst (v := 0) X dX8_personLine_88 (by decide) ?_
      obtain ⟨s42, h⟩ := ck_e h
      refine wm_cV_v (As := [.int x31, .int 5, .int 0]) (st := []) X hS cd_8 s42 rfl h (fun _ hF => ctX8_has_2 l hF) mdX8_has_2 mvX8_has_2 q2229 dX8_personLine_89 rfl rfl c1_0 (Nat.le_of_ble_eq_true rfl) ⟨Nat.le_of_ble_eq_true rfl, Nat.le_of_ble_eq_true rfl⟩ ⟨Nat.le_of_ble_eq_true rfl, Nat.le_of_ble_eq_true rfl⟩ (fun σ43 _ h => ?_)
      refine wm_iconst (v := 0) X dX8_personLine_92 (by decide) ?_
      refine wm_istore (ℓ' := [(5, .int 0), (4, .int x31), (3, .int x27), (2, .int x24), (0, va_rf (some h0))]) X dX8_personLine_93 (by decide) rfl ?_
      refine wm_sub (ℓ' := [(0, va_rf (some h0)), (4, .int x31), (5, .int 0)]) [4, 1, 0] rfl ?_
      refine wX8_personLine_95 X hS hr hnm _ _ fu _ _ _ h (fun σ h => ?_)
      · refine wm_aload_n X 0 dX8_personLine_162 rfl ?_
        refine wm_gR X hS cd_8 1 h dX8_personLine_163 (Nat.le_of_ble_eq_true rfl) rfl q2025 (fun x51 h => ?_)
        refine wm_iconst (v := 3) X dX8_personLine_166 (by decide) ?_
        refine wm_dup2 X dX8_personLine_167 rfl (catR _) ?_
        refine wm_iaload X hS h dX8_personLine_168 (fun x52 h => ?_)
        refine wm_iconst (v := 1) X dX8_personLine_169 (by decide) ?_
        refine wm_iadd X dX8_personLine_170 ?_
        refine wm_iastore X hS h dX8_personLine_171 (fun σ53 _ h => ?_)
        exact wm_vret X hr h dX8_personLine_172 (Nat.le_of_ble_eq_true rfl) (Nat.le_of_ble_eq_true rfl)
    · exact wm_vret X hr h dX8_personLine_34 (Nat.le_of_ble_eq_true rfl) (Nat.le_of_ble_eq_true rfl)
  clear eJ16
  refine wm_icmp_ne X 16 h dX8_personLine_8 (by decide) (fun c57 h => ?_) (fun c57 h => ?_)
  · refine wm_sub (ℓ' := [(0, va_rf (some h0))]) [0] rfl ?_
    exact hJ16 _ h
  · refine wm_aload_n X 0 dX8_personLine_11 rfl ?_
    refine wm_iload_n X 1 dX8_personLine_12 rfl ?_
    obtain ⟨s55, h⟩ := ck_e h
    refine wm_cV_v (As := [.int x1]) (st := []) X hS cd_8 s55 rfl h (fun _ hF => ctX8_wrong l hF) mdX8_wrong mvX8_wrong q2142 dX8_personLine_13 rfl rfl c1_0 (Nat.le_of_ble_eq_true rfl) ⟨Nat.le_of_ble_eq_true rfl, Nat.le_of_ble_eq_true rfl⟩ ⟨Nat.le_of_ble_eq_true rfl, Nat.le_of_ble_eq_true rfl⟩ (fun σ56 _ h => ?_)
    refine wm_sub (ℓ' := [(0, va_rf (some h0))]) [0] rfl ?_
    exact hJ16 _ h
theorem mdX8_isOf : MD yX8_isOf 2 := by unfold MD; decide +kernel
theorem msX8_isOf : MS yX8_isOf cX8_isOf 2 ((some FieldType.boolean)) := ⟨q2239, q139, q2240⟩
set_option maxHeartbeats 4000000 in
theorem ctX8_isOf (l : Launch) {x0 : Int32} {x1 : Int32} {σ σf : Mm} {r : Int32} (h : FX8_isOf x0 x1 σ = some (r, σf)) : CTi l yX8_isOf (ws_ yX8_isOf cX8_isOf 2 ((some FieldType.boolean))) 0 0 0 0 [.int x0, .int x1] σ r σf := by
  refine ct_start (n := 2) mdX8_isOf (Nat.le_of_ble_eq_true rfl) (c1_i (c1_i c1_0)) (fun p e s m args below meth c D dA sz0 ad0 X hS hr hnm => ?_)
  have X : CX p s m args meth c cX8_isOf 2 RX8 := X
  generalize mN σ = N0
  unfold FX8_isOf at h
  refine wm_iload_n X 0 dX8_isOf_0 rfl ?_
  refine wm_iload_n X 1 dX8_isOf_1 rfl ?_
  refine wm_ishr X dX8_isOf_2 ?_
  refine wm_iconst (v := 1) X dX8_isOf_3 (by decide) ?_
  refine wm_iand X dX8_isOf_4 ?_
  refine wm_iconst (v := 1) X dX8_isOf_5 (by decide) ?_
  refine wm_icmp_ne X 13 h dX8_isOf_6 (by decide) (fun c21 h => ?_) (fun c21 h => ?_)
  · refine wm_iconst (v := 0) X dX8_isOf_13 (by decide) ?_
    exact wm_zret X hr h dX8_isOf_14 (Nat.le_of_ble_eq_true rfl) (Nat.le_of_ble_eq_true rfl)
  · refine wm_iconst (v := 1) X dX8_isOf_9 (by decide) ?_
    refine wm_goto X 14 dX8_isOf_10 (by decide) ?_
    exact wm_zret X hr h dX8_isOf_14 (Nat.le_of_ble_eq_true rfl) (Nat.le_of_ble_eq_true rfl)
theorem mdX8_isFigure : MD yX8_isFigure 0 := by unfold MD; decide +kernel
theorem mvX8_isFigure : MV yX8_isFigure cX8_isFigure 1 ((some FieldType.boolean)) := ⟨q2243, qs76, q139, q2244⟩
set_option maxHeartbeats 4000000 in
theorem ctX8_isFigure (l : Launch) {h0 : Nat} {σ σf : Mm} {r : Int32} (h : FX8_isFigure h0 σ = some (r, σf)) : CTi l yX8_isFigure (ws_ yX8_isFigure cX8_isFigure 1 ((some FieldType.boolean))) 2 41 0 0 [va_rf (some h0)] σ r σf := by
  refine ct_start (n := 0) mdX8_isFigure (Nat.le_of_ble_eq_true rfl) (c1_r c1_0) (fun p e s m args below meth c D dA sz0 ad0 X hS hr hnm => ?_)
  have X : CX p s m args meth c cX8_isFigure 1 RX8 := X
  generalize mN σ = N0
  unfold FX8_isFigure at h
  refine wm_aload_n X 0 dX8_isFigure_0 rfl ?_
  obtain ⟨s21, h⟩ := ck_e h
  refine wm_cV_v (As := []) (st := []) X hS cd_8 s21 rfl h (fun _ hF => ctX8_skip l hF) mdX8_skip mvX8_skip q2134 dX8_isFigure_1 rfl rfl c1_0 (Nat.le_of_ble_eq_true rfl) ⟨Nat.le_of_ble_eq_true rfl, Nat.le_of_ble_eq_true rfl⟩ ⟨Nat.le_of_ble_eq_true rfl, Nat.le_of_ble_eq_true rfl⟩ (fun σ22 _ h => ?_)
  refine wm_aload_n X 0 dX8_isFigure_4 rfl ?_
  refine wm_gI X hS cd_8 11 h dX8_isFigure_5 (Nat.le_of_ble_eq_true rfl) rfl q2035 (fun x23 h => ?_)
  refine wm_aload_n X 0 dX8_isFigure_8 rfl ?_
  refine wm_gI X hS cd_8 10 h dX8_isFigure_9 (Nat.le_of_ble_eq_true rfl) rfl q2034 (fun x24 h => ?_)
  refine wm_icmp_ge X 37 h dX8_isFigure_12 (by decide) (fun c32 h => ?_) (fun c32 h => ?_)
  · refine wm_iconst (v := 0) X dX8_isFigure_37 (by decide) ?_
    exact wm_zret X hr h dX8_isFigure_38 (Nat.le_of_ble_eq_true rfl) (Nat.le_of_ble_eq_true rfl)
  · refine wm_aload_n X 0 dX8_isFigure_15 rfl ?_
    refine wm_aload_n X 0 dX8_isFigure_16 rfl ?_
    refine wm_gI X hS cd_8 11 h dX8_isFigure_17 (Nat.le_of_ble_eq_true rfl) rfl q2035 (fun x25 h => ?_)
    obtain ⟨s26, h⟩ := ck_e h
    refine wm_cV_i (As := [.int x25]) (st := []) X hS cd_8 s26 rfl h (fun _ _ hF => ctX8_letter l hF) mdX8_letter mvX8_letter q2138 dX8_isFigure_20 rfl rfl c1_0 (Nat.le_of_ble_eq_true rfl) ⟨Nat.le_of_ble_eq_true rfl, Nat.le_of_ble_eq_true rfl⟩ ⟨Nat.le_of_ble_eq_true rfl, Nat.le_of_ble_eq_true rfl⟩ (fun x27 σ28 _ h => ?_)
    refine wm_bipush (v := 48) X dX8_isFigure_23 (by decide) ?_
    refine wm_bipush (v := 57) X dX8_isFigure_25 (by decide) ?_
    refine wm_cS_i (As := [.int x27, .int 48, .int 57]) (st := []) X hS h (fun _ _ hF => ctX8_isIn l hF) mdX8_isIn msX8_isIn q2115 dX8_isFigure_27 rfl rfl c1_0 (Nat.le_of_ble_eq_true rfl) ⟨Nat.le_of_ble_eq_true rfl, Nat.le_of_ble_eq_true rfl⟩ ⟨Nat.le_of_ble_eq_true rfl, Nat.le_of_ble_eq_true rfl⟩ (fun x29 σ30 _ h => ?_)
    refine wm_if_eq X 37 h dX8_isFigure_30 (by decide) (fun c31 h => ?_) (fun c31 h => ?_)
    · refine wm_iconst (v := 0) X dX8_isFigure_37 (by decide) ?_
      exact wm_zret X hr h dX8_isFigure_38 (Nat.le_of_ble_eq_true rfl) (Nat.le_of_ble_eq_true rfl)
    · refine wm_iconst (v := 1) X dX8_isFigure_33 (by decide) ?_
      refine wm_goto X 38 dX8_isFigure_34 (by decide) ?_
      exact wm_zret X hr h dX8_isFigure_38 (Nat.le_of_ble_eq_true rfl) (Nat.le_of_ble_eq_true rfl)
theorem mdX8_wishLine : MD yX8_wishLine 0 := by unfold MD; decide +kernel
theorem mvX8_wishLine : MV yX8_wishLine cX8_wishLine 8 (none) := ⟨q2236, qs75, q139, q2237⟩
set_option maxHeartbeats 4000000 in
theorem wX8_wishLine_42 {p : Program} {l : Launch} {e : Env} {s : State} {m : MethodId} {args : Array Value} {below : List Frame} {meth : Method} {c : Code} {D : va_G} {dA : Nat → ClassId} {sz0 : Nat} {ad0 : Nat → Nat} {N0 : Nat} {σf : Mm} (X : CX p s m args meth c cX8_wishLine 8 RX8) (hS : ST D dA sz0 ad0 s) (hr : meth.sig.returnType = none) (hnm : meth.name = yX8_wishLine.name) (h0 : Nat) (y5 : Int32) : ∀ (n : Nat) (v2 : Int32) (v3 : Int32) (v4 : Int32) (σ : Mm) (kx130 : Int32 → Int32 → Mm → Option (Mm)) (kx99 : Mm → Option (Mm)), FX8_wishLine_42 h0 y5 n v2 v3 v4 σ kx130 kx99 = some σf → (∀ (w2 : Int32) (w3 : Int32) (σ : Mm), kx130 w2 w3 σ = some σf → WMv p l e s m args below meth c 4 85 0 0 8 D dA sz0 ad0 N0 σf 0 0 σ [(0, va_rf (some h0)), (2, .int w2), (3, .int w3), (5, .int y5)] [] 130) → (∀  (σ : Mm), kx99 σ = some σf → WMv p l e s m args below meth c 4 85 0 0 8 D dA sz0 ad0 N0 σf 0 0 σ [] [] 99) → WMv p l e s m args below meth c 4 85 0 0 8 D dA sz0 ad0 N0 σf 0 0 σ [(0, va_rf (some h0)), (2, .int v2), (3, .int v3), (4, .int v4), (5, .int y5)] [] 42 := by
  intro n
  induction n with
  | zero =>
    intro v2 v3 v4 σ kx130 kx99 h hkx130 hkx99
    cases h
  | succ n ih =>
    intro v2 v3 v4 σ kx130 kx99 h hkx130 hkx99
    rw [FX8_wishLine_42] at h
    refine wm_iload X 3 dX8_wishLine_42 rfl ?_
    refine wm_if_eq X 130 h dX8_wishLine_44 (by decide) (fun c50 h => ?_) (fun c50 h => ?_)
    · refine wm_sub (ℓ' := [(0, va_rf (some h0)), (2, .int v2), (3, .int v3), (5, .int y5)]) [0, 1, 2, 4] rfl ?_
      exact hkx130 _ _ _ h
    · refine wm_aload_n X 0 dX8_wishLine_47 rfl ?_
      obtain ⟨s28, h⟩ := ck_e h
      refine wm_cV_i (As := []) (st := []) X hS cd_8 s28 rfl h (fun _ _ hF => ctX8_place l hF) mdX8_place mvX8_place q2181 dX8_wishLine_48 rfl rfl c1_0 (Nat.le_of_ble_eq_true rfl) ⟨Nat.le_of_ble_eq_true rfl, Nat.le_of_ble_eq_true rfl⟩ ⟨Nat.le_of_ble_eq_true rfl, Nat.le_of_ble_eq_true rfl⟩ (fun x29 σ30 _ h => ?_)
      refine wm_istore (ℓ' := [(6, .int x29), (0, va_rf (some h0)), (2, .int v2), (3, .int v3), (4, .int v4), (5, .int y5)]) X dX8_wishLine_51 (by decide) rfl ?_
      refine wm_aload_n X 1 dX8_wishLine_53 rfl ?_
      refine wm_iconst (v := 0) X dX8_wishLine_54 (by decide) ?_
      refine wm_aload_n X 1 dX8_wishLine_55 rfl ?_
      refine wm_gR X hS cd_8 1 h dX8_wishLine_56 (Nat.le_of_ble_eq_true rfl) rfl q2025 (fun x31 h => ?_)
      refine wm_iconst (v := 3) X dX8_wishLine_59 (by decide) ?_
      refine wm_iaload X hS h dX8_wishLine_60 (fun x32 h => ?_)
      refine wm_iconst (v := 1) X dX8_wishLine_61 (by decide) ?_
      refine wm_isub X dX8_wishLine_62 ?_
      obtain ⟨s33, h⟩ := ck_e h
      refine wm_cV_i (As := [.int 0, .int (x32 - 1)]) (st := []) X hS cd_8 s33 rfl h (fun _ _ hF => ctX8_figures l hF) mdX8_figures mvX8_figures q2204 dX8_wishLine_63 rfl rfl c1_0 (Nat.le_of_ble_eq_true rfl) ⟨Nat.le_of_ble_eq_true rfl, Nat.le_of_ble_eq_true rfl⟩ ⟨Nat.le_of_ble_eq_true rfl, Nat.le_of_ble_eq_true rfl⟩ (fun x34 σ35 _ h => ?_)
      refine wm_istore (ℓ' := [(7, .int x34), (6, .int x29), (0, va_rf (some h0)), (2, .int v2), (3, .int v3), (4, .int v4), (5, .int y5)]) X dX8_wishLine_66 (by decide) rfl ?_
      refine wm_aload_n X 2 dX8_wishLine_68 rfl ?_
      refine wm_gI X hS cd_8 12 h dX8_wishLine_69 (Nat.le_of_ble_eq_true rfl) rfl q2036 (fun x36 h => ?_)
      refine wm_iconst (v := (-1)) X dX8_wishLine_72 (by decide) ?_
      obtain ⟨J91, eJ91, h⟩ := jn_e h
      have hJ91 : ∀  (σ : Mm), J91  σ = some σf → WMv p l e s m args below meth c 4 85 0 0 8 D dA sz0 ad0 N0 σf 0 0 σ [(0, va_rf (some h0)), (2, .int v2), (3, .int v3), (5, .int y5), (7, .int x34)] [] 91 := by
        intro  σ h
        rw [eJ91] at h
        refine wm_aload_n X 0 dX8_wishLine_91 rfl ?_
        refine wm_gI X hS cd_8 12 h dX8_wishLine_92 (Nat.le_of_ble_eq_true rfl) rfl q2036 (fun x37 h => ?_)
        refine wm_iconst (v := (-1)) X dX8_wishLine_95 (by decide) ?_
        refine wm_icmp_eq X 100 h dX8_wishLine_96 (by decide) (fun c43 h => ?_) (fun c43 h => ?_)
        · refine wm_iload_n X 1 dX8_wishLine_100 rfl ?_
          refine wm_iconst (v := 1) X dX8_wishLine_101 (by decide) ?_
          refine wm_iload X 4 dX8_wishLine_102 rfl ?_
          refine wm_ishl X dX8_wishLine_104 ?_
          refine wm_ior X dX8_wishLine_105 ?_
          refine wm_istore_n (ℓ' := [(2, .int (v2 ||| (1 <<< (x34 &&& 31)))), (0, va_rf (some h0)), (3, .int v3), (5, .int y5), (7, .int x34)]) X dX8_wishLine_106 (by decide) rfl ?_
          refine wm_aload_n X 1 dX8_wishLine_107 rfl ?_
          refine wm_gR X hS cd_8 1 h dX8_wishLine_108 (Nat.le_of_ble_eq_true rfl) rfl q2025 (fun x38 h => ?_)
          refine wm_iload X 3 dX8_wishLine_111 rfl ?_
          refine wm_iload_n X 2 dX8_wishLine_113 rfl ?_
          refine wm_iadd X dX8_wishLine_114 ?_
          refine wm_iload X 4 dX8_wishLine_115 rfl ?_
          refine wm_iastore X hS h dX8_wishLine_117 (fun σ39 _ h => ?_)
          refine wm_iinc (v := (v3 + 1)) (ℓ' := [(3, .int (v3 + 1)), (2, .int (v2 ||| (1 <<< (x34 &&& 31)))), (0, va_rf (some h0)), (5, .int y5), (7, .int x34)]) X 2 dX8_wishLine_118 rfl rfl (by decide) rfl ?_
          refine wm_aload_n X 2 dX8_wishLine_121 rfl ?_
          obtain ⟨s40, h⟩ := ck_e h
          refine wm_cV_i (As := []) (st := []) X hS cd_8 s40 rfl h (fun _ _ hF => ctX8_isFigure l hF) mdX8_isFigure mvX8_isFigure q2241 dX8_wishLine_122 rfl rfl c1_0 (Nat.le_of_ble_eq_true rfl) ⟨Nat.le_of_ble_eq_true rfl, Nat.le_of_ble_eq_true rfl⟩ ⟨Nat.le_of_ble_eq_true rfl, Nat.le_of_ble_eq_true rfl⟩ (fun x41 σ42 _ h => ?_)
          refine wm_istore (ℓ' := [(4, .int x41), (3, .int (v3 + 1)), (2, .int (v2 ||| (1 <<< (x34 &&& 31)))), (0, va_rf (some h0)), (5, .int y5), (7, .int x34)]) X dX8_wishLine_125 (by decide) rfl ?_
          refine wm_goto X 42 dX8_wishLine_127 (by decide) ?_
          refine wm_sub (ℓ' := [(0, va_rf (some h0)), (2, .int (v2 ||| (1 <<< (x34 &&& 31)))), (3, .int (v3 + 1)), (4, .int x41), (5, .int y5)]) [3, 2, 1, 0, 4] rfl ?_
          exact ih _ _ _ _ _ _ h hkx130 hkx99
        · refine wm_sub (ℓ' := []) [] rfl ?_
          exact hkx99 _ h
      clear eJ91
      refine wm_icmp_ne X 91 h dX8_wishLine_73 (by decide) (fun c49 h => ?_) (fun c49 h => ?_)
      · refine wm_sub (ℓ' := [(0, va_rf (some h0)), (2, .int v2), (3, .int v3), (5, .int y5), (7, .int x34)]) [2, 3, 4, 6, 0] rfl ?_
        exact hJ91 _ h
      · refine wm_iload_n X 3 dX8_wishLine_76 rfl ?_
        refine wm_iload X 0 dX8_wishLine_77 rfl ?_
        refine wm_cS_i (As := [.int v2, .int x34]) (st := []) X hS h (fun _ _ hF => ctX8_isOf l hF) mdX8_isOf msX8_isOf q2238 dX8_wishLine_79 rfl rfl c1_0 (Nat.le_of_ble_eq_true rfl) ⟨Nat.le_of_ble_eq_true rfl, Nat.le_of_ble_eq_true rfl⟩ ⟨Nat.le_of_ble_eq_true rfl, Nat.le_of_ble_eq_true rfl⟩ (fun x44 σ45 _ h => ?_)
        refine wm_if_eq X 91 h dX8_wishLine_82 (by decide) (fun c48 h => ?_) (fun c48 h => ?_)
        · refine wm_sub (ℓ' := [(0, va_rf (some h0)), (2, .int v2), (3, .int v3), (5, .int y5), (7, .int x34)]) [2, 3, 4, 6, 0] rfl ?_
          exact hJ91 _ h
        · refine wm_aload_n X 2 dX8_wishLine_85 rfl ?_
          refine wm_iload X 1 dX8_wishLine_86 rfl ?_
          obtain ⟨s46, h⟩ := ck_e h
          refine wm_cV_v (As := [.int x29]) (st := []) X hS cd_8 s46 rfl h (fun _ hF => ctX8_wrong l hF) mdX8_wrong mvX8_wrong q2142 dX8_wishLine_88 rfl rfl c1_0 (Nat.le_of_ble_eq_true rfl) ⟨Nat.le_of_ble_eq_true rfl, Nat.le_of_ble_eq_true rfl⟩ ⟨Nat.le_of_ble_eq_true rfl, Nat.le_of_ble_eq_true rfl⟩ (fun σ47 _ h => ?_)
          refine wm_sub (ℓ' := [(0, va_rf (some h0)), (2, .int v2), (3, .int v3), (5, .int y5), (7, .int x34)]) [2, 3, 4, 6, 0] rfl ?_
          exact hJ91 _ h
set_option maxHeartbeats 4000000 in
theorem wX8_wishLine_142 {p : Program} {l : Launch} {e : Env} {s : State} {m : MethodId} {args : Array Value} {below : List Frame} {meth : Method} {c : Code} {D : va_G} {dA : Nat → ClassId} {sz0 : Nat} {ad0 : Nat → Nat} {N0 : Nat} {σf : Mm} (X : CX p s m args meth c cX8_wishLine 8 RX8) (hS : ST D dA sz0 ad0 s) (hr : meth.sig.returnType = none) (hnm : meth.name = yX8_wishLine.name) (h0 : Nat) (y2 : Int32) (y5 : Int32) : ∀ (n : Nat) (v3 : Int32) (v6 : Int32) (σ : Mm) (kx181 : Mm → Option (Mm)), FX8_wishLine_142 h0 y2 y5 n v3 v6 σ kx181 = some σf → (∀  (σ : Mm), kx181 σ = some σf → WMv p l e s m args below meth c 4 85 0 0 8 D dA sz0 ad0 N0 σf 0 0 σ [] [] 181) → WMv p l e s m args below meth c 4 85 0 0 8 D dA sz0 ad0 N0 σf 0 0 σ [(0, va_rf (some h0)), (2, .int y2), (3, .int v3), (5, .int y5), (6, .int v6)] [] 142 := by
  intro n
  induction n with
  | zero =>
    intro v3 v6 σ kx181 h hkx181
    cases h
  | succ n ih =>
    intro v3 v6 σ kx181 h hkx181
    rw [FX8_wishLine_142] at h
    refine wm_iload X 4 dX8_wishLine_142 rfl ?_
    refine wm_bipush (v := 10) X dX8_wishLine_144 (by decide) ?_
    refine wm_icmp_ge X 181 h dX8_wishLine_146 (by decide) (fun c59 h => ?_) (fun c59 h => ?_)
    · refine wm_sub (ℓ' := []) [] rfl ?_
      exact hkx181 _ h
    · refine wm_iload_n X 1 dX8_wishLine_149 rfl ?_
      refine wm_iload X 4 dX8_wishLine_150 rfl ?_
      refine wm_cS_i (As := [.int y2, .int v6]) (st := []) X hS h (fun _ _ hF => ctX8_isOf l hF) mdX8_isOf msX8_isOf q2238 dX8_wishLine_152 rfl rfl c1_0 (Nat.le_of_ble_eq_true rfl) ⟨Nat.le_of_ble_eq_true rfl, Nat.le_of_ble_eq_true rfl⟩ ⟨Nat.le_of_ble_eq_true rfl, Nat.le_of_ble_eq_true rfl⟩ (fun x54 σ55 _ h => ?_)
      refine wm_if_eq X 161 h dX8_wishLine_155 (by decide) (fun c58 h => ?_) (fun c58 h => ?_)
      · refine wm_aload_n X 0 dX8_wishLine_161 rfl ?_
        refine wm_gR X hS cd_8 1 h dX8_wishLine_162 (Nat.le_of_ble_eq_true rfl) rfl q2025 (fun x56 h => ?_)
        refine wm_iload X 3 dX8_wishLine_165 rfl ?_
        refine wm_iload_n X 2 dX8_wishLine_167 rfl ?_
        refine wm_iadd X dX8_wishLine_168 ?_
        refine wm_iload X 4 dX8_wishLine_169 rfl ?_
        refine wm_iastore X hS h dX8_wishLine_171 (fun σ57 _ h => ?_)
        refine wm_iinc (v := (v3 + 1)) (ℓ' := [(3, .int (v3 + 1)), (0, va_rf (some h0)), (2, .int y2), (5, .int y5), (6, .int v6)]) X 2 dX8_wishLine_172 rfl rfl (by decide) rfl ?_
        refine wm_iinc (v := (v6 + 1)) (ℓ' := [(6, .int (v6 + 1)), (3, .int (v3 + 1)), (0, va_rf (some h0)), (2, .int y2), (5, .int y5)]) X 4 dX8_wishLine_175 rfl rfl (by decide) rfl ?_
        refine wm_goto X 142 dX8_wishLine_178 (by decide) ?_
        refine wm_sub (ℓ' := [(0, va_rf (some h0)), (2, .int y2), (3, .int (v3 + 1)), (5, .int y5), (6, .int (v6 + 1))]) [2, 3, 1, 4, 0] rfl ?_
        exact ih _ _ _ _ h hkx181
      · refine wm_goto X 175 dX8_wishLine_158 (by decide) ?_
        refine wm_iinc (v := (v6 + 1)) (ℓ' := [(6, .int (v6 + 1)), (0, va_rf (some h0)), (2, .int y2), (3, .int v3), (5, .int y5)]) X 4 dX8_wishLine_175 rfl rfl (by decide) rfl ?_
        refine wm_goto X 142 dX8_wishLine_178 (by decide) ?_
        refine wm_sub (ℓ' := [(0, va_rf (some h0)), (2, .int y2), (3, .int v3), (5, .int y5), (6, .int (v6 + 1))]) [1, 2, 3, 4, 0] rfl ?_
        exact ih _ _ _ _ h hkx181
set_option maxHeartbeats 4000000 in
theorem ctX8_wishLine (l : Launch) {h0 : Nat} {σ σf : Mm} (h : FX8_wishLine h0 σ = some σf) : CTv l yX8_wishLine (ws_ yX8_wishLine cX8_wishLine 8 (none)) 4 85 0 0 [va_rf (some h0)] σ σf := by
  refine ct_start (n := 0) mdX8_wishLine (Nat.le_of_ble_eq_true rfl) (c1_r c1_0) (fun p e s m args below meth c D dA sz0 ad0 X hS hr hnm => ?_)
  have X : CX p s m args meth c cX8_wishLine 8 RX8 := X
  generalize mN σ = N0
  unfold FX8_wishLine at h
  refine wm_aload_n X 0 dX8_wishLine_0 rfl ?_
  refine wm_iconst (v := 0) X dX8_wishLine_1 (by decide) ?_
  refine wm_aload_n X 0 dX8_wishLine_2 rfl ?_
  refine wm_gR X hS cd_8 1 h dX8_wishLine_3 (Nat.le_of_ble_eq_true rfl) rfl q2025 (fun x21 h => ?_)
  refine wm_iconst (v := 3) X dX8_wishLine_6 (by decide) ?_
  refine wm_iaload X hS h dX8_wishLine_7 (fun x22 h => ?_)
  refine wm_iconst (v := 1) X dX8_wishLine_8 (by decide) ?_
  refine wm_isub X dX8_wishLine_9 ?_
  obtain ⟨s23, h⟩ := ck_e h
  refine wm_cV_i (As := [.int 0, .int (x22 - 1)]) (st := []) X hS cd_8 s23 rfl h (fun _ _ hF => ctX8_figures l hF) mdX8_figures mvX8_figures q2204 dX8_wishLine_10 rfl rfl c1_0 (Nat.le_of_ble_eq_true rfl) ⟨Nat.le_of_ble_eq_true rfl, Nat.le_of_ble_eq_true rfl⟩ ⟨Nat.le_of_ble_eq_true rfl, Nat.le_of_ble_eq_true rfl⟩ (fun x24 σ25 _ h => ?_)
  refine wm_istore_n (ℓ' := [(1, .int x24), (0, va_rf (some h0))]) X dX8_wishLine_13 (by decide) rfl ?_
  refine wm_iconst (v := 0) X dX8_wishLine_14 (by decide) ?_
  refine wm_istore_n (ℓ' := [(2, .int 0), (1, .int x24), (0, va_rf (some h0))]) X dX8_wishLine_15 (by decide) rfl ?_
  refine wm_iconst (v := 0) X dX8_wishLine_16 (by decide) ?_
  refine wm_istore_n (ℓ' := [(3, .int 0), (2, .int 0), (1, .int x24), (0, va_rf (some h0))]) X dX8_wishLine_17 (by decide) rfl ?_
  refine wm_aload_n X 3 dX8_wishLine_18 rfl ?_
  refine wm_gI X hS cd_8 12 h dX8_wishLine_19 (Nat.le_of_ble_eq_true rfl) rfl q2036 (fun x26 h => ?_)
  refine wm_iconst (v := (-1)) X dX8_wishLine_22 (by decide) ?_
  obtain ⟨J31, eJ31, h⟩ := jn_e h
  have hJ31 : ∀ (z27 : Int32) (σ : Mm), J31 z27 σ = some σf → WMv p l e s m args below meth c 4 85 0 0 8 D dA sz0 ad0 N0 σf 0 0 σ [(0, va_rf (some h0)), (1, .int x24), (2, .int 0), (3, .int 0)] [.int z27] 31 := by
    intro z27 σ h
    rw [eJ31] at h
    refine wm_istore (ℓ' := [(4, .int z27), (0, va_rf (some h0)), (1, .int x24), (2, .int 0), (3, .int 0)]) X dX8_wishLine_31 (by decide) rfl ?_
    refine wm_bipush (v := 72) X dX8_wishLine_33 (by decide) ?_
    refine wm_bipush (v := 10) X dX8_wishLine_35 (by decide) ?_
    refine wm_iload_n X 2 dX8_wishLine_37 rfl ?_
    refine wm_imul X dX8_wishLine_38 ?_
    refine wm_iadd X dX8_wishLine_39 ?_
    refine wm_istore (ℓ' := [(5, .int (72 + (10 * x24))), (4, .int z27), (0, va_rf (some h0)), (1, .int x24), (2, .int 0), (3, .int 0)]) X dX8_wishLine_40 (by decide) rfl ?_
    refine wm_sub (ℓ' := [(0, va_rf (some h0)), (2, .int 0), (3, .int 0), (4, .int z27), (5, .int (72 + (10 * x24)))]) [2, 4, 5, 1, 0] rfl ?_
    refine wX8_wishLine_42 X hS hr hnm _ _ fu _ _ _ _ _ _ h (fun x51 x52 σ h => ?_) (fun σ h => ?_)
    · refine wm_aload_n X 0 dX8_wishLine_130 rfl ?_
      refine wm_gI X hS cd_8 12 h dX8_wishLine_131 (Nat.le_of_ble_eq_true rfl) rfl q2036 (fun x53 h => ?_)
      refine wm_iconst (v := (-1)) X dX8_wishLine_134 (by decide) ?_
      refine wm_icmp_eq X 139 h dX8_wishLine_135 (by decide) (fun c60 h => ?_) (fun c60 h => ?_)
      · refine wm_iconst (v := 0) X dX8_wishLine_139 (by decide) ?_
        refine wm_istore (ℓ' := [(6, .int 0), (0, va_rf (some h0)), (2, .int x51), (3, .int x52), (5, .int (72 + (10 * x24)))]) X dX8_wishLine_140 (by decide) rfl ?_
        refine wm_sub (ℓ' := [(0, va_rf (some h0)), (2, .int x51), (3, .int x52), (5, .int (72 + (10 * x24))), (6, .int 0)]) [1, 2, 3, 4, 0] rfl ?_
        refine wX8_wishLine_142 X hS hr hnm _ _ _ fu _ _ _ _ h (fun σ h => ?_)
        · exact wm_vret X hr h dX8_wishLine_181 (Nat.le_of_ble_eq_true rfl) (Nat.le_of_ble_eq_true rfl)
      · exact wm_vret X hr h dX8_wishLine_138 (Nat.le_of_ble_eq_true rfl) (Nat.le_of_ble_eq_true rfl)
    · exact wm_vret X hr h dX8_wishLine_99 (Nat.le_of_ble_eq_true rfl) (Nat.le_of_ble_eq_true rfl)
  clear eJ31
  refine wm_icmp_ne X 30 h dX8_wishLine_23 (by decide) (fun c61 h => ?_) (fun c61 h => ?_)
  · refine wm_iconst (v := 0) X dX8_wishLine_30 (by decide) ?_
    refine wm_sub (ℓ' := [(0, va_rf (some h0)), (1, .int x24), (2, .int 0), (3, .int 0)]) [3, 2, 1, 0] rfl ?_
    exact hJ31 _ _ h
  · refine wm_iconst (v := 1) X dX8_wishLine_26 (by decide) ?_
    refine wm_goto X 31 dX8_wishLine_27 (by decide) ?_
    refine wm_sub (ℓ' := [(0, va_rf (some h0)), (1, .int x24), (2, .int 0), (3, .int 0)]) [3, 2, 1, 0] rfl ?_
    exact hJ31 _ _ h
theorem mdX8_of : MD yX8_of 2 := by unfold MD; decide +kernel
theorem mvX8_of : MV yX8_of cX8_of 3 ((some FieldType.int)) := ⟨q2255, qs79, q139, q2256⟩
set_option maxHeartbeats 4000000 in
theorem ctX8_of (l : Launch) {h0 : Nat} {x1 : Int32} {x2 : Int32} {σ σf : Mm} {r : Int32} (h : FX8_of h0 x1 x2 σ = some (r, σf)) : CTi l yX8_of (ws_ yX8_of cX8_of 3 ((some FieldType.int))) 0 0 0 0 [va_rf (some h0), .int x1, .int x2] σ r σf := by
  refine ct_start (n := 2) mdX8_of (Nat.le_of_ble_eq_true rfl) (c1_r (c1_i (c1_i c1_0))) (fun p e s m args below meth c D dA sz0 ad0 X hS hr hnm => ?_)
  have X : CX p s m args meth c cX8_of 3 RX8 := X
  generalize mN σ = N0
  unfold FX8_of at h
  refine wm_aload_n X 0 dX8_of_0 rfl ?_
  refine wm_gR X hS cd_8 1 h dX8_of_1 (Nat.le_of_ble_eq_true rfl) rfl q2025 (fun x21 h => ?_)
  refine wm_bipush (v := 12) X dX8_of_4 (by decide) ?_
  refine wm_bipush (v := 6) X dX8_of_6 (by decide) ?_
  refine wm_iload_n X 1 dX8_of_8 rfl ?_
  refine wm_imul X dX8_of_9 ?_
  refine wm_iadd X dX8_of_10 ?_
  refine wm_iload_n X 2 dX8_of_11 rfl ?_
  refine wm_iadd X dX8_of_12 ?_
  refine wm_iaload X hS h dX8_of_13 (fun x22 h => ?_)
  exact wm_iret X hr h dX8_of_14 (Nat.le_of_ble_eq_true rfl) (Nat.le_of_ble_eq_true rfl)
theorem mdX8_single : MD yX8_single 1 := by unfold MD; decide +kernel
theorem mvX8_single : MV yX8_single cX8_single 4 ((some FieldType.int)) := ⟨q2251, qs78, q139, q2252⟩
set_option maxHeartbeats 4000000 in
theorem ctX8_single (l : Launch) {h0 : Nat} {x1 : Int32} {σ σf : Mm} {r : Int32} (h : FX8_single h0 x1 σ = some (r, σf)) : CTi l yX8_single (ws_ yX8_single cX8_single 4 ((some FieldType.int))) 4 85 0 0 [va_rf (some h0), .int x1] σ r σf := by
  refine ct_start (n := 1) mdX8_single (Nat.le_of_ble_eq_true rfl) (c1_r (c1_i c1_0)) (fun p e s m args below meth c D dA sz0 ad0 X hS hr hnm => ?_)
  have X : CX p s m args meth c cX8_single 4 RX8 := X
  generalize mN σ = N0
  unfold FX8_single at h
  refine wm_aload_n X 0 dX8_single_0 rfl ?_
  obtain ⟨s21, h⟩ := ck_e h
  refine wm_cV_i (As := []) (st := []) X hS cd_8 s21 rfl h (fun _ _ hF => ctX8_place l hF) mdX8_place mvX8_place q2181 dX8_single_1 rfl rfl c1_0 (Nat.le_of_ble_eq_true rfl) ⟨Nat.le_of_ble_eq_true rfl, Nat.le_of_ble_eq_true rfl⟩ ⟨Nat.le_of_ble_eq_true rfl, Nat.le_of_ble_eq_true rfl⟩ (fun x22 σ23 _ h => ?_)
  refine wm_istore_n (ℓ' := [(2, .int x22), (0, va_rf (some h0)), (1, .int x1)]) X dX8_single_4 (by decide) rfl ?_
  refine wm_aload_n X 1 dX8_single_5 rfl ?_
  refine wm_iconst (v := 0) X dX8_single_6 (by decide) ?_
  refine wm_aload_n X 1 dX8_single_7 rfl ?_
  refine wm_gR X hS cd_8 1 h dX8_single_8 (Nat.le_of_ble_eq_true rfl) rfl q2025 (fun x24 h => ?_)
  refine wm_iconst (v := 3) X dX8_single_11 (by decide) ?_
  refine wm_iaload X hS h dX8_single_12 (fun x25 h => ?_)
  refine wm_iconst (v := 1) X dX8_single_13 (by decide) ?_
  refine wm_isub X dX8_single_14 ?_
  obtain ⟨s26, h⟩ := ck_e h
  refine wm_cV_i (As := [.int 0, .int (x25 - 1)]) (st := []) X hS cd_8 s26 rfl h (fun _ _ hF => ctX8_figures l hF) mdX8_figures mvX8_figures q2204 dX8_single_15 rfl rfl c1_0 (Nat.le_of_ble_eq_true rfl) ⟨Nat.le_of_ble_eq_true rfl, Nat.le_of_ble_eq_true rfl⟩ ⟨Nat.le_of_ble_eq_true rfl, Nat.le_of_ble_eq_true rfl⟩ (fun x27 σ28 _ h => ?_)
  refine wm_istore_n (ℓ' := [(3, .int x27), (2, .int x22), (0, va_rf (some h0)), (1, .int x1)]) X dX8_single_18 (by decide) rfl ?_
  refine wm_aload_n X 2 dX8_single_19 rfl ?_
  refine wm_gI X hS cd_8 12 h dX8_single_20 (Nat.le_of_ble_eq_true rfl) rfl q2036 (fun x29 h => ?_)
  refine wm_iconst (v := (-1)) X dX8_single_23 (by decide) ?_
  refine wm_icmp_ne X 47 h dX8_single_24 (by decide) (fun c37 h => ?_) (fun c37 h => ?_)
  · refine wm_iload_n X 0 dX8_single_47 rfl ?_
    exact wm_iret X hr h dX8_single_48 (Nat.le_of_ble_eq_true rfl) (Nat.le_of_ble_eq_true rfl)
  · refine wm_iload_n X 0 dX8_single_27 rfl ?_
    refine wm_iload_n X 3 dX8_single_28 rfl ?_
    obtain ⟨J42, eJ42, h⟩ := jn_e h
    have hJ42 : ∀  (σ : Mm), J42  σ = some (r, σf) → WMi p l e s m args below meth c 4 85 0 0 4 D dA sz0 ad0 N0 r σf 0 0 σ [(0, va_rf (some h0)), (2, .int x22), (3, .int x27)] [] 42 := by
      intro  σ h
      rw [eJ42] at h
      refine wm_aload_n X 0 dX8_single_42 rfl ?_
      refine wm_iload_n X 1 dX8_single_43 rfl ?_
      obtain ⟨s30, h⟩ := ck_e h
      refine wm_cV_v (As := [.int x22]) (st := []) X hS cd_8 s30 rfl h (fun _ hF => ctX8_wrong l hF) mdX8_wrong mvX8_wrong q2142 dX8_single_44 rfl rfl c1_0 (Nat.le_of_ble_eq_true rfl) ⟨Nat.le_of_ble_eq_true rfl, Nat.le_of_ble_eq_true rfl⟩ ⟨Nat.le_of_ble_eq_true rfl, Nat.le_of_ble_eq_true rfl⟩ (fun σ31 _ h => ?_)
      refine wm_iload_n X 2 dX8_single_47 rfl ?_
      exact wm_iret X hr h dX8_single_48 (Nat.le_of_ble_eq_true rfl) (Nat.le_of_ble_eq_true rfl)
    clear eJ42
    refine wm_icmp_eq X 42 h dX8_single_29 (by decide) (fun c36 h => ?_) (fun c36 h => ?_)
    · refine wm_sub (ℓ' := [(0, va_rf (some h0)), (2, .int x22), (3, .int x27)]) [2, 1, 0] rfl ?_
      exact hJ42 _ h
    · refine wm_aload_n X 2 dX8_single_32 rfl ?_
      refine wm_iload_n X 0 dX8_single_33 rfl ?_
      refine wm_iconst (v := 4) X dX8_single_34 (by decide) ?_
      obtain ⟨s32, h⟩ := ck_e h
      refine wm_cV_i (As := [.int x27, .int 4]) (st := []) X hS cd_8 s32 rfl h (fun _ _ hF => ctX8_of l hF) mdX8_of mvX8_of q2253 dX8_single_35 rfl rfl c1_0 (Nat.le_of_ble_eq_true rfl) ⟨Nat.le_of_ble_eq_true rfl, Nat.le_of_ble_eq_true rfl⟩ ⟨Nat.le_of_ble_eq_true rfl, Nat.le_of_ble_eq_true rfl⟩ (fun x33 σ34 _ h => ?_)
      refine wm_iconst (v := (-1)) X dX8_single_38 (by decide) ?_
      refine wm_icmp_eq X 47 h dX8_single_39 (by decide) (fun c35 h => ?_) (fun c35 h => ?_)
      · refine wm_iload_n X 0 dX8_single_47 rfl ?_
        exact wm_iret X hr h dX8_single_48 (Nat.le_of_ble_eq_true rfl) (Nat.le_of_ble_eq_true rfl)
      · refine wm_sub (ℓ' := [(0, va_rf (some h0)), (2, .int x22), (3, .int x27)]) [2, 1, 0] rfl ?_
        exact hJ42 _ h
theorem mdX8_wedLine : MD yX8_wedLine 0 := by unfold MD; decide +kernel
theorem mvX8_wedLine : MV yX8_wedLine cX8_wedLine 3 (none) := ⟨q2247, qs77, q139, q2248⟩
set_option maxHeartbeats 4000000 in
theorem ctX8_wedLine (l : Launch) {h0 : Nat} {σ σf : Mm} (h : FX8_wedLine h0 σ = some σf) : CTv l yX8_wedLine (ws_ yX8_wedLine cX8_wedLine 3 (none)) 5 108 0 0 [va_rf (some h0)] σ σf := by
  refine ct_start (n := 0) mdX8_wedLine (Nat.le_of_ble_eq_true rfl) (c1_r c1_0) (fun p e s m args below meth c D dA sz0 ad0 X hS hr hnm => ?_)
  have X : CX p s m args meth c cX8_wedLine 3 RX8 := X
  generalize mN σ = N0
  unfold FX8_wedLine at h
  refine wm_aload_n X 0 dX8_wedLine_0 rfl ?_
  refine wm_iconst (v := (-1)) X dX8_wedLine_1 (by decide) ?_
  obtain ⟨s21, h⟩ := ck_e h
  refine wm_cV_i (As := [.int (-1)]) (st := []) X hS cd_8 s21 rfl h (fun _ _ hF => ctX8_single l hF) mdX8_single mvX8_single q2249 dX8_wedLine_2 rfl rfl c1_0 (Nat.le_of_ble_eq_true rfl) ⟨Nat.le_of_ble_eq_true rfl, Nat.le_of_ble_eq_true rfl⟩ ⟨Nat.le_of_ble_eq_true rfl, Nat.le_of_ble_eq_true rfl⟩ (fun x22 σ23 _ h => ?_)
  refine wm_istore_n (ℓ' := [(1, .int x22), (0, va_rf (some h0))]) X dX8_wedLine_5 (by decide) rfl ?_
  refine wm_aload_n X 1 dX8_wedLine_6 rfl ?_
  refine wm_iload_n X 0 dX8_wedLine_7 rfl ?_
  obtain ⟨s24, h⟩ := ck_e h
  refine wm_cV_i (As := [.int x22]) (st := []) X hS cd_8 s24 rfl h (fun _ _ hF => ctX8_single l hF) mdX8_single mvX8_single q2249 dX8_wedLine_8 rfl rfl c1_0 (Nat.le_of_ble_eq_true rfl) ⟨Nat.le_of_ble_eq_true rfl, Nat.le_of_ble_eq_true rfl⟩ ⟨Nat.le_of_ble_eq_true rfl, Nat.le_of_ble_eq_true rfl⟩ (fun x25 σ26 _ h => ?_)
  refine wm_istore_n (ℓ' := [(2, .int x25), (1, .int x22), (0, va_rf (some h0))]) X dX8_wedLine_11 (by decide) rfl ?_
  refine wm_aload_n X 2 dX8_wedLine_12 rfl ?_
  refine wm_gI X hS cd_8 12 h dX8_wedLine_13 (Nat.le_of_ble_eq_true rfl) rfl q2036 (fun x27 h => ?_)
  refine wm_iconst (v := (-1)) X dX8_wedLine_16 (by decide) ?_
  refine wm_icmp_eq X 21 h dX8_wedLine_17 (by decide) (fun c32 h => ?_) (fun c32 h => ?_)
  · refine wm_aload_n X 2 dX8_wedLine_21 rfl ?_
    refine wm_iload_n X 1 dX8_wedLine_22 rfl ?_
    refine wm_iconst (v := 4) X dX8_wedLine_23 (by decide) ?_
    refine wm_iload_n X 0 dX8_wedLine_24 rfl ?_
    obtain ⟨s28, h⟩ := ck_e h
    refine wm_cV_v (As := [.int x22, .int 4, .int x25]) (st := []) X hS cd_8 s28 rfl h (fun _ hF => ctX8_has_2 l hF) mdX8_has_2 mvX8_has_2 q2229 dX8_wedLine_25 rfl rfl c1_0 (Nat.le_of_ble_eq_true rfl) ⟨Nat.le_of_ble_eq_true rfl, Nat.le_of_ble_eq_true rfl⟩ ⟨Nat.le_of_ble_eq_true rfl, Nat.le_of_ble_eq_true rfl⟩ (fun σ29 _ h => ?_)
    refine wm_aload_n X 2 dX8_wedLine_28 rfl ?_
    refine wm_iload_n X 0 dX8_wedLine_29 rfl ?_
    refine wm_iconst (v := 4) X dX8_wedLine_30 (by decide) ?_
    refine wm_iload_n X 1 dX8_wedLine_31 rfl ?_
    obtain ⟨s30, h⟩ := ck_e h
    refine wm_cV_v (As := [.int x25, .int 4, .int x22]) (st := []) X hS cd_8 s30 rfl h (fun _ hF => ctX8_has_2 l hF) mdX8_has_2 mvX8_has_2 q2229 dX8_wedLine_32 rfl rfl c1_0 (Nat.le_of_ble_eq_true rfl) ⟨Nat.le_of_ble_eq_true rfl, Nat.le_of_ble_eq_true rfl⟩ ⟨Nat.le_of_ble_eq_true rfl, Nat.le_of_ble_eq_true rfl⟩ (fun σ31 _ h => ?_)
    exact wm_vret X hr h dX8_wedLine_35 (Nat.le_of_ble_eq_true rfl) (Nat.le_of_ble_eq_true rfl)
  · exact wm_vret X hr h dX8_wedLine_20 (Nat.le_of_ble_eq_true rfl) (Nat.le_of_ble_eq_true rfl)
theorem mdX8_knowsLine : MD yX8_knowsLine 0 := by unfold MD; decide +kernel
theorem mvX8_knowsLine : MV yX8_knowsLine cX8_knowsLine 5 (none) := ⟨q2260, qs80, q139, q2261⟩
set_option maxHeartbeats 4000000 in
theorem wX8_knowsLine_28 {p : Program} {l : Launch} {e : Env} {s : State} {m : MethodId} {args : Array Value} {below : List Frame} {meth : Method} {c : Code} {D : va_G} {dA : Nat → ClassId} {sz0 : Nat} {ad0 : Nat → Nat} {N0 : Nat} {σf : Mm} (X : CX p s m args meth c cX8_knowsLine 5 RX8) (hS : ST D dA sz0 ad0 s) (hr : meth.sig.returnType = none) (hnm : meth.name = yX8_knowsLine.name) (h0 : Nat) (y1 : Int32) : ∀ (n : Nat) (v2 : Int32) (σ : Mm) (kx120 : Mm → Option (Mm)), FX8_knowsLine_28 h0 y1 n v2 σ kx120 = some σf → (∀  (σ : Mm), kx120 σ = some σf → WMv p l e s m args below meth c 4 85 0 0 5 D dA sz0 ad0 N0 σf 0 0 σ [] [] 120) → WMv p l e s m args below meth c 4 85 0 0 5 D dA sz0 ad0 N0 σf 0 0 σ [(0, va_rf (some h0)), (1, .int y1), (2, .int v2)] [] 28 := by
  intro n
  induction n with
  | zero =>
    intro v2 σ kx120 h hkx120
    cases h
  | succ n ih =>
    intro v2 σ kx120 h hkx120
    rw [FX8_knowsLine_28] at h
    refine wm_iload_n X 2 dX8_knowsLine_28 rfl ?_
    refine wm_if_eq X 120 h dX8_knowsLine_29 (by decide) (fun c54 h => ?_) (fun c54 h => ?_)
    · refine wm_sub (ℓ' := []) [] rfl ?_
      exact hkx120 _ h
    · refine wm_aload_n X 0 dX8_knowsLine_32 rfl ?_
      obtain ⟨s28, h⟩ := ck_e h
      refine wm_cV_i (As := []) (st := []) X hS cd_8 s28 rfl h (fun _ _ hF => ctX8_place l hF) mdX8_place mvX8_place q2181 dX8_knowsLine_33 rfl rfl c1_0 (Nat.le_of_ble_eq_true rfl) ⟨Nat.le_of_ble_eq_true rfl, Nat.le_of_ble_eq_true rfl⟩ ⟨Nat.le_of_ble_eq_true rfl, Nat.le_of_ble_eq_true rfl⟩ (fun x29 σ30 _ h => ?_)
      refine wm_istore_n (ℓ' := [(3, .int x29), (0, va_rf (some h0)), (1, .int y1), (2, .int v2)]) X dX8_knowsLine_36 (by decide) rfl ?_
      refine wm_aload_n X 1 dX8_knowsLine_37 rfl ?_
      refine wm_iconst (v := 0) X dX8_knowsLine_38 (by decide) ?_
      refine wm_aload_n X 1 dX8_knowsLine_39 rfl ?_
      refine wm_gR X hS cd_8 1 h dX8_knowsLine_40 (Nat.le_of_ble_eq_true rfl) rfl q2025 (fun x31 h => ?_)
      refine wm_iconst (v := 3) X dX8_knowsLine_43 (by decide) ?_
      refine wm_iaload X hS h dX8_knowsLine_44 (fun x32 h => ?_)
      refine wm_iconst (v := 1) X dX8_knowsLine_45 (by decide) ?_
      refine wm_isub X dX8_knowsLine_46 ?_
      obtain ⟨s33, h⟩ := ck_e h
      refine wm_cV_i (As := [.int 0, .int (x32 - 1)]) (st := []) X hS cd_8 s33 rfl h (fun _ _ hF => ctX8_figures l hF) mdX8_figures mvX8_figures q2204 dX8_knowsLine_47 rfl rfl c1_0 (Nat.le_of_ble_eq_true rfl) ⟨Nat.le_of_ble_eq_true rfl, Nat.le_of_ble_eq_true rfl⟩ ⟨Nat.le_of_ble_eq_true rfl, Nat.le_of_ble_eq_true rfl⟩ (fun x34 σ35 _ h => ?_)
      refine wm_istore (ℓ' := [(4, .int x34), (3, .int x29), (0, va_rf (some h0)), (1, .int y1), (2, .int v2)]) X dX8_knowsLine_50 (by decide) rfl ?_
      refine wm_aload_n X 2 dX8_knowsLine_52 rfl ?_
      refine wm_gI X hS cd_8 12 h dX8_knowsLine_53 (Nat.le_of_ble_eq_true rfl) rfl q2036 (fun x36 h => ?_)
      refine wm_iconst (v := (-1)) X dX8_knowsLine_56 (by decide) ?_
      obtain ⟨J71, eJ71, h⟩ := jn_e h
      have hJ71 : ∀  (σ : Mm), J71  σ = some σf → WMv p l e s m args below meth c 4 85 0 0 5 D dA sz0 ad0 N0 σf 0 0 σ [(0, va_rf (some h0)), (1, .int y1), (4, .int x34)] [] 71 := by
        intro  σ h
        rw [eJ71] at h
        refine wm_aload_n X 0 dX8_knowsLine_71 rfl ?_
        refine wm_gI X hS cd_8 12 h dX8_knowsLine_72 (Nat.le_of_ble_eq_true rfl) rfl q2036 (fun x37 h => ?_)
        refine wm_iconst (v := (-1)) X dX8_knowsLine_75 (by decide) ?_
        obtain ⟨J96, eJ96, h⟩ := jn_e h
        have hJ96 : ∀  (σ : Mm), J96  σ = some σf → WMv p l e s m args below meth c 4 85 0 0 5 D dA sz0 ad0 N0 σf 0 0 σ [(0, va_rf (some h0)), (1, .int y1)] [] 96 := by
          intro  σ h
          rw [eJ96] at h
          refine wm_aload_n X 0 dX8_knowsLine_96 rfl ?_
          refine wm_gI X hS cd_8 12 h dX8_knowsLine_97 (Nat.le_of_ble_eq_true rfl) rfl q2036 (fun x38 h => ?_)
          refine wm_iconst (v := (-1)) X dX8_knowsLine_100 (by decide) ?_
          refine wm_icmp_ne X 115 h dX8_knowsLine_101 (by decide) (fun c43 h => ?_) (fun c43 h => ?_)
          · refine wm_iconst (v := 0) X dX8_knowsLine_115 (by decide) ?_
            refine wm_istore_n (ℓ' := [(2, .int 0), (0, va_rf (some h0)), (1, .int y1)]) X dX8_knowsLine_116 (by decide) rfl ?_
            refine wm_goto X 28 dX8_knowsLine_117 (by decide) ?_
            refine wm_sub (ℓ' := [(0, va_rf (some h0)), (1, .int y1), (2, .int 0)]) [1, 2, 0] rfl ?_
            exact ih _ _ _ h hkx120
          · refine wm_aload_n X 0 dX8_knowsLine_104 rfl ?_
            obtain ⟨s39, h⟩ := ck_e h
            refine wm_cV_i (As := []) (st := []) X hS cd_8 s39 rfl h (fun _ _ hF => ctX8_isFigure l hF) mdX8_isFigure mvX8_isFigure q2241 dX8_knowsLine_105 rfl rfl c1_0 (Nat.le_of_ble_eq_true rfl) ⟨Nat.le_of_ble_eq_true rfl, Nat.le_of_ble_eq_true rfl⟩ ⟨Nat.le_of_ble_eq_true rfl, Nat.le_of_ble_eq_true rfl⟩ (fun x40 σ41 _ h => ?_)
            refine wm_if_eq X 115 h dX8_knowsLine_108 (by decide) (fun c42 h => ?_) (fun c42 h => ?_)
            · refine wm_iconst (v := 0) X dX8_knowsLine_115 (by decide) ?_
              refine wm_istore_n (ℓ' := [(2, .int 0), (0, va_rf (some h0)), (1, .int y1)]) X dX8_knowsLine_116 (by decide) rfl ?_
              refine wm_goto X 28 dX8_knowsLine_117 (by decide) ?_
              refine wm_sub (ℓ' := [(0, va_rf (some h0)), (1, .int y1), (2, .int 0)]) [1, 2, 0] rfl ?_
              exact ih _ _ _ h hkx120
            · refine wm_iconst (v := 1) X dX8_knowsLine_111 (by decide) ?_
              refine wm_goto X 116 dX8_knowsLine_112 (by decide) ?_
              refine wm_istore_n (ℓ' := [(2, .int 1), (0, va_rf (some h0)), (1, .int y1)]) X dX8_knowsLine_116 (by decide) rfl ?_
              refine wm_goto X 28 dX8_knowsLine_117 (by decide) ?_
              refine wm_sub (ℓ' := [(0, va_rf (some h0)), (1, .int y1), (2, .int 1)]) [1, 2, 0] rfl ?_
              exact ih _ _ _ h hkx120
        clear eJ96
        refine wm_icmp_ne X 96 h dX8_knowsLine_76 (by decide) (fun c49 h => ?_) (fun c49 h => ?_)
        · refine wm_sub (ℓ' := [(0, va_rf (some h0)), (1, .int y1)]) [0, 1] rfl ?_
          exact hJ96 _ h
        · refine wm_aload_n X 0 dX8_knowsLine_79 rfl ?_
          refine wm_iload_n X 1 dX8_knowsLine_80 rfl ?_
          refine wm_iconst (v := 5) X dX8_knowsLine_81 (by decide) ?_
          refine wm_aload_n X 0 dX8_knowsLine_82 rfl ?_
          refine wm_iload_n X 1 dX8_knowsLine_83 rfl ?_
          refine wm_iconst (v := 5) X dX8_knowsLine_84 (by decide) ?_
          obtain ⟨s44, h⟩ := ck_e h
          refine wm_cV_i (As := [.int y1, .int 5]) (st := [.int 5, .int y1, va_rf (some h0)]) X hS cd_8 s44 rfl h (fun _ _ hF => ctX8_of l hF) mdX8_of mvX8_of q2253 dX8_knowsLine_85 rfl rfl (c1_i (c1_i (c1_r c1_0))) (Nat.le_of_ble_eq_true rfl) ⟨Nat.le_of_ble_eq_true rfl, Nat.le_of_ble_eq_true rfl⟩ ⟨Nat.le_of_ble_eq_true rfl, Nat.le_of_ble_eq_true rfl⟩ (fun x45 σ46 _ h => ?_)
          refine wm_iconst (v := 1) X dX8_knowsLine_88 (by decide) ?_
          refine wm_iload X 2 dX8_knowsLine_89 rfl ?_
          refine wm_ishl X dX8_knowsLine_91 ?_
          refine wm_ior X dX8_knowsLine_92 ?_
          obtain ⟨s47, h⟩ := ck_e h
          refine wm_cV_v (As := [.int y1, .int 5, .int (x45 ||| (1 <<< (x34 &&& 31)))]) (st := []) X hS cd_8 s47 rfl h (fun _ hF => ctX8_has_2 l hF) mdX8_has_2 mvX8_has_2 q2229 dX8_knowsLine_93 rfl rfl c1_0 (Nat.le_of_ble_eq_true rfl) ⟨Nat.le_of_ble_eq_true rfl, Nat.le_of_ble_eq_true rfl⟩ ⟨Nat.le_of_ble_eq_true rfl, Nat.le_of_ble_eq_true rfl⟩ (fun σ48 _ h => ?_)
          refine wm_sub (ℓ' := [(0, va_rf (some h0)), (1, .int y1)]) [0, 1] rfl ?_
          exact hJ96 _ h
      clear eJ71
      refine wm_icmp_ne X 71 h dX8_knowsLine_57 (by decide) (fun c53 h => ?_) (fun c53 h => ?_)
      · refine wm_sub (ℓ' := [(0, va_rf (some h0)), (1, .int y1), (4, .int x34)]) [2, 3, 0] rfl ?_
        exact hJ71 _ h
      · refine wm_iload X 0 dX8_knowsLine_60 rfl ?_
        refine wm_iload_n X 3 dX8_knowsLine_62 rfl ?_
        refine wm_icmp_ne X 71 h dX8_knowsLine_63 (by decide) (fun c52 h => ?_) (fun c52 h => ?_)
        · refine wm_sub (ℓ' := [(0, va_rf (some h0)), (1, .int y1), (4, .int x34)]) [2, 3, 0] rfl ?_
          exact hJ71 _ h
        · refine wm_aload_n X 2 dX8_knowsLine_66 rfl ?_
          refine wm_iload_n X 1 dX8_knowsLine_67 rfl ?_
          obtain ⟨s50, h⟩ := ck_e h
          refine wm_cV_v (As := [.int x29]) (st := []) X hS cd_8 s50 rfl h (fun _ hF => ctX8_wrong l hF) mdX8_wrong mvX8_wrong q2142 dX8_knowsLine_68 rfl rfl c1_0 (Nat.le_of_ble_eq_true rfl) ⟨Nat.le_of_ble_eq_true rfl, Nat.le_of_ble_eq_true rfl⟩ ⟨Nat.le_of_ble_eq_true rfl, Nat.le_of_ble_eq_true rfl⟩ (fun σ51 _ h => ?_)
          refine wm_sub (ℓ' := [(0, va_rf (some h0)), (1, .int y1), (4, .int x34)]) [2, 3, 0] rfl ?_
          exact hJ71 _ h
set_option maxHeartbeats 4000000 in
theorem ctX8_knowsLine (l : Launch) {h0 : Nat} {σ σf : Mm} (h : FX8_knowsLine h0 σ = some σf) : CTv l yX8_knowsLine (ws_ yX8_knowsLine cX8_knowsLine 5 (none)) 4 85 0 0 [va_rf (some h0)] σ σf := by
  refine ct_start (n := 0) mdX8_knowsLine (Nat.le_of_ble_eq_true rfl) (c1_r c1_0) (fun p e s m args below meth c D dA sz0 ad0 X hS hr hnm => ?_)
  have X : CX p s m args meth c cX8_knowsLine 5 RX8 := X
  generalize mN σ = N0
  unfold FX8_knowsLine at h
  refine wm_aload_n X 0 dX8_knowsLine_0 rfl ?_
  refine wm_iconst (v := 0) X dX8_knowsLine_1 (by decide) ?_
  refine wm_aload_n X 0 dX8_knowsLine_2 rfl ?_
  refine wm_gR X hS cd_8 1 h dX8_knowsLine_3 (Nat.le_of_ble_eq_true rfl) rfl q2025 (fun x21 h => ?_)
  refine wm_iconst (v := 3) X dX8_knowsLine_6 (by decide) ?_
  refine wm_iaload X hS h dX8_knowsLine_7 (fun x22 h => ?_)
  refine wm_iconst (v := 1) X dX8_knowsLine_8 (by decide) ?_
  refine wm_isub X dX8_knowsLine_9 ?_
  obtain ⟨s23, h⟩ := ck_e h
  refine wm_cV_i (As := [.int 0, .int (x22 - 1)]) (st := []) X hS cd_8 s23 rfl h (fun _ _ hF => ctX8_figures l hF) mdX8_figures mvX8_figures q2204 dX8_knowsLine_10 rfl rfl c1_0 (Nat.le_of_ble_eq_true rfl) ⟨Nat.le_of_ble_eq_true rfl, Nat.le_of_ble_eq_true rfl⟩ ⟨Nat.le_of_ble_eq_true rfl, Nat.le_of_ble_eq_true rfl⟩ (fun x24 σ25 _ h => ?_)
  refine wm_istore_n (ℓ' := [(1, .int x24), (0, va_rf (some h0))]) X dX8_knowsLine_13 (by decide) rfl ?_
  refine wm_aload_n X 1 dX8_knowsLine_14 rfl ?_
  refine wm_gI X hS cd_8 12 h dX8_knowsLine_15 (Nat.le_of_ble_eq_true rfl) rfl q2036 (fun x26 h => ?_)
  refine wm_iconst (v := (-1)) X dX8_knowsLine_18 (by decide) ?_
  obtain ⟨J27, eJ27, h⟩ := jn_e h
  have hJ27 : ∀ (z27 : Int32) (σ : Mm), J27 z27 σ = some σf → WMv p l e s m args below meth c 4 85 0 0 5 D dA sz0 ad0 N0 σf 0 0 σ [(0, va_rf (some h0)), (1, .int x24)] [.int z27] 27 := by
    intro z27 σ h
    rw [eJ27] at h
    refine wm_istore_n (ℓ' := [(2, .int z27), (0, va_rf (some h0)), (1, .int x24)]) X dX8_knowsLine_27 (by decide) rfl ?_
    refine wm_sub (ℓ' := [(0, va_rf (some h0)), (1, .int x24), (2, .int z27)]) [1, 2, 0] rfl ?_
    refine wX8_knowsLine_28 X hS hr hnm _ _ fu _ _ _ h (fun σ h => ?_)
    · exact wm_vret X hr h dX8_knowsLine_120 (Nat.le_of_ble_eq_true rfl) (Nat.le_of_ble_eq_true rfl)
  clear eJ27
  refine wm_icmp_ne X 26 h dX8_knowsLine_19 (by decide) (fun c55 h => ?_) (fun c55 h => ?_)
  · refine wm_iconst (v := 0) X dX8_knowsLine_26 (by decide) ?_
    refine wm_sub (ℓ' := [(0, va_rf (some h0)), (1, .int x24)]) [1, 0] rfl ?_
    exact hJ27 _ _ h
  · refine wm_iconst (v := 1) X dX8_knowsLine_22 (by decide) ?_
    refine wm_goto X 27 dX8_knowsLine_23 (by decide) ?_
    refine wm_sub (ℓ' := [(0, va_rf (some h0)), (1, .int x24)]) [1, 0] rfl ?_
    exact hJ27 _ _ h
theorem mdX8_hasTicketOf : MD yX8_hasTicketOf 1 := by unfold MD; decide +kernel
theorem mvX8_hasTicketOf : MV yX8_hasTicketOf cX8_hasTicketOf 3 ((some FieldType.boolean)) := ⟨q2269, qs82, q139, q2270⟩
set_option maxHeartbeats 4000000 in
theorem wX8_hasTicketOf_2 {p : Program} {l : Launch} {e : Env} {s : State} {m : MethodId} {args : Array Value} {below : List Frame} {meth : Method} {c : Code} {D : va_G} {dA : Nat → ClassId} {sz0 : Nat} {ad0 : Nat → Nat} {N0 : Nat} {r : Int32} {σf : Mm} (X : CX p s m args meth c cX8_hasTicketOf 3 RX8) (hS : ST D dA sz0 ad0 s) (hr : meth.sig.returnType = (some FieldType.boolean)) (hnm : meth.name = yX8_hasTicketOf.name) (h0 : Nat) (y1 : Int32) : ∀ (n : Nat) (v2 : Int32) (σ : Mm) (kx30 : Mm → Option (Int32 × Mm)) (kx22 : Mm → Option (Int32 × Mm)), FX8_hasTicketOf_2 h0 y1 n v2 σ kx30 kx22 = some (r, σf) → (∀  (σ : Mm), kx30 σ = some (r, σf) → WMi p l e s m args below meth c 1 22 0 0 3 D dA sz0 ad0 N0 r σf 0 0 σ [] [] 30) → (∀  (σ : Mm), kx22 σ = some (r, σf) → WMi p l e s m args below meth c 1 22 0 0 3 D dA sz0 ad0 N0 r σf 0 0 σ [] [] 22) → WMi p l e s m args below meth c 1 22 0 0 3 D dA sz0 ad0 N0 r σf 0 0 σ [(0, va_rf (some h0)), (1, .int y1), (2, .int v2)] [] 2 := by
  intro n
  induction n with
  | zero =>
    intro v2 σ kx30 kx22 h hkx30 hkx22
    cases h
  | succ n ih =>
    intro v2 σ kx30 kx22 h hkx30 hkx22
    rw [FX8_hasTicketOf_2] at h
    refine wm_iload_n X 2 dX8_hasTicketOf_2 rfl ?_
    refine wm_aload_n X 0 dX8_hasTicketOf_3 rfl ?_
    refine wm_gR X hS cd_8 1 h dX8_hasTicketOf_4 (Nat.le_of_ble_eq_true rfl) rfl q2025 (fun x21 h => ?_)
    refine wm_iconst (v := 3) X dX8_hasTicketOf_7 (by decide) ?_
    refine wm_iaload X hS h dX8_hasTicketOf_8 (fun x22 h => ?_)
    refine wm_icmp_ge X 30 h dX8_hasTicketOf_9 (by decide) (fun c27 h => ?_) (fun c27 h => ?_)
    · refine wm_sub (ℓ' := []) [] rfl ?_
      exact hkx30 _ h
    · refine wm_aload_n X 0 dX8_hasTicketOf_12 rfl ?_
      refine wm_iload_n X 2 dX8_hasTicketOf_13 rfl ?_
      refine wm_iconst (v := 3) X dX8_hasTicketOf_14 (by decide) ?_
      obtain ⟨s23, h⟩ := ck_e h
      refine wm_cV_i (As := [.int v2, .int 3]) (st := []) X hS cd_8 s23 rfl h (fun _ _ hF => ctX8_of l hF) mdX8_of mvX8_of q2253 dX8_hasTicketOf_15 rfl rfl c1_0 (Nat.le_of_ble_eq_true rfl) ⟨Nat.le_of_ble_eq_true rfl, Nat.le_of_ble_eq_true rfl⟩ ⟨Nat.le_of_ble_eq_true rfl, Nat.le_of_ble_eq_true rfl⟩ (fun x24 σ25 _ h => ?_)
      refine wm_iload_n X 1 dX8_hasTicketOf_18 rfl ?_
      refine wm_icmp_ne X 24 h dX8_hasTicketOf_19 (by decide) (fun c26 h => ?_) (fun c26 h => ?_)
      · refine wm_iinc (v := (v2 + 1)) (ℓ' := [(2, .int (v2 + 1)), (0, va_rf (some h0)), (1, .int y1)]) X 2 dX8_hasTicketOf_24 rfl rfl (by decide) rfl ?_
        refine wm_goto X 2 dX8_hasTicketOf_27 (by decide) ?_
        refine wm_sub (ℓ' := [(0, va_rf (some h0)), (1, .int y1), (2, .int (v2 + 1))]) [1, 2, 0] rfl ?_
        exact ih _ _ _ _ h hkx30 hkx22
      · refine wm_sub (ℓ' := []) [] rfl ?_
        exact hkx22 _ h
set_option maxHeartbeats 4000000 in
theorem ctX8_hasTicketOf (l : Launch) {h0 : Nat} {x1 : Int32} {σ σf : Mm} {r : Int32} (h : FX8_hasTicketOf h0 x1 σ = some (r, σf)) : CTi l yX8_hasTicketOf (ws_ yX8_hasTicketOf cX8_hasTicketOf 3 ((some FieldType.boolean))) 1 22 0 0 [va_rf (some h0), .int x1] σ r σf := by
  refine ct_start (n := 1) mdX8_hasTicketOf (Nat.le_of_ble_eq_true rfl) (c1_r (c1_i c1_0)) (fun p e s m args below meth c D dA sz0 ad0 X hS hr hnm => ?_)
  have X : CX p s m args meth c cX8_hasTicketOf 3 RX8 := X
  generalize mN σ = N0
  unfold FX8_hasTicketOf at h
  refine wm_iconst (v := 0) X dX8_hasTicketOf_0 (by decide) ?_
  refine wm_istore_n (ℓ' := [(2, .int 0), (0, va_rf (some h0)), (1, .int x1)]) X dX8_hasTicketOf_1 (by decide) rfl ?_
  refine wm_sub (ℓ' := [(0, va_rf (some h0)), (1, .int x1), (2, .int 0)]) [1, 2, 0] rfl ?_
  refine wX8_hasTicketOf_2 X hS hr hnm _ _ fu _ _ _ _ h (fun σ h => ?_) (fun σ h => ?_)
  · refine wm_iconst (v := 0) X dX8_hasTicketOf_30 (by decide) ?_
    exact wm_zret X hr h dX8_hasTicketOf_31 (Nat.le_of_ble_eq_true rfl) (Nat.le_of_ble_eq_true rfl)
  · refine wm_iconst (v := 1) X dX8_hasTicketOf_22 (by decide) ?_
    exact wm_zret X hr h dX8_hasTicketOf_23 (Nat.le_of_ble_eq_true rfl) (Nat.le_of_ble_eq_true rfl)
theorem mdX8_lastTaken : MD yX8_lastTaken 0 := by unfold MD; decide +kernel
theorem mvX8_lastTaken : MV yX8_lastTaken cX8_lastTaken 3 ((some FieldType.int)) := ⟨q2265, qs81, q139, q2266⟩
set_option maxHeartbeats 4000000 in
theorem wX8_lastTaken_4 {p : Program} {l : Launch} {e : Env} {s : State} {m : MethodId} {args : Array Value} {below : List Frame} {meth : Method} {c : Code} {D : va_G} {dA : Nat → ClassId} {sz0 : Nat} {ad0 : Nat → Nat} {N0 : Nat} {r : Int32} {σf : Mm} (X : CX p s m args meth c cX8_lastTaken 3 RX8) (hS : ST D dA sz0 ad0 s) (hr : meth.sig.returnType = (some FieldType.int)) (hnm : meth.name = yX8_lastTaken.name) (h0 : Nat) : ∀ (n : Nat) (v1 : Int32) (v2 : Int32) (σ : Mm) (kx44 : Int32 → Mm → Option (Int32 × Mm)), FX8_lastTaken_4 h0 n v1 v2 σ kx44 = some (r, σf) → (∀ (w1 : Int32) (σ : Mm), kx44 w1 σ = some (r, σf) → WMi p l e s m args below meth c 2 44 0 0 3 D dA sz0 ad0 N0 r σf 0 0 σ [(1, .int w1)] [] 44) → WMi p l e s m args below meth c 2 44 0 0 3 D dA sz0 ad0 N0 r σf 0 0 σ [(0, va_rf (some h0)), (1, .int v1), (2, .int v2)] [] 4 := by
  intro n
  induction n with
  | zero =>
    intro v1 v2 σ kx44 h hkx44
    cases h
  | succ n ih =>
    intro v1 v2 σ kx44 h hkx44
    rw [FX8_lastTaken_4] at h
    refine wm_iload_n X 2 dX8_lastTaken_4 rfl ?_
    refine wm_aload_n X 0 dX8_lastTaken_5 rfl ?_
    refine wm_gR X hS cd_8 1 h dX8_lastTaken_6 (Nat.le_of_ble_eq_true rfl) rfl q2025 (fun x21 h => ?_)
    refine wm_iconst (v := 4) X dX8_lastTaken_9 (by decide) ?_
    refine wm_iaload X hS h dX8_lastTaken_10 (fun x22 h => ?_)
    refine wm_icmp_ge X 44 h dX8_lastTaken_11 (by decide) (fun c30 h => ?_) (fun c30 h => ?_)
    · refine wm_sub (ℓ' := [(1, .int v1)]) [1] rfl ?_
      exact hkx44 _ _ h
    · refine wm_aload_n X 0 dX8_lastTaken_14 rfl ?_
      refine wm_gR X hS cd_8 1 h dX8_lastTaken_15 (Nat.le_of_ble_eq_true rfl) rfl q2025 (fun x23 h => ?_)
      refine wm_sipush (v := 272) X dX8_lastTaken_18 (by decide) ?_
      refine wm_iload_n X 2 dX8_lastTaken_21 rfl ?_
      refine wm_iadd X dX8_lastTaken_22 ?_
      refine wm_iaload X hS h dX8_lastTaken_23 (fun x24 h => ?_)
      refine wm_iconst (v := (-1)) X dX8_lastTaken_24 (by decide) ?_
      obtain ⟨J36, eJ36, h⟩ := jn_e h
      have hJ36 : ∀  (σ : Mm), J36  σ = some (r, σf) → WMi p l e s m args below meth c 2 44 0 0 3 D dA sz0 ad0 N0 r σf 0 0 σ [(0, va_rf (some h0)), (2, .int v2)] [] 36 := by
        intro  σ h
        rw [eJ36] at h
        refine wm_iload_n X 1 dX8_lastTaken_36 rfl ?_
        refine wm_istore_n (ℓ' := [(1, .int v2), (0, va_rf (some h0)), (2, .int v2)]) X dX8_lastTaken_37 (by decide) rfl ?_
        refine wm_iinc (v := (v2 + 1)) (ℓ' := [(2, .int (v2 + 1)), (1, .int v2), (0, va_rf (some h0))]) X 2 dX8_lastTaken_38 rfl rfl (by decide) rfl ?_
        refine wm_goto X 4 dX8_lastTaken_41 (by decide) ?_
        refine wm_sub (ℓ' := [(0, va_rf (some h0)), (1, .int v2), (2, .int (v2 + 1))]) [2, 1, 0] rfl ?_
        exact ih _ _ _ _ h hkx44
      clear eJ36
      refine wm_icmp_ne X 36 h dX8_lastTaken_25 (by decide) (fun c29 h => ?_) (fun c29 h => ?_)
      · refine wm_sub (ℓ' := [(0, va_rf (some h0)), (2, .int v2)]) [0, 2] rfl ?_
        exact hJ36 _ h
      · refine wm_aload_n X 0 dX8_lastTaken_28 rfl ?_
        refine wm_iload_n X 2 dX8_lastTaken_29 rfl ?_
        obtain ⟨s25, h⟩ := ck_e h
        refine wm_cV_i (As := [.int v2]) (st := []) X hS cd_8 s25 rfl h (fun _ _ hF => ctX8_hasTicketOf l hF) mdX8_hasTicketOf mvX8_hasTicketOf q2267 dX8_lastTaken_30 rfl rfl c1_0 (Nat.le_of_ble_eq_true rfl) ⟨Nat.le_of_ble_eq_true rfl, Nat.le_of_ble_eq_true rfl⟩ ⟨Nat.le_of_ble_eq_true rfl, Nat.le_of_ble_eq_true rfl⟩ (fun x26 σ27 _ h => ?_)
        refine wm_if_eq X 38 h dX8_lastTaken_33 (by decide) (fun c28 h => ?_) (fun c28 h => ?_)
        · refine wm_iinc (v := (v2 + 1)) (ℓ' := [(2, .int (v2 + 1)), (0, va_rf (some h0)), (1, .int v1)]) X 2 dX8_lastTaken_38 rfl rfl (by decide) rfl ?_
          refine wm_goto X 4 dX8_lastTaken_41 (by decide) ?_
          refine wm_sub (ℓ' := [(0, va_rf (some h0)), (1, .int v1), (2, .int (v2 + 1))]) [1, 2, 0] rfl ?_
          exact ih _ _ _ _ h hkx44
        · refine wm_sub (ℓ' := [(0, va_rf (some h0)), (2, .int v2)]) [0, 2] rfl ?_
          exact hJ36 _ h
set_option maxHeartbeats 4000000 in
theorem ctX8_lastTaken (l : Launch) {h0 : Nat} {σ σf : Mm} {r : Int32} (h : FX8_lastTaken h0 σ = some (r, σf)) : CTi l yX8_lastTaken (ws_ yX8_lastTaken cX8_lastTaken 3 ((some FieldType.int))) 2 44 0 0 [va_rf (some h0)] σ r σf := by
  refine ct_start (n := 0) mdX8_lastTaken (Nat.le_of_ble_eq_true rfl) (c1_r c1_0) (fun p e s m args below meth c D dA sz0 ad0 X hS hr hnm => ?_)
  have X : CX p s m args meth c cX8_lastTaken 3 RX8 := X
  generalize mN σ = N0
  unfold FX8_lastTaken at h
  refine wm_iconst (v := (-1)) X dX8_lastTaken_0 (by decide) ?_
  refine wm_istore_n (ℓ' := [(1, .int (-1)), (0, va_rf (some h0))]) X dX8_lastTaken_1 (by decide) rfl ?_
  refine wm_iconst (v := 0) X dX8_lastTaken_2 (by decide) ?_
  refine wm_istore_n (ℓ' := [(2, .int 0), (1, .int (-1)), (0, va_rf (some h0))]) X dX8_lastTaken_3 (by decide) rfl ?_
  refine wm_sub (ℓ' := [(0, va_rf (some h0)), (1, .int (-1)), (2, .int 0)]) [2, 1, 0] rfl ?_
  refine wX8_lastTaken_4 X hS hr hnm _ fu _ _ _ _ h (fun x31 σ h => ?_)
  · refine wm_iload_n X 0 dX8_lastTaken_44 rfl ?_
    exact wm_iret X hr h dX8_lastTaken_45 (Nat.le_of_ble_eq_true rfl) (Nat.le_of_ble_eq_true rfl)
theorem mdX8_greater : MD yX8_greater 2 := by unfold MD; decide +kernel
theorem msX8_greater : MS yX8_greater cX8_greater 2 ((some FieldType.int)) := ⟨q2272, q139, q2273⟩
set_option maxHeartbeats 4000000 in
theorem ctX8_greater (l : Launch) {x0 : Int32} {x1 : Int32} {σ σf : Mm} {r : Int32} (h : FX8_greater x0 x1 σ = some (r, σf)) : CTi l yX8_greater (ws_ yX8_greater cX8_greater 2 ((some FieldType.int))) 0 0 0 0 [.int x0, .int x1] σ r σf := by
  refine ct_start (n := 2) mdX8_greater (Nat.le_of_ble_eq_true rfl) (c1_i (c1_i c1_0)) (fun p e s m args below meth c D dA sz0 ad0 X hS hr hnm => ?_)
  have X : CX p s m args meth c cX8_greater 2 RX8 := X
  generalize mN σ = N0
  unfold FX8_greater at h
  refine wm_iload_n X 0 dX8_greater_0 rfl ?_
  refine wm_iload_n X 1 dX8_greater_1 rfl ?_
  refine wm_icmp_le X 9 h dX8_greater_2 (by decide) (fun c21 h => ?_) (fun c21 h => ?_)
  · refine wm_iload_n X 1 dX8_greater_9 rfl ?_
    exact wm_iret X hr h dX8_greater_10 (Nat.le_of_ble_eq_true rfl) (Nat.le_of_ble_eq_true rfl)
  · refine wm_iload_n X 0 dX8_greater_5 rfl ?_
    refine wm_goto X 10 dX8_greater_6 (by decide) ?_
    exact wm_iret X hr h dX8_greater_10 (Nat.le_of_ble_eq_true rfl) (Nat.le_of_ble_eq_true rfl)
theorem mdX8_doorLine : MD yX8_doorLine 0 := by unfold MD; decide +kernel
theorem mvX8_doorLine : MV yX8_doorLine cX8_doorLine 3 (none) := ⟨q2218, qs71, q139, q2219⟩
set_option maxHeartbeats 4000000 in
theorem ctX8_doorLine (l : Launch) {h0 : Nat} {σ σf : Mm} (h : FX8_doorLine h0 σ = some σf) : CTv l yX8_doorLine (ws_ yX8_doorLine cX8_doorLine 3 (none)) 6 130 0 0 [va_rf (some h0)] σ σf := by
  refine ct_start (n := 0) mdX8_doorLine (Nat.le_of_ble_eq_true rfl) (c1_r c1_0) (fun p e s m args below meth c D dA sz0 ad0 X hS hr hnm => ?_)
  have X : CX p s m args meth c cX8_doorLine 3 RX8 := X
  generalize mN σ = N0
  unfold FX8_doorLine at h
  refine wm_aload_n X 0 dX8_doorLine_0 rfl ?_
  obtain ⟨s21, h⟩ := ck_e h
  refine wm_cV_i (As := []) (st := []) X hS cd_8 s21 rfl h (fun _ _ hF => ctX8_place l hF) mdX8_place mvX8_place q2181 dX8_doorLine_1 rfl rfl c1_0 (Nat.le_of_ble_eq_true rfl) ⟨Nat.le_of_ble_eq_true rfl, Nat.le_of_ble_eq_true rfl⟩ ⟨Nat.le_of_ble_eq_true rfl, Nat.le_of_ble_eq_true rfl⟩ (fun x22 σ23 _ h => ?_)
  refine wm_istore_n (ℓ' := [(1, .int x22), (0, va_rf (some h0))]) X dX8_doorLine_4 (by decide) rfl ?_
  refine wm_aload_n X 1 dX8_doorLine_5 rfl ?_
  refine wm_ldcS X hS 29 0 rfl dX8_doorLine_6 ?_
  obtain ⟨s24, h⟩ := ck_e h
  refine wm_cV_i (As := [va_rf (some (BIG + 2 * 0))]) (st := []) X hS cd_8 s24 rfl h (fun _ _ hF => ctX8_hask01 l hF) mdX8_has mvX8_has q2151 dX8_doorLine_8 rfl rfl c1_0 (Nat.le_of_ble_eq_true rfl) ⟨Nat.le_of_ble_eq_true rfl, Nat.le_of_ble_eq_true rfl⟩ ⟨Nat.le_of_ble_eq_true rfl, Nat.le_of_ble_eq_true rfl⟩ (fun x25 σ26 _ h => ?_)
  refine wm_if_eq X 22 h dX8_doorLine_11 (by decide) (fun c88 h => ?_) (fun c88 h => ?_)
  · refine wm_aload_n X 1 dX8_doorLine_22 rfl ?_
    refine wm_ldcS X hS 30 1 rfl dX8_doorLine_23 ?_
    obtain ⟨s27, h⟩ := ck_e h
    refine wm_cV_i (As := [va_rf (some (BIG + 2 * 1))]) (st := []) X hS cd_8 s27 rfl h (fun _ _ hF => ctX8_hask01 l hF) mdX8_has mvX8_has q2151 dX8_doorLine_25 rfl rfl c1_0 (Nat.le_of_ble_eq_true rfl) ⟨Nat.le_of_ble_eq_true rfl, Nat.le_of_ble_eq_true rfl⟩ ⟨Nat.le_of_ble_eq_true rfl, Nat.le_of_ble_eq_true rfl⟩ (fun x28 σ29 _ h => ?_)
    refine wm_if_eq X 38 h dX8_doorLine_28 (by decide) (fun c85 h => ?_) (fun c85 h => ?_)
    · refine wm_aload_n X 1 dX8_doorLine_38 rfl ?_
      refine wm_ldcS X hS 20 2 rfl dX8_doorLine_39 ?_
      obtain ⟨s30, h⟩ := ck_e h
      refine wm_cV_i (As := [va_rf (some (BIG + 2 * 2))]) (st := []) X hS cd_8 s30 rfl h (fun _ _ hF => ctX8_hask01 l hF) mdX8_has mvX8_has q2151 dX8_doorLine_41 rfl rfl c1_0 (Nat.le_of_ble_eq_true rfl) ⟨Nat.le_of_ble_eq_true rfl, Nat.le_of_ble_eq_true rfl⟩ ⟨Nat.le_of_ble_eq_true rfl, Nat.le_of_ble_eq_true rfl⟩ (fun x31 σ32 _ h => ?_)
      refine wm_if_eq X 54 h dX8_doorLine_44 (by decide) (fun c82 h => ?_) (fun c82 h => ?_)
      · refine wm_aload_n X 1 dX8_doorLine_54 rfl ?_
        refine wm_ldcS X hS 31 3 rfl dX8_doorLine_55 ?_
        obtain ⟨s33, h⟩ := ck_e h
        refine wm_cV_i (As := [va_rf (some (BIG + 2 * 3))]) (st := []) X hS cd_8 s33 rfl h (fun _ _ hF => ctX8_hask01 l hF) mdX8_has mvX8_has q2151 dX8_doorLine_57 rfl rfl c1_0 (Nat.le_of_ble_eq_true rfl) ⟨Nat.le_of_ble_eq_true rfl, Nat.le_of_ble_eq_true rfl⟩ ⟨Nat.le_of_ble_eq_true rfl, Nat.le_of_ble_eq_true rfl⟩ (fun x34 σ35 _ h => ?_)
        refine wm_if_eq X 70 h dX8_doorLine_60 (by decide) (fun c79 h => ?_) (fun c79 h => ?_)
        · refine wm_aload_n X 1 dX8_doorLine_70 rfl ?_
          refine wm_ldcS X hS 32 4 rfl dX8_doorLine_71 ?_
          obtain ⟨s36, h⟩ := ck_e h
          refine wm_cV_i (As := [va_rf (some (BIG + 2 * 4))]) (st := []) X hS cd_8 s36 rfl h (fun _ _ hF => ctX8_hask01 l hF) mdX8_has mvX8_has q2151 dX8_doorLine_73 rfl rfl c1_0 (Nat.le_of_ble_eq_true rfl) ⟨Nat.le_of_ble_eq_true rfl, Nat.le_of_ble_eq_true rfl⟩ ⟨Nat.le_of_ble_eq_true rfl, Nat.le_of_ble_eq_true rfl⟩ (fun x37 σ38 _ h => ?_)
          refine wm_if_eq X 114 h dX8_doorLine_76 (by decide) (fun c76 h => ?_) (fun c76 h => ?_)
          · refine wm_aload_n X 1 dX8_doorLine_114 rfl ?_
            refine wm_ldcS X hS 33 5 rfl dX8_doorLine_115 ?_
            obtain ⟨s39, h⟩ := ck_e h
            refine wm_cV_i (As := [va_rf (some (BIG + 2 * 5))]) (st := []) X hS cd_8 s39 rfl h (fun _ _ hF => ctX8_hask01 l hF) mdX8_has mvX8_has q2151 dX8_doorLine_117 rfl rfl c1_0 (Nat.le_of_ble_eq_true rfl) ⟨Nat.le_of_ble_eq_true rfl, Nat.le_of_ble_eq_true rfl⟩ ⟨Nat.le_of_ble_eq_true rfl, Nat.le_of_ble_eq_true rfl⟩ (fun x40 σ41 _ h => ?_)
            refine wm_if_eq X 150 h dX8_doorLine_120 (by decide) (fun c63 h => ?_) (fun c63 h => ?_)
            · refine wm_aload_n X 1 dX8_doorLine_150 rfl ?_
              refine wm_ldcS X hS 34 6 rfl dX8_doorLine_151 ?_
              obtain ⟨s42, h⟩ := ck_e h
              refine wm_cV_i (As := [va_rf (some (BIG + 2 * 6))]) (st := []) X hS cd_8 s42 rfl h (fun _ _ hF => ctX8_hask01 l hF) mdX8_has mvX8_has q2151 dX8_doorLine_153 rfl rfl c1_0 (Nat.le_of_ble_eq_true rfl) ⟨Nat.le_of_ble_eq_true rfl, Nat.le_of_ble_eq_true rfl⟩ ⟨Nat.le_of_ble_eq_true rfl, Nat.le_of_ble_eq_true rfl⟩ (fun x43 σ44 _ h => ?_)
              refine wm_if_eq X 186 h dX8_doorLine_156 (by decide) (fun c55 h => ?_) (fun c55 h => ?_)
              · refine wm_aload_n X 1 dX8_doorLine_186 rfl ?_
                refine wm_aload_n X 1 dX8_doorLine_187 rfl ?_
                refine wm_gI X hS cd_8 11 h dX8_doorLine_188 (Nat.le_of_ble_eq_true rfl) rfl q2035 (fun x45 h => ?_)
                obtain ⟨s46, h⟩ := ck_e h
                refine wm_cV_v (As := [.int x45]) (st := []) X hS cd_8 s46 rfl h (fun _ hF => ctX8_wrong l hF) mdX8_wrong mvX8_wrong q2142 dX8_doorLine_191 rfl rfl c1_0 (Nat.le_of_ble_eq_true rfl) ⟨Nat.le_of_ble_eq_true rfl, Nat.le_of_ble_eq_true rfl⟩ ⟨Nat.le_of_ble_eq_true rfl, Nat.le_of_ble_eq_true rfl⟩ (fun σ47 _ h => ?_)
                exact wm_vret X hr h dX8_doorLine_194 (Nat.le_of_ble_eq_true rfl) (Nat.le_of_ble_eq_true rfl)
              · refine wm_aload_n X 1 dX8_doorLine_159 rfl ?_
                refine wm_iconst (v := 0) X dX8_doorLine_160 (by decide) ?_
                refine wm_bipush (v := 100) X dX8_doorLine_161 (by decide) ?_
                obtain ⟨s48, h⟩ := ck_e h
                refine wm_cV_i (As := [.int 0, .int 100]) (st := []) X hS cd_8 s48 rfl h (fun _ _ hF => ctX8_figures l hF) mdX8_figures mvX8_figures q2204 dX8_doorLine_163 rfl rfl c1_0 (Nat.le_of_ble_eq_true rfl) ⟨Nat.le_of_ble_eq_true rfl, Nat.le_of_ble_eq_true rfl⟩ ⟨Nat.le_of_ble_eq_true rfl, Nat.le_of_ble_eq_true rfl⟩ (fun x49 σ50 _ h => ?_)
                refine wm_istore_n (ℓ' := [(2, .int x49), (1, .int x22), (0, va_rf (some h0))]) X dX8_doorLine_166 (by decide) rfl ?_
                refine wm_aload_n X 2 dX8_doorLine_167 rfl ?_
                refine wm_gI X hS cd_8 12 h dX8_doorLine_168 (Nat.le_of_ble_eq_true rfl) rfl q2036 (fun x51 h => ?_)
                refine wm_iconst (v := (-1)) X dX8_doorLine_171 (by decide) ?_
                refine wm_icmp_ne X 183 h dX8_doorLine_172 (by decide) (fun c54 h => ?_) (fun c54 h => ?_)
                · refine wm_goto X 194 dX8_doorLine_183 (by decide) ?_
                  exact wm_vret X hr h dX8_doorLine_194 (Nat.le_of_ble_eq_true rfl) (Nat.le_of_ble_eq_true rfl)
                · refine wm_aload_n X 2 dX8_doorLine_175 rfl ?_
                  refine wm_gR X hS cd_8 1 h dX8_doorLine_176 (Nat.le_of_ble_eq_true rfl) rfl q2025 (fun x52 h => ?_)
                  refine wm_bipush (v := 7) X dX8_doorLine_179 (by decide) ?_
                  refine wm_iload_n X 0 dX8_doorLine_181 rfl ?_
                  refine wm_iastore X hS h dX8_doorLine_182 (fun σ53 _ h => ?_)
                  refine wm_goto X 194 dX8_doorLine_183 (by decide) ?_
                  exact wm_vret X hr h dX8_doorLine_194 (Nat.le_of_ble_eq_true rfl) (Nat.le_of_ble_eq_true rfl)
            · refine wm_aload_n X 1 dX8_doorLine_123 rfl ?_
              refine wm_iconst (v := 0) X dX8_doorLine_124 (by decide) ?_
              refine wm_bipush (v := 100) X dX8_doorLine_125 (by decide) ?_
              obtain ⟨s56, h⟩ := ck_e h
              refine wm_cV_i (As := [.int 0, .int 100]) (st := []) X hS cd_8 s56 rfl h (fun _ _ hF => ctX8_figures l hF) mdX8_figures mvX8_figures q2204 dX8_doorLine_127 rfl rfl c1_0 (Nat.le_of_ble_eq_true rfl) ⟨Nat.le_of_ble_eq_true rfl, Nat.le_of_ble_eq_true rfl⟩ ⟨Nat.le_of_ble_eq_true rfl, Nat.le_of_ble_eq_true rfl⟩ (fun x57 σ58 _ h => ?_)
              refine wm_istore_n (ℓ' := [(2, .int x57), (1, .int x22), (0, va_rf (some h0))]) X dX8_doorLine_130 (by decide) rfl ?_
              refine wm_aload_n X 2 dX8_doorLine_131 rfl ?_
              refine wm_gI X hS cd_8 12 h dX8_doorLine_132 (Nat.le_of_ble_eq_true rfl) rfl q2036 (fun x59 h => ?_)
              refine wm_iconst (v := (-1)) X dX8_doorLine_135 (by decide) ?_
              refine wm_icmp_ne X 147 h dX8_doorLine_136 (by decide) (fun c62 h => ?_) (fun c62 h => ?_)
              · refine wm_goto X 194 dX8_doorLine_147 (by decide) ?_
                exact wm_vret X hr h dX8_doorLine_194 (Nat.le_of_ble_eq_true rfl) (Nat.le_of_ble_eq_true rfl)
              · refine wm_aload_n X 2 dX8_doorLine_139 rfl ?_
                refine wm_gR X hS cd_8 1 h dX8_doorLine_140 (Nat.le_of_ble_eq_true rfl) rfl q2025 (fun x60 h => ?_)
                refine wm_bipush (v := 6) X dX8_doorLine_143 (by decide) ?_
                refine wm_iload_n X 0 dX8_doorLine_145 rfl ?_
                refine wm_iastore X hS h dX8_doorLine_146 (fun σ61 _ h => ?_)
                refine wm_goto X 194 dX8_doorLine_147 (by decide) ?_
                exact wm_vret X hr h dX8_doorLine_194 (Nat.le_of_ble_eq_true rfl) (Nat.le_of_ble_eq_true rfl)
          · refine wm_aload_n X 1 dX8_doorLine_79 rfl ?_
            refine wm_iconst (v := 1) X dX8_doorLine_80 (by decide) ?_
            refine wm_aload_n X 1 dX8_doorLine_81 rfl ?_
            obtain ⟨s64, h⟩ := ck_e h
            refine wm_cV_i (As := []) (st := [.int 1, va_rf (some h0)]) X hS cd_8 s64 rfl h (fun _ _ hF => ctX8_lastTaken l hF) mdX8_lastTaken mvX8_lastTaken q2263 dX8_doorLine_82 rfl rfl (c1_i (c1_r c1_0)) (Nat.le_of_ble_eq_true rfl) ⟨Nat.le_of_ble_eq_true rfl, Nat.le_of_ble_eq_true rfl⟩ ⟨Nat.le_of_ble_eq_true rfl, Nat.le_of_ble_eq_true rfl⟩ (fun x65 σ66 _ h => ?_)
            refine wm_iconst (v := 1) X dX8_doorLine_85 (by decide) ?_
            refine wm_iadd X dX8_doorLine_86 ?_
            refine wm_cS_i (As := [.int 1, .int (x65 + 1)]) (st := [va_rf (some h0)]) X hS h (fun _ _ hF => ctX8_greater l hF) mdX8_greater msX8_greater q2271 dX8_doorLine_87 rfl rfl (c1_r c1_0) (Nat.le_of_ble_eq_true rfl) ⟨Nat.le_of_ble_eq_true rfl, Nat.le_of_ble_eq_true rfl⟩ ⟨Nat.le_of_ble_eq_true rfl, Nat.le_of_ble_eq_true rfl⟩ (fun x67 σ68 _ h => ?_)
            refine wm_bipush (v := 12) X dX8_doorLine_90 (by decide) ?_
            obtain ⟨s69, h⟩ := ck_e h
            refine wm_cV_i (As := [.int x67, .int 12]) (st := []) X hS cd_8 s69 rfl h (fun _ _ hF => ctX8_figures l hF) mdX8_figures mvX8_figures q2204 dX8_doorLine_92 rfl rfl c1_0 (Nat.le_of_ble_eq_true rfl) ⟨Nat.le_of_ble_eq_true rfl, Nat.le_of_ble_eq_true rfl⟩ ⟨Nat.le_of_ble_eq_true rfl, Nat.le_of_ble_eq_true rfl⟩ (fun x70 σ71 _ h => ?_)
            refine wm_istore_n (ℓ' := [(2, .int x70), (1, .int x22), (0, va_rf (some h0))]) X dX8_doorLine_95 (by decide) rfl ?_
            refine wm_aload_n X 2 dX8_doorLine_96 rfl ?_
            refine wm_gI X hS cd_8 12 h dX8_doorLine_97 (Nat.le_of_ble_eq_true rfl) rfl q2036 (fun x72 h => ?_)
            refine wm_iconst (v := (-1)) X dX8_doorLine_100 (by decide) ?_
            refine wm_icmp_ne X 111 h dX8_doorLine_101 (by decide) (fun c75 h => ?_) (fun c75 h => ?_)
            · refine wm_goto X 194 dX8_doorLine_111 (by decide) ?_
              exact wm_vret X hr h dX8_doorLine_194 (Nat.le_of_ble_eq_true rfl) (Nat.le_of_ble_eq_true rfl)
            · refine wm_aload_n X 2 dX8_doorLine_104 rfl ?_
              refine wm_gR X hS cd_8 1 h dX8_doorLine_105 (Nat.le_of_ble_eq_true rfl) rfl q2025 (fun x73 h => ?_)
              refine wm_iconst (v := 4) X dX8_doorLine_108 (by decide) ?_
              refine wm_iload_n X 0 dX8_doorLine_109 rfl ?_
              refine wm_iastore X hS h dX8_doorLine_110 (fun σ74 _ h => ?_)
              refine wm_goto X 194 dX8_doorLine_111 (by decide) ?_
              exact wm_vret X hr h dX8_doorLine_194 (Nat.le_of_ble_eq_true rfl) (Nat.le_of_ble_eq_true rfl)
        · refine wm_aload_n X 1 dX8_doorLine_63 rfl ?_
          obtain ⟨s77, h⟩ := ck_e h
          refine wm_cV_v (As := []) (st := []) X hS cd_8 s77 rfl h (fun _ hF => ctX8_knowsLine l hF) mdX8_knowsLine mvX8_knowsLine q2258 dX8_doorLine_64 rfl rfl c1_0 (Nat.le_of_ble_eq_true rfl) ⟨Nat.le_of_ble_eq_true rfl, Nat.le_of_ble_eq_true rfl⟩ ⟨Nat.le_of_ble_eq_true rfl, Nat.le_of_ble_eq_true rfl⟩ (fun σ78 _ h => ?_)
          refine wm_goto X 194 dX8_doorLine_67 (by decide) ?_
          exact wm_vret X hr h dX8_doorLine_194 (Nat.le_of_ble_eq_true rfl) (Nat.le_of_ble_eq_true rfl)
      · refine wm_aload_n X 1 dX8_doorLine_47 rfl ?_
        obtain ⟨s80, h⟩ := ck_e h
        refine wm_cV_v (As := []) (st := []) X hS cd_8 s80 rfl h (fun _ hF => ctX8_wedLine l hF) mdX8_wedLine mvX8_wedLine q2245 dX8_doorLine_48 rfl rfl c1_0 (Nat.le_of_ble_eq_true rfl) ⟨Nat.le_of_ble_eq_true rfl, Nat.le_of_ble_eq_true rfl⟩ ⟨Nat.le_of_ble_eq_true rfl, Nat.le_of_ble_eq_true rfl⟩ (fun σ81 _ h => ?_)
        refine wm_goto X 194 dX8_doorLine_51 (by decide) ?_
        exact wm_vret X hr h dX8_doorLine_194 (Nat.le_of_ble_eq_true rfl) (Nat.le_of_ble_eq_true rfl)
    · refine wm_aload_n X 1 dX8_doorLine_31 rfl ?_
      obtain ⟨s83, h⟩ := ck_e h
      refine wm_cV_v (As := []) (st := []) X hS cd_8 s83 rfl h (fun _ hF => ctX8_wishLine l hF) mdX8_wishLine mvX8_wishLine q2234 dX8_doorLine_32 rfl rfl c1_0 (Nat.le_of_ble_eq_true rfl) ⟨Nat.le_of_ble_eq_true rfl, Nat.le_of_ble_eq_true rfl⟩ ⟨Nat.le_of_ble_eq_true rfl, Nat.le_of_ble_eq_true rfl⟩ (fun σ84 _ h => ?_)
      refine wm_goto X 194 dX8_doorLine_35 (by decide) ?_
      exact wm_vret X hr h dX8_doorLine_194 (Nat.le_of_ble_eq_true rfl) (Nat.le_of_ble_eq_true rfl)
  · refine wm_aload_n X 1 dX8_doorLine_14 rfl ?_
    refine wm_iload_n X 0 dX8_doorLine_15 rfl ?_
    obtain ⟨s86, h⟩ := ck_e h
    refine wm_cV_v (As := [.int x22]) (st := []) X hS cd_8 s86 rfl h (fun _ hF => ctX8_personLine l hF) mdX8_personLine mvX8_personLine q2221 dX8_doorLine_16 rfl rfl c1_0 (Nat.le_of_ble_eq_true rfl) ⟨Nat.le_of_ble_eq_true rfl, Nat.le_of_ble_eq_true rfl⟩ ⟨Nat.le_of_ble_eq_true rfl, Nat.le_of_ble_eq_true rfl⟩ (fun σ87 _ h => ?_)
    refine wm_goto X 194 dX8_doorLine_19 (by decide) ?_
    exact wm_vret X hr h dX8_doorLine_194 (Nat.le_of_ble_eq_true rfl) (Nat.le_of_ble_eq_true rfl)
theorem mdX8_read : MD yX8_read 1 := by unfold MD; decide +kernel
theorem mvX8_read : MV yX8_read cX8_read 4 ((some FieldType.int)) := ⟨q2132, qs56, q139, q2133⟩
set_option maxHeartbeats 4000000 in
theorem wX8_read_23 {p : Program} {l : Launch} {e : Env} {s : State} {m : MethodId} {args : Array Value} {below : List Frame} {meth : Method} {c : Code} {D : va_G} {dA : Nat → ClassId} {sz0 : Nat} {ad0 : Nat → Nat} {N0 : Nat} {r : Int32} {σf : Mm} (X : CX p s m args meth c cX8_read 4 RX8) (hS : ST D dA sz0 ad0 s) (hr : meth.sig.returnType = (some FieldType.int)) (hnm : meth.name = yX8_read.name) (h0 : Nat) (y1 : Int32) : ∀ (n : Nat) (v2 : Int32) (v3 : Int32) (σ : Mm) (kx144 : Int32 → Mm → Option (Int32 × Mm)), FX8_read_23 h0 y1 n v2 v3 σ kx144 = some (r, σf) → (∀ (w3 : Int32) (σ : Mm), kx144 w3 σ = some (r, σf) → WMi p l e s m args below meth c 88 1926 0 0 4 D dA sz0 ad0 N0 r σf 0 0 σ [(3, .int w3)] [] 144) → WMi p l e s m args below meth c 88 1926 0 0 4 D dA sz0 ad0 N0 r σf 0 0 σ [(0, va_rf (some h0)), (1, .int y1), (2, .int v2), (3, .int v3)] [] 23 := by
  intro n
  induction n with
  | zero =>
    intro v2 v3 σ kx144 h hkx144
    cases h
  | succ n ih =>
    intro v2 v3 σ kx144 h hkx144
    rw [FX8_read_23] at h
    refine wm_iload_n X 2 dX8_read_23 rfl ?_
    refine wm_if_eq X 144 h dX8_read_24 (by decide) (fun c57 h => ?_) (fun c57 h => ?_)
    · refine wm_sub (ℓ' := [(3, .int v3)]) [3] rfl ?_
      exact hkx144 _ _ h
    · refine wm_aload_n X 0 dX8_read_27 rfl ?_
      refine wm_gI X hS cd_8 12 h dX8_read_28 (Nat.le_of_ble_eq_true rfl) rfl q2036 (fun x26 h => ?_)
      refine wm_iconst (v := (-1)) X dX8_read_31 (by decide) ?_
      refine wm_icmp_ne X 144 h dX8_read_32 (by decide) (fun c56 h => ?_) (fun c56 h => ?_)
      · refine wm_sub (ℓ' := [(3, .int v3)]) [3] rfl ?_
        exact hkx144 _ _ h
      · refine wm_aload_n X 0 dX8_read_35 rfl ?_
        obtain ⟨s27, h⟩ := ck_e h
        refine wm_cV_v (As := []) (st := []) X hS cd_8 s27 rfl h (fun _ hF => ctX8_skip l hF) mdX8_skip mvX8_skip q2134 dX8_read_36 rfl rfl c1_0 (Nat.le_of_ble_eq_true rfl) ⟨Nat.le_of_ble_eq_true rfl, Nat.le_of_ble_eq_true rfl⟩ ⟨Nat.le_of_ble_eq_true rfl, Nat.le_of_ble_eq_true rfl⟩ (fun σ28 _ h => ?_)
        refine wm_iload_n X 3 dX8_read_39 rfl ?_
        refine wm_iload_n X 1 dX8_read_40 rfl ?_
        obtain ⟨J51, eJ51, h⟩ := jn_e h
        have hJ51 : ∀ (z29 : Int32) (σ : Mm), J51 z29 σ = some (r, σf) → WMi p l e s m args below meth c 88 1926 0 0 4 D dA sz0 ad0 N0 r σf 0 0 σ [(0, va_rf (some h0)), (1, .int y1), (2, .int v2), (3, .int v3)] [.int z29, .int v3] 51 := by
          intro z29 σ h
          rw [eJ51] at h
          obtain ⟨J80, eJ80, h⟩ := jn_e h
          have hJ80 : ∀  (σ : Mm), J80  σ = some (r, σf) → WMi p l e s m args below meth c 88 1926 0 0 4 D dA sz0 ad0 N0 r σf 0 0 σ [(0, va_rf (some h0)), (1, .int y1), (2, .int v2), (3, .int v3)] [] 80 := by
            intro  σ h
            rw [eJ80] at h
            refine wm_iinc (v := (v3 + 1)) (ℓ' := [(3, .int (v3 + 1)), (0, va_rf (some h0)), (1, .int y1), (2, .int v2)]) X 3 dX8_read_80 rfl rfl (by decide) rfl ?_
            refine wm_aload_n X 1 dX8_read_83 rfl ?_
            obtain ⟨s30, h⟩ := ck_e h
            refine wm_cV_v (As := []) (st := []) X hS cd_8 s30 rfl h (fun _ hF => ctX8_skip l hF) mdX8_skip mvX8_skip q2134 dX8_read_84 rfl rfl c1_0 (Nat.le_of_ble_eq_true rfl) ⟨Nat.le_of_ble_eq_true rfl, Nat.le_of_ble_eq_true rfl⟩ ⟨Nat.le_of_ble_eq_true rfl, Nat.le_of_ble_eq_true rfl⟩ (fun σ31 _ h => ?_)
            refine wm_aload_n X 1 dX8_read_87 rfl ?_
            refine wm_gI X hS cd_8 12 h dX8_read_88 (Nat.le_of_ble_eq_true rfl) rfl q2036 (fun x32 h => ?_)
            refine wm_iconst (v := (-1)) X dX8_read_91 (by decide) ?_
            obtain ⟨J106, eJ106, h⟩ := jn_e h
            have hJ106 : ∀  (σ : Mm), J106  σ = some (r, σf) → WMi p l e s m args below meth c 88 1926 0 0 4 D dA sz0 ad0 N0 r σf 0 0 σ [(0, va_rf (some h0)), (1, .int y1), (3, .int (v3 + 1))] [] 106 := by
              intro  σ h
              rw [eJ106] at h
              refine wm_iconst (v := 0) X dX8_read_106 (by decide) ?_
              refine wm_istore_n (ℓ' := [(2, .int 0), (0, va_rf (some h0)), (1, .int y1), (3, .int (v3 + 1))]) X dX8_read_107 (by decide) rfl ?_
              refine wm_goto X 23 dX8_read_108 (by decide) ?_
              refine wm_sub (ℓ' := [(0, va_rf (some h0)), (1, .int y1), (2, .int 0), (3, .int (v3 + 1))]) [1, 2, 0, 3] rfl ?_
              exact ih _ _ _ _ h hkx144
            clear eJ106
            refine wm_icmp_ne X 106 h dX8_read_92 (by decide) (fun c45 h => ?_) (fun c45 h => ?_)
            · refine wm_sub (ℓ' := [(0, va_rf (some h0)), (1, .int y1), (3, .int (v3 + 1))]) [1, 2, 0] rfl ?_
              exact hJ106 _ h
            · refine wm_aload_n X 1 dX8_read_95 rfl ?_
              refine wm_gI X hS cd_8 11 h dX8_read_96 (Nat.le_of_ble_eq_true rfl) rfl q2035 (fun x33 h => ?_)
              refine wm_aload_n X 1 dX8_read_99 rfl ?_
              refine wm_gI X hS cd_8 10 h dX8_read_100 (Nat.le_of_ble_eq_true rfl) rfl q2034 (fun x34 h => ?_)
              refine wm_icmp_ne X 111 h dX8_read_103 (by decide) (fun c44 h => ?_) (fun c44 h => ?_)
              · refine wm_aload_n X 1 dX8_read_111 rfl ?_
                refine wm_bipush (v := 59) X dX8_read_112 (by decide) ?_
                obtain ⟨s35, h⟩ := ck_e h
                refine wm_cV_i (As := [.int 59]) (st := []) X hS cd_8 s35 rfl h (fun _ _ hF => ctX8_isSign l hF) mdX8_isSign mvX8_isSign q2186 dX8_read_114 rfl rfl c1_0 (Nat.le_of_ble_eq_true rfl) ⟨Nat.le_of_ble_eq_true rfl, Nat.le_of_ble_eq_true rfl⟩ ⟨Nat.le_of_ble_eq_true rfl, Nat.le_of_ble_eq_true rfl⟩ (fun x36 σ37 _ h => ?_)
                refine wm_if_eq X 133 h dX8_read_117 (by decide) (fun c43 h => ?_) (fun c43 h => ?_)
                · refine wm_aload_n X 1 dX8_read_133 rfl ?_
                  refine wm_aload_n X 1 dX8_read_134 rfl ?_
                  refine wm_gI X hS cd_8 11 h dX8_read_135 (Nat.le_of_ble_eq_true rfl) rfl q2035 (fun x38 h => ?_)
                  obtain ⟨s39, h⟩ := ck_e h
                  refine wm_cV_v (As := [.int x38]) (st := []) X hS cd_8 s39 rfl h (fun _ hF => ctX8_wrong l hF) mdX8_wrong mvX8_wrong q2142 dX8_read_138 rfl rfl c1_0 (Nat.le_of_ble_eq_true rfl) ⟨Nat.le_of_ble_eq_true rfl, Nat.le_of_ble_eq_true rfl⟩ ⟨Nat.le_of_ble_eq_true rfl, Nat.le_of_ble_eq_true rfl⟩ (fun σ40 _ h => ?_)
                  refine wm_goto X 23 dX8_read_141 (by decide) ?_
                  refine wm_sub (ℓ' := [(0, va_rf (some h0)), (1, .int y1), (2, .int v2), (3, .int (v3 + 1))]) [1, 2, 3, 0] rfl ?_
                  exact ih _ _ _ _ h hkx144
                · refine wm_aload_n X 1 dX8_read_120 rfl ?_
                  refine wm_dup X dX8_read_121 (catR _) ?_
                  refine wm_gI X hS cd_8 11 h dX8_read_122 (Nat.le_of_ble_eq_true rfl) rfl q2035 (fun x41 h => ?_)
                  refine wm_iconst (v := 1) X dX8_read_125 (by decide) ?_
                  refine wm_iadd X dX8_read_126 ?_
                  refine wm_pI X hS cd_8 11 h dX8_read_127 (Nat.le_of_ble_eq_true rfl) rfl q2035 rfl rfl (fun σ42 _ h => ?_)
                  refine wm_goto X 23 dX8_read_130 (by decide) ?_
                  refine wm_sub (ℓ' := [(0, va_rf (some h0)), (1, .int y1), (2, .int v2), (3, .int (v3 + 1))]) [1, 2, 3, 0] rfl ?_
                  exact ih _ _ _ _ h hkx144
              · refine wm_sub (ℓ' := [(0, va_rf (some h0)), (1, .int y1), (3, .int (v3 + 1))]) [1, 2, 0] rfl ?_
                exact hJ106 _ h
          clear eJ80
          refine wm_icmp_ne X 65 h dX8_read_51 (by decide) (fun c54 h => ?_) (fun c54 h => ?_)
          · refine wm_iload_n X 1 dX8_read_65 rfl ?_
            refine wm_if_eq X 76 h dX8_read_66 (by decide) (fun c50 h => ?_) (fun c50 h => ?_)
            · refine wm_aload_n X 0 dX8_read_76 rfl ?_
              obtain ⟨s46, h⟩ := ck_e h
              refine wm_cV_v (As := []) (st := []) X hS cd_8 s46 rfl h (fun _ hF => ctX8_doorLine l hF) mdX8_doorLine mvX8_doorLine q2216 dX8_read_77 rfl rfl c1_0 (Nat.le_of_ble_eq_true rfl) ⟨Nat.le_of_ble_eq_true rfl, Nat.le_of_ble_eq_true rfl⟩ ⟨Nat.le_of_ble_eq_true rfl, Nat.le_of_ble_eq_true rfl⟩ (fun σ47 _ h => ?_)
              exact hJ80 _ h
            · refine wm_aload_n X 0 dX8_read_69 rfl ?_
              obtain ⟨s48, h⟩ := ck_e h
              refine wm_cV_v (As := []) (st := []) X hS cd_8 s48 rfl h (fun _ hF => ctX8_lawLine l hF) mdX8_lawLine mvX8_lawLine q2146 dX8_read_70 rfl rfl c1_0 (Nat.le_of_ble_eq_true rfl) ⟨Nat.le_of_ble_eq_true rfl, Nat.le_of_ble_eq_true rfl⟩ ⟨Nat.le_of_ble_eq_true rfl, Nat.le_of_ble_eq_true rfl⟩ (fun σ49 _ h => ?_)
              refine wm_goto X 80 dX8_read_73 (by decide) ?_
              exact hJ80 _ h
          · refine wm_aload_n X 0 dX8_read_54 rfl ?_
            refine wm_aload_n X 0 dX8_read_55 rfl ?_
            refine wm_gI X hS cd_8 11 h dX8_read_56 (Nat.le_of_ble_eq_true rfl) rfl q2035 (fun x51 h => ?_)
            obtain ⟨s52, h⟩ := ck_e h
            refine wm_cV_v (As := [.int x51]) (st := []) X hS cd_8 s52 rfl h (fun _ hF => ctX8_wrong l hF) mdX8_wrong mvX8_wrong q2142 dX8_read_59 rfl rfl c1_0 (Nat.le_of_ble_eq_true rfl) ⟨Nat.le_of_ble_eq_true rfl, Nat.le_of_ble_eq_true rfl⟩ ⟨Nat.le_of_ble_eq_true rfl, Nat.le_of_ble_eq_true rfl⟩ (fun σ53 _ h => ?_)
            refine wm_goto X 80 dX8_read_62 (by decide) ?_
            exact hJ80 _ h
        clear eJ51
        refine wm_if_eq X 49 h dX8_read_41 (by decide) (fun c55 h => ?_) (fun c55 h => ?_)
        · refine wm_bipush (v := 14) X dX8_read_49 (by decide) ?_
          exact hJ51 _ _ h
        · refine wm_bipush (v := 12) X dX8_read_44 (by decide) ?_
          refine wm_goto X 51 dX8_read_46 (by decide) ?_
          exact hJ51 _ _ h
set_option maxHeartbeats 4000000 in
theorem ctX8_read (l : Launch) {h0 : Nat} {x1 : Int32} {σ σf : Mm} {r : Int32} (h : FX8_read h0 x1 σ = some (r, σf)) : CTi l yX8_read (ws_ yX8_read cX8_read 4 ((some FieldType.int))) 88 1926 0 0 [va_rf (some h0), .int x1] σ r σf := by
  refine ct_start (n := 1) mdX8_read (Nat.le_of_ble_eq_true rfl) (c1_r (c1_i c1_0)) (fun p e s m args below meth c D dA sz0 ad0 X hS hr hnm => ?_)
  have X : CX p s m args meth c cX8_read 4 RX8 := X
  generalize mN σ = N0
  unfold FX8_read at h
  refine wm_aload_n X 0 dX8_read_0 rfl ?_
  obtain ⟨s21, h⟩ := ck_e h
  refine wm_cV_v (As := []) (st := []) X hS cd_8 s21 rfl h (fun _ hF => ctX8_skip l hF) mdX8_skip mvX8_skip q2134 dX8_read_1 rfl rfl c1_0 (Nat.le_of_ble_eq_true rfl) ⟨Nat.le_of_ble_eq_true rfl, Nat.le_of_ble_eq_true rfl⟩ ⟨Nat.le_of_ble_eq_true rfl, Nat.le_of_ble_eq_true rfl⟩ (fun σ22 _ h => ?_)
  refine wm_aload_n X 0 dX8_read_4 rfl ?_
  refine wm_gI X hS cd_8 11 h dX8_read_5 (Nat.le_of_ble_eq_true rfl) rfl q2035 (fun x23 h => ?_)
  refine wm_aload_n X 0 dX8_read_8 rfl ?_
  refine wm_gI X hS cd_8 10 h dX8_read_9 (Nat.le_of_ble_eq_true rfl) rfl q2034 (fun x24 h => ?_)
  obtain ⟨J20, eJ20, h⟩ := jn_e h
  have hJ20 : ∀ (z25 : Int32) (σ : Mm), J20 z25 σ = some (r, σf) → WMi p l e s m args below meth c 88 1926 0 0 4 D dA sz0 ad0 N0 r σf 0 0 σ [(0, va_rf (some h0)), (1, .int x1)] [.int z25] 20 := by
    intro z25 σ h
    rw [eJ20] at h
    refine wm_istore_n (ℓ' := [(2, .int z25), (0, va_rf (some h0)), (1, .int x1)]) X dX8_read_20 (by decide) rfl ?_
    refine wm_iconst (v := 0) X dX8_read_21 (by decide) ?_
    refine wm_istore_n (ℓ' := [(3, .int 0), (2, .int z25), (0, va_rf (some h0)), (1, .int x1)]) X dX8_read_22 (by decide) rfl ?_
    refine wm_sub (ℓ' := [(0, va_rf (some h0)), (1, .int x1), (2, .int z25), (3, .int 0)]) [2, 3, 1, 0] rfl ?_
    refine wX8_read_23 X hS hr hnm _ _ fu _ _ _ _ h (fun x58 σ h => ?_)
    · refine wm_iload_n X 0 dX8_read_144 rfl ?_
      exact wm_iret X hr h dX8_read_145 (Nat.le_of_ble_eq_true rfl) (Nat.le_of_ble_eq_true rfl)
  clear eJ20
  refine wm_icmp_ge X 19 h dX8_read_12 (by decide) (fun c59 h => ?_) (fun c59 h => ?_)
  · refine wm_iconst (v := 0) X dX8_read_19 (by decide) ?_
    exact hJ20 _ _ h
  · refine wm_iconst (v := 1) X dX8_read_15 (by decide) ?_
    refine wm_goto X 20 dX8_read_16 (by decide) ?_
    exact hJ20 _ _ h
theorem mdX8_comesBack : MD yX8_comesBack 0 := by unfold MD; decide +kernel
theorem mvX8_comesBack : MV yX8_comesBack cX8_comesBack 2 (none) := ⟨q2278, qs83, q139, q2279⟩
set_option maxHeartbeats 4000000 in
theorem wX8_comesBack_2 {p : Program} {l : Launch} {e : Env} {s : State} {m : MethodId} {args : Array Value} {below : List Frame} {meth : Method} {c : Code} {D : va_G} {dA : Nat → ClassId} {sz0 : Nat} {ad0 : Nat → Nat} {N0 : Nat} {σf : Mm} (X : CX p s m args meth c cX8_comesBack 2 RX8) (hS : ST D dA sz0 ad0 s) (hr : meth.sig.returnType = none) (hnm : meth.name = yX8_comesBack.name) (h0 : Nat) : ∀ (n : Nat) (v1 : Int32) (σ : Mm) (kx27 : Mm → Option (Mm)), FX8_comesBack_2 h0 n v1 σ kx27 = some σf → (∀  (σ : Mm), kx27 σ = some σf → WMv p l e s m args below meth c 0 0 0 0 2 D dA sz0 ad0 N0 σf 0 0 σ [] [] 27) → WMv p l e s m args below meth c 0 0 0 0 2 D dA sz0 ad0 N0 σf 0 0 σ [(0, va_rf (some h0)), (1, .int v1)] [] 2 := by
  intro n
  induction n with
  | zero =>
    intro v1 σ kx27 h hkx27
    cases h
  | succ n ih =>
    intro v1 σ kx27 h hkx27
    rw [FX8_comesBack_2] at h
    refine wm_iload_n X 1 dX8_comesBack_2 rfl ?_
    refine wm_sipush (v := 584) X dX8_comesBack_3 (by decide) ?_
    refine wm_icmp_ge X 27 h dX8_comesBack_6 (by decide) (fun c25 h => ?_) (fun c25 h => ?_)
    · refine wm_sub (ℓ' := []) [] rfl ?_
      exact hkx27 _ h
    · refine wm_aload_n X 0 dX8_comesBack_9 rfl ?_
      refine wm_gR X hS cd_8 1 h dX8_comesBack_10 (Nat.le_of_ble_eq_true rfl) rfl q2025 (fun x21 h => ?_)
      refine wm_iload_n X 1 dX8_comesBack_13 rfl ?_
      refine wm_aload_n X 0 dX8_comesBack_14 rfl ?_
      refine wm_gR X hS cd_8 4 h dX8_comesBack_15 (Nat.le_of_ble_eq_true rfl) rfl q2028 (fun x22 h => ?_)
      refine wm_iload_n X 1 dX8_comesBack_18 rfl ?_
      refine wm_iaload X hS h dX8_comesBack_19 (fun x23 h => ?_)
      refine wm_iastore X hS h dX8_comesBack_20 (fun σ24 _ h => ?_)
      refine wm_iinc (v := (v1 + 1)) (ℓ' := [(1, .int (v1 + 1)), (0, va_rf (some h0))]) X 1 dX8_comesBack_21 rfl rfl (by decide) rfl ?_
      refine wm_goto X 2 dX8_comesBack_24 (by decide) ?_
      refine wm_sub (ℓ' := [(0, va_rf (some h0)), (1, .int (v1 + 1))]) [1, 0] rfl ?_
      exact ih _ _ _ h hkx27
set_option maxHeartbeats 4000000 in
theorem ctX8_comesBack (l : Launch) {h0 : Nat} {σ σf : Mm} (h : FX8_comesBack h0 σ = some σf) : CTv l yX8_comesBack (ws_ yX8_comesBack cX8_comesBack 2 (none)) 0 0 0 0 [va_rf (some h0)] σ σf := by
  refine ct_start (n := 0) mdX8_comesBack (Nat.le_of_ble_eq_true rfl) (c1_r c1_0) (fun p e s m args below meth c D dA sz0 ad0 X hS hr hnm => ?_)
  have X : CX p s m args meth c cX8_comesBack 2 RX8 := X
  generalize mN σ = N0
  unfold FX8_comesBack at h
  refine wm_iconst (v := 0) X dX8_comesBack_0 (by decide) ?_
  refine wm_istore_n (ℓ' := [(1, .int 0), (0, va_rf (some h0))]) X dX8_comesBack_1 (by decide) rfl ?_
  refine wm_sub (ℓ' := [(0, va_rf (some h0)), (1, .int 0)]) [1, 0] rfl ?_
  refine wX8_comesBack_2 X hS hr hnm _ fu _ _ _ h (fun σ h => ?_)
  · exact wm_vret X hr h dX8_comesBack_27 (Nat.le_of_ble_eq_true rfl) (Nat.le_of_ble_eq_true rfl)
theorem mdX8_door : MD yX8_door 0 := by unfold MD; decide +kernel
theorem mvX8_door : MV yX8_door cX8_door 2 ((some FieldType.int)) := ⟨q2119, q2120, q139, q2121⟩
set_option maxHeartbeats 4000000 in
theorem ctX8_door (l : Launch) {h0 : Nat} {σ σf : Mm} {r : Int32} (h : FX8_door h0 σ = some (r, σf)) : CTi l yX8_door (ws_ yX8_door cX8_door 2 ((some FieldType.int))) 89 1949 0 0 [va_rf (some h0)] σ r σf := by
  refine ct_start (n := 0) mdX8_door (Nat.le_of_ble_eq_true rfl) (c1_r c1_0) (fun p e s m args below meth c D dA sz0 ad0 X hS hr hnm => ?_)
  have X : CX p s m args meth c cX8_door 2 RX8 := X
  generalize mN σ = N0
  unfold FX8_door at h
  refine wm_aload_n X 0 dX8_door_0 rfl ?_
  obtain ⟨s21, h⟩ := ck_e h
  refine wm_cV_v (As := []) (st := []) X hS cd_8 s21 rfl h (fun _ hF => ctX8_putsAside l hF) mdX8_putsAside mvX8_putsAside q2122 dX8_door_1 rfl rfl c1_0 (Nat.le_of_ble_eq_true rfl) ⟨Nat.le_of_ble_eq_true rfl, Nat.le_of_ble_eq_true rfl⟩ ⟨Nat.le_of_ble_eq_true rfl, Nat.le_of_ble_eq_true rfl⟩ (fun σ22 _ h => ?_)
  refine wm_aload_n X 0 dX8_door_4 rfl ?_
  obtain ⟨s23, h⟩ := ck_e h
  refine wm_cV_v (As := []) (st := []) X hS cd_8 s23 rfl h (fun _ hF => ctX8_begins l hF) mdX8_begins mvX8_begins q2126 dX8_door_5 rfl rfl c1_0 (Nat.le_of_ble_eq_true rfl) ⟨Nat.le_of_ble_eq_true rfl, Nat.le_of_ble_eq_true rfl⟩ ⟨Nat.le_of_ble_eq_true rfl, Nat.le_of_ble_eq_true rfl⟩ (fun σ24 _ h => ?_)
  refine wm_aload_n X 0 dX8_door_8 rfl ?_
  refine wm_iconst (v := 0) X dX8_door_9 (by decide) ?_
  obtain ⟨s25, h⟩ := ck_e h
  refine wm_cV_i (As := [.int 0]) (st := []) X hS cd_8 s25 rfl h (fun _ _ hF => ctX8_read l hF) mdX8_read mvX8_read q2130 dX8_door_10 rfl rfl c1_0 (Nat.le_of_ble_eq_true rfl) ⟨Nat.le_of_ble_eq_true rfl, Nat.le_of_ble_eq_true rfl⟩ ⟨Nat.le_of_ble_eq_true rfl, Nat.le_of_ble_eq_true rfl⟩ (fun x26 σ27 _ h => ?_)
  refine wm_istore_n (ℓ' := [(1, .int x26), (0, va_rf (some h0))]) X dX8_door_13 (by decide) rfl ?_
  refine wm_aload_n X 1 dX8_door_14 rfl ?_
  refine wm_aload_n X 1 dX8_door_15 rfl ?_
  refine wm_gI X hS cd_8 12 h dX8_door_16 (Nat.le_of_ble_eq_true rfl) rfl q2036 (fun x28 h => ?_)
  refine wm_iconst (v := (-1)) X dX8_door_19 (by decide) ?_
  obtain ⟨J43, eJ43, h⟩ := jn_e h
  have hJ43 : ∀ (z29 : Int32) (σ : Mm), J43 z29 σ = some (r, σf) → WMi p l e s m args below meth c 89 1949 0 0 2 D dA sz0 ad0 N0 r σf 0 0 σ [(0, va_rf (some h0))] [.int z29, va_rf (some h0)] 43 := by
    intro z29 σ h
    rw [eJ43] at h
    refine wm_pI X hS cd_8 0 h dX8_door_43 (Nat.le_of_ble_eq_true rfl) rfl q2024 rfl rfl (fun σ30 _ h => ?_)
    refine wm_aload_n X 0 dX8_door_46 rfl ?_
    refine wm_gI X hS cd_8 0 h dX8_door_47 (Nat.le_of_ble_eq_true rfl) rfl q2024 (fun x31 h => ?_)
    refine wm_if_le X 59 h dX8_door_50 (by decide) (fun c40 h => ?_) (fun c40 h => ?_)
    · refine wm_aload_n X 0 dX8_door_59 rfl ?_
      refine wm_gR X hS cd_8 1 h dX8_door_60 (Nat.le_of_ble_eq_true rfl) rfl q2025 (fun x32 h => ?_)
      refine wm_iconst (v := 0) X dX8_door_63 (by decide) ?_
      refine wm_dup2 X dX8_door_64 rfl (catR _) ?_
      refine wm_iaload X hS h dX8_door_65 (fun x33 h => ?_)
      refine wm_iconst (v := 1) X dX8_door_66 (by decide) ?_
      refine wm_iadd X dX8_door_67 ?_
      refine wm_iastore X hS h dX8_door_68 (fun σ34 _ h => ?_)
      refine wm_aload_n X 0 dX8_door_69 rfl ?_
      refine wm_iconst (v := 0) X dX8_door_70 (by decide) ?_
      refine wm_pI X hS cd_8 6 h dX8_door_71 (Nat.le_of_ble_eq_true rfl) rfl q2030 rfl rfl (fun σ35 _ h => ?_)
      refine wm_aload_n X 0 dX8_door_74 rfl ?_
      refine wm_gR X hS cd_8 1 h dX8_door_75 (Nat.le_of_ble_eq_true rfl) rfl q2025 (fun x36 h => ?_)
      refine wm_iconst (v := 0) X dX8_door_78 (by decide) ?_
      refine wm_iaload X hS h dX8_door_79 (fun x37 h => ?_)
      exact wm_iret X hr h dX8_door_80 (Nat.le_of_ble_eq_true rfl) (Nat.le_of_ble_eq_true rfl)
    · refine wm_aload_n X 0 dX8_door_53 rfl ?_
      obtain ⟨s38, h⟩ := ck_e h
      refine wm_cV_v (As := []) (st := []) X hS cd_8 s38 rfl h (fun _ hF => ctX8_comesBack l hF) mdX8_comesBack mvX8_comesBack q2276 dX8_door_54 rfl rfl c1_0 (Nat.le_of_ble_eq_true rfl) ⟨Nat.le_of_ble_eq_true rfl, Nat.le_of_ble_eq_true rfl⟩ ⟨Nat.le_of_ble_eq_true rfl, Nat.le_of_ble_eq_true rfl⟩ (fun σ39 _ h => ?_)
      refine wm_iconst (v := 0) X dX8_door_57 (by decide) ?_
      exact wm_iret X hr h dX8_door_58 (Nat.le_of_ble_eq_true rfl) (Nat.le_of_ble_eq_true rfl)
  clear eJ43
  refine wm_icmp_eq X 27 h dX8_door_20 (by decide) (fun c44 h => ?_) (fun c44 h => ?_)
  · refine wm_aload_n X 1 dX8_door_27 rfl ?_
    refine wm_gR X hS cd_8 1 h dX8_door_28 (Nat.le_of_ble_eq_true rfl) rfl q2025 (fun x41 h => ?_)
    refine wm_iconst (v := 0) X dX8_door_31 (by decide) ?_
    refine wm_iaload X hS h dX8_door_32 (fun x42 h => ?_)
    refine wm_bipush (v := 12) X dX8_door_33 (by decide) ?_
    refine wm_icmp_ne X 42 h dX8_door_35 (by decide) (fun c43 h => ?_) (fun c43 h => ?_)
    · refine wm_iconst (v := 0) X dX8_door_42 (by decide) ?_
      refine wm_sub (ℓ' := [(0, va_rf (some h0))]) [1] rfl ?_
      exact hJ43 _ _ h
    · refine wm_iconst (v := 2) X dX8_door_38 (by decide) ?_
      refine wm_goto X 43 dX8_door_39 (by decide) ?_
      refine wm_sub (ℓ' := [(0, va_rf (some h0))]) [1] rfl ?_
      exact hJ43 _ _ h
  · refine wm_iconst (v := 1) X dX8_door_23 (by decide) ?_
    refine wm_goto X 43 dX8_door_24 (by decide) ?_
    refine wm_sub (ℓ' := [(0, va_rf (some h0))]) [1] rfl ?_
    exact hJ43 _ _ h
theorem mdX8_law : MD yX8_law 0 := by unfold MD; decide +kernel
theorem mvX8_law : MV yX8_law cX8_law 3 ((some FieldType.int)) := ⟨q2281, q2282, q139, q2283⟩
set_option maxHeartbeats 4000000 in
theorem wX8_law_55 {p : Program} {l : Launch} {e : Env} {s : State} {m : MethodId} {args : Array Value} {below : List Frame} {meth : Method} {c : Code} {D : va_G} {dA : Nat → ClassId} {sz0 : Nat} {ad0 : Nat → Nat} {N0 : Nat} {r : Int32} {σf : Mm} (X : CX p s m args meth c cX8_law 3 RX8) (hS : ST D dA sz0 ad0 s) (hr : meth.sig.returnType = (some FieldType.int)) (hnm : meth.name = yX8_law.name) (h0 : Nat) (y1 : Int32) : ∀ (n : Nat) (v2 : Int32) (σ : Mm) (kx85 : Mm → Option (Int32 × Mm)), FX8_law_55 h0 y1 n v2 σ kx85 = some (r, σf) → (∀  (σ : Mm), kx85 σ = some (r, σf) → WMi p l e s m args below meth c 89 1949 0 0 3 D dA sz0 ad0 N0 r σf 0 0 σ [(0, va_rf (some h0)), (1, .int y1)] [] 85) → WMi p l e s m args below meth c 89 1949 0 0 3 D dA sz0 ad0 N0 r σf 0 0 σ [(0, va_rf (some h0)), (1, .int y1), (2, .int v2)] [] 55 := by
  intro n
  induction n with
  | zero =>
    intro v2 σ kx85 h hkx85
    cases h
  | succ n ih =>
    intro v2 σ kx85 h hkx85
    rw [FX8_law_55] at h
    refine wm_iload_n X 2 dX8_law_55 rfl ?_
    refine wm_aload_n X 0 dX8_law_56 rfl ?_
    refine wm_gI X hS cd_8 10 h dX8_law_57 (Nat.le_of_ble_eq_true rfl) rfl q2034 (fun x35 h => ?_)
    refine wm_icmp_ge X 85 h dX8_law_60 (by decide) (fun c40 h => ?_) (fun c40 h => ?_)
    · refine wm_sub (ℓ' := [(0, va_rf (some h0)), (1, .int y1)]) [0, 1] rfl ?_
      exact hkx85 _ h
    · refine wm_aload_n X 0 dX8_law_63 rfl ?_
      refine wm_gR X hS cd_8 1 h dX8_law_64 (Nat.le_of_ble_eq_true rfl) rfl q2025 (fun x36 h => ?_)
      refine wm_sipush (v := 584) X dX8_law_67 (by decide) ?_
      refine wm_iload_n X 2 dX8_law_70 rfl ?_
      refine wm_iadd X dX8_law_71 ?_
      refine wm_aload_n X 0 dX8_law_72 rfl ?_
      refine wm_gR X hS cd_8 7 h dX8_law_73 (Nat.le_of_ble_eq_true rfl) rfl q2031 (fun x37 h => ?_)
      refine wm_iload_n X 2 dX8_law_76 rfl ?_
      refine wm_iaload X hS h dX8_law_77 (fun x38 h => ?_)
      refine wm_iastore X hS h dX8_law_78 (fun σ39 _ h => ?_)
      refine wm_iinc (v := (v2 + 1)) (ℓ' := [(2, .int (v2 + 1)), (0, va_rf (some h0)), (1, .int y1)]) X 2 dX8_law_79 rfl rfl (by decide) rfl ?_
      refine wm_goto X 55 dX8_law_82 (by decide) ?_
      refine wm_sub (ℓ' := [(0, va_rf (some h0)), (1, .int y1), (2, .int (v2 + 1))]) [1, 2, 0] rfl ?_
      exact ih _ _ _ h hkx85
set_option maxHeartbeats 4000000 in
theorem ctX8_law (l : Launch) {h0 : Nat} {σ σf : Mm} {r : Int32} (h : FX8_law h0 σ = some (r, σf)) : CTi l yX8_law (ws_ yX8_law cX8_law 3 ((some FieldType.int))) 89 1949 0 0 [va_rf (some h0)] σ r σf := by
  refine ct_start (n := 0) mdX8_law (Nat.le_of_ble_eq_true rfl) (c1_r c1_0) (fun p e s m args below meth c D dA sz0 ad0 X hS hr hnm => ?_)
  have X : CX p s m args meth c cX8_law 3 RX8 := X
  generalize mN σ = N0
  unfold FX8_law at h
  refine wm_aload_n X 0 dX8_law_0 rfl ?_
  obtain ⟨s21, h⟩ := ck_e h
  refine wm_cV_v (As := []) (st := []) X hS cd_8 s21 rfl h (fun _ hF => ctX8_begins l hF) mdX8_begins mvX8_begins q2126 dX8_law_1 rfl rfl c1_0 (Nat.le_of_ble_eq_true rfl) ⟨Nat.le_of_ble_eq_true rfl, Nat.le_of_ble_eq_true rfl⟩ ⟨Nat.le_of_ble_eq_true rfl, Nat.le_of_ble_eq_true rfl⟩ (fun σ22 _ h => ?_)
  refine wm_aload_n X 0 dX8_law_4 rfl ?_
  refine wm_iconst (v := 1) X dX8_law_5 (by decide) ?_
  obtain ⟨s23, h⟩ := ck_e h
  refine wm_cV_i (As := [.int 1]) (st := []) X hS cd_8 s23 rfl h (fun _ _ hF => ctX8_read l hF) mdX8_read mvX8_read q2130 dX8_law_6 rfl rfl c1_0 (Nat.le_of_ble_eq_true rfl) ⟨Nat.le_of_ble_eq_true rfl, Nat.le_of_ble_eq_true rfl⟩ ⟨Nat.le_of_ble_eq_true rfl, Nat.le_of_ble_eq_true rfl⟩ (fun x24 σ25 _ h => ?_)
  refine wm_istore_n (ℓ' := [(1, .int x24), (0, va_rf (some h0))]) X dX8_law_9 (by decide) rfl ?_
  refine wm_aload_n X 1 dX8_law_10 rfl ?_
  refine wm_aload_n X 1 dX8_law_11 rfl ?_
  refine wm_gI X hS cd_8 12 h dX8_law_12 (Nat.le_of_ble_eq_true rfl) rfl q2036 (fun x26 h => ?_)
  refine wm_iconst (v := (-1)) X dX8_law_15 (by decide) ?_
  obtain ⟨J24, eJ24, h⟩ := jn_e h
  have hJ24 : ∀ (z27 : Int32) (σ : Mm), J24 z27 σ = some (r, σf) → WMi p l e s m args below meth c 89 1949 0 0 3 D dA sz0 ad0 N0 r σf 0 0 σ [(0, va_rf (some h0)), (1, .int x24)] [.int z27, va_rf (some h0)] 24 := by
    intro z27 σ h
    rw [eJ24] at h
    refine wm_pI X hS cd_8 0 h dX8_law_24 (Nat.le_of_ble_eq_true rfl) rfl q2024 rfl rfl (fun σ28 _ h => ?_)
    refine wm_aload_n X 0 dX8_law_27 rfl ?_
    refine wm_gI X hS cd_8 0 h dX8_law_28 (Nat.le_of_ble_eq_true rfl) rfl q2024 (fun x29 h => ?_)
    refine wm_if_le X 36 h dX8_law_31 (by decide) (fun c42 h => ?_) (fun c42 h => ?_)
    · refine wm_aload_n X 0 dX8_law_36 rfl ?_
      refine wm_gR X hS cd_8 1 h dX8_law_37 (Nat.le_of_ble_eq_true rfl) rfl q2025 (fun x30 h => ?_)
      refine wm_iconst (v := 1) X dX8_law_40 (by decide) ?_
      refine wm_iload_n X 1 dX8_law_41 rfl ?_
      refine wm_iastore X hS h dX8_law_42 (fun σ31 _ h => ?_)
      refine wm_aload_n X 0 dX8_law_43 rfl ?_
      refine wm_gR X hS cd_8 1 h dX8_law_44 (Nat.le_of_ble_eq_true rfl) rfl q2025 (fun x32 h => ?_)
      refine wm_iconst (v := 2) X dX8_law_47 (by decide) ?_
      refine wm_aload_n X 0 dX8_law_48 rfl ?_
      refine wm_gI X hS cd_8 10 h dX8_law_49 (Nat.le_of_ble_eq_true rfl) rfl q2034 (fun x33 h => ?_)
      refine wm_iastore X hS h dX8_law_52 (fun σ34 _ h => ?_)
      refine wm_iconst (v := 0) X dX8_law_53 (by decide) ?_
      refine wm_istore_n (ℓ' := [(2, .int 0), (0, va_rf (some h0)), (1, .int x24)]) X dX8_law_54 (by decide) rfl ?_
      refine wm_sub (ℓ' := [(0, va_rf (some h0)), (1, .int x24), (2, .int 0)]) [1, 2, 0] rfl ?_
      refine wX8_law_55 X hS hr hnm _ _ fu _ _ _ h (fun σ h => ?_)
      · refine wm_aload_n X 0 dX8_law_85 rfl ?_
        refine wm_iconst (v := 0) X dX8_law_86 (by decide) ?_
        refine wm_pI X hS cd_8 6 h dX8_law_87 (Nat.le_of_ble_eq_true rfl) rfl q2030 rfl rfl (fun σ41 _ h => ?_)
        refine wm_iload_n X 1 dX8_law_90 rfl ?_
        exact wm_iret X hr h dX8_law_91 (Nat.le_of_ble_eq_true rfl) (Nat.le_of_ble_eq_true rfl)
    · refine wm_iconst (v := 0) X dX8_law_34 (by decide) ?_
      exact wm_iret X hr h dX8_law_35 (Nat.le_of_ble_eq_true rfl) (Nat.le_of_ble_eq_true rfl)
  clear eJ24
  refine wm_icmp_eq X 23 h dX8_law_16 (by decide) (fun c43 h => ?_) (fun c43 h => ?_)
  · refine wm_iconst (v := 0) X dX8_law_23 (by decide) ?_
    refine wm_sub (ℓ' := [(0, va_rf (some h0)), (1, .int x24)]) [1, 0] rfl ?_
    exact hJ24 _ _ h
  · refine wm_iconst (v := 1) X dX8_law_19 (by decide) ?_
    refine wm_goto X 24 dX8_law_20 (by decide) ?_
    refine wm_sub (ℓ' := [(0, va_rf (some h0)), (1, .int x24)]) [1, 0] rfl ?_
    exact hJ24 _ _ h
theorem mdX8_fault : MD yX8_fault 0 := by unfold MD; decide +kernel
theorem mvX8_fault : MV yX8_fault cX8_fault 1 ((some FieldType.int)) := ⟨q2285, q2286, q139, q2287⟩
set_option maxHeartbeats 4000000 in
theorem ctX8_fault (l : Launch) {h0 : Nat} {σ σf : Mm} {r : Int32} (h : FX8_fault h0 σ = some (r, σf)) : CTi l yX8_fault (ws_ yX8_fault cX8_fault 1 ((some FieldType.int))) 0 0 0 0 [va_rf (some h0)] σ r σf := by
  refine ct_start (n := 0) mdX8_fault (Nat.le_of_ble_eq_true rfl) (c1_r c1_0) (fun p e s m args below meth c D dA sz0 ad0 X hS hr hnm => ?_)
  have X : CX p s m args meth c cX8_fault 1 RX8 := X
  generalize mN σ = N0
  unfold FX8_fault at h
  refine wm_aload_n X 0 dX8_fault_0 rfl ?_
  refine wm_iconst (v := 0) X dX8_fault_1 (by decide) ?_
  refine wm_pI X hS cd_8 0 h dX8_fault_2 (Nat.le_of_ble_eq_true rfl) rfl q2024 rfl rfl (fun σ21 _ h => ?_)
  refine wm_aload_n X 0 dX8_fault_5 rfl ?_
  refine wm_gI X hS cd_8 12 h dX8_fault_6 (Nat.le_of_ble_eq_true rfl) rfl q2036 (fun x22 h => ?_)
  exact wm_iret X hr h dX8_fault_9 (Nat.le_of_ble_eq_true rfl) (Nat.le_of_ble_eq_true rfl)
theorem mdX8_isPerson : MD yX8_isPerson 1 := by unfold MD; decide +kernel
theorem mvX8_isPerson : MV yX8_isPerson cX8_isPerson 2 ((some FieldType.boolean)) := ⟨q2294, qs84, q139, q2295⟩
set_option maxHeartbeats 4000000 in
theorem ctX8_isPerson (l : Launch) {h0 : Nat} {x1 : Int32} {σ σf : Mm} {r : Int32} (h : FX8_isPerson h0 x1 σ = some (r, σf)) : CTi l yX8_isPerson (ws_ yX8_isPerson cX8_isPerson 2 ((some FieldType.boolean))) 1 22 0 0 [va_rf (some h0), .int x1] σ r σf := by
  refine ct_start (n := 1) mdX8_isPerson (Nat.le_of_ble_eq_true rfl) (c1_r (c1_i c1_0)) (fun p e s m args below meth c D dA sz0 ad0 X hS hr hnm => ?_)
  have X : CX p s m args meth c cX8_isPerson 2 RX8 := X
  generalize mN σ = N0
  unfold FX8_isPerson at h
  refine wm_iload_n X 1 dX8_isPerson_0 rfl ?_
  refine wm_iconst (v := 0) X dX8_isPerson_1 (by decide) ?_
  refine wm_aload_n X 0 dX8_isPerson_2 rfl ?_
  refine wm_gR X hS cd_8 1 h dX8_isPerson_3 (Nat.le_of_ble_eq_true rfl) rfl q2025 (fun x21 h => ?_)
  refine wm_iconst (v := 3) X dX8_isPerson_6 (by decide) ?_
  refine wm_iaload X hS h dX8_isPerson_7 (fun x22 h => ?_)
  refine wm_iconst (v := 1) X dX8_isPerson_8 (by decide) ?_
  refine wm_isub X dX8_isPerson_9 ?_
  refine wm_cS_i (As := [.int x1, .int 0, .int (x22 - 1)]) (st := []) X hS h (fun _ _ hF => ctX8_isIn l hF) mdX8_isIn msX8_isIn q2115 dX8_isPerson_10 rfl rfl c1_0 (Nat.le_of_ble_eq_true rfl) ⟨Nat.le_of_ble_eq_true rfl, Nat.le_of_ble_eq_true rfl⟩ ⟨Nat.le_of_ble_eq_true rfl, Nat.le_of_ble_eq_true rfl⟩ (fun x23 σ24 _ h => ?_)
  exact wm_zret X hr h dX8_isPerson_13 (Nat.le_of_ble_eq_true rfl) (Nat.le_of_ble_eq_true rfl)
theorem mdX8_wearer : MD yX8_wearer 1 := by unfold MD; decide +kernel
theorem mvX8_wearer : MV yX8_wearer cX8_wearer 3 ((some FieldType.int)) := ⟨q2302, qs86, q139, q2303⟩
set_option maxHeartbeats 4000000 in
theorem wX8_wearer_2 {p : Program} {l : Launch} {e : Env} {s : State} {m : MethodId} {args : Array Value} {below : List Frame} {meth : Method} {c : Code} {D : va_G} {dA : Nat → ClassId} {sz0 : Nat} {ad0 : Nat → Nat} {N0 : Nat} {r : Int32} {σf : Mm} (X : CX p s m args meth c cX8_wearer 3 RX8) (hS : ST D dA sz0 ad0 s) (hr : meth.sig.returnType = (some FieldType.int)) (hnm : meth.name = yX8_wearer.name) (h0 : Nat) (y1 : Int32) : ∀ (n : Nat) (v2 : Int32) (σ : Mm) (kx30 : Mm → Option (Int32 × Mm)) (kx22 : Int32 → Mm → Option (Int32 × Mm)), FX8_wearer_2 h0 y1 n v2 σ kx30 kx22 = some (r, σf) → (∀  (σ : Mm), kx30 σ = some (r, σf) → WMi p l e s m args below meth c 1 22 0 0 3 D dA sz0 ad0 N0 r σf 0 0 σ [] [] 30) → (∀ (w2 : Int32) (σ : Mm), kx22 w2 σ = some (r, σf) → WMi p l e s m args below meth c 1 22 0 0 3 D dA sz0 ad0 N0 r σf 0 0 σ [(2, .int w2)] [] 22) → WMi p l e s m args below meth c 1 22 0 0 3 D dA sz0 ad0 N0 r σf 0 0 σ [(0, va_rf (some h0)), (1, .int y1), (2, .int v2)] [] 2 := by
  intro n
  induction n with
  | zero =>
    intro v2 σ kx30 kx22 h hkx30 hkx22
    cases h
  | succ n ih =>
    intro v2 σ kx30 kx22 h hkx30 hkx22
    rw [FX8_wearer_2] at h
    refine wm_iload_n X 2 dX8_wearer_2 rfl ?_
    refine wm_aload_n X 0 dX8_wearer_3 rfl ?_
    refine wm_gR X hS cd_8 1 h dX8_wearer_4 (Nat.le_of_ble_eq_true rfl) rfl q2025 (fun x21 h => ?_)
    refine wm_iconst (v := 3) X dX8_wearer_7 (by decide) ?_
    refine wm_iaload X hS h dX8_wearer_8 (fun x22 h => ?_)
    refine wm_icmp_ge X 30 h dX8_wearer_9 (by decide) (fun c27 h => ?_) (fun c27 h => ?_)
    · refine wm_sub (ℓ' := []) [] rfl ?_
      exact hkx30 _ h
    · refine wm_aload_n X 0 dX8_wearer_12 rfl ?_
      refine wm_iload_n X 2 dX8_wearer_13 rfl ?_
      refine wm_iconst (v := 2) X dX8_wearer_14 (by decide) ?_
      obtain ⟨s23, h⟩ := ck_e h
      refine wm_cV_i (As := [.int v2, .int 2]) (st := []) X hS cd_8 s23 rfl h (fun _ _ hF => ctX8_of l hF) mdX8_of mvX8_of q2253 dX8_wearer_15 rfl rfl c1_0 (Nat.le_of_ble_eq_true rfl) ⟨Nat.le_of_ble_eq_true rfl, Nat.le_of_ble_eq_true rfl⟩ ⟨Nat.le_of_ble_eq_true rfl, Nat.le_of_ble_eq_true rfl⟩ (fun x24 σ25 _ h => ?_)
      refine wm_iload_n X 1 dX8_wearer_18 rfl ?_
      refine wm_icmp_ne X 24 h dX8_wearer_19 (by decide) (fun c26 h => ?_) (fun c26 h => ?_)
      · refine wm_iinc (v := (v2 + 1)) (ℓ' := [(2, .int (v2 + 1)), (0, va_rf (some h0)), (1, .int y1)]) X 2 dX8_wearer_24 rfl rfl (by decide) rfl ?_
        refine wm_goto X 2 dX8_wearer_27 (by decide) ?_
        refine wm_sub (ℓ' := [(0, va_rf (some h0)), (1, .int y1), (2, .int (v2 + 1))]) [1, 2, 0] rfl ?_
        exact ih _ _ _ _ h hkx30 hkx22
      · refine wm_sub (ℓ' := [(2, .int v2)]) [2] rfl ?_
        exact hkx22 _ _ h
set_option maxHeartbeats 4000000 in
theorem ctX8_wearer (l : Launch) {h0 : Nat} {x1 : Int32} {σ σf : Mm} {r : Int32} (h : FX8_wearer h0 x1 σ = some (r, σf)) : CTi l yX8_wearer (ws_ yX8_wearer cX8_wearer 3 ((some FieldType.int))) 1 22 0 0 [va_rf (some h0), .int x1] σ r σf := by
  refine ct_start (n := 1) mdX8_wearer (Nat.le_of_ble_eq_true rfl) (c1_r (c1_i c1_0)) (fun p e s m args below meth c D dA sz0 ad0 X hS hr hnm => ?_)
  have X : CX p s m args meth c cX8_wearer 3 RX8 := X
  generalize mN σ = N0
  unfold FX8_wearer at h
  refine wm_iconst (v := 0) X dX8_wearer_0 (by decide) ?_
  refine wm_istore_n (ℓ' := [(2, .int 0), (0, va_rf (some h0)), (1, .int x1)]) X dX8_wearer_1 (by decide) rfl ?_
  refine wm_sub (ℓ' := [(0, va_rf (some h0)), (1, .int x1), (2, .int 0)]) [1, 2, 0] rfl ?_
  refine wX8_wearer_2 X hS hr hnm _ _ fu _ _ _ _ h (fun σ h => ?_) (fun x28 σ h => ?_)
  · refine wm_iconst (v := (-1)) X dX8_wearer_30 (by decide) ?_
    exact wm_iret X hr h dX8_wearer_31 (Nat.le_of_ble_eq_true rfl) (Nat.le_of_ble_eq_true rfl)
  · refine wm_iload_n X 0 dX8_wearer_22 rfl ?_
    exact wm_iret X hr h dX8_wearer_23 (Nat.le_of_ble_eq_true rfl) (Nat.le_of_ble_eq_true rfl)
theorem mdX8_ring : MD yX8_ring 1 := by unfold MD; decide +kernel
theorem mvX8_ring : MV yX8_ring cX8_ring 4 ((some FieldType.int)) := ⟨q2298, qs85, q139, q2299⟩
set_option maxHeartbeats 4000000 in
theorem wX8_ring_4 {p : Program} {l : Launch} {e : Env} {s : State} {m : MethodId} {args : Array Value} {below : List Frame} {meth : Method} {c : Code} {D : va_G} {dA : Nat → ClassId} {sz0 : Nat} {ad0 : Nat → Nat} {N0 : Nat} {r : Int32} {σf : Mm} (X : CX p s m args meth c cX8_ring 4 RX8) (hS : ST D dA sz0 ad0 s) (hr : meth.sig.returnType = (some FieldType.int)) (hnm : meth.name = yX8_ring.name) (h0 : Nat) : ∀ (n : Nat) (v2 : Int32) (v3 : Int32) (σ : Mm) (kx32 : Int32 → Mm → Option (Int32 × Mm)), FX8_ring_4 h0 n v2 v3 σ kx32 = some (r, σf) → (∀ (w2 : Int32) (σ : Mm), kx32 w2 σ = some (r, σf) → WMi p l e s m args below meth c 2 44 0 0 4 D dA sz0 ad0 N0 r σf 0 0 σ [(2, .int w2)] [] 32) → WMi p l e s m args below meth c 2 44 0 0 4 D dA sz0 ad0 N0 r σf 0 0 σ [(0, va_rf (some h0)), (2, .int v2), (3, .int v3)] [] 4 := by
  intro n
  induction n with
  | zero =>
    intro v2 v3 σ kx32 h hkx32
    cases h
  | succ n ih =>
    intro v2 v3 σ kx32 h hkx32
    rw [FX8_ring_4] at h
    refine wm_iload_n X 2 dX8_ring_4 rfl ?_
    refine wm_iconst (v := (-1)) X dX8_ring_5 (by decide) ?_
    refine wm_icmp_eq X 32 h dX8_ring_6 (by decide) (fun c27 h => ?_) (fun c27 h => ?_)
    · refine wm_sub (ℓ' := [(2, .int v2)]) [1] rfl ?_
      exact hkx32 _ _ h
    · refine wm_iload_n X 1 dX8_ring_9 rfl ?_
      refine wm_iload_n X 2 dX8_ring_10 rfl ?_
      refine wm_cS_i (As := [.int v2, .int v3]) (st := []) X hS h (fun _ _ hF => ctX8_isOf l hF) mdX8_isOf msX8_isOf q2238 dX8_ring_11 rfl rfl c1_0 (Nat.le_of_ble_eq_true rfl) ⟨Nat.le_of_ble_eq_true rfl, Nat.le_of_ble_eq_true rfl⟩ ⟨Nat.le_of_ble_eq_true rfl, Nat.le_of_ble_eq_true rfl⟩ (fun x21 σ22 _ h => ?_)
      refine wm_if_ne X 32 h dX8_ring_14 (by decide) (fun c26 h => ?_) (fun c26 h => ?_)
      · refine wm_sub (ℓ' := [(2, .int v2)]) [1] rfl ?_
        exact hkx32 _ _ h
      · refine wm_iload_n X 1 dX8_ring_17 rfl ?_
        refine wm_iconst (v := 1) X dX8_ring_18 (by decide) ?_
        refine wm_iload_n X 2 dX8_ring_19 rfl ?_
        refine wm_ishl X dX8_ring_20 ?_
        refine wm_ior X dX8_ring_21 ?_
        refine wm_istore_n (ℓ' := [(2, .int (v2 ||| (1 <<< (v3 &&& 31)))), (0, va_rf (some h0)), (3, .int v3)]) X dX8_ring_22 (by decide) rfl ?_
        refine wm_aload_n X 1 dX8_ring_23 rfl ?_
        refine wm_iload_n X 2 dX8_ring_24 rfl ?_
        obtain ⟨s23, h⟩ := ck_e h
        refine wm_cV_i (As := [.int v3]) (st := []) X hS cd_8 s23 rfl h (fun _ _ hF => ctX8_wearer l hF) mdX8_wearer mvX8_wearer q2300 dX8_ring_25 rfl rfl c1_0 (Nat.le_of_ble_eq_true rfl) ⟨Nat.le_of_ble_eq_true rfl, Nat.le_of_ble_eq_true rfl⟩ ⟨Nat.le_of_ble_eq_true rfl, Nat.le_of_ble_eq_true rfl⟩ (fun x24 σ25 _ h => ?_)
        refine wm_istore_n (ℓ' := [(3, .int x24), (2, .int (v2 ||| (1 <<< (v3 &&& 31)))), (0, va_rf (some h0))]) X dX8_ring_28 (by decide) rfl ?_
        refine wm_goto X 4 dX8_ring_29 (by decide) ?_
        refine wm_sub (ℓ' := [(0, va_rf (some h0)), (2, .int (v2 ||| (1 <<< (v3 &&& 31)))), (3, .int x24)]) [2, 1, 0] rfl ?_
        exact ih _ _ _ _ h hkx32
set_option maxHeartbeats 4000000 in
theorem ctX8_ring (l : Launch) {h0 : Nat} {x1 : Int32} {σ σf : Mm} {r : Int32} (h : FX8_ring h0 x1 σ = some (r, σf)) : CTi l yX8_ring (ws_ yX8_ring cX8_ring 4 ((some FieldType.int))) 2 44 0 0 [va_rf (some h0), .int x1] σ r σf := by
  refine ct_start (n := 1) mdX8_ring (Nat.le_of_ble_eq_true rfl) (c1_r (c1_i c1_0)) (fun p e s m args below meth c D dA sz0 ad0 X hS hr hnm => ?_)
  have X : CX p s m args meth c cX8_ring 4 RX8 := X
  generalize mN σ = N0
  unfold FX8_ring at h
  refine wm_iconst (v := 0) X dX8_ring_0 (by decide) ?_
  refine wm_istore_n (ℓ' := [(2, .int 0), (0, va_rf (some h0)), (1, .int x1)]) X dX8_ring_1 (by decide) rfl ?_
  refine wm_iload_n X 2 dX8_ring_2 rfl ?_
  refine wm_istore_n (ℓ' := [(3, .int x1), (2, .int 0), (0, va_rf (some h0)), (1, .int x1)]) X dX8_ring_3 (by decide) rfl ?_
  refine wm_sub (ℓ' := [(0, va_rf (some h0)), (2, .int 0), (3, .int x1)]) [2, 1, 0] rfl ?_
  refine wX8_ring_4 X hS hr hnm _ fu _ _ _ _ h (fun x28 σ h => ?_)
  · refine wm_iload_n X 0 dX8_ring_32 rfl ?_
    exact wm_iret X hr h dX8_ring_33 (Nat.le_of_ble_eq_true rfl) (Nat.le_of_ble_eq_true rfl)
theorem mdX8_person : MD yX8_person 2 := by unfold MD; decide +kernel
theorem mvX8_person : MV yX8_person cX8_person 3 ((some FieldType.int)) := ⟨q2289, q2290, q139, q2291⟩
set_option maxHeartbeats 4000000 in
theorem ctX8_person (l : Launch) {h0 : Nat} {x1 : Int32} {x2 : Int32} {σ σf : Mm} {r : Int32} (h : FX8_person h0 x1 x2 σ = some (r, σf)) : CTi l yX8_person (ws_ yX8_person cX8_person 3 ((some FieldType.int))) 3 67 0 0 [va_rf (some h0), .int x1, .int x2] σ r σf := by
  refine ct_start (n := 2) mdX8_person (Nat.le_of_ble_eq_true rfl) (c1_r (c1_i (c1_i c1_0))) (fun p e s m args below meth c D dA sz0 ad0 X hS hr hnm => ?_)
  have X : CX p s m args meth c cX8_person 3 RX8 := X
  generalize mN σ = N0
  unfold FX8_person at h
  refine wm_aload_n X 0 dX8_person_0 rfl ?_
  refine wm_aload_n X 0 dX8_person_1 rfl ?_
  refine wm_iload_n X 1 dX8_person_2 rfl ?_
  obtain ⟨s21, h⟩ := ck_e h
  refine wm_cV_i (As := [.int x1]) (st := [va_rf (some h0)]) X hS cd_8 s21 rfl h (fun _ _ hF => ctX8_isPerson l hF) mdX8_isPerson mvX8_isPerson q2292 dX8_person_3 rfl rfl (c1_r c1_0) (Nat.le_of_ble_eq_true rfl) ⟨Nat.le_of_ble_eq_true rfl, Nat.le_of_ble_eq_true rfl⟩ ⟨Nat.le_of_ble_eq_true rfl, Nat.le_of_ble_eq_true rfl⟩ (fun x22 σ23 _ h => ?_)
  obtain ⟨J27, eJ27, h⟩ := jn_e h
  have hJ27 : ∀ (z24 : Int32) (σ : Mm), J27 z24 σ = some (r, σf) → WMi p l e s m args below meth c 3 67 0 0 3 D dA sz0 ad0 N0 r σf 0 0 σ [(0, va_rf (some h0)), (1, .int x1), (2, .int x2)] [.int z24, va_rf (some h0)] 27 := by
    intro z24 σ h
    rw [eJ27] at h
    refine wm_pI X hS cd_8 0 h dX8_person_27 (Nat.le_of_ble_eq_true rfl) rfl q2024 rfl rfl (fun σ25 _ h => ?_)
    refine wm_aload_n X 0 dX8_person_30 rfl ?_
    refine wm_gI X hS cd_8 0 h dX8_person_31 (Nat.le_of_ble_eq_true rfl) rfl q2024 (fun x26 h => ?_)
    refine wm_if_le X 39 h dX8_person_34 (by decide) (fun c34 h => ?_) (fun c34 h => ?_)
    · refine wm_iload_n X 2 dX8_person_39 rfl ?_
      refine wm_iconst (v := 5) X dX8_person_40 (by decide) ?_
      refine wm_icmp_ge X 55 h dX8_person_41 (by decide) (fun c33 h => ?_) (fun c33 h => ?_)
      · refine wm_aload_n X 0 dX8_person_55 rfl ?_
        refine wm_iload_n X 1 dX8_person_56 rfl ?_
        obtain ⟨s27, h⟩ := ck_e h
        refine wm_cV_i (As := [.int x1]) (st := []) X hS cd_8 s27 rfl h (fun _ _ hF => ctX8_ring l hF) mdX8_ring mvX8_ring q2296 dX8_person_57 rfl rfl c1_0 (Nat.le_of_ble_eq_true rfl) ⟨Nat.le_of_ble_eq_true rfl, Nat.le_of_ble_eq_true rfl⟩ ⟨Nat.le_of_ble_eq_true rfl, Nat.le_of_ble_eq_true rfl⟩ (fun x28 σ29 _ h => ?_)
        exact wm_iret X hr h dX8_person_60 (Nat.le_of_ble_eq_true rfl) (Nat.le_of_ble_eq_true rfl)
      · refine wm_aload_n X 0 dX8_person_44 rfl ?_
        refine wm_iload_n X 1 dX8_person_45 rfl ?_
        refine wm_iload_n X 2 dX8_person_46 rfl ?_
        refine wm_iconst (v := 1) X dX8_person_47 (by decide) ?_
        refine wm_iadd X dX8_person_48 ?_
        obtain ⟨s30, h⟩ := ck_e h
        refine wm_cV_i (As := [.int x1, .int (x2 + 1)]) (st := []) X hS cd_8 s30 rfl h (fun _ _ hF => ctX8_of l hF) mdX8_of mvX8_of q2253 dX8_person_49 rfl rfl c1_0 (Nat.le_of_ble_eq_true rfl) ⟨Nat.le_of_ble_eq_true rfl, Nat.le_of_ble_eq_true rfl⟩ ⟨Nat.le_of_ble_eq_true rfl, Nat.le_of_ble_eq_true rfl⟩ (fun x31 σ32 _ h => ?_)
        refine wm_goto X 60 dX8_person_52 (by decide) ?_
        exact wm_iret X hr h dX8_person_60 (Nat.le_of_ble_eq_true rfl) (Nat.le_of_ble_eq_true rfl)
    · refine wm_iconst (v := 0) X dX8_person_37 (by decide) ?_
      exact wm_iret X hr h dX8_person_38 (Nat.le_of_ble_eq_true rfl) (Nat.le_of_ble_eq_true rfl)
  clear eJ27
  refine wm_if_ne X 13 h dX8_person_6 (by decide) (fun c38 h => ?_) (fun c38 h => ?_)
  · refine wm_iload_n X 2 dX8_person_13 rfl ?_
    refine wm_iconst (v := 0) X dX8_person_14 (by decide) ?_
    refine wm_iconst (v := 5) X dX8_person_15 (by decide) ?_
    refine wm_cS_i (As := [.int x2, .int 0, .int 5]) (st := [va_rf (some h0)]) X hS h (fun _ _ hF => ctX8_isIn l hF) mdX8_isIn msX8_isIn q2115 dX8_person_16 rfl rfl (c1_r c1_0) (Nat.le_of_ble_eq_true rfl) ⟨Nat.le_of_ble_eq_true rfl, Nat.le_of_ble_eq_true rfl⟩ ⟨Nat.le_of_ble_eq_true rfl, Nat.le_of_ble_eq_true rfl⟩ (fun x35 σ36 _ h => ?_)
    refine wm_if_ne X 26 h dX8_person_19 (by decide) (fun c37 h => ?_) (fun c37 h => ?_)
    · refine wm_iconst (v := 0) X dX8_person_26 (by decide) ?_
      exact hJ27 _ _ h
    · refine wm_iconst (v := 2) X dX8_person_22 (by decide) ?_
      refine wm_goto X 27 dX8_person_23 (by decide) ?_
      exact hJ27 _ _ h
  · refine wm_iconst (v := 1) X dX8_person_9 (by decide) ?_
    refine wm_goto X 27 dX8_person_10 (by decide) ?_
    exact hJ27 _ _ h
theorem mdX8_hookOf : MD yX8_hookOf 1 := by unfold MD; decide +kernel
theorem mvX8_hookOf : MV yX8_hookOf cX8_hookOf 3 ((some FieldType.int)) := ⟨q2310, qs87, q139, q2311⟩
set_option maxHeartbeats 4000000 in
theorem wX8_hookOf_2 {p : Program} {l : Launch} {e : Env} {s : State} {m : MethodId} {args : Array Value} {below : List Frame} {meth : Method} {c : Code} {D : va_G} {dA : Nat → ClassId} {sz0 : Nat} {ad0 : Nat → Nat} {N0 : Nat} {r : Int32} {σf : Mm} (X : CX p s m args meth c cX8_hookOf 3 RX8) (hS : ST D dA sz0 ad0 s) (hr : meth.sig.returnType = (some FieldType.int)) (hnm : meth.name = yX8_hookOf.name) (h0 : Nat) (y1 : Int32) : ∀ (n : Nat) (v2 : Int32) (σ : Mm) (kx34 : Mm → Option (Int32 × Mm)) (kx26 : Int32 → Mm → Option (Int32 × Mm)), FX8_hookOf_2 h0 y1 n v2 σ kx34 kx26 = some (r, σf) → (∀  (σ : Mm), kx34 σ = some (r, σf) → WMi p l e s m args below meth c 0 0 0 0 3 D dA sz0 ad0 N0 r σf 0 0 σ [] [] 34) → (∀ (w2 : Int32) (σ : Mm), kx26 w2 σ = some (r, σf) → WMi p l e s m args below meth c 0 0 0 0 3 D dA sz0 ad0 N0 r σf 0 0 σ [(2, .int w2)] [] 26) → WMi p l e s m args below meth c 0 0 0 0 3 D dA sz0 ad0 N0 r σf 0 0 σ [(0, va_rf (some h0)), (1, .int y1), (2, .int v2)] [] 2 := by
  intro n
  induction n with
  | zero =>
    intro v2 σ kx34 kx26 h hkx34 hkx26
    cases h
  | succ n ih =>
    intro v2 σ kx34 kx26 h hkx34 hkx26
    rw [FX8_hookOf_2] at h
    refine wm_iload_n X 2 dX8_hookOf_2 rfl ?_
    refine wm_aload_n X 0 dX8_hookOf_3 rfl ?_
    refine wm_gR X hS cd_8 1 h dX8_hookOf_4 (Nat.le_of_ble_eq_true rfl) rfl q2025 (fun x21 h => ?_)
    refine wm_iconst (v := 4) X dX8_hookOf_7 (by decide) ?_
    refine wm_iaload X hS h dX8_hookOf_8 (fun x22 h => ?_)
    refine wm_icmp_ge X 34 h dX8_hookOf_9 (by decide) (fun c26 h => ?_) (fun c26 h => ?_)
    · refine wm_sub (ℓ' := []) [] rfl ?_
      exact hkx34 _ h
    · refine wm_aload_n X 0 dX8_hookOf_12 rfl ?_
      refine wm_gR X hS cd_8 1 h dX8_hookOf_13 (Nat.le_of_ble_eq_true rfl) rfl q2025 (fun x23 h => ?_)
      refine wm_sipush (v := 272) X dX8_hookOf_16 (by decide) ?_
      refine wm_iload_n X 2 dX8_hookOf_19 rfl ?_
      refine wm_iadd X dX8_hookOf_20 ?_
      refine wm_iaload X hS h dX8_hookOf_21 (fun x24 h => ?_)
      refine wm_iload_n X 1 dX8_hookOf_22 rfl ?_
      refine wm_icmp_ne X 28 h dX8_hookOf_23 (by decide) (fun c25 h => ?_) (fun c25 h => ?_)
      · refine wm_iinc (v := (v2 + 1)) (ℓ' := [(2, .int (v2 + 1)), (0, va_rf (some h0)), (1, .int y1)]) X 2 dX8_hookOf_28 rfl rfl (by decide) rfl ?_
        refine wm_goto X 2 dX8_hookOf_31 (by decide) ?_
        refine wm_sub (ℓ' := [(0, va_rf (some h0)), (1, .int y1), (2, .int (v2 + 1))]) [1, 2, 0] rfl ?_
        exact ih _ _ _ _ h hkx34 hkx26
      · refine wm_sub (ℓ' := [(2, .int v2)]) [2] rfl ?_
        exact hkx26 _ _ h
set_option maxHeartbeats 4000000 in
theorem ctX8_hookOf (l : Launch) {h0 : Nat} {x1 : Int32} {σ σf : Mm} {r : Int32} (h : FX8_hookOf h0 x1 σ = some (r, σf)) : CTi l yX8_hookOf (ws_ yX8_hookOf cX8_hookOf 3 ((some FieldType.int))) 0 0 0 0 [va_rf (some h0), .int x1] σ r σf := by
  refine ct_start (n := 1) mdX8_hookOf (Nat.le_of_ble_eq_true rfl) (c1_r (c1_i c1_0)) (fun p e s m args below meth c D dA sz0 ad0 X hS hr hnm => ?_)
  have X : CX p s m args meth c cX8_hookOf 3 RX8 := X
  generalize mN σ = N0
  unfold FX8_hookOf at h
  refine wm_iconst (v := 0) X dX8_hookOf_0 (by decide) ?_
  refine wm_istore_n (ℓ' := [(2, .int 0), (0, va_rf (some h0)), (1, .int x1)]) X dX8_hookOf_1 (by decide) rfl ?_
  refine wm_sub (ℓ' := [(0, va_rf (some h0)), (1, .int x1), (2, .int 0)]) [1, 2, 0] rfl ?_
  refine wX8_hookOf_2 X hS hr hnm _ _ fu _ _ _ _ h (fun σ h => ?_) (fun x27 σ h => ?_)
  · refine wm_iconst (v := (-1)) X dX8_hookOf_34 (by decide) ?_
    exact wm_iret X hr h dX8_hookOf_35 (Nat.le_of_ble_eq_true rfl) (Nat.le_of_ble_eq_true rfl)
  · refine wm_iload_n X 0 dX8_hookOf_26 rfl ?_
    exact wm_iret X hr h dX8_hookOf_27 (Nat.le_of_ble_eq_true rfl) (Nat.le_of_ble_eq_true rfl)
theorem mdX8_alike : MD yX8_alike 1 := by unfold MD; decide +kernel
theorem mvX8_alike : MV yX8_alike cX8_alike 4 ((some FieldType.int)) := ⟨q2314, qs88, q139, q2315⟩
set_option maxHeartbeats 4000000 in
theorem wX8_alike_4 {p : Program} {l : Launch} {e : Env} {s : State} {m : MethodId} {args : Array Value} {below : List Frame} {meth : Method} {c : Code} {D : va_G} {dA : Nat → ClassId} {sz0 : Nat} {ad0 : Nat → Nat} {N0 : Nat} {r : Int32} {σf : Mm} (X : CX p s m args meth c cX8_alike 4 RX8) (hS : ST D dA sz0 ad0 s) (hr : meth.sig.returnType = (some FieldType.int)) (hnm : meth.name = yX8_alike.name) (h0 : Nat) (y1 : Int32) : ∀ (n : Nat) (v2 : Int32) (v3 : Int32) (σ : Mm) (kx50 : Int32 → Mm → Option (Int32 × Mm)), FX8_alike_4 h0 y1 n v2 v3 σ kx50 = some (r, σf) → (∀ (w2 : Int32) (σ : Mm), kx50 w2 σ = some (r, σf) → WMi p l e s m args below meth c 1 22 0 0 4 D dA sz0 ad0 N0 r σf 0 0 σ [(2, .int w2)] [] 50) → WMi p l e s m args below meth c 1 22 0 0 4 D dA sz0 ad0 N0 r σf 0 0 σ [(0, va_rf (some h0)), (1, .int y1), (2, .int v2), (3, .int v3)] [] 4 := by
  intro n
  induction n with
  | zero =>
    intro v2 v3 σ kx50 h hkx50
    cases h
  | succ n ih =>
    intro v2 v3 σ kx50 h hkx50
    rw [FX8_alike_4] at h
    refine wm_iload_n X 3 dX8_alike_4 rfl ?_
    refine wm_aload_n X 0 dX8_alike_5 rfl ?_
    refine wm_gR X hS cd_8 1 h dX8_alike_6 (Nat.le_of_ble_eq_true rfl) rfl q2025 (fun x21 h => ?_)
    refine wm_iconst (v := 3) X dX8_alike_9 (by decide) ?_
    refine wm_iaload X hS h dX8_alike_10 (fun x22 h => ?_)
    refine wm_icmp_ge X 50 h dX8_alike_11 (by decide) (fun c32 h => ?_) (fun c32 h => ?_)
    · refine wm_sub (ℓ' := [(2, .int v2)]) [2] rfl ?_
      exact hkx50 _ _ h
    · refine wm_iload_n X 2 dX8_alike_14 rfl ?_
      refine wm_iload_n X 3 dX8_alike_15 rfl ?_
      refine wm_iload_n X 1 dX8_alike_16 rfl ?_
      obtain ⟨J42, eJ42, h⟩ := jn_e h
      have hJ42 : ∀ (z23 : Int32) (σ : Mm), J42 z23 σ = some (r, σf) → WMi p l e s m args below meth c 1 22 0 0 4 D dA sz0 ad0 N0 r σf 0 0 σ [(0, va_rf (some h0)), (1, .int y1), (3, .int v3)] [.int z23, .int v2] 42 := by
        intro z23 σ h
        rw [eJ42] at h
        refine wm_ior X dX8_alike_42 ?_
        refine wm_istore_n (ℓ' := [(2, .int (v2 ||| z23)), (0, va_rf (some h0)), (1, .int y1), (3, .int v3)]) X dX8_alike_43 (by decide) rfl ?_
        refine wm_iinc (v := (v3 + 1)) (ℓ' := [(3, .int (v3 + 1)), (2, .int (v2 ||| z23)), (0, va_rf (some h0)), (1, .int y1)]) X 3 dX8_alike_44 rfl rfl (by decide) rfl ?_
        refine wm_goto X 4 dX8_alike_47 (by decide) ?_
        refine wm_sub (ℓ' := [(0, va_rf (some h0)), (1, .int y1), (2, .int (v2 ||| z23)), (3, .int (v3 + 1))]) [2, 3, 1, 0] rfl ?_
        exact ih _ _ _ _ h hkx50
      clear eJ42
      refine wm_icmp_eq X 41 h dX8_alike_17 (by decide) (fun c31 h => ?_) (fun c31 h => ?_)
      · refine wm_iconst (v := 0) X dX8_alike_41 (by decide) ?_
        refine wm_sub (ℓ' := [(0, va_rf (some h0)), (1, .int y1), (3, .int v3)]) [0, 1, 3] rfl ?_
        exact hJ42 _ _ h
      · refine wm_aload_n X 0 dX8_alike_20 rfl ?_
        refine wm_iload_n X 3 dX8_alike_21 rfl ?_
        refine wm_iconst (v := 0) X dX8_alike_22 (by decide) ?_
        obtain ⟨s24, h⟩ := ck_e h
        refine wm_cV_i (As := [.int v3, .int 0]) (st := [.int v2]) X hS cd_8 s24 rfl h (fun _ _ hF => ctX8_of l hF) mdX8_of mvX8_of q2253 dX8_alike_23 rfl rfl (c1_i c1_0) (Nat.le_of_ble_eq_true rfl) ⟨Nat.le_of_ble_eq_true rfl, Nat.le_of_ble_eq_true rfl⟩ ⟨Nat.le_of_ble_eq_true rfl, Nat.le_of_ble_eq_true rfl⟩ (fun x25 σ26 _ h => ?_)
        refine wm_aload_n X 0 dX8_alike_26 rfl ?_
        refine wm_iload_n X 1 dX8_alike_27 rfl ?_
        refine wm_iconst (v := 0) X dX8_alike_28 (by decide) ?_
        obtain ⟨s27, h⟩ := ck_e h
        refine wm_cV_i (As := [.int y1, .int 0]) (st := [.int x25, .int v2]) X hS cd_8 s27 rfl h (fun _ _ hF => ctX8_of l hF) mdX8_of mvX8_of q2253 dX8_alike_29 rfl rfl (c1_i (c1_i c1_0)) (Nat.le_of_ble_eq_true rfl) ⟨Nat.le_of_ble_eq_true rfl, Nat.le_of_ble_eq_true rfl⟩ ⟨Nat.le_of_ble_eq_true rfl, Nat.le_of_ble_eq_true rfl⟩ (fun x28 σ29 _ h => ?_)
        refine wm_icmp_ne X 41 h dX8_alike_32 (by decide) (fun c30 h => ?_) (fun c30 h => ?_)
        · refine wm_iconst (v := 0) X dX8_alike_41 (by decide) ?_
          refine wm_sub (ℓ' := [(0, va_rf (some h0)), (1, .int y1), (3, .int v3)]) [0, 1, 3] rfl ?_
          exact hJ42 _ _ h
        · refine wm_iconst (v := 1) X dX8_alike_35 (by decide) ?_
          refine wm_iload_n X 3 dX8_alike_36 rfl ?_
          refine wm_ishl X dX8_alike_37 ?_
          refine wm_goto X 42 dX8_alike_38 (by decide) ?_
          refine wm_sub (ℓ' := [(0, va_rf (some h0)), (1, .int y1), (3, .int v3)]) [0, 1, 3] rfl ?_
          exact hJ42 _ _ h
set_option maxHeartbeats 4000000 in
theorem ctX8_alike (l : Launch) {h0 : Nat} {x1 : Int32} {σ σf : Mm} {r : Int32} (h : FX8_alike h0 x1 σ = some (r, σf)) : CTi l yX8_alike (ws_ yX8_alike cX8_alike 4 ((some FieldType.int))) 1 22 0 0 [va_rf (some h0), .int x1] σ r σf := by
  refine ct_start (n := 1) mdX8_alike (Nat.le_of_ble_eq_true rfl) (c1_r (c1_i c1_0)) (fun p e s m args below meth c D dA sz0 ad0 X hS hr hnm => ?_)
  have X : CX p s m args meth c cX8_alike 4 RX8 := X
  generalize mN σ = N0
  unfold FX8_alike at h
  refine wm_iconst (v := 0) X dX8_alike_0 (by decide) ?_
  refine wm_istore_n (ℓ' := [(2, .int 0), (0, va_rf (some h0)), (1, .int x1)]) X dX8_alike_1 (by decide) rfl ?_
  refine wm_iconst (v := 0) X dX8_alike_2 (by decide) ?_
  refine wm_istore_n (ℓ' := [(3, .int 0), (2, .int 0), (0, va_rf (some h0)), (1, .int x1)]) X dX8_alike_3 (by decide) rfl ?_
  refine wm_sub (ℓ' := [(0, va_rf (some h0)), (1, .int x1), (2, .int 0), (3, .int 0)]) [2, 3, 1, 0] rfl ?_
  refine wX8_alike_4 X hS hr hnm _ _ fu _ _ _ _ h (fun x33 σ h => ?_)
  · refine wm_iload_n X 0 dX8_alike_50 rfl ?_
    exact wm_iret X hr h dX8_alike_51 (Nat.le_of_ble_eq_true rfl) (Nat.le_of_ble_eq_true rfl)
theorem mdX8_face : MD yX8_face 2 := by unfold MD; decide +kernel
theorem mvX8_face : MV yX8_face cX8_face 3 ((some FieldType.int)) := ⟨q2305, q2306, q139, q2307⟩
set_option maxHeartbeats 4000000 in
theorem ctX8_face (l : Launch) {h0 : Nat} {x1 : Int32} {x2 : Int32} {σ σf : Mm} {r : Int32} (h : FX8_face h0 x1 x2 σ = some (r, σf)) : CTi l yX8_face (ws_ yX8_face cX8_face 3 ((some FieldType.int))) 2 45 0 0 [va_rf (some h0), .int x1, .int x2] σ r σf := by
  refine ct_start (n := 2) mdX8_face (Nat.le_of_ble_eq_true rfl) (c1_r (c1_i (c1_i c1_0))) (fun p e s m args below meth c D dA sz0 ad0 X hS hr hnm => ?_)
  have X : CX p s m args meth c cX8_face 3 RX8 := X
  generalize mN σ = N0
  unfold FX8_face at h
  refine wm_aload_n X 0 dX8_face_0 rfl ?_
  refine wm_aload_n X 0 dX8_face_1 rfl ?_
  refine wm_iload_n X 1 dX8_face_2 rfl ?_
  obtain ⟨s21, h⟩ := ck_e h
  refine wm_cV_i (As := [.int x1]) (st := [va_rf (some h0)]) X hS cd_8 s21 rfl h (fun _ _ hF => ctX8_isPerson l hF) mdX8_isPerson mvX8_isPerson q2292 dX8_face_3 rfl rfl (c1_r c1_0) (Nat.le_of_ble_eq_true rfl) ⟨Nat.le_of_ble_eq_true rfl, Nat.le_of_ble_eq_true rfl⟩ ⟨Nat.le_of_ble_eq_true rfl, Nat.le_of_ble_eq_true rfl⟩ (fun x22 σ23 _ h => ?_)
  obtain ⟨J27, eJ27, h⟩ := jn_e h
  have hJ27 : ∀ (z24 : Int32) (σ : Mm), J27 z24 σ = some (r, σf) → WMi p l e s m args below meth c 2 45 0 0 3 D dA sz0 ad0 N0 r σf 0 0 σ [(0, va_rf (some h0)), (1, .int x1), (2, .int x2)] [.int z24, va_rf (some h0)] 27 := by
    intro z24 σ h
    rw [eJ27] at h
    refine wm_pI X hS cd_8 0 h dX8_face_27 (Nat.le_of_ble_eq_true rfl) rfl q2024 rfl rfl (fun σ25 _ h => ?_)
    refine wm_aload_n X 0 dX8_face_30 rfl ?_
    refine wm_gI X hS cd_8 0 h dX8_face_31 (Nat.le_of_ble_eq_true rfl) rfl q2024 (fun x26 h => ?_)
    refine wm_if_le X 39 h dX8_face_34 (by decide) (fun c42 h => ?_) (fun c42 h => ?_)
    · refine wm_iload_n X 2 dX8_face_39 rfl ?_
      refine wm_if_ne X 52 h dX8_face_40 (by decide) (fun c41 h => ?_) (fun c41 h => ?_)
      · refine wm_iload_n X 2 dX8_face_52 rfl ?_
        refine wm_iconst (v := 1) X dX8_face_53 (by decide) ?_
        refine wm_icmp_ne X 65 h dX8_face_54 (by decide) (fun c37 h => ?_) (fun c37 h => ?_)
        · refine wm_iload_n X 2 dX8_face_65 rfl ?_
          refine wm_iconst (v := 2) X dX8_face_66 (by decide) ?_
          refine wm_icmp_ne X 78 h dX8_face_67 (by decide) (fun c33 h => ?_) (fun c33 h => ?_)
          · refine wm_aload_n X 0 dX8_face_78 rfl ?_
            refine wm_iload_n X 1 dX8_face_79 rfl ?_
            obtain ⟨s27, h⟩ := ck_e h
            refine wm_cV_i (As := [.int x1]) (st := []) X hS cd_8 s27 rfl h (fun _ _ hF => ctX8_alike l hF) mdX8_alike mvX8_alike q2312 dX8_face_80 rfl rfl c1_0 (Nat.le_of_ble_eq_true rfl) ⟨Nat.le_of_ble_eq_true rfl, Nat.le_of_ble_eq_true rfl⟩ ⟨Nat.le_of_ble_eq_true rfl, Nat.le_of_ble_eq_true rfl⟩ (fun x28 σ29 _ h => ?_)
            exact wm_iret X hr h dX8_face_83 (Nat.le_of_ble_eq_true rfl) (Nat.le_of_ble_eq_true rfl)
          · refine wm_aload_n X 0 dX8_face_70 rfl ?_
            refine wm_iload_n X 1 dX8_face_71 rfl ?_
            obtain ⟨s30, h⟩ := ck_e h
            refine wm_cV_i (As := [.int x1]) (st := []) X hS cd_8 s30 rfl h (fun _ _ hF => ctX8_hookOf l hF) mdX8_hookOf mvX8_hookOf q2308 dX8_face_72 rfl rfl c1_0 (Nat.le_of_ble_eq_true rfl) ⟨Nat.le_of_ble_eq_true rfl, Nat.le_of_ble_eq_true rfl⟩ ⟨Nat.le_of_ble_eq_true rfl, Nat.le_of_ble_eq_true rfl⟩ (fun x31 σ32 _ h => ?_)
            refine wm_goto X 83 dX8_face_75 (by decide) ?_
            exact wm_iret X hr h dX8_face_83 (Nat.le_of_ble_eq_true rfl) (Nat.le_of_ble_eq_true rfl)
        · refine wm_aload_n X 0 dX8_face_57 rfl ?_
          refine wm_iload_n X 1 dX8_face_58 rfl ?_
          obtain ⟨s34, h⟩ := ck_e h
          refine wm_cV_i (As := [.int x1]) (st := []) X hS cd_8 s34 rfl h (fun _ _ hF => ctX8_wearer l hF) mdX8_wearer mvX8_wearer q2300 dX8_face_59 rfl rfl c1_0 (Nat.le_of_ble_eq_true rfl) ⟨Nat.le_of_ble_eq_true rfl, Nat.le_of_ble_eq_true rfl⟩ ⟨Nat.le_of_ble_eq_true rfl, Nat.le_of_ble_eq_true rfl⟩ (fun x35 σ36 _ h => ?_)
          refine wm_goto X 83 dX8_face_62 (by decide) ?_
          exact wm_iret X hr h dX8_face_83 (Nat.le_of_ble_eq_true rfl) (Nat.le_of_ble_eq_true rfl)
      · refine wm_aload_n X 0 dX8_face_43 rfl ?_
        refine wm_iload_n X 1 dX8_face_44 rfl ?_
        refine wm_iconst (v := 0) X dX8_face_45 (by decide) ?_
        obtain ⟨s38, h⟩ := ck_e h
        refine wm_cV_i (As := [.int x1, .int 0]) (st := []) X hS cd_8 s38 rfl h (fun _ _ hF => ctX8_of l hF) mdX8_of mvX8_of q2253 dX8_face_46 rfl rfl c1_0 (Nat.le_of_ble_eq_true rfl) ⟨Nat.le_of_ble_eq_true rfl, Nat.le_of_ble_eq_true rfl⟩ ⟨Nat.le_of_ble_eq_true rfl, Nat.le_of_ble_eq_true rfl⟩ (fun x39 σ40 _ h => ?_)
        refine wm_goto X 83 dX8_face_49 (by decide) ?_
        exact wm_iret X hr h dX8_face_83 (Nat.le_of_ble_eq_true rfl) (Nat.le_of_ble_eq_true rfl)
    · refine wm_iconst (v := 0) X dX8_face_37 (by decide) ?_
      exact wm_iret X hr h dX8_face_38 (Nat.le_of_ble_eq_true rfl) (Nat.le_of_ble_eq_true rfl)
  clear eJ27
  refine wm_if_ne X 13 h dX8_face_6 (by decide) (fun c46 h => ?_) (fun c46 h => ?_)
  · refine wm_iload_n X 2 dX8_face_13 rfl ?_
    refine wm_iconst (v := 0) X dX8_face_14 (by decide) ?_
    refine wm_iconst (v := 3) X dX8_face_15 (by decide) ?_
    refine wm_cS_i (As := [.int x2, .int 0, .int 3]) (st := [va_rf (some h0)]) X hS h (fun _ _ hF => ctX8_isIn l hF) mdX8_isIn msX8_isIn q2115 dX8_face_16 rfl rfl (c1_r c1_0) (Nat.le_of_ble_eq_true rfl) ⟨Nat.le_of_ble_eq_true rfl, Nat.le_of_ble_eq_true rfl⟩ ⟨Nat.le_of_ble_eq_true rfl, Nat.le_of_ble_eq_true rfl⟩ (fun x43 σ44 _ h => ?_)
    refine wm_if_ne X 26 h dX8_face_19 (by decide) (fun c45 h => ?_) (fun c45 h => ?_)
    · refine wm_iconst (v := 0) X dX8_face_26 (by decide) ?_
      exact hJ27 _ _ h
    · refine wm_iconst (v := 2) X dX8_face_22 (by decide) ?_
      refine wm_goto X 27 dX8_face_23 (by decide) ?_
      exact hJ27 _ _ h
  · refine wm_iconst (v := 1) X dX8_face_9 (by decide) ?_
    refine wm_goto X 27 dX8_face_10 (by decide) ?_
    exact hJ27 _ _ h
theorem mdX8_isHook : MD yX8_isHook 1 := by unfold MD; decide +kernel
theorem mvX8_isHook : MV yX8_isHook cX8_isHook 2 ((some FieldType.boolean)) := ⟨q2322, qs89, q139, q2323⟩
set_option maxHeartbeats 4000000 in
theorem ctX8_isHook (l : Launch) {h0 : Nat} {x1 : Int32} {σ σf : Mm} {r : Int32} (h : FX8_isHook h0 x1 σ = some (r, σf)) : CTi l yX8_isHook (ws_ yX8_isHook cX8_isHook 2 ((some FieldType.boolean))) 1 22 0 0 [va_rf (some h0), .int x1] σ r σf := by
  refine ct_start (n := 1) mdX8_isHook (Nat.le_of_ble_eq_true rfl) (c1_r (c1_i c1_0)) (fun p e s m args below meth c D dA sz0 ad0 X hS hr hnm => ?_)
  have X : CX p s m args meth c cX8_isHook 2 RX8 := X
  generalize mN σ = N0
  unfold FX8_isHook at h
  refine wm_iload_n X 1 dX8_isHook_0 rfl ?_
  refine wm_iconst (v := 0) X dX8_isHook_1 (by decide) ?_
  refine wm_aload_n X 0 dX8_isHook_2 rfl ?_
  refine wm_gR X hS cd_8 1 h dX8_isHook_3 (Nat.le_of_ble_eq_true rfl) rfl q2025 (fun x21 h => ?_)
  refine wm_iconst (v := 4) X dX8_isHook_6 (by decide) ?_
  refine wm_iaload X hS h dX8_isHook_7 (fun x22 h => ?_)
  refine wm_iconst (v := 1) X dX8_isHook_8 (by decide) ?_
  refine wm_isub X dX8_isHook_9 ?_
  refine wm_cS_i (As := [.int x1, .int 0, .int (x22 - 1)]) (st := []) X hS h (fun _ _ hF => ctX8_isIn l hF) mdX8_isIn msX8_isIn q2115 dX8_isHook_10 rfl rfl c1_0 (Nat.le_of_ble_eq_true rfl) ⟨Nat.le_of_ble_eq_true rfl, Nat.le_of_ble_eq_true rfl⟩ ⟨Nat.le_of_ble_eq_true rfl, Nat.le_of_ble_eq_true rfl⟩ (fun x23 σ24 _ h => ?_)
  exact wm_zret X hr h dX8_isHook_13 (Nat.le_of_ble_eq_true rfl) (Nat.le_of_ble_eq_true rfl)
theorem mdX8_hook : MD yX8_hook 1 := by unfold MD; decide +kernel
theorem mvX8_hook : MV yX8_hook cX8_hook 2 ((some FieldType.int)) := ⟨q2317, q2318, q139, q2319⟩
set_option maxHeartbeats 4000000 in
theorem ctX8_hook (l : Launch) {h0 : Nat} {x1 : Int32} {σ σf : Mm} {r : Int32} (h : FX8_hook h0 x1 σ = some (r, σf)) : CTi l yX8_hook (ws_ yX8_hook cX8_hook 2 ((some FieldType.int))) 2 43 0 0 [va_rf (some h0), .int x1] σ r σf := by
  refine ct_start (n := 1) mdX8_hook (Nat.le_of_ble_eq_true rfl) (c1_r (c1_i c1_0)) (fun p e s m args below meth c D dA sz0 ad0 X hS hr hnm => ?_)
  have X : CX p s m args meth c cX8_hook 2 RX8 := X
  generalize mN σ = N0
  unfold FX8_hook at h
  refine wm_aload_n X 0 dX8_hook_0 rfl ?_
  refine wm_aload_n X 0 dX8_hook_1 rfl ?_
  refine wm_iload_n X 1 dX8_hook_2 rfl ?_
  obtain ⟨s21, h⟩ := ck_e h
  refine wm_cV_i (As := [.int x1]) (st := [va_rf (some h0)]) X hS cd_8 s21 rfl h (fun _ _ hF => ctX8_isHook l hF) mdX8_isHook mvX8_isHook q2320 dX8_hook_3 rfl rfl (c1_r c1_0) (Nat.le_of_ble_eq_true rfl) ⟨Nat.le_of_ble_eq_true rfl, Nat.le_of_ble_eq_true rfl⟩ ⟨Nat.le_of_ble_eq_true rfl, Nat.le_of_ble_eq_true rfl⟩ (fun x22 σ23 _ h => ?_)
  obtain ⟨J14, eJ14, h⟩ := jn_e h
  have hJ14 : ∀ (z24 : Int32) (σ : Mm), J14 z24 σ = some (r, σf) → WMi p l e s m args below meth c 2 43 0 0 2 D dA sz0 ad0 N0 r σf 0 0 σ [(0, va_rf (some h0)), (1, .int x1)] [.int z24, va_rf (some h0)] 14 := by
    intro z24 σ h
    rw [eJ14] at h
    refine wm_pI X hS cd_8 0 h dX8_hook_14 (Nat.le_of_ble_eq_true rfl) rfl q2024 rfl rfl (fun σ25 _ h => ?_)
    refine wm_aload_n X 0 dX8_hook_17 rfl ?_
    refine wm_gI X hS cd_8 0 h dX8_hook_18 (Nat.le_of_ble_eq_true rfl) rfl q2024 (fun x26 h => ?_)
    refine wm_if_le X 28 h dX8_hook_21 (by decide) (fun c29 h => ?_) (fun c29 h => ?_)
    · refine wm_aload_n X 0 dX8_hook_28 rfl ?_
      refine wm_gR X hS cd_8 1 h dX8_hook_29 (Nat.le_of_ble_eq_true rfl) rfl q2025 (fun x27 h => ?_)
      refine wm_sipush (v := 272) X dX8_hook_32 (by decide) ?_
      refine wm_iload_n X 1 dX8_hook_35 rfl ?_
      refine wm_iadd X dX8_hook_36 ?_
      refine wm_iaload X hS h dX8_hook_37 (fun x28 h => ?_)
      exact wm_iret X hr h dX8_hook_38 (Nat.le_of_ble_eq_true rfl) (Nat.le_of_ble_eq_true rfl)
    · refine wm_iconst (v := 0) X dX8_hook_24 (by decide) ?_
      refine wm_goto X 38 dX8_hook_25 (by decide) ?_
      exact wm_iret X hr h dX8_hook_38 (Nat.le_of_ble_eq_true rfl) (Nat.le_of_ble_eq_true rfl)
  clear eJ14
  refine wm_if_ne X 13 h dX8_hook_6 (by decide) (fun c30 h => ?_) (fun c30 h => ?_)
  · refine wm_iconst (v := 0) X dX8_hook_13 (by decide) ?_
    exact hJ14 _ _ h
  · refine wm_iconst (v := 1) X dX8_hook_9 (by decide) ?_
    refine wm_goto X 14 dX8_hook_10 (by decide) ?_
    exact hJ14 _ _ h
theorem mdX8_wish : MD yX8_wish 2 := by unfold MD; decide +kernel
theorem mvX8_wish : MV yX8_wish cX8_wish 5 ((some FieldType.int)) := ⟨q2325, q2326, q139, q2327⟩
set_option maxHeartbeats 4000000 in
theorem wX8_wish_58 {p : Program} {l : Launch} {e : Env} {s : State} {m : MethodId} {args : Array Value} {below : List Frame} {meth : Method} {c : Code} {D : va_G} {dA : Nat → ClassId} {sz0 : Nat} {ad0 : Nat → Nat} {N0 : Nat} {r : Int32} {σf : Mm} (X : CX p s m args meth c cX8_wish 5 RX8) (hS : ST D dA sz0 ad0 s) (hr : meth.sig.returnType = (some FieldType.int)) (hnm : meth.name = yX8_wish.name) (h0 : Nat) (y1 : Int32) : ∀ (n : Nat) (v3 : Int32) (v4 : Int32) (σ : Mm) (kx119 : Int32 → Mm → Option (Int32 × Mm)), FX8_wish_58 h0 y1 n v3 v4 σ kx119 = some (r, σf) → (∀ (w4 : Int32) (σ : Mm), kx119 w4 σ = some (r, σf) → WMi p l e s m args below meth c 2 43 0 0 5 D dA sz0 ad0 N0 r σf 0 0 σ [(0, va_rf (some h0)), (1, .int y1), (4, .int w4)] [] 119) → WMi p l e s m args below meth c 2 43 0 0 5 D dA sz0 ad0 N0 r σf 0 0 σ [(0, va_rf (some h0)), (1, .int y1), (3, .int v3), (4, .int v4)] [] 58 := by
  intro n
  induction n with
  | zero =>
    intro v3 v4 σ kx119 h hkx119
    cases h
  | succ n ih =>
    intro v3 v4 σ kx119 h hkx119
    rw [FX8_wish_58] at h
    refine wm_iload_n X 2 dX8_wish_58 rfl ?_
    obtain ⟨J86, eJ86, h⟩ := jn_e h
    have hJ86 : ∀  (σ : Mm), J86  σ = some (r, σf) → WMi p l e s m args below meth c 2 43 0 0 5 D dA sz0 ad0 N0 r σf 0 0 σ [(0, va_rf (some h0)), (1, .int y1), (3, .int v3), (4, .int v4)] [] 86 := by
      intro  σ h
      rw [eJ86] at h
      refine wm_aload_n X 0 dX8_wish_86 rfl ?_
      refine wm_gR X hS cd_8 1 h dX8_wish_87 (Nat.le_of_ble_eq_true rfl) rfl q2025 (fun x33 h => ?_)
      refine wm_bipush (v := 72) X dX8_wish_90 (by decide) ?_
      refine wm_bipush (v := 10) X dX8_wish_92 (by decide) ?_
      refine wm_iload_n X 1 dX8_wish_94 rfl ?_
      refine wm_imul X dX8_wish_95 ?_
      refine wm_iadd X dX8_wish_96 ?_
      refine wm_iload X 3 dX8_wish_97 rfl ?_
      refine wm_iadd X dX8_wish_99 ?_
      refine wm_iaload X hS h dX8_wish_100 (fun x34 h => ?_)
      refine wm_aload_n X 0 dX8_wish_101 rfl ?_
      refine wm_gR X hS cd_8 1 h dX8_wish_102 (Nat.le_of_ble_eq_true rfl) rfl q2025 (fun x35 h => ?_)
      refine wm_iconst (v := 3) X dX8_wish_105 (by decide) ?_
      refine wm_iaload X hS h dX8_wish_106 (fun x36 h => ?_)
      refine wm_icmp_ge X 113 h dX8_wish_107 (by decide) (fun c37 h => ?_) (fun c37 h => ?_)
      · refine wm_iinc (v := (v4 + 1)) (ℓ' := [(4, .int (v4 + 1)), (0, va_rf (some h0)), (1, .int y1), (3, .int v3)]) X 3 dX8_wish_113 rfl rfl (by decide) rfl ?_
        refine wm_goto X 58 dX8_wish_116 (by decide) ?_
        refine wm_sub (ℓ' := [(0, va_rf (some h0)), (1, .int y1), (3, .int v3), (4, .int (v4 + 1))]) [1, 2, 3, 0] rfl ?_
        exact ih _ _ _ _ h hkx119
      · refine wm_iinc (v := (v3 + (-1))) (ℓ' := [(3, .int (v3 + (-1))), (0, va_rf (some h0)), (1, .int y1), (4, .int v4)]) X 2 dX8_wish_110 rfl rfl (by decide) rfl ?_
        refine wm_iinc (v := (v4 + 1)) (ℓ' := [(4, .int (v4 + 1)), (3, .int (v3 + (-1))), (0, va_rf (some h0)), (1, .int y1)]) X 3 dX8_wish_113 rfl rfl (by decide) rfl ?_
        refine wm_goto X 58 dX8_wish_116 (by decide) ?_
        refine wm_sub (ℓ' := [(0, va_rf (some h0)), (1, .int y1), (3, .int (v3 + (-1))), (4, .int (v4 + 1))]) [2, 3, 1, 0] rfl ?_
        exact ih _ _ _ _ h hkx119
    clear eJ86
    refine wm_if_gt X 86 h dX8_wish_59 (by decide) (fun c43 h => ?_) (fun c43 h => ?_)
    · exact hJ86 _ h
    · refine wm_aload_n X 0 dX8_wish_62 rfl ?_
      refine wm_gR X hS cd_8 1 h dX8_wish_63 (Nat.le_of_ble_eq_true rfl) rfl q2025 (fun x38 h => ?_)
      refine wm_bipush (v := 72) X dX8_wish_66 (by decide) ?_
      refine wm_bipush (v := 10) X dX8_wish_68 (by decide) ?_
      refine wm_iload_n X 1 dX8_wish_70 rfl ?_
      refine wm_imul X dX8_wish_71 ?_
      refine wm_iadd X dX8_wish_72 ?_
      refine wm_iload X 3 dX8_wish_73 rfl ?_
      refine wm_iadd X dX8_wish_75 ?_
      refine wm_iaload X hS h dX8_wish_76 (fun x39 h => ?_)
      refine wm_aload_n X 0 dX8_wish_77 rfl ?_
      refine wm_gR X hS cd_8 1 h dX8_wish_78 (Nat.le_of_ble_eq_true rfl) rfl q2025 (fun x40 h => ?_)
      refine wm_iconst (v := 3) X dX8_wish_81 (by decide) ?_
      refine wm_iaload X hS h dX8_wish_82 (fun x41 h => ?_)
      refine wm_icmp_lt X 119 h dX8_wish_83 (by decide) (fun c42 h => ?_) (fun c42 h => ?_)
      · refine wm_sub (ℓ' := [(0, va_rf (some h0)), (1, .int y1), (4, .int v4)]) [0, 1, 3] rfl ?_
        exact hkx119 _ _ h
      · exact hJ86 _ h
set_option maxHeartbeats 4000000 in
theorem ctX8_wish (l : Launch) {h0 : Nat} {x1 : Int32} {x2 : Int32} {σ σf : Mm} {r : Int32} (h : FX8_wish h0 x1 x2 σ = some (r, σf)) : CTi l yX8_wish (ws_ yX8_wish cX8_wish 5 ((some FieldType.int))) 2 43 0 0 [va_rf (some h0), .int x1, .int x2] σ r σf := by
  refine ct_start (n := 2) mdX8_wish (Nat.le_of_ble_eq_true rfl) (c1_r (c1_i (c1_i c1_0))) (fun p e s m args below meth c D dA sz0 ad0 X hS hr hnm => ?_)
  have X : CX p s m args meth c cX8_wish 5 RX8 := X
  generalize mN σ = N0
  unfold FX8_wish at h
  refine wm_aload_n X 0 dX8_wish_0 rfl ?_
  refine wm_aload_n X 0 dX8_wish_1 rfl ?_
  refine wm_iload_n X 1 dX8_wish_2 rfl ?_
  obtain ⟨s21, h⟩ := ck_e h
  refine wm_cV_i (As := [.int x1]) (st := [va_rf (some h0)]) X hS cd_8 s21 rfl h (fun _ _ hF => ctX8_isPerson l hF) mdX8_isPerson mvX8_isPerson q2292 dX8_wish_3 rfl rfl (c1_r c1_0) (Nat.le_of_ble_eq_true rfl) ⟨Nat.le_of_ble_eq_true rfl, Nat.le_of_ble_eq_true rfl⟩ ⟨Nat.le_of_ble_eq_true rfl, Nat.le_of_ble_eq_true rfl⟩ (fun x22 σ23 _ h => ?_)
  obtain ⟨J14, eJ14, h⟩ := jn_e h
  have hJ14 : ∀ (z24 : Int32) (σ : Mm), J14 z24 σ = some (r, σf) → WMi p l e s m args below meth c 2 43 0 0 5 D dA sz0 ad0 N0 r σf 0 0 σ [(0, va_rf (some h0)), (1, .int x1), (2, .int x2)] [.int z24, va_rf (some h0)] 14 := by
    intro z24 σ h
    rw [eJ14] at h
    refine wm_pI X hS cd_8 0 h dX8_wish_14 (Nat.le_of_ble_eq_true rfl) rfl q2024 rfl rfl (fun σ25 _ h => ?_)
    refine wm_aload_n X 0 dX8_wish_17 rfl ?_
    refine wm_gI X hS cd_8 0 h dX8_wish_18 (Nat.le_of_ble_eq_true rfl) rfl q2024 (fun x26 h => ?_)
    obtain ⟨J40, eJ40, h⟩ := jn_e h
    have hJ40 : ∀  (σ : Mm), J40  σ = some (r, σf) → WMi p l e s m args below meth c 2 43 0 0 5 D dA sz0 ad0 N0 r σf 0 0 σ [(0, va_rf (some h0))] [] 40 := by
      intro  σ h
      rw [eJ40] at h
      refine wm_aload_n X 0 dX8_wish_40 rfl ?_
      refine wm_gI X hS cd_8 0 h dX8_wish_41 (Nat.le_of_ble_eq_true rfl) rfl q2024 (fun x27 h => ?_)
      refine wm_if_le X 51 h dX8_wish_44 (by decide) (fun c28 h => ?_) (fun c28 h => ?_)
      · refine wm_iconst (v := (-1)) X dX8_wish_51 (by decide) ?_
        exact wm_iret X hr h dX8_wish_52 (Nat.le_of_ble_eq_true rfl) (Nat.le_of_ble_eq_true rfl)
      · refine wm_iconst (v := 0) X dX8_wish_47 (by decide) ?_
        refine wm_goto X 52 dX8_wish_48 (by decide) ?_
        exact wm_iret X hr h dX8_wish_52 (Nat.le_of_ble_eq_true rfl) (Nat.le_of_ble_eq_true rfl)
    clear eJ40
    refine wm_if_gt X 40 h dX8_wish_21 (by decide) (fun c48 h => ?_) (fun c48 h => ?_)
    · refine wm_sub (ℓ' := [(0, va_rf (some h0))]) [0] rfl ?_
      exact hJ40 _ h
    · refine wm_iload_n X 2 dX8_wish_24 rfl ?_
      refine wm_iconst (v := 0) X dX8_wish_25 (by decide) ?_
      refine wm_aload_n X 0 dX8_wish_26 rfl ?_
      refine wm_gR X hS cd_8 1 h dX8_wish_27 (Nat.le_of_ble_eq_true rfl) rfl q2025 (fun x29 h => ?_)
      refine wm_iconst (v := 3) X dX8_wish_30 (by decide) ?_
      refine wm_iaload X hS h dX8_wish_31 (fun x30 h => ?_)
      refine wm_iconst (v := 1) X dX8_wish_32 (by decide) ?_
      refine wm_isub X dX8_wish_33 ?_
      refine wm_cS_i (As := [.int x2, .int 0, .int (x30 - 1)]) (st := []) X hS h (fun _ _ hF => ctX8_isIn l hF) mdX8_isIn msX8_isIn q2115 dX8_wish_34 rfl rfl c1_0 (Nat.le_of_ble_eq_true rfl) ⟨Nat.le_of_ble_eq_true rfl, Nat.le_of_ble_eq_true rfl⟩ ⟨Nat.le_of_ble_eq_true rfl, Nat.le_of_ble_eq_true rfl⟩ (fun x31 σ32 _ h => ?_)
      refine wm_if_ne X 53 h dX8_wish_37 (by decide) (fun c47 h => ?_) (fun c47 h => ?_)
      · refine wm_iload_n X 2 dX8_wish_53 rfl ?_
        refine wm_istore_n (ℓ' := [(3, .int x2), (0, va_rf (some h0)), (1, .int x1), (2, .int x2)]) X dX8_wish_54 (by decide) rfl ?_
        refine wm_iconst (v := 0) X dX8_wish_55 (by decide) ?_
        refine wm_istore (ℓ' := [(4, .int 0), (3, .int x2), (0, va_rf (some h0)), (1, .int x1), (2, .int x2)]) X dX8_wish_56 (by decide) rfl ?_
        refine wm_sub (ℓ' := [(0, va_rf (some h0)), (1, .int x1), (3, .int x2), (4, .int 0)]) [2, 3, 1, 0] rfl ?_
        refine wX8_wish_58 X hS hr hnm _ _ fu _ _ _ _ h (fun x44 σ h => ?_)
        · refine wm_aload_n X 0 dX8_wish_119 rfl ?_
          refine wm_gR X hS cd_8 1 h dX8_wish_120 (Nat.le_of_ble_eq_true rfl) rfl q2025 (fun x45 h => ?_)
          refine wm_bipush (v := 72) X dX8_wish_123 (by decide) ?_
          refine wm_bipush (v := 10) X dX8_wish_125 (by decide) ?_
          refine wm_iload_n X 1 dX8_wish_127 rfl ?_
          refine wm_imul X dX8_wish_128 ?_
          refine wm_iadd X dX8_wish_129 ?_
          refine wm_iload X 2 dX8_wish_130 rfl ?_
          refine wm_iadd X dX8_wish_132 ?_
          refine wm_iaload X hS h dX8_wish_133 (fun x46 h => ?_)
          exact wm_iret X hr h dX8_wish_134 (Nat.le_of_ble_eq_true rfl) (Nat.le_of_ble_eq_true rfl)
      · refine wm_sub (ℓ' := [(0, va_rf (some h0))]) [0] rfl ?_
        exact hJ40 _ h
  clear eJ14
  refine wm_if_ne X 13 h dX8_wish_6 (by decide) (fun c49 h => ?_) (fun c49 h => ?_)
  · refine wm_iconst (v := 0) X dX8_wish_13 (by decide) ?_
    exact hJ14 _ _ h
  · refine wm_iconst (v := 1) X dX8_wish_9 (by decide) ?_
    refine wm_goto X 14 dX8_wish_10 (by decide) ?_
    exact hJ14 _ _ h
theorem mdX8_two : MD yX8_two 2 := by unfold MD; decide +kernel
theorem mvX8_two : MV yX8_two cX8_two 3 ((some FieldType.int)) := ⟨q2334, qs90, q139, q2335⟩
set_option maxHeartbeats 4000000 in
theorem ctX8_two (l : Launch) {h0 : Nat} {x1 : Int32} {x2 : Int32} {σ σf : Mm} {r : Int32} (h : FX8_two h0 x1 x2 σ = some (r, σf)) : CTi l yX8_two (ws_ yX8_two cX8_two 3 ((some FieldType.int))) 2 43 0 0 [va_rf (some h0), .int x1, .int x2] σ r σf := by
  refine ct_start (n := 2) mdX8_two (Nat.le_of_ble_eq_true rfl) (c1_r (c1_i (c1_i c1_0))) (fun p e s m args below meth c D dA sz0 ad0 X hS hr hnm => ?_)
  have X : CX p s m args meth c cX8_two 3 RX8 := X
  generalize mN σ = N0
  unfold FX8_two at h
  refine wm_aload_n X 0 dX8_two_0 rfl ?_
  refine wm_iload_n X 1 dX8_two_1 rfl ?_
  obtain ⟨s21, h⟩ := ck_e h
  refine wm_cV_i (As := [.int x1]) (st := []) X hS cd_8 s21 rfl h (fun _ _ hF => ctX8_isPerson l hF) mdX8_isPerson mvX8_isPerson q2292 dX8_two_2 rfl rfl c1_0 (Nat.le_of_ble_eq_true rfl) ⟨Nat.le_of_ble_eq_true rfl, Nat.le_of_ble_eq_true rfl⟩ ⟨Nat.le_of_ble_eq_true rfl, Nat.le_of_ble_eq_true rfl⟩ (fun x22 σ23 _ h => ?_)
  refine wm_if_eq X 16 h dX8_two_5 (by decide) (fun c29 h => ?_) (fun c29 h => ?_)
  · refine wm_iconst (v := 1) X dX8_two_16 (by decide) ?_
    refine wm_goto X 30 dX8_two_17 (by decide) ?_
    exact wm_iret X hr h dX8_two_30 (Nat.le_of_ble_eq_true rfl) (Nat.le_of_ble_eq_true rfl)
  · refine wm_aload_n X 0 dX8_two_8 rfl ?_
    refine wm_iload_n X 2 dX8_two_9 rfl ?_
    obtain ⟨s24, h⟩ := ck_e h
    refine wm_cV_i (As := [.int x2]) (st := []) X hS cd_8 s24 rfl h (fun _ _ hF => ctX8_isPerson l hF) mdX8_isPerson mvX8_isPerson q2292 dX8_two_10 rfl rfl c1_0 (Nat.le_of_ble_eq_true rfl) ⟨Nat.le_of_ble_eq_true rfl, Nat.le_of_ble_eq_true rfl⟩ ⟨Nat.le_of_ble_eq_true rfl, Nat.le_of_ble_eq_true rfl⟩ (fun x25 σ26 _ h => ?_)
    refine wm_if_ne X 20 h dX8_two_13 (by decide) (fun c28 h => ?_) (fun c28 h => ?_)
    · refine wm_iload_n X 1 dX8_two_20 rfl ?_
      refine wm_iload_n X 2 dX8_two_21 rfl ?_
      refine wm_icmp_ne X 29 h dX8_two_22 (by decide) (fun c27 h => ?_) (fun c27 h => ?_)
      · refine wm_iconst (v := 0) X dX8_two_29 (by decide) ?_
        exact wm_iret X hr h dX8_two_30 (Nat.le_of_ble_eq_true rfl) (Nat.le_of_ble_eq_true rfl)
      · refine wm_iconst (v := 2) X dX8_two_25 (by decide) ?_
        refine wm_goto X 30 dX8_two_26 (by decide) ?_
        exact wm_iret X hr h dX8_two_30 (Nat.le_of_ble_eq_true rfl) (Nat.le_of_ble_eq_true rfl)
    · refine wm_iconst (v := 1) X dX8_two_16 (by decide) ?_
      refine wm_goto X 30 dX8_two_17 (by decide) ?_
      exact wm_iret X hr h dX8_two_30 (Nat.le_of_ble_eq_true rfl) (Nat.le_of_ble_eq_true rfl)
theorem mdX8_thought : MD yX8_thought 2 := by unfold MD; decide +kernel
theorem mvX8_thought : MV yX8_thought cX8_thought 3 ((some FieldType.int)) := ⟨q2338, qs91, q139, q2339⟩
set_option maxHeartbeats 4000000 in
theorem ctX8_thought (l : Launch) {h0 : Nat} {x1 : Int32} {x2 : Int32} {σ σf : Mm} {r : Int32} (h : FX8_thought h0 x1 x2 σ = some (r, σf)) : CTi l yX8_thought (ws_ yX8_thought cX8_thought 3 ((some FieldType.int))) 0 0 0 0 [va_rf (some h0), .int x1, .int x2] σ r σf := by
  refine ct_start (n := 2) mdX8_thought (Nat.le_of_ble_eq_true rfl) (c1_r (c1_i (c1_i c1_0))) (fun p e s m args below meth c D dA sz0 ad0 X hS hr hnm => ?_)
  have X : CX p s m args meth c cX8_thought 3 RX8 := X
  generalize mN σ = N0
  unfold FX8_thought at h
  refine wm_aload_n X 0 dX8_thought_0 rfl ?_
  refine wm_gR X hS cd_8 1 h dX8_thought_1 (Nat.le_of_ble_eq_true rfl) rfl q2025 (fun x21 h => ?_)
  refine wm_sipush (v := 172) X dX8_thought_4 (by decide) ?_
  refine wm_bipush (v := 10) X dX8_thought_7 (by decide) ?_
  refine wm_iload_n X 1 dX8_thought_9 rfl ?_
  refine wm_imul X dX8_thought_10 ?_
  refine wm_iadd X dX8_thought_11 ?_
  refine wm_iload_n X 2 dX8_thought_12 rfl ?_
  refine wm_iadd X dX8_thought_13 ?_
  refine wm_iaload X hS h dX8_thought_14 (fun x22 h => ?_)
  exact wm_iret X hr h dX8_thought_15 (Nat.le_of_ble_eq_true rfl) (Nat.le_of_ble_eq_true rfl)
theorem mdX8_thinks : MD yX8_thinks 2 := by unfold MD; decide +kernel
theorem mvX8_thinks : MV yX8_thinks cX8_thinks 3 ((some FieldType.int)) := ⟨q2329, q2330, q139, q2331⟩
set_option maxHeartbeats 4000000 in
theorem ctX8_thinks (l : Launch) {h0 : Nat} {x1 : Int32} {x2 : Int32} {σ σf : Mm} {r : Int32} (h : FX8_thinks h0 x1 x2 σ = some (r, σf)) : CTi l yX8_thinks (ws_ yX8_thinks cX8_thinks 3 ((some FieldType.int))) 3 65 0 0 [va_rf (some h0), .int x1, .int x2] σ r σf := by
  refine ct_start (n := 2) mdX8_thinks (Nat.le_of_ble_eq_true rfl) (c1_r (c1_i (c1_i c1_0))) (fun p e s m args below meth c D dA sz0 ad0 X hS hr hnm => ?_)
  have X : CX p s m args meth c cX8_thinks 3 RX8 := X
  generalize mN σ = N0
  unfold FX8_thinks at h
  refine wm_aload_n X 0 dX8_thinks_0 rfl ?_
  refine wm_aload_n X 0 dX8_thinks_1 rfl ?_
  refine wm_iload_n X 1 dX8_thinks_2 rfl ?_
  refine wm_iload_n X 2 dX8_thinks_3 rfl ?_
  obtain ⟨s21, h⟩ := ck_e h
  refine wm_cV_i (As := [.int x1, .int x2]) (st := [va_rf (some h0)]) X hS cd_8 s21 rfl h (fun _ _ hF => ctX8_two l hF) mdX8_two mvX8_two q2332 dX8_thinks_4 rfl rfl (c1_r c1_0) (Nat.le_of_ble_eq_true rfl) ⟨Nat.le_of_ble_eq_true rfl, Nat.le_of_ble_eq_true rfl⟩ ⟨Nat.le_of_ble_eq_true rfl, Nat.le_of_ble_eq_true rfl⟩ (fun x22 σ23 _ h => ?_)
  refine wm_pI X hS cd_8 0 h dX8_thinks_7 (Nat.le_of_ble_eq_true rfl) rfl q2024 rfl rfl (fun σ24 _ h => ?_)
  refine wm_aload_n X 0 dX8_thinks_10 rfl ?_
  refine wm_gI X hS cd_8 0 h dX8_thinks_11 (Nat.le_of_ble_eq_true rfl) rfl q2024 (fun x25 h => ?_)
  refine wm_if_le X 21 h dX8_thinks_14 (by decide) (fun c29 h => ?_) (fun c29 h => ?_)
  · refine wm_aload_n X 0 dX8_thinks_21 rfl ?_
    refine wm_iload_n X 1 dX8_thinks_22 rfl ?_
    refine wm_iload_n X 2 dX8_thinks_23 rfl ?_
    obtain ⟨s26, h⟩ := ck_e h
    refine wm_cV_i (As := [.int x1, .int x2]) (st := []) X hS cd_8 s26 rfl h (fun _ _ hF => ctX8_thought l hF) mdX8_thought mvX8_thought q2336 dX8_thinks_24 rfl rfl c1_0 (Nat.le_of_ble_eq_true rfl) ⟨Nat.le_of_ble_eq_true rfl, Nat.le_of_ble_eq_true rfl⟩ ⟨Nat.le_of_ble_eq_true rfl, Nat.le_of_ble_eq_true rfl⟩ (fun x27 σ28 _ h => ?_)
    exact wm_iret X hr h dX8_thinks_27 (Nat.le_of_ble_eq_true rfl) (Nat.le_of_ble_eq_true rfl)
  · refine wm_iconst (v := 0) X dX8_thinks_17 (by decide) ?_
    refine wm_goto X 27 dX8_thinks_18 (by decide) ?_
    exact wm_iret X hr h dX8_thinks_27 (Nat.le_of_ble_eq_true rfl) (Nat.le_of_ble_eq_true rfl)
theorem mdX8_remembers : MD yX8_remembers 0 := by unfold MD; decide +kernel
theorem mvX8_remembers : MV yX8_remembers cX8_remembers 2 (none) := ⟨q2346, qs92, q139, q2347⟩
set_option maxHeartbeats 4000000 in
theorem wX8_remembers_52 {p : Program} {l : Launch} {e : Env} {s : State} {m : MethodId} {args : Array Value} {below : List Frame} {meth : Method} {c : Code} {D : va_G} {dA : Nat → ClassId} {sz0 : Nat} {ad0 : Nat → Nat} {N0 : Nat} {σf : Mm} (X : CX p s m args meth c cX8_remembers 2 RX8) (hS : ST D dA sz0 ad0 s) (hr : meth.sig.returnType = none) (hnm : meth.name = yX8_remembers.name) (h0 : Nat) : ∀ (n : Nat) (v1 : Int32) (σ : Mm) (kx86 : Mm → Option (Mm)), FX8_remembers_52 h0 n v1 σ kx86 = some σf → (∀  (σ : Mm), kx86 σ = some σf → WMv p l e s m args below meth c 0 0 0 0 2 D dA sz0 ad0 N0 σf 0 0 σ [(0, va_rf (some h0))] [] 86) → WMv p l e s m args below meth c 0 0 0 0 2 D dA sz0 ad0 N0 σf 0 0 σ [(0, va_rf (some h0)), (1, .int v1)] [] 52 := by
  intro n
  induction n with
  | zero =>
    intro v1 σ kx86 h hkx86
    cases h
  | succ n ih =>
    intro v1 σ kx86 h hkx86
    rw [FX8_remembers_52] at h
    refine wm_iload_n X 1 dX8_remembers_52 rfl ?_
    refine wm_sipush (v := 584) X dX8_remembers_53 (by decide) ?_
    refine wm_icmp_ge X 86 h dX8_remembers_56 (by decide) (fun c27 h => ?_) (fun c27 h => ?_)
    · refine wm_sub (ℓ' := [(0, va_rf (some h0))]) [0] rfl ?_
      exact hkx86 _ h
    · refine wm_aload_n X 0 dX8_remembers_59 rfl ?_
      refine wm_gR X hS cd_8 5 h dX8_remembers_60 (Nat.le_of_ble_eq_true rfl) rfl q2029 (fun x22 h => ?_)
      refine wm_sipush (v := 584) X dX8_remembers_63 (by decide) ?_
      refine wm_aload_n X 0 dX8_remembers_66 rfl ?_
      refine wm_gI X hS cd_8 6 h dX8_remembers_67 (Nat.le_of_ble_eq_true rfl) rfl q2030 (fun x23 h => ?_)
      refine wm_imul X dX8_remembers_70 ?_
      refine wm_iload_n X 1 dX8_remembers_71 rfl ?_
      refine wm_iadd X dX8_remembers_72 ?_
      refine wm_aload_n X 0 dX8_remembers_73 rfl ?_
      refine wm_gR X hS cd_8 1 h dX8_remembers_74 (Nat.le_of_ble_eq_true rfl) rfl q2025 (fun x24 h => ?_)
      refine wm_iload_n X 1 dX8_remembers_77 rfl ?_
      refine wm_iaload X hS h dX8_remembers_78 (fun x25 h => ?_)
      refine wm_iastore X hS h dX8_remembers_79 (fun σ26 _ h => ?_)
      refine wm_iinc (v := (v1 + 1)) (ℓ' := [(1, .int (v1 + 1)), (0, va_rf (some h0))]) X 1 dX8_remembers_80 rfl rfl (by decide) rfl ?_
      refine wm_goto X 52 dX8_remembers_83 (by decide) ?_
      refine wm_sub (ℓ' := [(0, va_rf (some h0)), (1, .int (v1 + 1))]) [1, 0] rfl ?_
      exact ih _ _ _ h hkx86
