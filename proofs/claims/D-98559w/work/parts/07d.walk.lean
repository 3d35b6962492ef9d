/-! walks (printed by walk.py) -/
set_option maxRecDepth 100000
set_option maxHeartbeats 4000000 in
theorem wlL_law {p : Program} {l : Launch} {e : Env} {s : State} {m : MethodId} {b : Nat} {below : List Frame} {meth : Method} {c : Code} {D : va_G} {dA : Nat → ClassId} {sz0 : Nat} {ad0 : Nat → Nat} {N0 : Nat} {xo : (Int32 × Mm) ⊕ (Nat × Mm)} (X : CX p s m #[Value.ref b] meth c cL_law 7 RX0) (hS : ST D dA sz0 ad0 s) (hr : meth.sig.returnType = ret) (hl : l.stackTraces = false) (hsz : sz0 = s.heap.size) (hxo : ∃ σf, xo = Sum.inl (1, σf)) {L : Nat} {xs : Nat → Int32} (hX : va_X b L xs s s.heap) (hb : ad0 (BIG + 300) = b) (hbl : b < s.heap.size) (hbA : ¬ Ab sz0 b) {σ : Mm} {C Z : Nat} (h : FL_law L xs σ = some (xo, C, Z)) (hC : 0 + C ≤ 603072) (hZ : 0 + Z ≤ 7202922) : WM p l e room_1 s m #[Value.ref b] below meth c (lw_Z below #[Value.ref b] s) 7 D dA sz0 ad0 N0 0 0 σ [(0, va_rf (some (BIG + 300)))] [] 0 := by
  unfold FL_law at h
  obtain ⟨C, Z, h, hC, hZ⟩ := pay_d h hC hZ
  refine wm_new X hS cd_1 h dL_law_0 q173 q174 q128 (le_p hC) (le_p hZ) (fun x21 σ22 _ h => ?_)
  refine wm_dup X dL_law_3 (catR _) ?_
  obtain ⟨q23, eq23, h⟩ := Option.bind_eq_some_iff.mp h
  obtain ⟨eq23, s24⟩ := rv_some eq23
  obtain ⟨C, Z, h, hC, hZ⟩ := pay_d h hC hZ
  refine wm_cI_v (As := []) (st := [va_rf x21]) X hS h (fun _ hF => ctX1_init l hF) mdX1_init miX1_init q175 dL_law_4 rfl (by rw [eq23]; first | done | rfl) (c1_r c1_0) (Nat.le_of_ble_eq_true rfl) ⟨Nat.le_of_ble_eq_true rfl, Nat.le_of_ble_eq_true rfl⟩ ⟨le_p hC, le_p hZ⟩ (fun σ25 _ h => ?_)
  refine wm_astore_n (ℓ' := [(1, va_rf x21), (0, va_rf (some (BIG + 300)))]) X dL_law_7 (by decide) rfl ?_
  obtain ⟨C, Z, h, hC, hZ⟩ := pay_d h hC hZ
  refine wm_new X hS cd_8 h dL_law_8 q2018 q2019 q139 (le_p hC) (le_p hZ) (fun x26 σ27 _ h => ?_)
  refine wm_dup X dL_law_11 (catR _) ?_
  obtain ⟨q28, eq28, h⟩ := Option.bind_eq_some_iff.mp h
  obtain ⟨eq28, s29⟩ := rv_some eq28
  obtain ⟨C, Z, h, hC, hZ⟩ := pay_d h hC hZ
  refine wm_cI_v (As := []) (st := [va_rf x26]) X hS h (fun _ hF => ctX8_init l hF) mdX8_init miX8_init q2020 dL_law_12 rfl (by rw [eq28]; first | done | rfl) (c1_r c1_0) (Nat.le_of_ble_eq_true rfl) ⟨Nat.le_of_ble_eq_true rfl, Nat.le_of_ble_eq_true rfl⟩ ⟨le_p hC, le_p hZ⟩ (fun σ30 _ h => ?_)
  refine wm_astore_n (ℓ' := [(2, va_rf x26), (1, va_rf x21), (0, va_rf (some (BIG + 300)))]) X dL_law_15 (by decide) rfl ?_
  refine wm_iconst (v := 1) X dL_law_16 (by decide) ?_
  obtain ⟨C, Z, h, hC, hZ⟩ := pay_d h hC hZ
  refine wm_newarrL (z := ((1 : Int32).toNatClampNeg)) X hS q2647 h dL_law_17 (le_p hC) rfl (le_p hZ) (fun x31 σ32 _ h => ?_)
  refine wm_astore_n (ℓ' := [(3, va_rf x31), (2, va_rf x26), (1, va_rf x21), (0, va_rf (some (BIG + 300)))]) X dL_law_19 (by decide) rfl ?_
  refine wm_iconst (v := 0) X dL_law_20 (by decide) ?_
  refine wm_istore (ℓ' := [(4, .int 0), (3, va_rf x31), (2, va_rf x26), (1, va_rf x21), (0, va_rf (some (BIG + 300)))]) X dL_law_21 (by decide) rfl ?_
  refine wm_sub (ℓ' := [(0, va_rf (some (BIG + 300))), (1, va_rf x21), (2, va_rf x26), (3, va_rf x31), (4, .int 0)]) [4, 3, 2, 1, 0] rfl ?_
  refine wL_law_23 X hS hr hl hsz hxo hX hb hbl hbA _ _ _ fu _ _ _ _ _ _ _ _ _ _ _ _ _ _ _ _ _ _ _ _ _ _ _ _ _ _ _ _ _ _ _ _ _ _ _ _ _ _ _ _ _ _ _ _ _ _ _ _ _ _ _ _ _ _ _ _ _ _ _ _ _ _ _ _ _ _ _ _ _ _ _ _ _ _ _ _ _ _ _ _ _ _ _ _ _ _ h hC hZ (fun σ C Z kc kz h hC hZ => ?_) (fun σ C Z kc kz h hC hZ => ?_) (fun σ C Z kc kz h hC hZ => ?_) (fun σ C Z kc kz h hC hZ => ?_) (fun σ C Z kc kz h hC hZ => ?_) (fun σ C Z kc kz h hC hZ => ?_) (fun σ C Z kc kz h hC hZ => ?_) (fun σ C Z kc kz h hC hZ => ?_) (fun σ C Z kc kz h hC hZ => ?_) (fun σ C Z kc kz h hC hZ => ?_) (fun σ C Z kc kz h hC hZ => ?_) (fun σ C Z kc kz h hC hZ => ?_) (fun σ C Z kc kz h hC hZ => ?_) (fun σ C Z kc kz h hC hZ => ?_) (fun σ C Z kc kz h hC hZ => ?_) (fun σ C Z kc kz h hC hZ => ?_) (fun σ C Z kc kz h hC hZ => ?_) (fun σ C Z kc kz h hC hZ => ?_) (fun σ C Z kc kz h hC hZ => ?_) (fun σ C Z kc kz h hC hZ => ?_) (fun σ C Z kc kz h hC hZ => ?_) (fun σ C Z kc kz h hC hZ => ?_) (fun σ C Z kc kz h hC hZ => ?_) (fun σ C Z kc kz h hC hZ => ?_) (fun σ C Z kc kz h hC hZ => ?_) (fun σ C Z kc kz h hC hZ => ?_) (fun σ C Z kc kz h hC hZ => ?_) (fun σ C Z kc kz h hC hZ => ?_) (fun σ C Z kc kz h hC hZ => ?_) (fun σ C Z kc kz h hC hZ => ?_) (fun σ C Z kc kz h hC hZ => ?_) (fun σ C Z kc kz h hC hZ => ?_) (fun σ C Z kc kz h hC hZ => ?_) (fun σ C Z kc kz h hC hZ => ?_) (fun σ C Z kc kz h hC hZ => ?_) (fun σ C Z kc kz h hC hZ => ?_) (fun σ C Z kc kz h hC hZ => ?_) (fun σ C Z kc kz h hC hZ => ?_) (fun σ C Z kc kz h hC hZ => ?_) (fun σ C Z kc kz h hC hZ => ?_) (fun σ C Z kc kz h hC hZ => ?_) (fun σ C Z kc kz h hC hZ => ?_) (fun σ C Z kc kz h hC hZ => ?_) (fun σ C Z kc kz h hC hZ => ?_) (fun σ C Z kc kz h hC hZ => ?_) (fun σ C Z kc kz h hC hZ => ?_) (fun σ C Z kc kz h hC hZ => ?_) (fun σ C Z kc kz h hC hZ => ?_) (fun σ C Z kc kz h hC hZ => ?_) (fun σ C Z kc kz h hC hZ => ?_) (fun σ C Z kc kz h hC hZ => ?_) (fun σ C Z kc kz h hC hZ => ?_) (fun σ C Z kc kz h hC hZ => ?_) (fun σ C Z kc kz h hC hZ => ?_) (fun σ C Z kc kz h hC hZ => ?_) (fun σ C Z kc kz h hC hZ => ?_) (fun σ C Z kc kz h hC hZ => ?_) (fun σ C Z kc kz h hC hZ => ?_) (fun σ C Z kc kz h hC hZ => ?_) (fun σ C Z kc kz h hC hZ => ?_) (fun σ C Z kc kz h hC hZ => ?_) (fun σ C Z kc kz h hC hZ => ?_) (fun σ C Z kc kz h hC hZ => ?_) (fun σ C Z kc kz h hC hZ => ?_) (fun σ C Z kc kz h hC hZ => ?_) (fun σ C Z kc kz h hC hZ => ?_) (fun σ C Z kc kz h hC hZ => ?_) (fun σ C Z kc kz h hC hZ => ?_) (fun σ C Z kc kz h hC hZ => ?_) (fun σ C Z kc kz h hC hZ => ?_) (fun σ C Z kc kz h hC hZ => ?_) (fun σ C Z kc kz h hC hZ => ?_) (fun σ C Z kc kz h hC hZ => ?_) (fun σ C Z kc kz h hC hZ => ?_) (fun σ C Z kc kz h hC hZ => ?_) (fun σ C Z kc kz h hC hZ => ?_) (fun σ C Z kc kz h hC hZ => ?_) (fun σ C Z kc kz h hC hZ => ?_) (fun σ C Z kc kz h hC hZ => ?_) (fun σ C Z kc kz h hC hZ => ?_)
  · refine wm_iconst (v := 1) X dL_law_2581 (by decide) ?_
    exact wm_lret X hsz hr hxo h dL_law_2582 (le_p hC) (le_p hZ)
  · refine wm_iconst (v := 0) X dL_law_323 (by decide) ?_
    exact wm_lret X hsz hr hxo h dL_law_324 (le_p hC) (le_p hZ)
  · refine wm_iconst (v := 0) X dL_law_348 (by decide) ?_
    exact wm_lret X hsz hr hxo h dL_law_349 (le_p hC) (le_p hZ)
  · refine wm_iconst (v := 0) X dL_law_372 (by decide) ?_
    exact wm_lret X hsz hr hxo h dL_law_373 (le_p hC) (le_p hZ)
  · refine wm_iconst (v := 0) X dL_law_389 (by decide) ?_
    exact wm_lret X hsz hr hxo h dL_law_390 (le_p hC) (le_p hZ)
  · refine wm_iconst (v := 0) X dL_law_416 (by decide) ?_
    exact wm_lret X hsz hr hxo h dL_law_417 (le_p hC) (le_p hZ)
  · refine wm_iconst (v := 0) X dL_law_433 (by decide) ?_
    exact wm_lret X hsz hr hxo h dL_law_434 (le_p hC) (le_p hZ)
  · refine wm_iconst (v := 0) X dL_law_449 (by decide) ?_
    exact wm_lret X hsz hr hxo h dL_law_450 (le_p hC) (le_p hZ)
  · refine wm_iconst (v := 0) X dL_law_497 (by decide) ?_
    exact wm_lret X hsz hr hxo h dL_law_498 (le_p hC) (le_p hZ)
  · refine wm_iconst (v := 0) X dL_law_514 (by decide) ?_
    exact wm_lret X hsz hr hxo h dL_law_515 (le_p hC) (le_p hZ)
  · refine wm_iconst (v := 0) X dL_law_565 (by decide) ?_
    exact wm_lret X hsz hr hxo h dL_law_566 (le_p hC) (le_p hZ)
  · refine wm_iconst (v := 0) X dL_law_582 (by decide) ?_
    exact wm_lret X hsz hr hxo h dL_law_583 (le_p hC) (le_p hZ)
  · refine wm_iconst (v := 0) X dL_law_621 (by decide) ?_
    exact wm_lret X hsz hr hxo h dL_law_622 (le_p hC) (le_p hZ)
  · refine wm_iconst (v := 0) X dL_law_638 (by decide) ?_
    exact wm_lret X hsz hr hxo h dL_law_639 (le_p hC) (le_p hZ)
  · refine wm_iconst (v := 0) X dL_law_689 (by decide) ?_
    exact wm_lret X hsz hr hxo h dL_law_690 (le_p hC) (le_p hZ)
  · refine wm_iconst (v := 0) X dL_law_706 (by decide) ?_
    exact wm_lret X hsz hr hxo h dL_law_707 (le_p hC) (le_p hZ)
  · refine wm_iconst (v := 0) X dL_law_757 (by decide) ?_
    exact wm_lret X hsz hr hxo h dL_law_758 (le_p hC) (le_p hZ)
  · refine wm_iconst (v := 0) X dL_law_774 (by decide) ?_
    exact wm_lret X hsz hr hxo h dL_law_775 (le_p hC) (le_p hZ)
  · refine wm_iconst (v := 0) X dL_law_825 (by decide) ?_
    exact wm_lret X hsz hr hxo h dL_law_826 (le_p hC) (le_p hZ)
  · refine wm_iconst (v := 0) X dL_law_842 (by decide) ?_
    exact wm_lret X hsz hr hxo h dL_law_843 (le_p hC) (le_p hZ)
  · refine wm_iconst (v := 0) X dL_law_881 (by decide) ?_
    exact wm_lret X hsz hr hxo h dL_law_882 (le_p hC) (le_p hZ)
  · refine wm_iconst (v := 0) X dL_law_898 (by decide) ?_
    exact wm_lret X hsz hr hxo h dL_law_899 (le_p hC) (le_p hZ)
  · refine wm_iconst (v := 0) X dL_law_949 (by decide) ?_
    exact wm_lret X hsz hr hxo h dL_law_950 (le_p hC) (le_p hZ)
  · refine wm_iconst (v := 0) X dL_law_966 (by decide) ?_
    exact wm_lret X hsz hr hxo h dL_law_967 (le_p hC) (le_p hZ)
  · refine wm_iconst (v := 0) X dL_law_1017 (by decide) ?_
    exact wm_lret X hsz hr hxo h dL_law_1018 (le_p hC) (le_p hZ)
  · refine wm_iconst (v := 0) X dL_law_1034 (by decide) ?_
    exact wm_lret X hsz hr hxo h dL_law_1035 (le_p hC) (le_p hZ)
  · refine wm_iconst (v := 0) X dL_law_1085 (by decide) ?_
    exact wm_lret X hsz hr hxo h dL_law_1086 (le_p hC) (le_p hZ)
  · refine wm_iconst (v := 0) X dL_law_1102 (by decide) ?_
    exact wm_lret X hsz hr hxo h dL_law_1103 (le_p hC) (le_p hZ)
  · refine wm_iconst (v := 0) X dL_law_1153 (by decide) ?_
    exact wm_lret X hsz hr hxo h dL_law_1154 (le_p hC) (le_p hZ)
  · refine wm_iconst (v := 0) X dL_law_1170 (by decide) ?_
    exact wm_lret X hsz hr hxo h dL_law_1171 (le_p hC) (le_p hZ)
  · refine wm_iconst (v := 0) X dL_law_1233 (by decide) ?_
    exact wm_lret X hsz hr hxo h dL_law_1234 (le_p hC) (le_p hZ)
  · refine wm_iconst (v := 0) X dL_law_1250 (by decide) ?_
    exact wm_lret X hsz hr hxo h dL_law_1251 (le_p hC) (le_p hZ)
  · refine wm_iconst (v := 0) X dL_law_1301 (by decide) ?_
    exact wm_lret X hsz hr hxo h dL_law_1302 (le_p hC) (le_p hZ)
  · refine wm_iconst (v := 0) X dL_law_1318 (by decide) ?_
    exact wm_lret X hsz hr hxo h dL_law_1319 (le_p hC) (le_p hZ)
  · refine wm_iconst (v := 0) X dL_law_1357 (by decide) ?_
    exact wm_lret X hsz hr hxo h dL_law_1358 (le_p hC) (le_p hZ)
  · refine wm_iconst (v := 0) X dL_law_1374 (by decide) ?_
    exact wm_lret X hsz hr hxo h dL_law_1375 (le_p hC) (le_p hZ)
  · refine wm_iconst (v := 0) X dL_law_1390 (by decide) ?_
    exact wm_lret X hsz hr hxo h dL_law_1391 (le_p hC) (le_p hZ)
  · refine wm_iconst (v := 0) X dL_law_1403 (by decide) ?_
    exact wm_lret X hsz hr hxo h dL_law_1404 (le_p hC) (le_p hZ)
  · refine wm_iconst (v := 0) X dL_law_1416 (by decide) ?_
    exact wm_lret X hsz hr hxo h dL_law_1417 (le_p hC) (le_p hZ)
  · refine wm_iconst (v := 0) X dL_law_1429 (by decide) ?_
    exact wm_lret X hsz hr hxo h dL_law_1430 (le_p hC) (le_p hZ)
  · refine wm_iconst (v := 0) X dL_law_1442 (by decide) ?_
    exact wm_lret X hsz hr hxo h dL_law_1443 (le_p hC) (le_p hZ)
  · refine wm_iconst (v := 0) X dL_law_1455 (by decide) ?_
    exact wm_lret X hsz hr hxo h dL_law_1456 (le_p hC) (le_p hZ)
  · refine wm_iconst (v := 0) X dL_law_1468 (by decide) ?_
    exact wm_lret X hsz hr hxo h dL_law_1469 (le_p hC) (le_p hZ)
  · refine wm_iconst (v := 0) X dL_law_1516 (by decide) ?_
    exact wm_lret X hsz hr hxo h dL_law_1517 (le_p hC) (le_p hZ)
  · refine wm_iconst (v := 0) X dL_law_1533 (by decide) ?_
    exact wm_lret X hsz hr hxo h dL_law_1534 (le_p hC) (le_p hZ)
  · refine wm_iconst (v := 0) X dL_law_1572 (by decide) ?_
    exact wm_lret X hsz hr hxo h dL_law_1573 (le_p hC) (le_p hZ)
  · refine wm_iconst (v := 0) X dL_law_1589 (by decide) ?_
    exact wm_lret X hsz hr hxo h dL_law_1590 (le_p hC) (le_p hZ)
  · refine wm_iconst (v := 0) X dL_law_1605 (by decide) ?_
    exact wm_lret X hsz hr hxo h dL_law_1606 (le_p hC) (le_p hZ)
  · refine wm_iconst (v := 0) X dL_law_1641 (by decide) ?_
    exact wm_lret X hsz hr hxo h dL_law_1642 (le_p hC) (le_p hZ)
  · refine wm_iconst (v := 0) X dL_law_1665 (by decide) ?_
    exact wm_lret X hsz hr hxo h dL_law_1666 (le_p hC) (le_p hZ)
  · refine wm_iconst (v := 0) X dL_law_1704 (by decide) ?_
    exact wm_lret X hsz hr hxo h dL_law_1705 (le_p hC) (le_p hZ)
  · refine wm_iconst (v := 0) X dL_law_1721 (by decide) ?_
    exact wm_lret X hsz hr hxo h dL_law_1722 (le_p hC) (le_p hZ)
  · refine wm_iconst (v := 0) X dL_law_1760 (by decide) ?_
    exact wm_lret X hsz hr hxo h dL_law_1761 (le_p hC) (le_p hZ)
  · refine wm_iconst (v := 0) X dL_law_1777 (by decide) ?_
    exact wm_lret X hsz hr hxo h dL_law_1778 (le_p hC) (le_p hZ)
  · refine wm_iconst (v := 0) X dL_law_1804 (by decide) ?_
    exact wm_lret X hsz hr hxo h dL_law_1805 (le_p hC) (le_p hZ)
  · refine wm_iconst (v := 0) X dL_law_1821 (by decide) ?_
    exact wm_lret X hsz hr hxo h dL_law_1822 (le_p hC) (le_p hZ)
  · refine wm_iconst (v := 0) X dL_law_1849 (by decide) ?_
    exact wm_lret X hsz hr hxo h dL_law_1850 (le_p hC) (le_p hZ)
  · refine wm_iconst (v := 0) X dL_law_1885 (by decide) ?_
    exact wm_lret X hsz hr hxo h dL_law_1886 (le_p hC) (le_p hZ)
  · refine wm_iconst (v := 0) X dL_law_1902 (by decide) ?_
    exact wm_lret X hsz hr hxo h dL_law_1903 (le_p hC) (le_p hZ)
  · refine wm_iconst (v := 0) X dL_law_1941 (by decide) ?_
    exact wm_lret X hsz hr hxo h dL_law_1942 (le_p hC) (le_p hZ)
  · refine wm_iconst (v := 0) X dL_law_1958 (by decide) ?_
    exact wm_lret X hsz hr hxo h dL_law_1959 (le_p hC) (le_p hZ)
  · refine wm_iconst (v := 0) X dL_law_1997 (by decide) ?_
    exact wm_lret X hsz hr hxo h dL_law_1998 (le_p hC) (le_p hZ)
  · refine wm_iconst (v := 0) X dL_law_2014 (by decide) ?_
    exact wm_lret X hsz hr hxo h dL_law_2015 (le_p hC) (le_p hZ)
  · refine wm_iconst (v := 0) X dL_law_2058 (by decide) ?_
    exact wm_lret X hsz hr hxo h dL_law_2059 (le_p hC) (le_p hZ)
  · refine wm_iconst (v := 0) X dL_law_2106 (by decide) ?_
    exact wm_lret X hsz hr hxo h dL_law_2107 (le_p hC) (le_p hZ)
  · refine wm_iconst (v := 0) X dL_law_2123 (by decide) ?_
    exact wm_lret X hsz hr hxo h dL_law_2124 (le_p hC) (le_p hZ)
  · refine wm_iconst (v := 0) X dL_law_2174 (by decide) ?_
    exact wm_lret X hsz hr hxo h dL_law_2175 (le_p hC) (le_p hZ)
  · refine wm_iconst (v := 0) X dL_law_2191 (by decide) ?_
    exact wm_lret X hsz hr hxo h dL_law_2192 (le_p hC) (le_p hZ)
  · refine wm_iconst (v := 0) X dL_law_2230 (by decide) ?_
    exact wm_lret X hsz hr hxo h dL_law_2231 (le_p hC) (le_p hZ)
  · refine wm_iconst (v := 0) X dL_law_2247 (by decide) ?_
    exact wm_lret X hsz hr hxo h dL_law_2248 (le_p hC) (le_p hZ)
  · refine wm_iconst (v := 0) X dL_law_2314 (by decide) ?_
    exact wm_lret X hsz hr hxo h dL_law_2315 (le_p hC) (le_p hZ)
  · refine wm_iconst (v := 0) X dL_law_2331 (by decide) ?_
    exact wm_lret X hsz hr hxo h dL_law_2332 (le_p hC) (le_p hZ)
  · refine wm_iconst (v := 0) X dL_law_2398 (by decide) ?_
    exact wm_lret X hsz hr hxo h dL_law_2399 (le_p hC) (le_p hZ)
  · refine wm_iconst (v := 0) X dL_law_2415 (by decide) ?_
    exact wm_lret X hsz hr hxo h dL_law_2416 (le_p hC) (le_p hZ)
  · refine wm_iconst (v := 0) X dL_law_2466 (by decide) ?_
    exact wm_lret X hsz hr hxo h dL_law_2467 (le_p hC) (le_p hZ)
  · refine wm_iconst (v := 0) X dL_law_2483 (by decide) ?_
    exact wm_lret X hsz hr hxo h dL_law_2484 (le_p hC) (le_p hZ)
  · refine wm_iconst (v := 0) X dL_law_2511 (by decide) ?_
    exact wm_lret X hsz hr hxo h dL_law_2512 (le_p hC) (le_p hZ)
  · refine wm_iconst (v := 0) X dL_law_2524 (by decide) ?_
    exact wm_lret X hsz hr hxo h dL_law_2525 (le_p hC) (le_p hZ)
  · refine wm_iconst (v := 0) X dL_law_2548 (by decide) ?_
    exact wm_lret X hsz hr hxo h dL_law_2549 (le_p hC) (le_p hZ)
  · refine wm_iconst (v := 0) X dL_law_2573 (by decide) ?_
    exact wm_lret X hsz hr hxo h dL_law_2574 (le_p hC) (le_p hZ)
