/-! THE PLAIN LAW, 107: a wish, asked of both -/
set_option maxRecDepth 100000
section
variable {np nh : Nat} {σ : Mm}
theorem q_wish (K : Co np nh σ) (x y : Int32) : QW (FX0_wish (some 0) x y (some 75)) (FX8_wish 62 x y) σ := by
  have hC := K.c; have h := K.m; have hr := K.r; have hn0 := K.n0; have hnn := K.n
  have sl : ∀ v, sL (some 75) (N 0) v σ = some (o75 σ v) := fun v => sL_w hC
  rcases N_in x np (by omega) with ⟨p, hp, rfl⟩ | hx
  · have e1 : N np - 1 = N (np - 1) := N_sub (show 1 ≤ np by omega)
    rcases N_in y np (by omega) with ⟨k, hk, rfl⟩ | hy
    · obtain ⟨l, hl⟩ := rwWS hr
      obtain ⟨l1, l2, l3, l4, l5⟩ := hl p hp
      have len10 : (l p ++ rest 10 (l p)).length = 10 := rest_len l2 fun f hf => by have := l3 f hf; omega
      have mem10 : ∀ f ∈ l p ++ rest 10 (l p), f < 10 := fun f hf => by
        rcases List.mem_append.mp hf with h1 | h1
        · have := l3 f h1; omega
        · exact (rest_mem.mp h1).1
      have fil := rest_filter (n := np) (m := 10) hn0 l3
      have lenn := rest_len (n := np) l2 l3
      obtain ⟨w, hw⟩ : ∃ w, w = N ((l p ++ rest np (l p)).getD k 0) := ⟨_, rfl⟩
      refine QW_ok (σ1 := σ) (σ2 := thr_ (o75 σ w) 0) (v := w) (c := 0) (z := 0) ?_ (by omega) (by omega) ?_ rfl rfl Kp.rf thr_k
      · have rd : aI 100 (some (1 + 8)) (10 * N p + N k) σ = some w := by
          rw [l10_, N_mul, N_add, fw_rd8 hC.1 (by omega), l4 k hk, hw]
        unfold FX0_wish FX1_wish
        rw [fc_rv0 hC, Option.bind_some, fc_ck0 hC, C_person_in K hp, db_rt, fc_gR0_0 hC, Option.bind_some, fw_gI hC.1, Option.bind_some, rw1 hr, hnn, e1, l0_, C_in_in (by omega) (by omega) (by omega), Option.bind_some]
        dsimp only
        rw [if_neg (show ¬ N 1 = N 0 by decide), fc_gR0_0 hC, Option.bind_some, fw_gR15 hC.1, Option.bind_some, rd, Option.bind_some, dt_rt, sl, Option.bind_some]
        rfl
      · have h' : FM (thr_ (o75 σ w) 0) := FM_t (FM_o h)
        have e63 : mI (thr_ (o75 σ w) 0) 63 = mI σ 63 := rfl
        obtain ⟨v', q1, q2, q3⟩ := M_wish_58 (σ := thr_ (o75 σ w) 0) h' (by rw [e63]; exact hnn) hn0 (p := p) (by omega) len10 mem10 (by rw [e63]; exact l5) (fun (x44 : Int32) (σ : Mm) => (gR 8 1 (some 62) σ).bind fun x45 => (aI 100 x45 ((72 + (10 * N p)) + x44) σ).bind fun x46 => some (x46, σ)) _ 0 k fu List.drop_zero (by rw [fil, lenn]; exact hk) (by rw [len10]; unfold fu; omega) (by omega)
        rw [fil, e63] at q2
        unfold FX8_wish jn
        rw [fm_ck (FM_o h), M_isPerson_in (FM_o h) (show mI (o75 σ w) 63 3 = N np from hnn) hn0 hp, Option.bind_some]
        dsimp only
        rw [if_neg (show ¬ N 1 = 0 by decide), l0_, fm_pI (FM_o h), Option.bind_some, thr_w, fm_gI h', Option.bind_some, thr_0, if_neg (by decide), fm_gR1 h', Option.bind_some, l3_, fm_rd63 h' (by omega), Option.bind_some, e63, hnn, e1, M_isIn_in (by omega) (by omega) (by omega), Option.bind_some]
        dsimp only
        rw [if_neg (show ¬ N 1 = N 0 by decide), q3, fm_gR1 h', Option.bind_some, l72_, l10_, N_mul, N_add, N_add, fm_rd63 h' (by omega), Option.bind_some, e63, q2, hw]
    · have hy' : y < N 0 ∨ N (np - 1) < y := hy.imp id fun hy => by
        rw [Int32.le_iff_toInt_le, N_int (by omega)] at hy
        rw [Int32.lt_iff_toInt_lt, N_int (by omega)]; omega
      refine QW_ok (σ1 := σ) (σ2 := thr_ (o75 σ M1) 0) (v := M1) (c := 0) (z := 0) ?_ (by omega) (by omega) ?_ rfl rfl Kp.rf thr_k
      · unfold FX0_wish FX1_wish
        rw [fc_rv0 hC, Option.bind_some, fc_ck0 hC, C_person_in K hp, db_rt, fc_gR0_0 hC, Option.bind_some, fw_gI hC.1, Option.bind_some, rw1 hr, hnn, e1, l0_, C_in_out hy', Option.bind_some]
        dsimp only
        rw [if_pos rfl, m1_, dt_rt, sl, Option.bind_some]
        rfl
      · have h' : FM (thr_ (o75 σ M1) 0) := FM_t (FM_o h)
        have e63 : mI (thr_ (o75 σ M1) 0) 63 = mI σ 63 := rfl
        unfold FX8_wish jn
        rw [fm_ck (FM_o h), M_isPerson_in (FM_o h) (show mI (o75 σ M1) 63 3 = N np from hnn) hn0 hp, Option.bind_some]
        dsimp only
        rw [if_neg (show ¬ N 1 = 0 by decide), l0_, fm_pI (FM_o h), Option.bind_some, thr_w, fm_gI h', Option.bind_some, thr_0, if_neg (by decide), fm_gR1 h', Option.bind_some, l3_, fm_rd63 h' (by omega), Option.bind_some, e63, hnn, e1, M_isIn_out hy', Option.bind_some]
        dsimp only
        rw [if_pos rfl, fm_gI h', Option.bind_some, thr_0, if_pos (by decide), m1_]
  · refine QW_th (k := 1) (σ1 := σ) (σ2 := thr_ σ 1) (b := N 0) (c := 1) (z := 6) (by omega) ?_ (by omega) (by omega) ?_ rfl Kp.rf thr_k
    · unfold FX0_wish FX1_wish
      rw [fc_rv0 hC, Option.bind_some, fc_ck0 hC, C_person_out K hx, db_thw, dt_thw, if_pos rfl]
      rfl
    · unfold FX8_wish jn
      rw [fm_ck h, M_isPerson_out h hnn hn0 hx, Option.bind_some]
      dsimp only
      rw [if_pos (show N 0 = 0 from rfl), l1_, fm_pI h, Option.bind_some, thr_w, fm_gI (FM_t h), Option.bind_some, thr_0, if_pos (by decide), Option.bind_some, if_neg (by decide)]
      rfl
end
