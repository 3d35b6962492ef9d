/-! THE PLAIN LAW, 105: marks, asked of both -/
set_option maxRecDepth 100000
def vk (k : Nat) : Int32 := if k = 0 then M1 else N (k - 1)
theorem vk_dec (k : Nat) : N k + M1 = vk k := by
  unfold vk
  by_cases h : k = 0
  · subst h; rfl
  · obtain ⟨m, rfl⟩ : ∃ m, k = m + 1 := ⟨k - 1, by omega⟩
    rw [if_neg h, N_dec]; rfl
section
variable {np nh : Nat} {σ : Mm} {y : Int32}
theorem C_unl_15 (K : Co np nh σ) {p : Nat} (hp : p < np) (K1 K2 : Mm → Option (Int32 × Mm)) : ∀ (k j n : Nat), j + k = p → k < n → FX1_areUnlike_15 0 y (N p) n (N j) σ K1 K2 = if uIn (mI σ 63) y p k j then K1 σ else K2 σ := by
  have hC := K.c; have hr := K.r; have hn0 := K.n0
  intro k
  induction k with
  | zero =>
    intro j n hj hn
    obtain ⟨n, rfl⟩ : ∃ m, n = m + 1 := ⟨n - 1, by omega⟩
    rw [FX1_areUnlike_15, if_pos (by rw [N_le (by omega) (by omega)]; omega), uIn, if_pos rfl]
  | succ k ih =>
    intro j n hj hn
    obtain ⟨n, rfl⟩ : ∃ m, n = m + 1 := ⟨n - 1, by omega⟩
    rw [FX1_areUnlike_15, if_neg (by rw [N_le (by omega) (by omega)]; omega), uIn]
    simp (disch := omega) only [Option.bind_some, fc_gR0_0 hC, fw_gR8 hC.1, fw_rd1 hC.1, rwF hr]
    by_cases c : PA (mI σ 63) p 0 &&& y = PA (mI σ 63) j 0 &&& y
    · rw [if_pos (by rw [xor_and]; exact c), if_pos c, if_neg (by decide)]
    · rw [if_neg (by rw [xor_and]; exact c), if_neg c, l1_, N_add, ih (j + 1) n (by omega) (by omega)]
theorem C_unl_2 (K : Co np nh σ) (K1 K2 : Mm → Option (Int32 × Mm)) : ∀ (k i n : Nat), i + k = np → k < n → FX1_areUnlike_2 0 y n (N i) σ K1 K2 = if uOut (mI σ 63) y k i then K1 σ else K2 σ := by
  have hC := K.c; have hr := K.r; have hn0 := K.n0
  intro k
  induction k with
  | zero =>
    intro j n hj hn
    obtain ⟨n, rfl⟩ : ∃ m, n = m + 1 := ⟨n - 1, by omega⟩
    rw [FX1_areUnlike_2, fc_gR0_0 hC, Option.bind_some, fw_gI hC.1, Option.bind_some, rw1 hr, K.n, if_pos (by rw [N_le (by omega) (by omega)]; omega), uOut, if_pos rfl]
  | succ k ih =>
    intro i n hj hn
    obtain ⟨n, rfl⟩ : ∃ m, n = m + 1 := ⟨n - 1, by omega⟩
    rw [FX1_areUnlike_2, fc_gR0_0 hC, Option.bind_some, fw_gI hC.1, Option.bind_some, rw1 hr, K.n, if_neg (by rw [N_le (by omega) (by omega)]; omega), uOut, l0_, C_unl_15 K (by omega) _ _ i 0 fu (by omega) (by unfold fu; omega)]
    by_cases c : uIn (mI σ 63) y i i 0 = true
    · rw [if_pos c, if_pos c, l1_, N_add, ih (i + 1) n (by omega) (by omega)]
    · rw [if_neg c, if_neg c, if_neg (by decide)]
theorem C_unl (K : Co np nh σ) : FX1_areUnlike 0 y σ = some (bN (uOut (mI σ 63) y np 0), σ) := by
  have hn0 := K.n0
  unfold FX1_areUnlike
  rw [l0_, C_unl_2 K _ _ np 0 fu (by omega) (by unfold fu; omega)]
  cases uOut (mI σ 63) y np 0 with
  | true => rw [if_pos rfl, l1_, rZ_1]; rfl
  | false => rw [if_neg (by decide), rZ_0]; rfl
theorem M_unl_14 (h : FM σ) {p : Nat} (hp : p < 10) (K1 K2 : Mm → Option (Int32 × Mm)) : ∀ (k j n : Nat), j + k = p → k < n → FX8_areUnlike_14 62 y (N p) n (N j) σ K1 K2 = if uIn (mI σ 63) y p k j then K1 σ else K2 σ := by
  intro k
  induction k with
  | zero =>
    intro j n hj hn
    obtain ⟨n, rfl⟩ : ∃ m, n = m + 1 := ⟨n - 1, by omega⟩
    rw [FX8_areUnlike_14, if_pos (by rw [N_le (by omega) (by omega)]; omega), uIn, if_pos rfl]
  | succ k ih =>
    intro j n hj hn
    obtain ⟨n, rfl⟩ : ∃ m, n = m + 1 := ⟨n - 1, by omega⟩
    rw [FX8_areUnlike_14, if_neg (by rw [N_le (by omega) (by omega)]; omega), uIn, fm_ck h, l0_, M_of h hp (by omega), Option.bind_some]
    dsimp only
    rw [fm_ck h, M_of h (by omega) (by omega), Option.bind_some]
    dsimp only
    by_cases c : PA (mI σ 63) p 0 &&& y = PA (mI σ 63) j 0 &&& y
    · rw [if_pos c, if_pos c, if_neg (by decide)]
    · rw [if_neg c, if_neg c, l1_, N_add, ih (j + 1) n (by omega) (by omega)]
theorem M_unl_2 (h : FM σ) (hnn : mI σ 63 3 = N np) (hn0 : np ≤ 10) (K1 K2 : Mm → Option (Int32 × Mm)) : ∀ (k i n : Nat), i + k = np → k < n → FX8_areUnlike_2 62 y n (N i) σ K1 K2 = if uOut (mI σ 63) y k i then K1 σ else K2 σ := by
  intro k
  induction k with
  | zero =>
    intro j n hj hn
    obtain ⟨n, rfl⟩ : ∃ m, n = m + 1 := ⟨n - 1, by omega⟩
    rw [FX8_areUnlike_2, fm_gR1 h, Option.bind_some, l3_, fm_rd63 h (by omega), Option.bind_some, hnn, if_pos (by rw [N_le (by omega) (by omega)]; omega), uOut, if_pos rfl]
  | succ k ih =>
    intro i n hj hn
    obtain ⟨n, rfl⟩ : ∃ m, n = m + 1 := ⟨n - 1, by omega⟩
    rw [FX8_areUnlike_2, fm_gR1 h, Option.bind_some, l3_, fm_rd63 h (by omega), Option.bind_some, hnn, if_neg (by rw [N_le (by omega) (by omega)]; omega), uOut, l0_, M_unl_14 h (by omega) _ _ i 0 fu (by omega) (by unfold fu; omega)]
    by_cases c : uIn (mI σ 63) y i i 0 = true
    · rw [if_pos c, if_pos c, l1_, N_add, ih (i + 1) n (by omega) (by omega)]
    · rw [if_neg c, if_neg c, if_neg (by decide)]
theorem M_unl (h : FM σ) (hnn : mI σ 63 3 = N np) (hn0 : np ≤ 10) : FX8_areUnlike 62 y σ = some (bN (uOut (mI σ 63) y np 0), σ) := by
  unfold FX8_areUnlike
  rw [l0_, M_unl_2 h hnn hn0 _ _ np 0 fu (by omega) (by unfold fu; omega)]
  cases uOut (mI σ 63) y np 0 with
  | true => rw [if_pos rfl, l1_, rZ_1]; rfl
  | false => rw [if_neg (by decide), rZ_0]; rfl
theorem C_marks_20 (K : Co np nh σ) (Kx : Int32 → Mm → Option (Int32 × Mm)) : ∀ (k b n : Nat), k ≤ 256 → b < 256 → k < n → FX1_marks_20 0 n (N b) (vk k) σ Kx = Kx (N (dnM (fun m => uOut (mI σ 63) (N m) np 0) k b)) σ := by
  have hC := K.c
  intro k
  induction k with
  | zero =>
    intro b n _ hb hn
    obtain ⟨n, rfl⟩ : ∃ m, n = m + 1 := ⟨n - 1, by omega⟩
    rw [FX1_marks_20, if_pos (show vk 0 < 0 by decide)]
    rfl
  | succ k ih =>
    intro b n hk hb hn
    obtain ⟨n, rfl⟩ : ∃ m, n = m + 1 := ⟨n - 1, by omega⟩
    have e : vk (k + 1) = N k := rfl
    have p1 := pc_10 k (by omega)
    have p2 := pc_10 b (by omega)
    rw [FX1_marks_20, e, if_neg (by rw [l0_, N_lt (by omega) (by omega)]; omega), J_bitCount (by omega), Option.bind_some]
    dsimp only
    rw [J_bitCount (by omega), Option.bind_some, dnM, m1_, vk_dec]
    dsimp only
    by_cases c : pc b < pc k
    · rw [if_pos c, if_pos (by rw [N_lt (by omega) (by omega)]; exact c), ih b n (by omega) hb (by omega)]
    · rw [if_neg c, if_neg (by rw [N_lt (by omega) (by omega)]; exact c), fc_ck0 hC, C_unl K, Option.bind_some]
      dsimp only
      cases uOut (mI σ 63) (N k) np 0 with
      | true => rw [if_neg (show ¬ bN true = (0 : Int32) by decide), ih k n (by omega) (by omega) (by omega), if_pos rfl]
      | false => rw [if_pos (show bN false = (0 : Int32) from rfl), ih b n (by omega) hb (by omega), if_neg (by decide)]
theorem M_marks_9 (h : FM σ) (hnn : mI σ 63 3 = N np) (hn0 : np ≤ 10) (Kx : Int32 → Mm → Option (Int32 × Mm)) : ∀ (k i n : Nat) (o : Option Nat), i + k = 256 → (∀ b, o = some b → b < 256) → k < n → FX8_marks_9 62 n (oN o) (N i) σ Kx = Kx (oN (upM (fun m => uOut (mI σ 63) (N m) np 0) k i o)) σ := by
  intro k
  induction k with
  | zero =>
    intro i n o hi ho hn
    obtain ⟨n, rfl⟩ : ∃ m, n = m + 1 := ⟨n - 1, by omega⟩
    have : i = 256 := by omega
    subst this
    rw [FX8_marks_9, if_pos (by decide)]
    cases o <;> rfl
  | succ k ih =>
    intro i n o hi ho hn
    obtain ⟨n, rfl⟩ : ∃ m, n = m + 1 := ⟨n - 1, by omega⟩
    have p1 := pc_10 i (by omega)
    have l256 : (256 : Int32) = N 256 := rfl
    have s1 : N i = oN (some i) := rfl
    rw [FX8_marks_9, l256, if_neg (by rw [N_le (by omega) (by omega)]; omega), m1_, l1_, N_add]
    unfold jn
    dsimp only
    cases o with
    | none =>
      rw [if_pos (show oN none = M1 from rfl), fm_ck h, M_unl h hnn hn0, Option.bind_some, upM]
      dsimp only
      cases uOut (mI σ 63) (N i) np 0 with
      | true => rw [if_neg (show ¬ bN true = (0 : Int32) by decide), s1, ih (i + 1) n (some i) (by omega) (fun b hb => by cases hb; omega) (by omega), if_pos rfl]
      | false => rw [if_pos (show bN false = (0 : Int32) from rfl), ih (i + 1) n none (by omega) (fun b hb => by cases hb) (by omega), if_neg (by decide)]
    | some b =>
      have hb := ho b rfl
      have p2 := pc_10 b (by omega)
      have nb' : ¬ oN (some b) = M1 := by show ¬ N b = M1; rw [N_m1 (by omega)]; exact id
      rw [if_neg nb', M_bits (by omega), Option.bind_some, upM]
      dsimp only
      rw [show oN (some b) = N b from rfl, M_bits (by omega), Option.bind_some]
      dsimp only
      by_cases c : pc b ≤ pc i
      · rw [if_pos c, if_pos (by rw [N_le (by omega) (by omega)]; exact c)]
        exact ih (i + 1) n (some b) (by omega) (fun b' hb' => by cases hb'; omega) (by omega)
      · rw [if_neg c, if_neg (by rw [N_le (by omega) (by omega)]; exact c), fm_ck h, M_unl h hnn hn0, Option.bind_some]
        dsimp only
        cases uOut (mI σ 63) (N i) np 0 with
        | true => rw [if_neg (show ¬ bN true = (0 : Int32) by decide), s1, ih (i + 1) n (some i) (by omega) (fun b hb => by cases hb; omega) (by omega), if_pos rfl]
        | false =>
          rw [if_pos (show bN false = (0 : Int32) from rfl), if_neg (by decide)]
          exact ih (i + 1) n (some b) (by omega) (fun b' hb' => by cases hb'; omega) (by omega)
theorem uIn_mono {A : Nat → Int32} {y z : Int32} {p : Nat} (h : ∀ j, j < p → PA A p 0 &&& z = PA A j 0 &&& z → PA A p 0 &&& y = PA A j 0 &&& y) : ∀ k j, j + k = p → uIn A y p k j = true → uIn A z p k j = true := by
  intro k
  induction k with
  | zero => intro j _ _; rfl
  | succ k ih =>
    intro j hj hu
    rw [uIn] at hu ⊢
    by_cases c : PA A p 0 &&& z = PA A j 0 &&& z
    · rw [if_pos (h j (by omega) c)] at hu; cases hu
    · rw [if_neg c]
      by_cases c2 : PA A p 0 &&& y = PA A j 0 &&& y
      · rw [if_pos c2] at hu; cases hu
      · rw [if_neg c2] at hu; exact ih (j + 1) (by omega) hu
theorem uOut_mono {A : Nat → Int32} {y z : Int32} {n : Nat} (h : ∀ p j, p < n → j < p → PA A p 0 &&& z = PA A j 0 &&& z → PA A p 0 &&& y = PA A j 0 &&& y) : ∀ k i, i + k = n → uOut A y k i = true → uOut A z k i = true := by
  intro k
  induction k with
  | zero => intro j _ _; rfl
  | succ k ih =>
    intro i hi hu
    rw [uOut] at hu ⊢
    cases e : uIn A y i i 0 with
    | false => rw [e] at hu; cases hu
    | true =>
      rw [e] at hu
      rw [if_pos (uIn_mono (fun j hj => h i j (by omega) hj) i 0 (by omega) e)]
      exact ih (i + 1) (by omega) hu
theorem q_marks (K : Co np nh σ) : QN (FX1_marks 0) (FX8_marks 62) σ := by
  have hC := K.c; have h := K.m; have hn0 := K.n0
  have mono : ∀ m, m < 256 → uOut (mI σ 63) (N m) np 0 = true → uOut (mI σ 63) (N 255) np 0 = true := fun m hm hu => by
    refine uOut_mono (n := np) (fun p j hp hj e => ?_) np 0 (by omega) hu
    obtain ⟨a, ha, ea⟩ := (K.w.2.1 p hp).2.2.2.1
    obtain ⟨b, hb, eb⟩ := (K.w.2.1 j (by omega)).2.2.2.1
    have x255 : ∀ a, a < 256 → a &&& 255 = a := fun a ha => Nat.and_two_pow_sub_one_of_lt_two_pow (n := 8) ha
    rw [ea, eb, N_and, N_and, x255 a ha, x255 b hb] at e
    rw [ea, eb, e]
  have hM : FX8_marks 62 σ = some (oN (upM (fun m => uOut (mI σ 63) (N m) np 0) 256 0 none), thr_ σ 0) := by
    unfold FX8_marks
    rw [l0_, fm_pI h, Option.bind_some, thr_w, m1_, show M1 = oN none from rfl, M_marks_9 (FM_t h) (show mI (thr_ σ 0) 63 3 = N np from K.n) hn0 _ 256 0 fu none (by omega) (fun b hb => by cases hb) (by unfold fu; omega), thr_63]
  have hCm : FX1_marks 0 σ = some (if uOut (mI σ 63) (N 255) np 0 then N (dnM (fun m => uOut (mI σ 63) (N m) np 0) 256 255) else M1, σ) := by
    unfold FX1_marks
    rw [fc_ck0 hC, l255_, C_unl K, Option.bind_some]
    dsimp only
    cases uOut (mI σ 63) (N 255) np 0 with
    | true =>
      rw [if_neg (show ¬ bN true = (0 : Int32) by decide), if_pos rfl]
      have := C_marks_20 K (fun x σ => some (x, σ)) 256 255 fu (by omega) (by omega) (by unfold fu; omega)
      exact this
    | false => rw [if_pos (show bN false = (0 : Int32) from rfl), if_neg (by decide)]; rfl
  refine ⟨_, σ, thr_ σ 0, hCm, ?_, thr_k⟩
  rw [hM]
  cases e : uOut (mI σ 63) (N 255) np 0 with
  | true => rw [if_pos rfl, dn_up (U := fun m => uOut (mI σ 63) (N m) np 0) (T := 256) (by omega) e]; rfl
  | false =>
    rw [if_neg (by decide), up_none (U := fun m => uOut (mI σ 63) (N m) np 0) (T := 256) (fun m hm => by
      cases e2 : uOut (mI σ 63) (N m) np 0 with
      | false => rfl
      | true => rw [mono m hm e2] at e; cases e)]
    rfl
end
