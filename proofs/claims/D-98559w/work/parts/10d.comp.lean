/-! THE PLAIN LAW, 4: the component: its places -/
set_option maxRecDepth 100000
/-- a World at b: 12 places -/
def FW (b : Nat) (σ : Mm) : Prop := mS σ b = 2 ∧ (mS σ (b + 1) = 100 ∧ mL σ (b + 1) = 10) ∧ (mS σ (b + 2) = 100 ∧ mL σ (b + 2) = 10) ∧ (mS σ (b + 3) = 100 ∧ mL σ (b + 3) = 10) ∧ (mS σ (b + 4) = 100 ∧ mL σ (b + 4) = 10) ∧ (mS σ (b + 5) = 100 ∧ mL σ (b + 5) = 10) ∧ (mS σ (b + 6) = 100 ∧ mL σ (b + 6) = 10) ∧ (mS σ (b + 7) = 100 ∧ mL σ (b + 7) = 100) ∧ (mS σ (b + 8) = 100 ∧ mL σ (b + 8) = 100) ∧ (mS σ (b + 9) = 100 ∧ mL σ (b + 9) = 10) ∧ (mS σ (b + 10) = 100 ∧ mL σ (b + 10) = 12) ∧ (mS σ (b + 11) = 100 ∧ mL σ (b + 11) = 300) ∧ mR σ b 8 = some (b + 1) ∧ mR σ b 9 = some (b + 2) ∧ mR σ b 10 = some (b + 3) ∧ mR σ b 11 = some (b + 4) ∧ mR σ b 12 = some (b + 5) ∧ mR σ b 13 = some (b + 6) ∧ mR σ b 14 = some (b + 7) ∧ mR σ b 15 = some (b + 8) ∧ mR σ b 16 = some (b + 9) ∧ mR σ b 17 = some (b + 10) ∧ mR σ b 18 = some (b + 11)
theorem fw_ck {β : Type} {b : Nat} {σ : Mm} {k : Option β} (h : FW b σ) : ck 2 b σ k = k := ck_s h.1
theorem fw_rv {b : Nat} {σ : Mm} (h : FW b σ) : rv 2 (some b) σ = some b := rv_s h.1
theorem fw_gI {b : Nat} {σ : Mm} {k : Nat} (h : FW b σ) : gI 2 k (some b) σ = some (mI σ b k) := gI_s h.1
theorem fw_gL {b : Nat} {σ : Mm} (h : FW b σ) : gR 2 19 (some b) σ = some (mR σ b 19) := gR_s h.1 rfl
theorem fw_pI {b : Nat} {σ : Mm} {k : Nat} {x : Int32} (h : FW b σ) : pI 2 k (some b) x σ = some (wA σ b (up1 (mI σ b) k x)) := pI_s h.1
theorem fw_gR8 {b : Nat} {σ : Mm} (h : FW b σ) : gR 2 8 (some b) σ = some (some (b + 1)) := gR_s h.1 h.2.2.2.2.2.2.2.2.2.2.2.2.1
theorem fw_rd1 {b : Nat} {σ : Mm} {a : Nat} (h : FW b σ) (ha : a < 10) : aI 100 (some (b + 1)) (N a) σ = some (mI σ (b + 1) a) := aI_N h.2.1.1 h.2.1.2 ha (by decide)
theorem fw_wr1 {b : Nat} {σ : Mm} {a : Nat} {x : Int32} (h : FW b σ) (ha : a < 10) : sI (some (b + 1)) (N a) x σ = some (wA σ (b + 1) (up1 (mI σ (b + 1)) a x)) := sI_N h.2.1.1 h.2.1.2 ha (by decide)
theorem fw_al1 {b : Nat} {σ : Mm} (h : FW b σ) : aL 100 (some (b + 1)) σ = some (N 10) := by simp only [aL, Option.bind_some]; rw [if_pos h.2.1.1, h.2.1.2]; rfl
theorem fw_gR9 {b : Nat} {σ : Mm} (h : FW b σ) : gR 2 9 (some b) σ = some (some (b + 2)) := gR_s h.1 h.2.2.2.2.2.2.2.2.2.2.2.2.2.1
theorem fw_rd2 {b : Nat} {σ : Mm} {a : Nat} (h : FW b σ) (ha : a < 10) : aI 100 (some (b + 2)) (N a) σ = some (mI σ (b + 2) a) := aI_N h.2.2.1.1 h.2.2.1.2 ha (by decide)
theorem fw_wr2 {b : Nat} {σ : Mm} {a : Nat} {x : Int32} (h : FW b σ) (ha : a < 10) : sI (some (b + 2)) (N a) x σ = some (wA σ (b + 2) (up1 (mI σ (b + 2)) a x)) := sI_N h.2.2.1.1 h.2.2.1.2 ha (by decide)
theorem fw_al2 {b : Nat} {σ : Mm} (h : FW b σ) : aL 100 (some (b + 2)) σ = some (N 10) := by simp only [aL, Option.bind_some]; rw [if_pos h.2.2.1.1, h.2.2.1.2]; rfl
theorem fw_gR10 {b : Nat} {σ : Mm} (h : FW b σ) : gR 2 10 (some b) σ = some (some (b + 3)) := gR_s h.1 h.2.2.2.2.2.2.2.2.2.2.2.2.2.2.1
theorem fw_rd3 {b : Nat} {σ : Mm} {a : Nat} (h : FW b σ) (ha : a < 10) : aI 100 (some (b + 3)) (N a) σ = some (mI σ (b + 3) a) := aI_N h.2.2.2.1.1 h.2.2.2.1.2 ha (by decide)
theorem fw_wr3 {b : Nat} {σ : Mm} {a : Nat} {x : Int32} (h : FW b σ) (ha : a < 10) : sI (some (b + 3)) (N a) x σ = some (wA σ (b + 3) (up1 (mI σ (b + 3)) a x)) := sI_N h.2.2.2.1.1 h.2.2.2.1.2 ha (by decide)
theorem fw_al3 {b : Nat} {σ : Mm} (h : FW b σ) : aL 100 (some (b + 3)) σ = some (N 10) := by simp only [aL, Option.bind_some]; rw [if_pos h.2.2.2.1.1, h.2.2.2.1.2]; rfl
theorem fw_gR11 {b : Nat} {σ : Mm} (h : FW b σ) : gR 2 11 (some b) σ = some (some (b + 4)) := gR_s h.1 h.2.2.2.2.2.2.2.2.2.2.2.2.2.2.2.1
theorem fw_rd4 {b : Nat} {σ : Mm} {a : Nat} (h : FW b σ) (ha : a < 10) : aI 100 (some (b + 4)) (N a) σ = some (mI σ (b + 4) a) := aI_N h.2.2.2.2.1.1 h.2.2.2.2.1.2 ha (by decide)
theorem fw_wr4 {b : Nat} {σ : Mm} {a : Nat} {x : Int32} (h : FW b σ) (ha : a < 10) : sI (some (b + 4)) (N a) x σ = some (wA σ (b + 4) (up1 (mI σ (b + 4)) a x)) := sI_N h.2.2.2.2.1.1 h.2.2.2.2.1.2 ha (by decide)
theorem fw_al4 {b : Nat} {σ : Mm} (h : FW b σ) : aL 100 (some (b + 4)) σ = some (N 10) := by simp only [aL, Option.bind_some]; rw [if_pos h.2.2.2.2.1.1, h.2.2.2.2.1.2]; rfl
theorem fw_gR12 {b : Nat} {σ : Mm} (h : FW b σ) : gR 2 12 (some b) σ = some (some (b + 5)) := gR_s h.1 h.2.2.2.2.2.2.2.2.2.2.2.2.2.2.2.2.1
theorem fw_rd5 {b : Nat} {σ : Mm} {a : Nat} (h : FW b σ) (ha : a < 10) : aI 100 (some (b + 5)) (N a) σ = some (mI σ (b + 5) a) := aI_N h.2.2.2.2.2.1.1 h.2.2.2.2.2.1.2 ha (by decide)
theorem fw_wr5 {b : Nat} {σ : Mm} {a : Nat} {x : Int32} (h : FW b σ) (ha : a < 10) : sI (some (b + 5)) (N a) x σ = some (wA σ (b + 5) (up1 (mI σ (b + 5)) a x)) := sI_N h.2.2.2.2.2.1.1 h.2.2.2.2.2.1.2 ha (by decide)
theorem fw_al5 {b : Nat} {σ : Mm} (h : FW b σ) : aL 100 (some (b + 5)) σ = some (N 10) := by simp only [aL, Option.bind_some]; rw [if_pos h.2.2.2.2.2.1.1, h.2.2.2.2.2.1.2]; rfl
theorem fw_gR13 {b : Nat} {σ : Mm} (h : FW b σ) : gR 2 13 (some b) σ = some (some (b + 6)) := gR_s h.1 h.2.2.2.2.2.2.2.2.2.2.2.2.2.2.2.2.2.1
theorem fw_rd6 {b : Nat} {σ : Mm} {a : Nat} (h : FW b σ) (ha : a < 10) : aI 100 (some (b + 6)) (N a) σ = some (mI σ (b + 6) a) := aI_N h.2.2.2.2.2.2.1.1 h.2.2.2.2.2.2.1.2 ha (by decide)
theorem fw_wr6 {b : Nat} {σ : Mm} {a : Nat} {x : Int32} (h : FW b σ) (ha : a < 10) : sI (some (b + 6)) (N a) x σ = some (wA σ (b + 6) (up1 (mI σ (b + 6)) a x)) := sI_N h.2.2.2.2.2.2.1.1 h.2.2.2.2.2.2.1.2 ha (by decide)
theorem fw_al6 {b : Nat} {σ : Mm} (h : FW b σ) : aL 100 (some (b + 6)) σ = some (N 10) := by simp only [aL, Option.bind_some]; rw [if_pos h.2.2.2.2.2.2.1.1, h.2.2.2.2.2.2.1.2]; rfl
theorem fw_gR14 {b : Nat} {σ : Mm} (h : FW b σ) : gR 2 14 (some b) σ = some (some (b + 7)) := gR_s h.1 h.2.2.2.2.2.2.2.2.2.2.2.2.2.2.2.2.2.2.1
theorem fw_rd7 {b : Nat} {σ : Mm} {a : Nat} (h : FW b σ) (ha : a < 100) : aI 100 (some (b + 7)) (N a) σ = some (mI σ (b + 7) a) := aI_N h.2.2.2.2.2.2.2.1.1 h.2.2.2.2.2.2.2.1.2 ha (by decide)
theorem fw_wr7 {b : Nat} {σ : Mm} {a : Nat} {x : Int32} (h : FW b σ) (ha : a < 100) : sI (some (b + 7)) (N a) x σ = some (wA σ (b + 7) (up1 (mI σ (b + 7)) a x)) := sI_N h.2.2.2.2.2.2.2.1.1 h.2.2.2.2.2.2.2.1.2 ha (by decide)
theorem fw_al7 {b : Nat} {σ : Mm} (h : FW b σ) : aL 100 (some (b + 7)) σ = some (N 100) := by simp only [aL, Option.bind_some]; rw [if_pos h.2.2.2.2.2.2.2.1.1, h.2.2.2.2.2.2.2.1.2]; rfl
theorem fw_gR15 {b : Nat} {σ : Mm} (h : FW b σ) : gR 2 15 (some b) σ = some (some (b + 8)) := gR_s h.1 h.2.2.2.2.2.2.2.2.2.2.2.2.2.2.2.2.2.2.2.1
theorem fw_rd8 {b : Nat} {σ : Mm} {a : Nat} (h : FW b σ) (ha : a < 100) : aI 100 (some (b + 8)) (N a) σ = some (mI σ (b + 8) a) := aI_N h.2.2.2.2.2.2.2.2.1.1 h.2.2.2.2.2.2.2.2.1.2 ha (by decide)
theorem fw_wr8 {b : Nat} {σ : Mm} {a : Nat} {x : Int32} (h : FW b σ) (ha : a < 100) : sI (some (b + 8)) (N a) x σ = some (wA σ (b + 8) (up1 (mI σ (b + 8)) a x)) := sI_N h.2.2.2.2.2.2.2.2.1.1 h.2.2.2.2.2.2.2.2.1.2 ha (by decide)
theorem fw_al8 {b : Nat} {σ : Mm} (h : FW b σ) : aL 100 (some (b + 8)) σ = some (N 100) := by simp only [aL, Option.bind_some]; rw [if_pos h.2.2.2.2.2.2.2.2.1.1, h.2.2.2.2.2.2.2.2.1.2]; rfl
theorem fw_gR16 {b : Nat} {σ : Mm} (h : FW b σ) : gR 2 16 (some b) σ = some (some (b + 9)) := gR_s h.1 h.2.2.2.2.2.2.2.2.2.2.2.2.2.2.2.2.2.2.2.2.1
theorem fw_rd9 {b : Nat} {σ : Mm} {a : Nat} (h : FW b σ) (ha : a < 10) : aI 100 (some (b + 9)) (N a) σ = some (mI σ (b + 9) a) := aI_N h.2.2.2.2.2.2.2.2.2.1.1 h.2.2.2.2.2.2.2.2.2.1.2 ha (by decide)
theorem fw_wr9 {b : Nat} {σ : Mm} {a : Nat} {x : Int32} (h : FW b σ) (ha : a < 10) : sI (some (b + 9)) (N a) x σ = some (wA σ (b + 9) (up1 (mI σ (b + 9)) a x)) := sI_N h.2.2.2.2.2.2.2.2.2.1.1 h.2.2.2.2.2.2.2.2.2.1.2 ha (by decide)
theorem fw_al9 {b : Nat} {σ : Mm} (h : FW b σ) : aL 100 (some (b + 9)) σ = some (N 10) := by simp only [aL, Option.bind_some]; rw [if_pos h.2.2.2.2.2.2.2.2.2.1.1, h.2.2.2.2.2.2.2.2.2.1.2]; rfl
theorem fw_gR17 {b : Nat} {σ : Mm} (h : FW b σ) : gR 2 17 (some b) σ = some (some (b + 10)) := gR_s h.1 h.2.2.2.2.2.2.2.2.2.2.2.2.2.2.2.2.2.2.2.2.2.1
theorem fw_rd10 {b : Nat} {σ : Mm} {a : Nat} (h : FW b σ) (ha : a < 12) : aI 100 (some (b + 10)) (N a) σ = some (mI σ (b + 10) a) := aI_N h.2.2.2.2.2.2.2.2.2.2.1.1 h.2.2.2.2.2.2.2.2.2.2.1.2 ha (by decide)
theorem fw_wr10 {b : Nat} {σ : Mm} {a : Nat} {x : Int32} (h : FW b σ) (ha : a < 12) : sI (some (b + 10)) (N a) x σ = some (wA σ (b + 10) (up1 (mI σ (b + 10)) a x)) := sI_N h.2.2.2.2.2.2.2.2.2.2.1.1 h.2.2.2.2.2.2.2.2.2.2.1.2 ha (by decide)
theorem fw_al10 {b : Nat} {σ : Mm} (h : FW b σ) : aL 100 (some (b + 10)) σ = some (N 12) := by simp only [aL, Option.bind_some]; rw [if_pos h.2.2.2.2.2.2.2.2.2.2.1.1, h.2.2.2.2.2.2.2.2.2.2.1.2]; rfl
theorem fw_gR18 {b : Nat} {σ : Mm} (h : FW b σ) : gR 2 18 (some b) σ = some (some (b + 11)) := gR_s h.1 h.2.2.2.2.2.2.2.2.2.2.2.2.2.2.2.2.2.2.2.2.2.2
theorem fw_rd11 {b : Nat} {σ : Mm} {a : Nat} (h : FW b σ) (ha : a < 300) : aI 100 (some (b + 11)) (N a) σ = some (mI σ (b + 11) a) := aI_N h.2.2.2.2.2.2.2.2.2.2.2.1.1 h.2.2.2.2.2.2.2.2.2.2.2.1.2 ha (by decide)
theorem fw_wr11 {b : Nat} {σ : Mm} {a : Nat} {x : Int32} (h : FW b σ) (ha : a < 300) : sI (some (b + 11)) (N a) x σ = some (wA σ (b + 11) (up1 (mI σ (b + 11)) a x)) := sI_N h.2.2.2.2.2.2.2.2.2.2.2.1.1 h.2.2.2.2.2.2.2.2.2.2.2.1.2 ha (by decide)
theorem fw_al11 {b : Nat} {σ : Mm} (h : FW b σ) : aL 100 (some (b + 11)) σ = some (N 300) := by simp only [aL, Option.bind_some]; rw [if_pos h.2.2.2.2.2.2.2.2.2.2.2.1.1, h.2.2.2.2.2.2.2.2.2.2.2.1.2]; rfl
/-- the component: places 0 to 61, and the law's long[] at 75 -/
def FC (σ : Mm) : Prop := FW 1 σ ∧ FW 13 σ ∧ FW 25 σ ∧ FW 50 σ ∧ mS σ 0 = 1 ∧ mS σ 37 = 3 ∧ mS σ 39 = 4 ∧ mS σ 40 = 17 ∧ mS σ 41 = 5 ∧ mS σ 44 = 6 ∧ mS σ 47 = 7 ∧ (mS σ 38 = 101 ∧ mL σ 38 = 400) ∧ (mS σ 42 = 100 ∧ mL σ 42 = 10) ∧ (mS σ 43 = 100 ∧ mL σ 43 = 10) ∧ (mS σ 45 = 100 ∧ mL σ 45 = 10) ∧ (mS σ 46 = 100 ∧ mL σ 46 = 1024) ∧ (mS σ 48 = 100 ∧ mL σ 48 = 10) ∧ (mS σ 49 = 100 ∧ mL σ 49 = 10240) ∧ (mS σ 75 = 104 ∧ mL σ 75 = 1) ∧ mR σ 0 0 = some 1 ∧ mR σ 0 1 = some 13 ∧ mR σ 0 2 = some 25 ∧ mR σ 0 4 = some 37 ∧ mR σ 0 5 = some 39 ∧ mR σ 0 6 = some 40 ∧ mR σ 0 7 = some 41 ∧ mR σ 0 8 = some 44 ∧ mR σ 0 9 = some 47 ∧ mR σ 0 10 = some 50 ∧ mR σ 37 0 = some 38 ∧ mR σ 41 0 = some 42 ∧ mR σ 41 1 = some 43 ∧ mR σ 41 3 = some 0 ∧ mR σ 44 0 = some 45 ∧ mR σ 44 1 = some 46 ∧ mR σ 44 2 = some 0 ∧ mR σ 47 0 = some 48 ∧ mR σ 47 1 = some 49 ∧ mR σ 47 3 = some 0
theorem FC.w1 {σ : Mm} (h : FC σ) : FW 1 σ := h.1
theorem FC.w13 {σ : Mm} (h : FC σ) : FW 13 σ := h.2.1
theorem FC.w25 {σ : Mm} (h : FC σ) : FW 25 σ := h.2.2.1
theorem FC.w50 {σ : Mm} (h : FC σ) : FW 50 σ := h.2.2.2.1
theorem fc_ck0 {β : Type} {σ : Mm} {k : Option β} (h : FC σ) : ck 1 0 σ k = k := ck_s h.2.2.2.2.1
theorem fc_rv0 {σ : Mm} (h : FC σ) : rv 1 (some 0) σ = some 0 := rv_s h.2.2.2.2.1
theorem fc_gI0 {σ : Mm} {k : Nat} (h : FC σ) : gI 1 k (some 0) σ = some (mI σ 0 k) := gI_s h.2.2.2.2.1
theorem fc_pI0 {σ : Mm} {k : Nat} {x : Int32} (h : FC σ) : pI 1 k (some 0) x σ = some (wA σ 0 (up1 (mI σ 0) k x)) := pI_s h.2.2.2.2.1
theorem fc_pZ0 {σ : Mm} {k : Nat} {x : Int32} (h : FC σ) (hx : x = 0 ∨ x = 1) : pZ 1 k (some 0) x σ = some (wA σ 0 (up1 (mI σ 0) k x)) := pZ_s h.2.2.2.2.1 hx
theorem fc_ck37 {β : Type} {σ : Mm} {k : Option β} (h : FC σ) : ck 3 37 σ k = k := ck_s h.2.2.2.2.2.1
theorem fc_rv37 {σ : Mm} (h : FC σ) : rv 3 (some 37) σ = some 37 := rv_s h.2.2.2.2.2.1
theorem fc_gI37 {σ : Mm} {k : Nat} (h : FC σ) : gI 3 k (some 37) σ = some (mI σ 37 k) := gI_s h.2.2.2.2.2.1
theorem fc_pI37 {σ : Mm} {k : Nat} {x : Int32} (h : FC σ) : pI 3 k (some 37) x σ = some (wA σ 37 (up1 (mI σ 37) k x)) := pI_s h.2.2.2.2.2.1
theorem fc_pZ37 {σ : Mm} {k : Nat} {x : Int32} (h : FC σ) (hx : x = 0 ∨ x = 1) : pZ 3 k (some 37) x σ = some (wA σ 37 (up1 (mI σ 37) k x)) := pZ_s h.2.2.2.2.2.1 hx
theorem fc_ck39 {β : Type} {σ : Mm} {k : Option β} (h : FC σ) : ck 4 39 σ k = k := ck_s h.2.2.2.2.2.2.1
theorem fc_rv39 {σ : Mm} (h : FC σ) : rv 4 (some 39) σ = some 39 := rv_s h.2.2.2.2.2.2.1
theorem fc_gI39 {σ : Mm} {k : Nat} (h : FC σ) : gI 4 k (some 39) σ = some (mI σ 39 k) := gI_s h.2.2.2.2.2.2.1
theorem fc_pI39 {σ : Mm} {k : Nat} {x : Int32} (h : FC σ) : pI 4 k (some 39) x σ = some (wA σ 39 (up1 (mI σ 39) k x)) := pI_s h.2.2.2.2.2.2.1
theorem fc_pZ39 {σ : Mm} {k : Nat} {x : Int32} (h : FC σ) (hx : x = 0 ∨ x = 1) : pZ 4 k (some 39) x σ = some (wA σ 39 (up1 (mI σ 39) k x)) := pZ_s h.2.2.2.2.2.2.1 hx
theorem fc_ck40 {β : Type} {σ : Mm} {k : Option β} (h : FC σ) : ck 17 40 σ k = k := ck_s h.2.2.2.2.2.2.2.1
theorem fc_rv40 {σ : Mm} (h : FC σ) : rv 17 (some 40) σ = some 40 := rv_s h.2.2.2.2.2.2.2.1
theorem fc_gI40 {σ : Mm} {k : Nat} (h : FC σ) : gI 17 k (some 40) σ = some (mI σ 40 k) := gI_s h.2.2.2.2.2.2.2.1
theorem fc_pI40 {σ : Mm} {k : Nat} {x : Int32} (h : FC σ) : pI 17 k (some 40) x σ = some (wA σ 40 (up1 (mI σ 40) k x)) := pI_s h.2.2.2.2.2.2.2.1
theorem fc_pZ40 {σ : Mm} {k : Nat} {x : Int32} (h : FC σ) (hx : x = 0 ∨ x = 1) : pZ 17 k (some 40) x σ = some (wA σ 40 (up1 (mI σ 40) k x)) := pZ_s h.2.2.2.2.2.2.2.1 hx
theorem fc_ck41 {β : Type} {σ : Mm} {k : Option β} (h : FC σ) : ck 5 41 σ k = k := ck_s h.2.2.2.2.2.2.2.2.1
theorem fc_rv41 {σ : Mm} (h : FC σ) : rv 5 (some 41) σ = some 41 := rv_s h.2.2.2.2.2.2.2.2.1
theorem fc_gI41 {σ : Mm} {k : Nat} (h : FC σ) : gI 5 k (some 41) σ = some (mI σ 41 k) := gI_s h.2.2.2.2.2.2.2.2.1
theorem fc_pI41 {σ : Mm} {k : Nat} {x : Int32} (h : FC σ) : pI 5 k (some 41) x σ = some (wA σ 41 (up1 (mI σ 41) k x)) := pI_s h.2.2.2.2.2.2.2.2.1
theorem fc_pZ41 {σ : Mm} {k : Nat} {x : Int32} (h : FC σ) (hx : x = 0 ∨ x = 1) : pZ 5 k (some 41) x σ = some (wA σ 41 (up1 (mI σ 41) k x)) := pZ_s h.2.2.2.2.2.2.2.2.1 hx
theorem fc_ck44 {β : Type} {σ : Mm} {k : Option β} (h : FC σ) : ck 6 44 σ k = k := ck_s h.2.2.2.2.2.2.2.2.2.1
theorem fc_rv44 {σ : Mm} (h : FC σ) : rv 6 (some 44) σ = some 44 := rv_s h.2.2.2.2.2.2.2.2.2.1
theorem fc_gI44 {σ : Mm} {k : Nat} (h : FC σ) : gI 6 k (some 44) σ = some (mI σ 44 k) := gI_s h.2.2.2.2.2.2.2.2.2.1
theorem fc_pI44 {σ : Mm} {k : Nat} {x : Int32} (h : FC σ) : pI 6 k (some 44) x σ = some (wA σ 44 (up1 (mI σ 44) k x)) := pI_s h.2.2.2.2.2.2.2.2.2.1
theorem fc_pZ44 {σ : Mm} {k : Nat} {x : Int32} (h : FC σ) (hx : x = 0 ∨ x = 1) : pZ 6 k (some 44) x σ = some (wA σ 44 (up1 (mI σ 44) k x)) := pZ_s h.2.2.2.2.2.2.2.2.2.1 hx
theorem fc_ck47 {β : Type} {σ : Mm} {k : Option β} (h : FC σ) : ck 7 47 σ k = k := ck_s h.2.2.2.2.2.2.2.2.2.2.1
theorem fc_rv47 {σ : Mm} (h : FC σ) : rv 7 (some 47) σ = some 47 := rv_s h.2.2.2.2.2.2.2.2.2.2.1
theorem fc_gI47 {σ : Mm} {k : Nat} (h : FC σ) : gI 7 k (some 47) σ = some (mI σ 47 k) := gI_s h.2.2.2.2.2.2.2.2.2.2.1
theorem fc_pI47 {σ : Mm} {k : Nat} {x : Int32} (h : FC σ) : pI 7 k (some 47) x σ = some (wA σ 47 (up1 (mI σ 47) k x)) := pI_s h.2.2.2.2.2.2.2.2.2.2.1
theorem fc_pZ47 {σ : Mm} {k : Nat} {x : Int32} (h : FC σ) (hx : x = 0 ∨ x = 1) : pZ 7 k (some 47) x σ = some (wA σ 47 (up1 (mI σ 47) k x)) := pZ_s h.2.2.2.2.2.2.2.2.2.2.1 hx
theorem fc_rd38 {σ : Mm} {a : Nat} (h : FC σ) (ha : a < 400) : aI 101 (some 38) (N a) σ = some (mI σ 38 a) := aI_N h.2.2.2.2.2.2.2.2.2.2.2.1.1 h.2.2.2.2.2.2.2.2.2.2.2.1.2 ha (by decide)
theorem fc_wr38 {σ : Mm} {a : Nat} {x : Int32} (h : FC σ) (ha : a < 400) : sB (some 38) (N a) x σ = some (wA σ 38 (up1 (mI σ 38) a x.toInt8.toInt32)) := by
  simp only [sB, Option.bind_some]
  rw [if_pos ⟨h.2.2.2.2.2.2.2.2.2.2.2.1.1, h.2.2.2.2.2.2.2.2.2.2.2.1.2 ▸ ix_ok ha (by decide)⟩, N_idx (by omega), wI_wA]
theorem fc_rd42 {σ : Mm} {a : Nat} (h : FC σ) (ha : a < 10) : aI 100 (some 42) (N a) σ = some (mI σ 42 a) := aI_N h.2.2.2.2.2.2.2.2.2.2.2.2.1.1 h.2.2.2.2.2.2.2.2.2.2.2.2.1.2 ha (by decide)
theorem fc_wr42 {σ : Mm} {a : Nat} {x : Int32} (h : FC σ) (ha : a < 10) : sI (some 42) (N a) x σ = some (wA σ 42 (up1 (mI σ 42) a x)) := sI_N h.2.2.2.2.2.2.2.2.2.2.2.2.1.1 h.2.2.2.2.2.2.2.2.2.2.2.2.1.2 ha (by decide)
theorem fc_rd43 {σ : Mm} {a : Nat} (h : FC σ) (ha : a < 10) : aI 100 (some 43) (N a) σ = some (mI σ 43 a) := aI_N h.2.2.2.2.2.2.2.2.2.2.2.2.2.1.1 h.2.2.2.2.2.2.2.2.2.2.2.2.2.1.2 ha (by decide)
theorem fc_wr43 {σ : Mm} {a : Nat} {x : Int32} (h : FC σ) (ha : a < 10) : sI (some 43) (N a) x σ = some (wA σ 43 (up1 (mI σ 43) a x)) := sI_N h.2.2.2.2.2.2.2.2.2.2.2.2.2.1.1 h.2.2.2.2.2.2.2.2.2.2.2.2.2.1.2 ha (by decide)
theorem fc_rd45 {σ : Mm} {a : Nat} (h : FC σ) (ha : a < 10) : aI 100 (some 45) (N a) σ = some (mI σ 45 a) := aI_N h.2.2.2.2.2.2.2.2.2.2.2.2.2.2.1.1 h.2.2.2.2.2.2.2.2.2.2.2.2.2.2.1.2 ha (by decide)
theorem fc_wr45 {σ : Mm} {a : Nat} {x : Int32} (h : FC σ) (ha : a < 10) : sI (some 45) (N a) x σ = some (wA σ 45 (up1 (mI σ 45) a x)) := sI_N h.2.2.2.2.2.2.2.2.2.2.2.2.2.2.1.1 h.2.2.2.2.2.2.2.2.2.2.2.2.2.2.1.2 ha (by decide)
theorem fc_rd46 {σ : Mm} {a : Nat} (h : FC σ) (ha : a < 1024) : aI 100 (some 46) (N a) σ = some (mI σ 46 a) := aI_N h.2.2.2.2.2.2.2.2.2.2.2.2.2.2.2.1.1 h.2.2.2.2.2.2.2.2.2.2.2.2.2.2.2.1.2 ha (by decide)
theorem fc_wr46 {σ : Mm} {a : Nat} {x : Int32} (h : FC σ) (ha : a < 1024) : sI (some 46) (N a) x σ = some (wA σ 46 (up1 (mI σ 46) a x)) := sI_N h.2.2.2.2.2.2.2.2.2.2.2.2.2.2.2.1.1 h.2.2.2.2.2.2.2.2.2.2.2.2.2.2.2.1.2 ha (by decide)
theorem fc_rd48 {σ : Mm} {a : Nat} (h : FC σ) (ha : a < 10) : aI 100 (some 48) (N a) σ = some (mI σ 48 a) := aI_N h.2.2.2.2.2.2.2.2.2.2.2.2.2.2.2.2.1.1 h.2.2.2.2.2.2.2.2.2.2.2.2.2.2.2.2.1.2 ha (by decide)
theorem fc_wr48 {σ : Mm} {a : Nat} {x : Int32} (h : FC σ) (ha : a < 10) : sI (some 48) (N a) x σ = some (wA σ 48 (up1 (mI σ 48) a x)) := sI_N h.2.2.2.2.2.2.2.2.2.2.2.2.2.2.2.2.1.1 h.2.2.2.2.2.2.2.2.2.2.2.2.2.2.2.2.1.2 ha (by decide)
theorem fc_rd49 {σ : Mm} {a : Nat} (h : FC σ) (ha : a < 10240) : aI 100 (some 49) (N a) σ = some (mI σ 49 a) := aI_N h.2.2.2.2.2.2.2.2.2.2.2.2.2.2.2.2.2.1.1 h.2.2.2.2.2.2.2.2.2.2.2.2.2.2.2.2.2.1.2 ha (by decide)
theorem fc_wr49 {σ : Mm} {a : Nat} {x : Int32} (h : FC σ) (ha : a < 10240) : sI (some 49) (N a) x σ = some (wA σ 49 (up1 (mI σ 49) a x)) := sI_N h.2.2.2.2.2.2.2.2.2.2.2.2.2.2.2.2.2.1.1 h.2.2.2.2.2.2.2.2.2.2.2.2.2.2.2.2.2.1.2 ha (by decide)
theorem fc_rd75 {σ : Mm} (h : FC σ) : aI 104 (some 75) (N 0) σ = some (mI σ 75 0) := aI_N h.2.2.2.2.2.2.2.2.2.2.2.2.2.2.2.2.2.2.1.1 h.2.2.2.2.2.2.2.2.2.2.2.2.2.2.2.2.2.2.1.2 (by decide) (by decide)
theorem fc_wr75 {σ : Mm} {x : Int32} (h : FC σ) : sL (some 75) (N 0) x σ = some (wA σ 75 (up1 (mI σ 75) 0 x)) := by
  simp only [sL, Option.bind_some]
  rw [if_pos ⟨h.2.2.2.2.2.2.2.2.2.2.2.2.2.2.2.2.2.2.1.1, h.2.2.2.2.2.2.2.2.2.2.2.2.2.2.2.2.2.2.1.2 ▸ ix_ok (by decide) (by decide)⟩, N_idx (by omega), wI_wA]
theorem fc_gR0_0 {σ : Mm} (h : FC σ) : gR 1 0 (some 0) σ = some (some 1) := gR_s h.2.2.2.2.1 h.2.2.2.2.2.2.2.2.2.2.2.2.2.2.2.2.2.2.2.1
theorem fc_gR0_1 {σ : Mm} (h : FC σ) : gR 1 1 (some 0) σ = some (some 13) := gR_s h.2.2.2.2.1 h.2.2.2.2.2.2.2.2.2.2.2.2.2.2.2.2.2.2.2.2.1
theorem fc_gR0_2 {σ : Mm} (h : FC σ) : gR 1 2 (some 0) σ = some (some 25) := gR_s h.2.2.2.2.1 h.2.2.2.2.2.2.2.2.2.2.2.2.2.2.2.2.2.2.2.2.2.1
theorem fc_gR0_4 {σ : Mm} (h : FC σ) : gR 1 4 (some 0) σ = some (some 37) := gR_s h.2.2.2.2.1 h.2.2.2.2.2.2.2.2.2.2.2.2.2.2.2.2.2.2.2.2.2.2.1
theorem fc_gR0_5 {σ : Mm} (h : FC σ) : gR 1 5 (some 0) σ = some (some 39) := gR_s h.2.2.2.2.1 h.2.2.2.2.2.2.2.2.2.2.2.2.2.2.2.2.2.2.2.2.2.2.2.1
theorem fc_gR0_6 {σ : Mm} (h : FC σ) : gR 1 6 (some 0) σ = some (some 40) := gR_s h.2.2.2.2.1 h.2.2.2.2.2.2.2.2.2.2.2.2.2.2.2.2.2.2.2.2.2.2.2.2.1
theorem fc_gR0_7 {σ : Mm} (h : FC σ) : gR 1 7 (some 0) σ = some (some 41) := gR_s h.2.2.2.2.1 h.2.2.2.2.2.2.2.2.2.2.2.2.2.2.2.2.2.2.2.2.2.2.2.2.2.1
theorem fc_gR0_8 {σ : Mm} (h : FC σ) : gR 1 8 (some 0) σ = some (some 44) := gR_s h.2.2.2.2.1 h.2.2.2.2.2.2.2.2.2.2.2.2.2.2.2.2.2.2.2.2.2.2.2.2.2.2.1
theorem fc_gR0_9 {σ : Mm} (h : FC σ) : gR 1 9 (some 0) σ = some (some 47) := gR_s h.2.2.2.2.1 h.2.2.2.2.2.2.2.2.2.2.2.2.2.2.2.2.2.2.2.2.2.2.2.2.2.2.2.1
theorem fc_gR0_10 {σ : Mm} (h : FC σ) : gR 1 10 (some 0) σ = some (some 50) := gR_s h.2.2.2.2.1 h.2.2.2.2.2.2.2.2.2.2.2.2.2.2.2.2.2.2.2.2.2.2.2.2.2.2.2.2.1
theorem fc_gR37_0 {σ : Mm} (h : FC σ) : gR 3 0 (some 37) σ = some (some 38) := gR_s h.2.2.2.2.2.1 h.2.2.2.2.2.2.2.2.2.2.2.2.2.2.2.2.2.2.2.2.2.2.2.2.2.2.2.2.2.1
theorem fc_gR41_0 {σ : Mm} (h : FC σ) : gR 5 0 (some 41) σ = some (some 42) := gR_s h.2.2.2.2.2.2.2.2.1 h.2.2.2.2.2.2.2.2.2.2.2.2.2.2.2.2.2.2.2.2.2.2.2.2.2.2.2.2.2.2.1
theorem fc_gR41_1 {σ : Mm} (h : FC σ) : gR 5 1 (some 41) σ = some (some 43) := gR_s h.2.2.2.2.2.2.2.2.1 h.2.2.2.2.2.2.2.2.2.2.2.2.2.2.2.2.2.2.2.2.2.2.2.2.2.2.2.2.2.2.2.1
theorem fc_gR41_3 {σ : Mm} (h : FC σ) : gR 5 3 (some 41) σ = some (some 0) := gR_s h.2.2.2.2.2.2.2.2.1 h.2.2.2.2.2.2.2.2.2.2.2.2.2.2.2.2.2.2.2.2.2.2.2.2.2.2.2.2.2.2.2.2.1
theorem fc_gR44_0 {σ : Mm} (h : FC σ) : gR 6 0 (some 44) σ = some (some 45) := gR_s h.2.2.2.2.2.2.2.2.2.1 h.2.2.2.2.2.2.2.2.2.2.2.2.2.2.2.2.2.2.2.2.2.2.2.2.2.2.2.2.2.2.2.2.2.1
theorem fc_gR44_1 {σ : Mm} (h : FC σ) : gR 6 1 (some 44) σ = some (some 46) := gR_s h.2.2.2.2.2.2.2.2.2.1 h.2.2.2.2.2.2.2.2.2.2.2.2.2.2.2.2.2.2.2.2.2.2.2.2.2.2.2.2.2.2.2.2.2.2.1
theorem fc_gR44_2 {σ : Mm} (h : FC σ) : gR 6 2 (some 44) σ = some (some 0) := gR_s h.2.2.2.2.2.2.2.2.2.1 h.2.2.2.2.2.2.2.2.2.2.2.2.2.2.2.2.2.2.2.2.2.2.2.2.2.2.2.2.2.2.2.2.2.2.2.1
theorem fc_gR47_0 {σ : Mm} (h : FC σ) : gR 7 0 (some 47) σ = some (some 48) := gR_s h.2.2.2.2.2.2.2.2.2.2.1 h.2.2.2.2.2.2.2.2.2.2.2.2.2.2.2.2.2.2.2.2.2.2.2.2.2.2.2.2.2.2.2.2.2.2.2.2.1
theorem fc_gR47_1 {σ : Mm} (h : FC σ) : gR 7 1 (some 47) σ = some (some 49) := gR_s h.2.2.2.2.2.2.2.2.2.2.1 h.2.2.2.2.2.2.2.2.2.2.2.2.2.2.2.2.2.2.2.2.2.2.2.2.2.2.2.2.2.2.2.2.2.2.2.2.2.1
theorem fc_gR47_3 {σ : Mm} (h : FC σ) : gR 7 3 (some 47) σ = some (some 0) := gR_s h.2.2.2.2.2.2.2.2.2.2.1 h.2.2.2.2.2.2.2.2.2.2.2.2.2.2.2.2.2.2.2.2.2.2.2.2.2.2.2.2.2.2.2.2.2.2.2.2.2.2
