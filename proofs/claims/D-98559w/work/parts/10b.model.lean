/-! THE PLAIN LAW, 2: the model: its places -/
set_option maxRecDepth 100000
def FM (σ : Mm) : Prop := mS σ 62 = 8 ∧ (mS σ 63 = 100 ∧ mL σ 63 = 984) ∧ (mS σ 64 = 100 ∧ mL σ 64 = 984) ∧ (mS σ 65 = 100 ∧ mL σ 65 = 584) ∧ (mS σ 66 = 100 ∧ mL σ 66 = 7008) ∧ (mS σ 67 = 100 ∧ mL σ 67 = 400) ∧ (mS σ 68 = 100 ∧ mL σ 68 = 6) ∧ (mS σ 69 = 100 ∧ mL σ 69 = 36) ∧ (mS σ 70 = 100 ∧ mL σ 70 = 10) ∧ (mS σ 71 = 100 ∧ mL σ 71 = 1024) ∧ (mS σ 72 = 100 ∧ mL σ 72 = 10) ∧ (mS σ 73 = 100 ∧ mL σ 73 = 10240) ∧ (mS σ 74 = 100 ∧ mL σ 74 = 10) ∧ mR σ 62 1 = some 63 ∧ mR σ 62 2 = some 64 ∧ mR σ 62 4 = some 65 ∧ mR σ 62 5 = some 66 ∧ mR σ 62 7 = some 67 ∧ mR σ 62 14 = some 68 ∧ mR σ 62 19 = some 69 ∧ mR σ 62 21 = some 70 ∧ mR σ 62 22 = some 71 ∧ mR σ 62 23 = some 72 ∧ mR σ 62 24 = some 73 ∧ mR σ 62 25 = some 74
theorem fm_ck {β : Type} {σ : Mm} {k : Option β} (h : FM σ) : ck 8 62 σ k = k := ck_s h.1
theorem fm_rv {σ : Mm} (h : FM σ) : rv 8 (some 62) σ = some 62 := rv_s h.1
theorem fm_gI {σ : Mm} {k : Nat} (h : FM σ) : gI 8 k (some 62) σ = some (mI σ 62 k) := gI_s h.1
theorem fm_pI {σ : Mm} {k : Nat} {x : Int32} (h : FM σ) : pI 8 k (some 62) x σ = some (wA σ 62 (up1 (mI σ 62) k x)) := pI_s h.1
theorem fm_pZ {σ : Mm} {k : Nat} {x : Int32} (h : FM σ) (hx : x = 0 ∨ x = 1) : pZ 8 k (some 62) x σ = some (wA σ 62 (up1 (mI σ 62) k x)) := pZ_s h.1 hx
theorem fm_gR1 {σ : Mm} (h : FM σ) : gR 8 1 (some 62) σ = some (some 63) := gR_s h.1 h.2.2.2.2.2.2.2.2.2.2.2.2.2.1
theorem fm_gR2 {σ : Mm} (h : FM σ) : gR 8 2 (some 62) σ = some (some 64) := gR_s h.1 h.2.2.2.2.2.2.2.2.2.2.2.2.2.2.1
theorem fm_gR4 {σ : Mm} (h : FM σ) : gR 8 4 (some 62) σ = some (some 65) := gR_s h.1 h.2.2.2.2.2.2.2.2.2.2.2.2.2.2.2.1
theorem fm_gR5 {σ : Mm} (h : FM σ) : gR 8 5 (some 62) σ = some (some 66) := gR_s h.1 h.2.2.2.2.2.2.2.2.2.2.2.2.2.2.2.2.1
theorem fm_gR7 {σ : Mm} (h : FM σ) : gR 8 7 (some 62) σ = some (some 67) := gR_s h.1 h.2.2.2.2.2.2.2.2.2.2.2.2.2.2.2.2.2.1
theorem fm_gR14 {σ : Mm} (h : FM σ) : gR 8 14 (some 62) σ = some (some 68) := gR_s h.1 h.2.2.2.2.2.2.2.2.2.2.2.2.2.2.2.2.2.2.1
theorem fm_gR19 {σ : Mm} (h : FM σ) : gR 8 19 (some 62) σ = some (some 69) := gR_s h.1 h.2.2.2.2.2.2.2.2.2.2.2.2.2.2.2.2.2.2.2.1
theorem fm_gR21 {σ : Mm} (h : FM σ) : gR 8 21 (some 62) σ = some (some 70) := gR_s h.1 h.2.2.2.2.2.2.2.2.2.2.2.2.2.2.2.2.2.2.2.2.1
theorem fm_gR22 {σ : Mm} (h : FM σ) : gR 8 22 (some 62) σ = some (some 71) := gR_s h.1 h.2.2.2.2.2.2.2.2.2.2.2.2.2.2.2.2.2.2.2.2.2.1
theorem fm_gR23 {σ : Mm} (h : FM σ) : gR 8 23 (some 62) σ = some (some 72) := gR_s h.1 h.2.2.2.2.2.2.2.2.2.2.2.2.2.2.2.2.2.2.2.2.2.2.1
theorem fm_gR24 {σ : Mm} (h : FM σ) : gR 8 24 (some 62) σ = some (some 73) := gR_s h.1 h.2.2.2.2.2.2.2.2.2.2.2.2.2.2.2.2.2.2.2.2.2.2.2.1
theorem fm_gR25 {σ : Mm} (h : FM σ) : gR 8 25 (some 62) σ = some (some 74) := gR_s h.1 h.2.2.2.2.2.2.2.2.2.2.2.2.2.2.2.2.2.2.2.2.2.2.2.2
theorem fm_rd63 {σ : Mm} {a : Nat} (h : FM σ) (ha : a < 984) : aI 100 (some 63) (N a) σ = some (mI σ 63 a) := aI_N h.2.1.1 h.2.1.2 ha (by decide)
theorem fm_wr63 {σ : Mm} {a : Nat} {x : Int32} (h : FM σ) (ha : a < 984) : sI (some 63) (N a) x σ = some (wA σ 63 (up1 (mI σ 63) a x)) := sI_N h.2.1.1 h.2.1.2 ha (by decide)
theorem fm_rd64 {σ : Mm} {a : Nat} (h : FM σ) (ha : a < 984) : aI 100 (some 64) (N a) σ = some (mI σ 64 a) := aI_N h.2.2.1.1 h.2.2.1.2 ha (by decide)
theorem fm_wr64 {σ : Mm} {a : Nat} {x : Int32} (h : FM σ) (ha : a < 984) : sI (some 64) (N a) x σ = some (wA σ 64 (up1 (mI σ 64) a x)) := sI_N h.2.2.1.1 h.2.2.1.2 ha (by decide)
theorem fm_rd65 {σ : Mm} {a : Nat} (h : FM σ) (ha : a < 584) : aI 100 (some 65) (N a) σ = some (mI σ 65 a) := aI_N h.2.2.2.1.1 h.2.2.2.1.2 ha (by decide)
theorem fm_wr65 {σ : Mm} {a : Nat} {x : Int32} (h : FM σ) (ha : a < 584) : sI (some 65) (N a) x σ = some (wA σ 65 (up1 (mI σ 65) a x)) := sI_N h.2.2.2.1.1 h.2.2.2.1.2 ha (by decide)
theorem fm_rd66 {σ : Mm} {a : Nat} (h : FM σ) (ha : a < 7008) : aI 100 (some 66) (N a) σ = some (mI σ 66 a) := aI_N h.2.2.2.2.1.1 h.2.2.2.2.1.2 ha (by decide)
theorem fm_wr66 {σ : Mm} {a : Nat} {x : Int32} (h : FM σ) (ha : a < 7008) : sI (some 66) (N a) x σ = some (wA σ 66 (up1 (mI σ 66) a x)) := sI_N h.2.2.2.2.1.1 h.2.2.2.2.1.2 ha (by decide)
theorem fm_rd67 {σ : Mm} {a : Nat} (h : FM σ) (ha : a < 400) : aI 100 (some 67) (N a) σ = some (mI σ 67 a) := aI_N h.2.2.2.2.2.1.1 h.2.2.2.2.2.1.2 ha (by decide)
theorem fm_wr67 {σ : Mm} {a : Nat} {x : Int32} (h : FM σ) (ha : a < 400) : sI (some 67) (N a) x σ = some (wA σ 67 (up1 (mI σ 67) a x)) := sI_N h.2.2.2.2.2.1.1 h.2.2.2.2.2.1.2 ha (by decide)
theorem fm_rd68 {σ : Mm} {a : Nat} (h : FM σ) (ha : a < 6) : aI 100 (some 68) (N a) σ = some (mI σ 68 a) := aI_N h.2.2.2.2.2.2.1.1 h.2.2.2.2.2.2.1.2 ha (by decide)
theorem fm_wr68 {σ : Mm} {a : Nat} {x : Int32} (h : FM σ) (ha : a < 6) : sI (some 68) (N a) x σ = some (wA σ 68 (up1 (mI σ 68) a x)) := sI_N h.2.2.2.2.2.2.1.1 h.2.2.2.2.2.2.1.2 ha (by decide)
theorem fm_rd69 {σ : Mm} {a : Nat} (h : FM σ) (ha : a < 36) : aI 100 (some 69) (N a) σ = some (mI σ 69 a) := aI_N h.2.2.2.2.2.2.2.1.1 h.2.2.2.2.2.2.2.1.2 ha (by decide)
theorem fm_wr69 {σ : Mm} {a : Nat} {x : Int32} (h : FM σ) (ha : a < 36) : sI (some 69) (N a) x σ = some (wA σ 69 (up1 (mI σ 69) a x)) := sI_N h.2.2.2.2.2.2.2.1.1 h.2.2.2.2.2.2.2.1.2 ha (by decide)
theorem fm_rd70 {σ : Mm} {a : Nat} (h : FM σ) (ha : a < 10) : aI 100 (some 70) (N a) σ = some (mI σ 70 a) := aI_N h.2.2.2.2.2.2.2.2.1.1 h.2.2.2.2.2.2.2.2.1.2 ha (by decide)
theorem fm_wr70 {σ : Mm} {a : Nat} {x : Int32} (h : FM σ) (ha : a < 10) : sI (some 70) (N a) x σ = some (wA σ 70 (up1 (mI σ 70) a x)) := sI_N h.2.2.2.2.2.2.2.2.1.1 h.2.2.2.2.2.2.2.2.1.2 ha (by decide)
theorem fm_rd71 {σ : Mm} {a : Nat} (h : FM σ) (ha : a < 1024) : aI 100 (some 71) (N a) σ = some (mI σ 71 a) := aI_N h.2.2.2.2.2.2.2.2.2.1.1 h.2.2.2.2.2.2.2.2.2.1.2 ha (by decide)
theorem fm_wr71 {σ : Mm} {a : Nat} {x : Int32} (h : FM σ) (ha : a < 1024) : sI (some 71) (N a) x σ = some (wA σ 71 (up1 (mI σ 71) a x)) := sI_N h.2.2.2.2.2.2.2.2.2.1.1 h.2.2.2.2.2.2.2.2.2.1.2 ha (by decide)
theorem fm_rd72 {σ : Mm} {a : Nat} (h : FM σ) (ha : a < 10) : aI 100 (some 72) (N a) σ = some (mI σ 72 a) := aI_N h.2.2.2.2.2.2.2.2.2.2.1.1 h.2.2.2.2.2.2.2.2.2.2.1.2 ha (by decide)
theorem fm_wr72 {σ : Mm} {a : Nat} {x : Int32} (h : FM σ) (ha : a < 10) : sI (some 72) (N a) x σ = some (wA σ 72 (up1 (mI σ 72) a x)) := sI_N h.2.2.2.2.2.2.2.2.2.2.1.1 h.2.2.2.2.2.2.2.2.2.2.1.2 ha (by decide)
theorem fm_rd73 {σ : Mm} {a : Nat} (h : FM σ) (ha : a < 10240) : aI 100 (some 73) (N a) σ = some (mI σ 73 a) := aI_N h.2.2.2.2.2.2.2.2.2.2.2.1.1 h.2.2.2.2.2.2.2.2.2.2.2.1.2 ha (by decide)
theorem fm_wr73 {σ : Mm} {a : Nat} {x : Int32} (h : FM σ) (ha : a < 10240) : sI (some 73) (N a) x σ = some (wA σ 73 (up1 (mI σ 73) a x)) := sI_N h.2.2.2.2.2.2.2.2.2.2.2.1.1 h.2.2.2.2.2.2.2.2.2.2.2.1.2 ha (by decide)
theorem fm_rd74 {σ : Mm} {a : Nat} (h : FM σ) (ha : a < 10) : aI 100 (some 74) (N a) σ = some (mI σ 74 a) := aI_N h.2.2.2.2.2.2.2.2.2.2.2.2.1.1 h.2.2.2.2.2.2.2.2.2.2.2.2.1.2 ha (by decide)
theorem fm_wr74 {σ : Mm} {a : Nat} {x : Int32} (h : FM σ) (ha : a < 10) : sI (some 74) (N a) x σ = some (wA σ 74 (up1 (mI σ 74) a x)) := sI_N h.2.2.2.2.2.2.2.2.2.2.2.2.1.1 h.2.2.2.2.2.2.2.2.2.2.2.2.1.2 ha (by decide)
