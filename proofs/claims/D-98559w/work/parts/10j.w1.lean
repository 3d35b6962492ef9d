/-! THE PLAIN LAW, 10: the world of HungFaces (at 1), the trial (at 50) -/
set_option maxRecDepth 100000
section
variable {σ : Mm} {A : Nat → Int32} {np a : Nat} {x : Int32}
theorem w1_ck {β : Type} {k : Option β} (h : FC σ) : ck 2 1 σ k = k := fw_ck h.w1
theorem w1_rv (h : FC σ) : rv 2 (some 1) σ = some 1 := fw_rv h.w1
theorem w1_gI {k : Nat} (h : FC σ) : gI 2 k (some 1) σ = some (mI σ 1 k) := fw_gI h.w1
theorem w1_pI {k : Nat} (h : FC σ) : pI 2 k (some 1) x σ = some (wA σ 1 (up1 (mI σ 1) k x)) := fw_pI h.w1
theorem w1_gL (h : FC σ) : gR 2 19 (some 1) σ = some (mR σ 1 19) := fw_gL h.w1
theorem w1_gR8 (h : FC σ) : gR 2 8 (some 1) σ = some (some 2) := fw_gR8 h.w1
theorem w1_rd1 (h : FC σ) (ha : a < 10) : aI 100 (some 2) (N a) σ = some (mI σ 2 a) := fw_rd1 (b := 1) h.w1 ha
theorem w1_wr1 (h : FC σ) (ha : a < 10) : sI (some 2) (N a) x σ = some (wA σ 2 (up1 (mI σ 2) a x)) := fw_wr1 (b := 1) h.w1 ha
theorem w1_gR9 (h : FC σ) : gR 2 9 (some 1) σ = some (some 3) := fw_gR9 h.w1
theorem w1_rd2 (h : FC σ) (ha : a < 10) : aI 100 (some 3) (N a) σ = some (mI σ 3 a) := fw_rd2 (b := 1) h.w1 ha
theorem w1_wr2 (h : FC σ) (ha : a < 10) : sI (some 3) (N a) x σ = some (wA σ 3 (up1 (mI σ 3) a x)) := fw_wr2 (b := 1) h.w1 ha
theorem w1_gR10 (h : FC σ) : gR 2 10 (some 1) σ = some (some 4) := fw_gR10 h.w1
theorem w1_rd3 (h : FC σ) (ha : a < 10) : aI 100 (some 4) (N a) σ = some (mI σ 4 a) := fw_rd3 (b := 1) h.w1 ha
theorem w1_wr3 (h : FC σ) (ha : a < 10) : sI (some 4) (N a) x σ = some (wA σ 4 (up1 (mI σ 4) a x)) := fw_wr3 (b := 1) h.w1 ha
theorem w1_gR11 (h : FC σ) : gR 2 11 (some 1) σ = some (some 5) := fw_gR11 h.w1
theorem w1_rd4 (h : FC σ) (ha : a < 10) : aI 100 (some 5) (N a) σ = some (mI σ 5 a) := fw_rd4 (b := 1) h.w1 ha
theorem w1_wr4 (h : FC σ) (ha : a < 10) : sI (some 5) (N a) x σ = some (wA σ 5 (up1 (mI σ 5) a x)) := fw_wr4 (b := 1) h.w1 ha
theorem w1_gR12 (h : FC σ) : gR 2 12 (some 1) σ = some (some 6) := fw_gR12 h.w1
theorem w1_rd5 (h : FC σ) (ha : a < 10) : aI 100 (some 6) (N a) σ = some (mI σ 6 a) := fw_rd5 (b := 1) h.w1 ha
theorem w1_wr5 (h : FC σ) (ha : a < 10) : sI (some 6) (N a) x σ = some (wA σ 6 (up1 (mI σ 6) a x)) := fw_wr5 (b := 1) h.w1 ha
theorem w1_gR13 (h : FC σ) : gR 2 13 (some 1) σ = some (some 7) := fw_gR13 h.w1
theorem w1_rd6 (h : FC σ) (ha : a < 10) : aI 100 (some 7) (N a) σ = some (mI σ 7 a) := fw_rd6 (b := 1) h.w1 ha
theorem w1_wr6 (h : FC σ) (ha : a < 10) : sI (some 7) (N a) x σ = some (wA σ 7 (up1 (mI σ 7) a x)) := fw_wr6 (b := 1) h.w1 ha
theorem w1_gR14 (h : FC σ) : gR 2 14 (some 1) σ = some (some 8) := fw_gR14 h.w1
theorem w1_rd7 (h : FC σ) (ha : a < 100) : aI 100 (some 8) (N a) σ = some (mI σ 8 a) := fw_rd7 (b := 1) h.w1 ha
theorem w1_wr7 (h : FC σ) (ha : a < 100) : sI (some 8) (N a) x σ = some (wA σ 8 (up1 (mI σ 8) a x)) := fw_wr7 (b := 1) h.w1 ha
theorem w1_gR15 (h : FC σ) : gR 2 15 (some 1) σ = some (some 9) := fw_gR15 h.w1
theorem w1_rd8 (h : FC σ) (ha : a < 100) : aI 100 (some 9) (N a) σ = some (mI σ 9 a) := fw_rd8 (b := 1) h.w1 ha
theorem w1_wr8 (h : FC σ) (ha : a < 100) : sI (some 9) (N a) x σ = some (wA σ 9 (up1 (mI σ 9) a x)) := fw_wr8 (b := 1) h.w1 ha
theorem w1_gR16 (h : FC σ) : gR 2 16 (some 1) σ = some (some 10) := fw_gR16 h.w1
theorem w1_rd9 (h : FC σ) (ha : a < 10) : aI 100 (some 10) (N a) σ = some (mI σ 10 a) := fw_rd9 (b := 1) h.w1 ha
theorem w1_wr9 (h : FC σ) (ha : a < 10) : sI (some 10) (N a) x σ = some (wA σ 10 (up1 (mI σ 10) a x)) := fw_wr9 (b := 1) h.w1 ha
theorem w1_gR17 (h : FC σ) : gR 2 17 (some 1) σ = some (some 11) := fw_gR17 h.w1
theorem w1_rd10 (h : FC σ) (ha : a < 12) : aI 100 (some 11) (N a) σ = some (mI σ 11 a) := fw_rd10 (b := 1) h.w1 ha
theorem w1_wr10 (h : FC σ) (ha : a < 12) : sI (some 11) (N a) x σ = some (wA σ 11 (up1 (mI σ 11) a x)) := fw_wr10 (b := 1) h.w1 ha
theorem w1_gR18 (h : FC σ) : gR 2 18 (some 1) σ = some (some 12) := fw_gR18 h.w1
theorem w1_rd11 (h : FC σ) (ha : a < 300) : aI 100 (some 12) (N a) σ = some (mI σ 12 a) := fw_rd11 (b := 1) h.w1 ha
theorem w1_wr11 (h : FC σ) (ha : a < 300) : sI (some 12) (N a) x σ = some (wA σ 12 (up1 (mI σ 12) a x)) := fw_wr11 (b := 1) h.w1 ha
theorem r1F (h : RW 1 A np σ) (hp : a < 10) : mI σ 2 a = PA A a 0 := rwF h hp
theorem r1M (h : RW 1 A np σ) (hp : a < 10) : mI σ 3 a = PA A a 1 := rwM h hp
theorem r1W (h : RW 1 A np σ) (hp : a < 10) : mI σ 4 a = PA A a 2 := rwW h hp
theorem r1T (h : RW 1 A np σ) (hp : a < 10) : mI σ 5 a = PA A a 3 := rwT h hp
theorem r1S (h : RW 1 A np σ) (hp : a < 10) : mI σ 6 a = PA A a 4 := rwS h hp
theorem r1K (h : RW 1 A np σ) (hp : a < 10) : mI σ 7 a = PA A a 5 := rwK h hp
theorem r1Th (h : RW 1 A np σ) (hp : a < 100) : mI σ 8 a = A (172 + a) := rwTh h hp
theorem r1H (h : RW 1 A np σ) (hp : a < 12) : mI σ 11 a = HA A a := rwH h hp
theorem r1L (h : RW 1 A np σ) (hp : a < 300) : mI σ 12 a = A (284 + a) := rwL h hp
theorem w50_ck {β : Type} {k : Option β} (h : FC σ) : ck 2 50 σ k = k := fw_ck h.w50
theorem w50_rv (h : FC σ) : rv 2 (some 50) σ = some 50 := fw_rv h.w50
theorem w50_gI {k : Nat} (h : FC σ) : gI 2 k (some 50) σ = some (mI σ 50 k) := fw_gI h.w50
theorem w50_pI {k : Nat} (h : FC σ) : pI 2 k (some 50) x σ = some (wA σ 50 (up1 (mI σ 50) k x)) := fw_pI h.w50
theorem w50_gL (h : FC σ) : gR 2 19 (some 50) σ = some (mR σ 50 19) := fw_gL h.w50
theorem w50_gR8 (h : FC σ) : gR 2 8 (some 50) σ = some (some 51) := fw_gR8 h.w50
theorem w50_rd1 (h : FC σ) (ha : a < 10) : aI 100 (some 51) (N a) σ = some (mI σ 51 a) := fw_rd1 (b := 50) h.w50 ha
theorem w50_wr1 (h : FC σ) (ha : a < 10) : sI (some 51) (N a) x σ = some (wA σ 51 (up1 (mI σ 51) a x)) := fw_wr1 (b := 50) h.w50 ha
theorem w50_gR9 (h : FC σ) : gR 2 9 (some 50) σ = some (some 52) := fw_gR9 h.w50
theorem w50_rd2 (h : FC σ) (ha : a < 10) : aI 100 (some 52) (N a) σ = some (mI σ 52 a) := fw_rd2 (b := 50) h.w50 ha
theorem w50_wr2 (h : FC σ) (ha : a < 10) : sI (some 52) (N a) x σ = some (wA σ 52 (up1 (mI σ 52) a x)) := fw_wr2 (b := 50) h.w50 ha
theorem w50_gR10 (h : FC σ) : gR 2 10 (some 50) σ = some (some 53) := fw_gR10 h.w50
theorem w50_rd3 (h : FC σ) (ha : a < 10) : aI 100 (some 53) (N a) σ = some (mI σ 53 a) := fw_rd3 (b := 50) h.w50 ha
theorem w50_wr3 (h : FC σ) (ha : a < 10) : sI (some 53) (N a) x σ = some (wA σ 53 (up1 (mI σ 53) a x)) := fw_wr3 (b := 50) h.w50 ha
theorem w50_gR11 (h : FC σ) : gR 2 11 (some 50) σ = some (some 54) := fw_gR11 h.w50
theorem w50_rd4 (h : FC σ) (ha : a < 10) : aI 100 (some 54) (N a) σ = some (mI σ 54 a) := fw_rd4 (b := 50) h.w50 ha
theorem w50_wr4 (h : FC σ) (ha : a < 10) : sI (some 54) (N a) x σ = some (wA σ 54 (up1 (mI σ 54) a x)) := fw_wr4 (b := 50) h.w50 ha
theorem w50_gR12 (h : FC σ) : gR 2 12 (some 50) σ = some (some 55) := fw_gR12 h.w50
theorem w50_rd5 (h : FC σ) (ha : a < 10) : aI 100 (some 55) (N a) σ = some (mI σ 55 a) := fw_rd5 (b := 50) h.w50 ha
theorem w50_wr5 (h : FC σ) (ha : a < 10) : sI (some 55) (N a) x σ = some (wA σ 55 (up1 (mI σ 55) a x)) := fw_wr5 (b := 50) h.w50 ha
theorem w50_gR13 (h : FC σ) : gR 2 13 (some 50) σ = some (some 56) := fw_gR13 h.w50
theorem w50_rd6 (h : FC σ) (ha : a < 10) : aI 100 (some 56) (N a) σ = some (mI σ 56 a) := fw_rd6 (b := 50) h.w50 ha
theorem w50_wr6 (h : FC σ) (ha : a < 10) : sI (some 56) (N a) x σ = some (wA σ 56 (up1 (mI σ 56) a x)) := fw_wr6 (b := 50) h.w50 ha
theorem w50_gR14 (h : FC σ) : gR 2 14 (some 50) σ = some (some 57) := fw_gR14 h.w50
theorem w50_rd7 (h : FC σ) (ha : a < 100) : aI 100 (some 57) (N a) σ = some (mI σ 57 a) := fw_rd7 (b := 50) h.w50 ha
theorem w50_wr7 (h : FC σ) (ha : a < 100) : sI (some 57) (N a) x σ = some (wA σ 57 (up1 (mI σ 57) a x)) := fw_wr7 (b := 50) h.w50 ha
theorem w50_gR15 (h : FC σ) : gR 2 15 (some 50) σ = some (some 58) := fw_gR15 h.w50
theorem w50_rd8 (h : FC σ) (ha : a < 100) : aI 100 (some 58) (N a) σ = some (mI σ 58 a) := fw_rd8 (b := 50) h.w50 ha
theorem w50_wr8 (h : FC σ) (ha : a < 100) : sI (some 58) (N a) x σ = some (wA σ 58 (up1 (mI σ 58) a x)) := fw_wr8 (b := 50) h.w50 ha
theorem w50_gR16 (h : FC σ) : gR 2 16 (some 50) σ = some (some 59) := fw_gR16 h.w50
theorem w50_rd9 (h : FC σ) (ha : a < 10) : aI 100 (some 59) (N a) σ = some (mI σ 59 a) := fw_rd9 (b := 50) h.w50 ha
theorem w50_wr9 (h : FC σ) (ha : a < 10) : sI (some 59) (N a) x σ = some (wA σ 59 (up1 (mI σ 59) a x)) := fw_wr9 (b := 50) h.w50 ha
theorem w50_gR17 (h : FC σ) : gR 2 17 (some 50) σ = some (some 60) := fw_gR17 h.w50
theorem w50_rd10 (h : FC σ) (ha : a < 12) : aI 100 (some 60) (N a) σ = some (mI σ 60 a) := fw_rd10 (b := 50) h.w50 ha
theorem w50_wr10 (h : FC σ) (ha : a < 12) : sI (some 60) (N a) x σ = some (wA σ 60 (up1 (mI σ 60) a x)) := fw_wr10 (b := 50) h.w50 ha
theorem w50_gR18 (h : FC σ) : gR 2 18 (some 50) σ = some (some 61) := fw_gR18 h.w50
theorem w50_rd11 (h : FC σ) (ha : a < 300) : aI 100 (some 61) (N a) σ = some (mI σ 61 a) := fw_rd11 (b := 50) h.w50 ha
theorem w50_wr11 (h : FC σ) (ha : a < 300) : sI (some 61) (N a) x σ = some (wA σ 61 (up1 (mI σ 61) a x)) := fw_wr11 (b := 50) h.w50 ha
theorem r50F (h : RW 50 A np σ) (hp : a < 10) : mI σ 51 a = PA A a 0 := rwF h hp
theorem r50M (h : RW 50 A np σ) (hp : a < 10) : mI σ 52 a = PA A a 1 := rwM h hp
theorem r50W (h : RW 50 A np σ) (hp : a < 10) : mI σ 53 a = PA A a 2 := rwW h hp
theorem r50T (h : RW 50 A np σ) (hp : a < 10) : mI σ 54 a = PA A a 3 := rwT h hp
theorem r50S (h : RW 50 A np σ) (hp : a < 10) : mI σ 55 a = PA A a 4 := rwS h hp
theorem r50K (h : RW 50 A np σ) (hp : a < 10) : mI σ 56 a = PA A a 5 := rwK h hp
theorem r50Th (h : RW 50 A np σ) (hp : a < 100) : mI σ 57 a = A (172 + a) := rwTh h hp
theorem r50H (h : RW 50 A np σ) (hp : a < 12) : mI σ 60 a = HA A a := rwH h hp
theorem r50L (h : RW 50 A np σ) (hp : a < 300) : mI σ 61 a = A (284 + a) := rwL h hp
end
