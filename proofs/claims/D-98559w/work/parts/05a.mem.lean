/-! THE LAYER, 1: the memory of places. A memory: tags, lengths, ints, references, number of places. A place p of tag t: 1 ≤ t < 100: an object of class number t of clT; 100: int[], 101: byte[], 102: Object[]. References are places; ad: the machine's address of a place. -/
abbrev Mm : Type := (Nat → Nat) × (Nat → Nat) × (Nat → Nat → Int32) × (Nat → Nat → Option Nat) × Nat
def mS (σ : Mm) : Nat → Nat := σ.1
def mL (σ : Mm) : Nat → Nat := σ.2.1
def mI (σ : Mm) : Nat → Nat → Int32 := σ.2.2.1
def mR (σ : Mm) : Nat → Nat → Option Nat := σ.2.2.2.1
def mN (σ : Mm) : Nat := σ.2.2.2.2
def up1 {α : Type} (f : Nat → α) (a : Nat) (v : α) : Nat → α := fun j => if j = a then v else f j
def up2 {α : Type} (f : Nat → Nat → α) (a k : Nat) (v : α) : Nat → Nat → α := fun a' k' => if a' = a then (if k' = k then v else f a k') else f a' k'
def wI (σ : Mm) (p k : Nat) (x : Int32) : Mm := (σ.1, σ.2.1, up2 σ.2.2.1 p k x, σ.2.2.2.1, σ.2.2.2.2)
def wR (σ : Mm) (p k : Nat) (x : Option Nat) : Mm := (σ.1, σ.2.1, σ.2.2.1, up2 σ.2.2.2.1 p k x, σ.2.2.2.2)
def wN (σ : Mm) (t n : Nat) : Mm := (up1 σ.1 σ.2.2.2.2 t, up1 σ.2.1 σ.2.2.2.2 n, up1 σ.2.2.1 σ.2.2.2.2 (fun _ => 0), up1 σ.2.2.2.1 σ.2.2.2.2 (fun _ => none), σ.2.2.2.2 + 1)
abbrev BIG : Nat := 1000000
/-- the operations: none where the machine would not go on as told -/
def gI (c k : Nat) (v : Option Nat) (σ : Mm) : Option Int32 := v.bind fun p => if mS σ p = c then some (mI σ p k) else none
def gR (c k : Nat) (v : Option Nat) (σ : Mm) : Option (Option Nat) := v.bind fun p => if mS σ p = c then some (mR σ p k) else none
def pI (c k : Nat) (v : Option Nat) (x : Int32) (σ : Mm) : Option Mm := v.bind fun p => if mS σ p = c then some (wI σ p k x) else none
def pZ (c k : Nat) (v : Option Nat) (x : Int32) (σ : Mm) : Option Mm := v.bind fun p => if mS σ p = c ∧ (x = 0 ∨ x = 1) then some (wI σ p k x) else none
def pR (c k : Nat) (v : Option Nat) (x : Option Nat) (σ : Mm) : Option Mm := v.bind fun p => if mS σ p = c then some (wR σ p k x) else none
def aI (t : Nat) (v : Option Nat) (i : Int32) (σ : Mm) : Option Int32 := v.bind fun p => if mS σ p = t ∧ ¬ (i < 0 ∨ mL σ p ≤ i.toNatClampNeg) then some (mI σ p i.toNatClampNeg) else none
def aR (t : Nat) (v : Option Nat) (i : Int32) (σ : Mm) : Option (Option Nat) := v.bind fun p => if mS σ p = t ∧ ¬ (i < 0 ∨ mL σ p ≤ i.toNatClampNeg) then some (mR σ p i.toNatClampNeg) else none
def sI (v : Option Nat) (i x : Int32) (σ : Mm) : Option Mm := v.bind fun p => if mS σ p = 100 ∧ ¬ (i < 0 ∨ mL σ p ≤ i.toNatClampNeg) then some (wI σ p i.toNatClampNeg x) else none
def sB (v : Option Nat) (i x : Int32) (σ : Mm) : Option Mm := v.bind fun p => if mS σ p = 101 ∧ ¬ (i < 0 ∨ mL σ p ≤ i.toNatClampNeg) then some (wI σ p i.toNatClampNeg x.toInt8.toInt32) else none
def aL (t : Nat) (v : Option Nat) (σ : Mm) : Option Int32 := v.bind fun p => if mS σ p = t then some (Int32.ofNat (mL σ p)) else none
/-- a receiver: not null, of the class -/
def rv (c : Nat) (v : Option Nat) (σ : Mm) : Option Nat := v.bind fun p => if mS σ p = c then some p else none
def nO (c : Nat) (σ : Mm) : Option (Option Nat × Mm) := if mN σ < BIG then some (some (mN σ), wN σ c 0) else none
def nA (t : Nat) (n : Int32) (σ : Mm) : Option (Option Nat × Mm) := if mN σ < BIG ∧ ¬ n < 0 ∧ n.toNatClampNeg ≤ 100000 then some (some (mN σ), wN σ t n.toNatClampNeg) else none
def rZ {β : Type} (x : Int32) (r : β) : Option (Int32 × β) := if x = 0 ∨ x = 1 then some (x, r) else none
def dv (x y : Int32) : Option Int32 := if y = 0 then none else some (x / y)
def rm_ (x y : Int32) : Option Int32 := if y = 0 then none else some (x - x / y * y)
def imax (x y : Int32) : Int32 := if x < y then y else x
def imin (x y : Int32) : Int32 := if y < x then y else x
def iabs (x : Int32) : Int32 := if 0 ≤ x then x else 0 - x
def ush (x y : Int32) : Int32 := (x.toUInt32 >>> (y.toUInt32 &&& Int32.toUInt32 31)).toInt32
def ck {β : Type} (c p : Nat) (σ : Mm) (k : Option β) : Option β := if mS σ p = c then k else none
theorem ck_e {β : Type} {c p : Nat} {σ : Mm} {k : Option β} {o : β} (h : ck c p σ k = some o) : mS σ p = c ∧ k = some o := by
  unfold ck at h
  split at h
  next hc => exact ⟨hc, h⟩
  next => cases h
/-- a join: what comes behind, and the ways to it -/
def jn {κ β : Type} (k : κ) (f : κ → Option β) : Option β := f k
theorem jn_e {κ β : Type} {k : κ} {f : κ → Option β} {o : β} (h : jn k f = some o) : ∃ J, J = k ∧ f J = some o := ⟨k, rfl, h⟩
def fu : Nat := 100000
/-- the classes: which fields are references -/
def crT : List (List Bool) := [[true, true, true, false, true, true, true, true, true, true, true], [true, true, true, false, true, true, true, true, true, true, true], [false, false, false, false, false, false, false, false, true, true, true, true, true, true, true, true, true, true, true, true], [true, false, false, false, false, false, false], [false, false, false, false, false, false, false, false], [true, true, false, true], [true, true, true], [true, true, false, true], [false, true, true, false, true, true, false, true, false, false, false, false, false, false, true, false, false, false, false, true, false, true, true, true, true, true], [true, true, true, true, true, false], [true], [false, true], [false, true], [true], [false], [true], [false, true], [false, true, false], [true, true], [true, false, false, false], [true, false, false, false]]
def cN (c : Nat) : Nat := (crT.getD c []).length
def cr (c k : Nat) : Bool := (crT.getD c []).getD k false
def clT : List vw_C := [(RX1, TX1, 11), (RX1, TX1, 11), (RX2, TX2, 20), (RX3, TX3, 7), (RX4, TX4, 8), (RX5, TX5, 4), (RX6, TX6, 3), (RX7, TX7, 4), (RX8, TX8, 26), (RX9, TX9, 6), (RX10, TX10, 1), (RX11, TX11, 2), (RX12, TX12, 2), (RX13, TX13, 1), (RX14, TX14, 1), (RX15, TX15, 1), (RX16, TX16, 2), (RJ3, TJ3, 3), (RX18, TX18, 2), (RJ5, TJ5, 4), (RJ6, TJ6, 4)]
def CD (ci : Nat) (C : String) (T : u_T) (N : Nat) (ty : Nat → FieldType) : Prop := (clT[ci]? = some (C, T, N) ∧ N = cN ci ∧ ci < 100 ∧ 0 < ci) ∧ (∀ w ∈ u_ws C T N, w ∈ lw_all) ∧ (∀ k, k < N → parseFieldDescriptor (T k).2.2.1 = some (ty k)) ∧ (∀ a, a < N → ∀ b, b < N → a ≠ b → (T a).2.1 ≠ (T b).2.1) ∧ ∀ j, j < N → defaultValue (ty j) = if cr ci j = true then .null else .int 0
theorem cd_1 : CD 1 RX1 TX1 11 tyX1 := ⟨⟨rfl, rfl, by decide, by decide⟩, in_X1, tyX1_ok, nmX1, by decide +kernel⟩
theorem cd_2 : CD 2 RX2 TX2 20 tyX2 := ⟨⟨rfl, rfl, by decide, by decide⟩, in_X2, tyX2_ok, nmX2, by decide +kernel⟩
theorem cd_3 : CD 3 RX3 TX3 7 tyX3 := ⟨⟨rfl, rfl, by decide, by decide⟩, in_X3, tyX3_ok, nmX3, by decide +kernel⟩
theorem cd_4 : CD 4 RX4 TX4 8 tyX4 := ⟨⟨rfl, rfl, by decide, by decide⟩, in_X4, tyX4_ok, nmX4, by decide +kernel⟩
theorem cd_5 : CD 5 RX5 TX5 4 tyX5 := ⟨⟨rfl, rfl, by decide, by decide⟩, in_X5, tyX5_ok, nmX5, by decide +kernel⟩
theorem cd_6 : CD 6 RX6 TX6 3 tyX6 := ⟨⟨rfl, rfl, by decide, by decide⟩, in_X6, tyX6_ok, nmX6, by decide +kernel⟩
theorem cd_7 : CD 7 RX7 TX7 4 tyX7 := ⟨⟨rfl, rfl, by decide, by decide⟩, in_X7, tyX7_ok, nmX7, by decide +kernel⟩
theorem cd_8 : CD 8 RX8 TX8 26 tyX8 := ⟨⟨rfl, rfl, by decide, by decide⟩, in_X8, tyX8_ok, nmX8, by decide +kernel⟩
theorem cd_9 : CD 9 RX9 TX9 6 tyX9 := ⟨⟨rfl, rfl, by decide, by decide⟩, in_X9, tyX9_ok, nmX9, by decide +kernel⟩
theorem cd_10 : CD 10 RX10 TX10 1 tyX10 := ⟨⟨rfl, rfl, by decide, by decide⟩, in_X10, tyX10_ok, nmX10, by decide +kernel⟩
theorem cd_11 : CD 11 RX11 TX11 2 tyX11 := ⟨⟨rfl, rfl, by decide, by decide⟩, in_X11, tyX11_ok, nmX11, by decide +kernel⟩
theorem cd_12 : CD 12 RX12 TX12 2 tyX12 := ⟨⟨rfl, rfl, by decide, by decide⟩, in_X12, tyX12_ok, nmX12, by decide +kernel⟩
theorem cd_13 : CD 13 RX13 TX13 1 tyX13 := ⟨⟨rfl, rfl, by decide, by decide⟩, in_X13, tyX13_ok, nmX13, by decide +kernel⟩
theorem cd_14 : CD 14 RX14 TX14 1 tyX14 := ⟨⟨rfl, rfl, by decide, by decide⟩, in_X14, tyX14_ok, nmX14, by decide +kernel⟩
theorem cd_15 : CD 15 RX15 TX15 1 tyX15 := ⟨⟨rfl, rfl, by decide, by decide⟩, in_X15, tyX15_ok, nmX15, by decide +kernel⟩
theorem cd_16 : CD 16 RX16 TX16 2 tyX16 := ⟨⟨rfl, rfl, by decide, by decide⟩, in_X16, tyX16_ok, nmX16, by decide +kernel⟩
theorem cd_17 : CD 17 RJ3 TJ3 3 tyJ3 := ⟨⟨rfl, rfl, by decide, by decide⟩, in_J3, tyJ3_ok, nmJ3, by decide +kernel⟩
theorem cd_18 : CD 18 RX18 TX18 2 tyX18 := ⟨⟨rfl, rfl, by decide, by decide⟩, in_X18, tyX18_ok, nmX18, by decide +kernel⟩
theorem cd_19 : CD 19 RJ5 TJ5 4 tyJ5 := ⟨⟨rfl, rfl, by decide, by decide⟩, in_J5, tyJ5_ok, nmJ5, by decide +kernel⟩
theorem cd_20 : CD 20 RJ6 TJ6 4 tyJ6 := ⟨⟨rfl, rfl, by decide, by decide⟩, in_J6, tyJ6_ok, nmJ6, by decide +kernel⟩
/-! values -/
def cv (ad : Nat → Nat) (v : Value) : Value := match v with
  | .ref q => .ref (ad q)
  | v => v
theorem cv_int (ad : Nat → Nat) (x : Int32) : cv ad (.int x) = .int x := rfl
theorem cv_rf (ad : Nat → Nat) (v : Option Nat) : cv ad (va_rf v) = va_rf (v.map ad) := by cases v <;> rfl
theorem cv_cat (ad : Nat → Nat) (v : Value) : (cv ad v).category = v.category := by cases v <;> rfl
def sm (ad : Nat → Nat) (st : List Value) : List Value := st.map (cv ad)
def lm (ad : Nat → Nat) (ℓ : List (Nat × Value)) : List (Nat × Value) := ℓ.map fun q => (q.1, cv ad q.2)
theorem lm_at {ad : Nat → Nat} {ℓ : List (Nat × Value)} {j i : Nat} {v : Value} (h : ℓ[j]? = some (i, v)) : (lm ad ℓ)[j]? = some (i, cv ad v) := by simp [lm, h]
theorem sm_cat (ad : Nat → Nat) (st : List Value) : ((sm ad st).map fun v => v.category) = st.map fun v => v.category := by
  simp [sm, Function.comp_def, cv_cat]
/-! the picture of a memory in the heap -/
def fv (ad : Nat → Nat) (σ : Mm) (p k : Nat) : Value := if cr (mS σ p) k = true then va_rf ((mR σ p k).map ad) else .int (mI σ p k)
def pent (dA : Nat → ClassId) (ad : Nat → Nat) (σ : Mm) (p : Nat) : Nat × va_E :=
  (ad p, if mS σ p < 100 then .inr (mS σ p, (List.range (cN (mS σ p))).map (fv ad σ p))
    else .inl (dA (mS σ p), mL σ p, if mS σ p < 102 then .inl (mI σ p) else if mS σ p = 104 then .inr (.inl fun i => (mI σ p i).toInt64) else .inr (.inr (.inr (.inr fun i => (mR σ p i).map ad)))))
def wl (dA : Nat → ClassId) (ad : Nat → Nat) (σ : Mm) : va_W := (List.range (mN σ)).map (pent dA ad σ)
abbrev Ab (sz0 : Nat) : Nat → Prop := fun q => sz0 ≤ q
def vq (σ : Mm) (q : Nat) : Prop := q < mN σ ∨ BIG ≤ q
def vok (σ : Mm) (v : Value) : Prop := ∀ q, v = .ref q → vq σ q
def VK (σ : Mm) (vs : List Value) : Prop := ∀ v ∈ vs, vok σ v
theorem VK.cons {σ : Mm} {v : Value} {vs : List Value} (h1 : vok σ v) (h : VK σ vs) : VK σ (v :: vs) := fun w hw => (List.mem_cons.mp hw).elim (fun e => e ▸ h1) (h w)
theorem VK.tail {σ : Mm} {v : Value} {vs : List Value} (h : VK σ (v :: vs)) : VK σ vs := fun w hw => h w (List.mem_cons_of_mem _ hw)
theorem VK.head {σ : Mm} {v : Value} {vs : List Value} (h : VK σ (v :: vs)) : vok σ v := h v List.mem_cons_self
theorem VK.mono {σ σ' : Mm} {vs : List Value} (h : VK σ vs) (hN : mN σ ≤ mN σ') : VK σ' vs := fun w hw q e => (h w hw q e).elim (fun z => Or.inl (Nat.lt_of_lt_of_le z hN)) Or.inr
theorem VK.app {σ : Mm} {v1 v2 : List Value} (h1 : VK σ v1) (h2 : VK σ v2) : VK σ (v1 ++ v2) := fun w hw => (List.mem_append.mp hw).elim (h1 w) (h2 w)
theorem VK.left {σ : Mm} {v1 v2 : List Value} (h : VK σ (v1 ++ v2)) : VK σ v1 := fun w hw => h w (List.mem_append_left _ hw)
theorem VK.right {σ : Mm} {v1 v2 : List Value} (h : VK σ (v1 ++ v2)) : VK σ v2 := fun w hw => h w (List.mem_append_right _ hw)
theorem VK.nil {σ : Mm} : VK σ [] := fun w hw => by cases hw
theorem vok_int {σ : Mm} {x : Int32} : vok σ (.int x) := fun q e => by cases e
theorem vok_null {σ : Mm} : vok σ .null := fun q e => by cases e
theorem vok_rf {σ : Mm} {r : Option Nat} (h : ∀ q, r = some q → vq σ q) : vok σ (va_rf r) := fun q e => by
  cases r with
  | none => cases e
  | some a => cases e; exact h _ rfl
theorem vok_rf' {σ : Mm} {r : Option Nat} (h : vok σ (va_rf r)) : ∀ q, r = some q → vq σ q := fun q e => by
  subst e
  exact h q rfl
def LK (σ : Mm) (ℓ : List (Nat × Value)) : Prop := ∀ q ∈ ℓ, vok σ q.2 ∧ q.2.category = 1
theorem LK.mono {σ σ' : Mm} {ℓ : List (Nat × Value)} (h : LK σ ℓ) (hN : mN σ ≤ mN σ') : LK σ' ℓ := fun w hw => ⟨fun q e => ((h w hw).1 q e).elim (fun z => Or.inl (Nat.lt_of_lt_of_le z hN)) Or.inr, (h w hw).2⟩
theorem LK.put {σ : Mm} {ℓ ℓ' : List (Nat × Value)} {i : Nat} {v : Value} (h : LK σ ℓ) (hv : vok σ v) (hc : v.category = 1) (e : (i, v) :: ℓ.filter (fun q => !(q.1 == i)) = ℓ') : LK σ ℓ' := by
  subst e
  intro q hq
  rcases List.mem_cons.mp hq with e | e
  · rw [e]; exact ⟨hv, hc⟩
  · exact h q (List.mem_filter.mp e).1
theorem LK.sub {σ : Mm} {ℓ ℓ' : List (Nat × Value)} (h : LK σ ℓ) (ks : List Nat) (e : lv_pick ℓ ks = ℓ') : LK σ ℓ' := by
  subst e
  intro q hq
  obtain ⟨k, -, hk⟩ := List.mem_filterMap.mp hq
  exact h q (List.mem_of_getElem? hk)
theorem catR (r : Option Nat) : (va_rf r).category = 1 := by cases r <;> rfl
theorem lm_put {σ : Mm} {ad : Nat → Nat} {ℓ ℓ' : List (Nat × Value)} {i : Nat} {v : Value} (hk : LK σ ℓ) (h : (i, v) :: ℓ.filter (fun q => !(q.1 == i)) = ℓ') : (i, cv ad v) :: (lm ad ℓ).filter (fun q => !(q.1 == i) && !(q.1 + 1 == i && q.2.category == 2)) = lm ad ℓ' := by
  rw [← h]
  simp only [lm, List.map_cons, List.filter_map]
  congr 2
  apply List.filter_congr
  intro q hq
  simp [Function.comp, cv_cat, (hk q hq).2]
/-! what never changes: String constants (place BIG + 2 i, its bytes BIG + 2 i + 1), the constants of the enums Which (BIG + 100 ..) and Fact (BIG + 110 ..), Fact's array of them (BIG + 120), ArrayList's empty array (BIG + 122); BIG + 200: references of which nothing is known -/
def nK : Nat := 22
def lenK : List Nat := [6, 4, 3, 5, 5, 3, 5, 4, 5, 2, 3, 3, 3, 2, 3, 3, 4, 4, 5, 4, 4, 25]
def bytK : List (List Int32) := [[112, 101, 114, 115, 111, 110], [119, 105, 115, 104], [119, 101, 100], [107, 110, 111, 119, 115], [104, 111, 111, 107, 115], [109, 105, 120], [116, 104, 105, 101, 102], [104, 97, 110, 100], [102, 101, 116, 99, 104], [105, 102], [110, 111, 116], [111, 119, 110], [97, 110, 100], [111, 114], [32, 62, 32], [119, 104, 111], [104, 111, 117, 114], [104, 111, 111, 107], [109, 97, 114, 107, 115], [104, 117, 110, 103], [102, 114, 101, 101], [117, 110, 114, 101, 99, 111, 103, 110, 105, 122, 101, 100, 32, 98, 97, 115, 105, 99, 32, 116, 121, 112, 101, 58, 32]]
def hashK : List Int32 := [(-991716523), 3649703, 117590, 102204232, 99463088, 108124, 110330838, 3194991, 97322682, 3357, 109267, 110470, 96727, 3555, 32706, 117694, 3208676, 3208483, 103666502, 3214214, 3151468, (-414256221)]
def toldK : List Nat := [15, 16, 17, 18, 19, 20]
def strl : List (String × Nat × String × Nat) := [("HungFaces", 178, "person", 0), ("HungFaces", 184, "wish", 1), ("HungFaces", 186, "wed", 2), ("HungFaces", 188, "knows", 3), ("HungFaces", 189, "hooks", 4), ("HungFaces", 190, "mix", 5), ("HungFaces", 192, "thief", 6), ("HungFaces", 333, "hand", 7), ("HungFaces", 335, "fetch", 8), ("HungFaces", 339, "if", 9), ("HungFaces", 290, "not", 10), ("HungFaces", 304, "own", 11), ("HungFaces", 326, "and", 12), ("HungFaces", 331, "or", 13), ("java/util/Arrays", 337, " > ", 14), ("HungFacesModel", 230, "hand", 7), ("HungFacesModel", 232, "fetch", 8), ("HungFacesModel", 234, "if", 9), ("HungFacesModel", 212, "not", 10), ("HungFacesModel", 200, "own", 11), ("HungFacesModel", 135, "wed", 2), ("HungFacesModel", 185, "who", 15), ("HungFacesModel", 187, "hour", 16), ("HungFacesModel", 189, "hook", 17), ("HungFacesModel", 191, "marks", 18), ("HungFacesModel", 193, "hung", 19), ("HungFacesModel", 195, "free", 20), ("HungFacesModel", 223, "and", 12), ("HungFacesModel", 228, "or", 13), ("HungFacesModel", 122, "person", 0), ("HungFacesModel", 130, "wish", 1), ("HungFacesModel", 140, "knows", 3), ("HungFacesModel", 145, "hooks", 4), ("HungFacesModel", 153, "mix", 5), ("HungFacesModel", 155, "thief", 6), ("jdk/internal/util/ArraysSupport", 92, "unrecognized basic type: ", 21), ("HungFaces$Fact", 56, "who", 15), ("HungFaces$Fact", 62, "hour", 16), ("HungFaces$Fact", 65, "hook", 17), ("HungFaces$Fact", 68, "marks", 18), ("HungFaces$Fact", 71, "hung", 19), ("HungFaces$Fact", 74, "free", 20)]
def kS (p : Nat) : Nat := if p < BIG + 44 then (if p % 2 = 0 then 520 else 601) else if 100 + BIG ≤ p ∧ p < BIG + 104 then 521 else if 110 + BIG ≤ p ∧ p < BIG + 116 then 522 else if p = BIG + 120 then 603 else if p = BIG + 122 then 602 else 999
def kL (p : Nat) : Nat := if p < BIG + 44 then lenK.getD ((p - BIG) / 2) 0 else if p = BIG + 120 then 6 else 0
def kI (p k : Nat) : Int32 := if p < BIG + 44 then (if p % 2 = 0 then (if k = 2 then hashK.getD ((p - BIG) / 2) 0 else 0) else (bytK.getD ((p - BIG) / 2) []).getD k 0) else if 100 + BIG ≤ p ∧ p < BIG + 104 then nI (p - BIG - 100) else if 110 + BIG ≤ p ∧ p < BIG + 116 then nI (p - BIG - 110) else 0
def kq (ad : Nat → Nat) (k : Nat) : Option Nat := if ad (BIG + 210 + k) = 0 then none else some (BIG + 220 + k)
def kR (ad : Nat → Nat) (p k : Nat) : Option Nat := if p < BIG + 44 then (if p % 2 = 0 ∧ k = 0 then some (p + 1) else none) else if 110 + BIG ≤ p ∧ p < BIG + 116 then (if k = 1 then some (BIG + 2 * toldK.getD (p - BIG - 110) 0) else none) else if p = BIG + 120 ∧ k < 6 then some (BIG + 110 + k) else if p = BIG + 200 then kq ad k else none
def SM (ad : Nat → Nat) (σ : Mm) : Prop := (∀ p, p < BIG → mS σ p < 500) ∧ ∀ p, BIG ≤ p → mS σ p = kS p ∧ mL σ p = kL p ∧ (∀ k, mI σ p k = kI p k) ∧ ∀ k, mR σ p k = kR ad p k
def PM (D : va_G) (dA : Nat → ClassId) (sz0 : Nat) (ad : Nat → Nat) (σ : Mm) (H : Heap) : Prop :=
  va_P D clT (wl dA ad σ) H ∧ va_D (Ab sz0) (wl dA ad σ) ∧ (∀ p, mS σ p ≠ 0 → mS σ p < 500 → p < mN σ) ∧ sz0 ≤ H.size ∧ (∀ p k q, p < mN σ → mR σ p k = some q → vq σ q) ∧ mN σ ≤ BIG ∧ SM ad σ
/-- two naming functions that agree on what there was -/
def Ex (n : Nat) (ad ad' : Nat → Nat) : Prop := ∀ q, q < n ∨ BIG ≤ q → ad' q = ad q
theorem Ex.rf {n : Nat} {ad : Nat → Nat} : Ex n ad ad := fun _ _ => rfl
theorem Ex.trans {n n' : Nat} {a b c : Nat → Nat} (h1 : Ex n a b) (h2 : Ex n' b c) (hn : n ≤ n') : Ex n a c := fun q hq => (h2 q (hq.elim (fun z => Or.inl (Nat.lt_of_lt_of_le z hn)) Or.inr)).trans (h1 q hq)
theorem Ex.cv {σ : Mm} {a b : Nat → Nat} {v : Value} (h : Ex (mN σ) a b) (hv : vok σ v) : cv b v = cv a v := by
  cases v with
  | ref q => exact congrArg Value.ref (h q (hv q rfl))
  | _ => rfl
theorem Ex.sm {σ : Mm} {a b : Nat → Nat} {vs : List Value} (h : Ex (mN σ) a b) (hv : VK σ vs) : sm b vs = sm a vs := List.map_congr_left fun v hm => h.cv (hv v hm)
theorem Ex.lm {σ : Mm} {a b : Nat → Nat} {ℓ : List (Nat × Value)} (h : Ex (mN σ) a b) (hv : LK σ ℓ) : lm b ℓ = lm a ℓ := List.map_congr_left fun q hm => by rw [h.cv (hv q hm).1]
theorem wl_at {dA : Nat → ClassId} {ad : Nat → Nat} {σ : Mm} {p : Nat} (h : p < mN σ) : (wl dA ad σ)[p]? = some (pent dA ad σ p) := by
  simp [wl, h]
theorem pent_o {dA : Nat → ClassId} {ad : Nat → Nat} {σ : Mm} {p c : Nat} (h : mS σ p = c) (hc : c < 100) : pent dA ad σ p = (ad p, .inr (c, (List.range (cN c)).map (fv ad σ p))) := by
  unfold pent
  rw [h, if_pos hc]
theorem pent_i {dA : Nat → ClassId} {ad : Nat → Nat} {σ : Mm} {p t : Nat} (h : mS σ p = t) (h1 : 100 ≤ t) (h2 : t < 102) : pent dA ad σ p = (ad p, .inl (dA t, mL σ p, .inl (mI σ p))) := by
  unfold pent
  rw [h, if_neg (by omega), if_pos h2]
theorem pent_r {dA : Nat → ClassId} {ad : Nat → Nat} {σ : Mm} {p t : Nat} (h : mS σ p = t) (h2 : 102 ≤ t ∧ t ≠ 104) : pent dA ad σ p = (ad p, .inl (dA t, mL σ p, .inr (.inr (.inr (.inr fun i => (mR σ p i).map ad))))) := by
  unfold pent
  rw [h, if_neg (by omega), if_neg (by omega), if_neg h2.2]
theorem pent_l {dA : Nat → ClassId} {ad : Nat → Nat} {σ : Mm} {p : Nat} (h : mS σ p = 104) : pent dA ad σ p = (ad p, .inl (dA 104, mL σ p, .inr (.inl fun i => (mI σ p i).toInt64))) := by
  unfold pent
  rw [h, if_neg (by omega), if_neg (by omega), if_pos rfl]
theorem wl_set {dA : Nat → ClassId} {ad : Nat → Nat} {σ σ' : Mm} {p : Nat} {x : Nat × va_E} (hN : mN σ' = mN σ) (he : pent dA ad σ' p = x) (ho : ∀ q, q ≠ p → pent dA ad σ' q = pent dA ad σ q) : (wl dA ad σ).set p x = wl dA ad σ' := by
  apply List.ext_getElem?
  intro i
  by_cases hi : i < mN σ
  · rw [wl_at (by rw [hN]; exact hi)]
    by_cases hp : i = p
    · subst hp
      rw [List.getElem?_set_self (by simp [wl, hi]), he]
    · rw [List.getElem?_set_ne (Ne.symm hp), wl_at hi, ho i hp]
  · rw [List.getElem?_eq_none (by simp [wl]; omega), List.getElem?_eq_none (by simp [wl]; omega)]
theorem up2_s {α : Type} {f : Nat → Nat → α} {a k : Nat} {v : α} : up2 f a k v a k = v := by simp [up2]
theorem up2_o {α : Type} {f : Nat → Nat → α} {a k : Nat} {v : α} {q : Nat} (h : q ≠ a) : up2 f a k v q = f q := by
  funext j
  simp [up2, h]
theorem up2_r {α : Type} {f : Nat → Nat → α} {a k : Nat} {v : α} : up2 f a k v a = fun j => if j = k then v else f a j := by
  funext j
  simp [up2]
theorem pent_wI {dA : Nat → ClassId} {ad : Nat → Nat} {σ : Mm} {p k q : Nat} {x : Int32} (h : q ≠ p) : pent dA ad (wI σ p k x) q = pent dA ad σ q := by
  have e : mI (wI σ p k x) q = mI σ q := up2_o h
  have e2 : fv ad (wI σ p k x) q = fv ad σ q := by
    funext j
    unfold fv
    rw [e]
    rfl
  unfold pent
  rw [e, e2]
  rfl
theorem pent_wR {dA : Nat → ClassId} {ad : Nat → Nat} {σ : Mm} {p k q : Nat} {x : Option Nat} (h : q ≠ p) : pent dA ad (wR σ p k x) q = pent dA ad σ q := by
  have e : mR (wR σ p k x) q = mR σ q := up2_o h
  have e2 : fv ad (wR σ p k x) q = fv ad σ q := by
    funext j
    unfold fv
    rw [e]
    rfl
  unfold pent
  rw [e, e2]
  rfl
theorem fs_set {ad : Nat → Nat} {σ σ' : Mm} {p k N : Nat} {v : Value} (hv : fv ad σ' p k = v) (ho : ∀ j, j ≠ k → fv ad σ' p j = fv ad σ p j) : ((List.range N).map (fv ad σ p)).set k v = (List.range N).map (fv ad σ' p) := by
  apply List.ext_getElem?
  intro i
  by_cases hi : i < N
  · by_cases hp : i = k
    · subst hp
      rw [List.getElem?_set_self (by simp [hi])]
      simp [hi, hv]
    · rw [List.getElem?_set_ne (Ne.symm hp)]
      simp [hi, ho i hp]
  · rw [List.getElem?_eq_none (by simp; omega), List.getElem?_eq_none (by simp; omega)]
theorem pent_ex {dA : Nat → ClassId} {σ : Mm} {ad ad' : Nat → Nat} {p : Nat} (hp : p < mN σ) (h : Ex (mN σ) ad ad') (hr : ∀ k q, mR σ p k = some q → vq σ q) : pent dA ad' σ p = pent dA ad σ p := by
  have e1 : ∀ k, (mR σ p k).map ad' = (mR σ p k).map ad := by
    intro k
    cases hk : mR σ p k with
    | none => rfl
    | some q => simp [h q (hr k q hk)]
  have e2 : fv ad' σ p = fv ad σ p := by
    funext k
    unfold fv
    rw [e1]
  unfold pent
  rw [h p (Or.inl hp), e2]
  simp only [e1]
theorem wl_ex {dA : Nat → ClassId} {σ : Mm} {ad ad' : Nat → Nat} (h : Ex (mN σ) ad ad') (hr : ∀ p k q, p < mN σ → mR σ p k = some q → vq σ q) : wl dA ad' σ = wl dA ad σ :=
  List.map_congr_left fun p hp => pent_ex (List.mem_range.mp hp) h (fun k q => hr p k q (List.mem_range.mp hp))
/-- a new place -/
theorem pent_wN {dA : Nat → ClassId} {ad : Nat → Nat} {σ : Mm} {t n q : Nat} (h : q < mN σ) : pent dA ad (wN σ t n) q = pent dA ad σ q := by
  have h : q ≠ σ.2.2.2.2 := Nat.ne_of_lt h
  have e0 : mS (wN σ t n) q = mS σ q := if_neg h
  have e1 : mI (wN σ t n) q = mI σ q := if_neg h
  have e2 : mR (wN σ t n) q = mR σ q := if_neg h
  have e3 : mL (wN σ t n) q = mL σ q := if_neg h
  have e4 : fv ad (wN σ t n) q = fv ad σ q := by
    funext j
    unfold fv
    rw [e0, e1, e2]
  unfold pent
  rw [e0, e1, e3, e4, e2]
theorem wl_wN {dA : Nat → ClassId} {ad ad' : Nat → Nat} {σ : Mm} {t n : Nat} {x : Nat × va_E} (h : Ex (mN σ) ad ad') (hr : ∀ p k q, p < mN σ → mR σ p k = some q → vq σ q) (he : pent dA ad' (wN σ t n) (mN σ) = x) : wl dA ad σ ++ [x] = wl dA ad' (wN σ t n) := by
  unfold wl
  rw [show mN (wN σ t n) = mN σ + 1 from rfl, List.range_succ, List.map_append, List.map_singleton, he]
  congr 1
  apply List.map_congr_left
  intro p hp
  have hp := List.mem_range.mp hp
  rw [pent_wN hp, pent_ex hp h (fun k q => hr p k q hp)]
theorem SM_wI {ad : Nat → Nat} {σ : Mm} {q k : Nat} {x : Int32} (h : SM ad σ) (hq : q < BIG) : SM ad (wI σ q k x) := by
  refine ⟨h.1, fun p hp => ?_⟩
  have e : mI (wI σ q k x) p = mI σ p := up2_o (by omega)
  obtain ⟨h1, h2, h3, h4⟩ := h.2 p hp
  exact ⟨h1, h2, fun j => by rw [e]; exact h3 j, h4⟩
theorem SM_wR {ad : Nat → Nat} {σ : Mm} {q k : Nat} {x : Option Nat} (h : SM ad σ) (hq : q < BIG) : SM ad (wR σ q k x) := by
  refine ⟨h.1, fun p hp => ?_⟩
  have e : mR (wR σ q k x) p = mR σ p := up2_o (by omega)
  obtain ⟨h1, h2, h3, h4⟩ := h.2 p hp
  exact ⟨h1, h2, h3, fun j => by rw [e]; exact h4 j⟩
theorem SM_wN {ad : Nat → Nat} {σ : Mm} {t n : Nat} (h : SM ad σ) (hB : mN σ < BIG) (ht : t < 500) : SM ad (wN σ t n) := by
  refine ⟨fun p hp => ?_, fun p hp => ?_⟩
  · show up1 _ _ _ p < 500
    unfold up1
    split
    · exact ht
    · exact h.1 p hp
  · have hne : p ≠ σ.2.2.2.2 := by have : σ.2.2.2.2 = mN σ := rfl; omega
    obtain ⟨h1, h2, h3, h4⟩ := h.2 p hp
    have e0 : mS (wN σ t n) p = mS σ p := if_neg hne
    have e1 : mI (wN σ t n) p = mI σ p := if_neg hne
    have e2 : mR (wN σ t n) p = mR σ p := if_neg hne
    have e3 : mL (wN σ t n) p = mL σ p := if_neg hne
    exact ⟨by rw [e0]; exact h1, by rw [e3]; exact h2, fun j => by rw [e1]; exact h3 j, fun j => by rw [e2]; exact h4 j⟩
