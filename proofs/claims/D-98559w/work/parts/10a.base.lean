/-! THE PLAIN LAW, 1: whole numbers, memories -/
set_option maxRecDepth 100000
def N (n : Nat) : Int32 := Int32.ofNat n
def M1 : Int32 := -1
theorem m1_ : (-1 : Int32) = M1 := rfl
theorem l0_ : (0 : Int32) = N 0 := rfl
theorem l1_ : (1 : Int32) = N 1 := rfl
theorem l2_ : (2 : Int32) = N 2 := rfl
theorem l3_ : (3 : Int32) = N 3 := rfl
theorem l4_ : (4 : Int32) = N 4 := rfl
theorem l5_ : (5 : Int32) = N 5 := rfl
theorem l6_ : (6 : Int32) = N 6 := rfl
theorem l7_ : (7 : Int32) = N 7 := rfl
theorem l8_ : (8 : Int32) = N 8 := rfl
theorem l9_ : (9 : Int32) = N 9 := rfl
theorem l10_ : (10 : Int32) = N 10 := rfl
theorem l11_ : (11 : Int32) = N 11 := rfl
theorem l12_ : (12 : Int32) = N 12 := rfl
theorem l13_ : (13 : Int32) = N 13 := rfl
theorem l14_ : (14 : Int32) = N 14 := rfl
theorem l15_ : (15 : Int32) = N 15 := rfl
theorem l16_ : (16 : Int32) = N 16 := rfl
theorem l17_ : (17 : Int32) = N 17 := rfl
theorem l18_ : (18 : Int32) = N 18 := rfl
theorem l19_ : (19 : Int32) = N 19 := rfl
theorem l20_ : (20 : Int32) = N 20 := rfl
theorem l21_ : (21 : Int32) = N 21 := rfl
theorem l22_ : (22 : Int32) = N 22 := rfl
theorem l23_ : (23 : Int32) = N 23 := rfl
theorem l24_ : (24 : Int32) = N 24 := rfl
theorem l25_ : (25 : Int32) = N 25 := rfl
theorem l26_ : (26 : Int32) = N 26 := rfl
theorem l27_ : (27 : Int32) = N 27 := rfl
theorem l28_ : (28 : Int32) = N 28 := rfl
theorem l29_ : (29 : Int32) = N 29 := rfl
theorem l30_ : (30 : Int32) = N 30 := rfl
theorem l31_ : (31 : Int32) = N 31 := rfl
theorem l32_ : (32 : Int32) = N 32 := rfl
theorem l40_ : (40 : Int32) = N 40 := rfl
theorem l48_ : (48 : Int32) = N 48 := rfl
theorem l57_ : (57 : Int32) = N 57 := rfl
theorem l59_ : (59 : Int32) = N 59 := rfl
theorem l60_ : (60 : Int32) = N 60 := rfl
theorem l61_ : (61 : Int32) = N 61 := rfl
theorem l62_ : (62 : Int32) = N 62 := rfl
theorem l63_ : (63 : Int32) = N 63 := rfl
theorem l72_ : (72 : Int32) = N 72 := rfl
theorem l77_ : (77 : Int32) = N 77 := rfl
theorem l90_ : (90 : Int32) = N 90 := rfl
theorem l97_ : (97 : Int32) = N 97 := rfl
theorem l99_ : (99 : Int32) = N 99 := rfl
theorem l100_ : (100 : Int32) = N 100 := rfl
theorem l122_ : (122 : Int32) = N 122 := rfl
theorem l128_ : (128 : Int32) = N 128 := rfl
theorem l172_ : (172 : Int32) = N 172 := rfl
theorem l255_ : (255 : Int32) = N 255 := rfl
theorem l272_ : (272 : Int32) = N 272 := rfl
theorem l284_ : (284 : Int32) = N 284 := rfl
theorem l285_ : (285 : Int32) = N 285 := rfl
theorem l286_ : (286 : Int32) = N 286 := rfl
theorem l287_ : (287 : Int32) = N 287 := rfl
theorem l288_ : (288 : Int32) = N 288 := rfl
theorem l289_ : (289 : Int32) = N 289 := rfl
theorem l299_ : (299 : Int32) = N 299 := rfl
theorem l300_ : (300 : Int32) = N 300 := rfl
theorem l320_ : (320 : Int32) = N 320 := rfl
theorem l400_ : (400 : Int32) = N 400 := rfl
theorem l584_ : (584 : Int32) = N 584 := rfl
theorem l984_ : (984 : Int32) = N 984 := rfl
theorem l999_ : (999 : Int32) = N 999 := rfl
theorem l1023_ : (1023 : Int32) = N 1023 := rfl
theorem l1024_ : (1024 : Int32) = N 1024 := rfl
theorem l4095_ : (4095 : Int32) = N 4095 := rfl
theorem l6424_ : (6424 : Int32) = N 6424 := rfl
theorem l7008_ : (7008 : Int32) = N 7008 := rfl
theorem l10240_ : (10240 : Int32) = N 10240 := rfl
theorem l12345_ : (12345 : Int32) = N 12345 := rfl
theorem l32767_ : (32767 : Int32) = N 32767 := rfl
theorem l100000_ : (100000 : Int32) = N 100000 := rfl
theorem l1103515245_ : (1103515245 : Int32) = N 1103515245 := rfl
theorem l2000000000_ : (2000000000 : Int32) = N 2000000000 := rfl
theorem N_add (a b : Nat) : N a + N b = N (a + b) := (Int32.ofNat_add a b).symm
theorem N_mul (a b : Nat) : N a * N b = N (a * b) := (Int32.ofNat_mul a b).symm
theorem N_sub {a b : Nat} (h : b ≤ a) : N a - N b = N (a - b) := (Int32.ofNat_sub a b h).symm
theorem N_idx {a : Nat} (h : a < 2147483648) : (N a).toNatClampNeg = a := Int32.toNatClampNeg_ofNat_of_lt h
theorem N_int {a : Nat} (h : a < 2147483648) : (N a).toInt = a := Int32.toInt_ofNat_of_lt h
theorem M1_int : M1.toInt = -1 := by decide
theorem N_lt {a b : Nat} (ha : a < 2147483648) (hb : b < 2147483648) : (N a < N b) = (a < b) := propext (Int32.ofNat_lt_iff_lt ha hb)
theorem N_le {a b : Nat} (ha : a < 2147483648) (hb : b < 2147483648) : (N a ≤ N b) = (a ≤ b) := propext (Int32.ofNat_le_iff_le ha hb)
theorem N_inj {a b : Nat} (ha : a < 2147483648) (hb : b < 2147483648) : (N a = N b) = (a = b) := by
  apply propext
  constructor
  · intro h
    have := congrArg Int32.toNatClampNeg h
    rwa [N_idx ha, N_idx hb] at this
  · intro h; rw [h]
theorem N_m1 {a : Nat} (ha : a < 2147483648) : (N a = M1) = False := by
  apply eq_false
  intro h
  have := congrArg Int32.toInt h
  rw [N_int ha, M1_int] at this
  omega
theorem m1_N {a : Nat} (ha : a < 2147483648) : (M1 = N a) = False := by
  rw [← N_m1 ha]; exact propext ⟨Eq.symm, Eq.symm⟩
theorem m1_m1 : (M1 = M1) = True := eq_self M1
theorem m1_lt {a : Nat} (ha : a < 2147483648) : (M1 < N a) = True := by
  apply eq_true
  rw [Int32.lt_iff_toInt_lt, N_int ha, M1_int]; omega
theorem m1_le {a : Nat} (ha : a < 2147483648) : (M1 ≤ N a) = True := by
  apply eq_true
  rw [Int32.le_iff_toInt_le, N_int ha, M1_int]; omega
theorem N_ltm {a : Nat} (ha : a < 2147483648) : (N a < M1) = False := by
  apply eq_false
  rw [Int32.lt_iff_toInt_lt, N_int ha, M1_int]; omega
theorem N_lem {a : Nat} (ha : a < 2147483648) : (N a ≤ M1) = False := by
  apply eq_false
  rw [Int32.le_iff_toInt_le, N_int ha, M1_int]; omega
theorem N_dec {a : Nat} : N (a + 1) + M1 = N a := by
  show N (a + 1) + (-N 1) = N a
  rw [← Int32.sub_eq_add_neg, N_sub (by omega)]
  rfl
theorem N0_dec : N 0 + M1 = M1 := by decide
/-- an int: below 0, or a number -/
theorem N_cases (x : Int32) : x < 0 ∨ ∃ a, a < 2147483648 ∧ x = N a := by
  by_cases h : x < 0
  · exact Or.inl h
  · refine Or.inr ⟨x.toNatClampNeg, Int32.toNatClampNeg_lt x, (Int32.ofNat_toNatClampNeg x ?_).symm⟩
    rw [Int32.le_iff_toInt_le]
    rw [Int32.lt_iff_toInt_lt] at h
    exact Int.not_lt.mp h
/-- within n, or without -/
theorem N_in (x : Int32) (n : Nat) (hn : n < 2147483648) : (∃ a, a < n ∧ x = N a) ∨ (x < N 0 ∨ N n ≤ x) := by
  rcases N_cases x with h | ⟨a, ha, rfl⟩
  · exact Or.inr (Or.inl h)
  · by_cases h : a < n
    · exact Or.inl ⟨a, h, rfl⟩
    · exact Or.inr (Or.inr (by rw [N_le hn ha]; omega))
theorem lt_neg {x : Int32} {a : Nat} (ha : a < 2147483648) (h : x < N 0) : (x = N a) = False ∧ (N a ≤ x) = False ∧ (N a < x) = False ∧ (x < N a) = True ∧ (x ≤ N a) = True := by
  rw [Int32.lt_iff_toInt_lt, N_int (by omega)] at h
  refine ⟨eq_false fun e => ?_, eq_false ?_, eq_false ?_, eq_true ?_, eq_true ?_⟩
  · rw [e, N_int ha] at h; omega
  · rw [Int32.le_iff_toInt_le, N_int ha]; omega
  · rw [Int32.lt_iff_toInt_lt, N_int ha]; omega
  · rw [Int32.lt_iff_toInt_lt, N_int ha]; omega
  · rw [Int32.le_iff_toInt_le, N_int ha]; omega
/-! searches and folds -/
def sr (P : Nat → Prop) [∀ i, Decidable (P i)] : Nat → Nat → Option Nat
  | _, 0 => none
  | i, k+1 => if P i then some i else sr P (i+1) k
def fd {α : Type} (f : Nat → α → α) : Nat → Nat → α → α
  | _, 0, a => a
  | i, k+1, a => fd f (i+1) k (f i a)
def oN (o : Option Nat) : Int32 := match o with
  | none => M1
  | some j => N j
theorem fd_congr {α : Type} {f g : Nat → α → α} (k : Nat) : ∀ i (a : α), (∀ j, i ≤ j → j < i + k → ∀ a, f j a = g j a) → fd f i k a = fd g i k a := by
  induction k with
  | zero => intro i a _; rfl
  | succ k ih =>
    intro i a h
    rw [fd, fd, h i (Nat.le_refl _) (by omega)]
    exact ih _ _ fun j h1 h2 => h j (by omega) (by omega)
theorem fd_inv {α : Type} {f : Nat → α → α} (P : Nat → α → Prop) (k : Nat) : ∀ i (a : α), P i a → (∀ j a, i ≤ j → j < i + k → P j a → P (j + 1) (f j a)) → P (i + k) (fd f i k a) := by
  induction k with
  | zero => intro i a h _; exact h
  | succ k ih =>
    intro i a h hs
    rw [fd, show i + (k + 1) = (i + 1) + k by omega]
    exact ih _ _ (hs i a (Nat.le_refl _) (by omega) h) fun j a h1 h2 => hs j a (by omega) (by omega)
/-! memories -/
theorem up1_app {α : Type} (f : Nat → α) (a : Nat) (v : α) (j : Nat) : up1 f a v j = if j = a then v else f j := rfl
theorem mI_wA (σ : Mm) (p : Nat) (f : Nat → Int32) (q : Nat) : mI (wA σ p f) q = if q = p then f else mI σ q := rfl
theorem mS_wA (σ : Mm) (p : Nat) (f : Nat → Int32) : mS (wA σ p f) = mS σ := rfl
theorem mL_wA (σ : Mm) (p : Nat) (f : Nat → Int32) : mL (wA σ p f) = mL σ := rfl
theorem mR_wA (σ : Mm) (p : Nat) (f : Nat → Int32) : mR (wA σ p f) = mR σ := rfl
theorem mN_wA (σ : Mm) (p : Nat) (f : Nat → Int32) : mN (wA σ p f) = mN σ := rfl
theorem wA_wA (σ : Mm) (p : Nat) (f g : Nat → Int32) : wA (wA σ p f) p g = wA σ p g := by
  have e : up1 (up1 σ.2.2.1 p f) p g = up1 σ.2.2.1 p g := by
    funext j; unfold up1; split <;> rfl
  show (σ.1, σ.2.1, up1 (up1 σ.2.2.1 p f) p g, σ.2.2.2.1, σ.2.2.2.2) = _
  rw [e]; rfl
theorem wI_wA (σ : Mm) (p k : Nat) (x : Int32) : wI σ p k x = wA σ p (up1 (mI σ p) k x) := by
  have e : up2 σ.2.2.1 p k x = up1 σ.2.2.1 p (up1 (mI σ p) k x) := by
    funext j i; unfold up2 up1 mI; split
    · next h => subst h; rfl
    · rfl
  show (σ.1, σ.2.1, up2 σ.2.2.1 p k x, σ.2.2.2.1, σ.2.2.2.2) = _
  rw [e]; rfl
theorem wA_self (σ : Mm) (p : Nat) : wA σ p (mI σ p) = σ := by
  have e : up1 σ.2.2.1 p (mI σ p) = σ.2.2.1 := by
    funext j; unfold up1 mI; split
    · next h => rw [h]
    · rfl
  show (σ.1, σ.2.1, up1 σ.2.2.1 p (mI σ p), σ.2.2.2.1, σ.2.2.2.2) = _
  rw [e]
theorem ix_ok {a n : Nat} (ha : a < n) (hn : n < 2147483648) : ¬ (N a < 0 ∨ n ≤ (N a).toNatClampNeg) := by
  rw [N_idx (by omega), l0_, N_lt (by omega) (by omega)]; omega
theorem aI_N {t q n a : Nat} {σ : Mm} (hs : mS σ q = t) (hl : mL σ q = n) (ha : a < n) (hn : n < 2147483648) : aI t (some q) (N a) σ = some (mI σ q a) := by
  simp only [aI, Option.bind_some]
  rw [if_pos ⟨hs, hl ▸ ix_ok ha hn⟩, N_idx (by omega)]
theorem sI_N {q n a : Nat} {x : Int32} {σ : Mm} (hs : mS σ q = 100) (hl : mL σ q = n) (ha : a < n) (hn : n < 2147483648) : sI (some q) (N a) x σ = some (wA σ q (up1 (mI σ q) a x)) := by
  simp only [sI, Option.bind_some]
  rw [if_pos ⟨hs, hl ▸ ix_ok ha hn⟩, N_idx (by omega), wI_wA]
theorem gI_s {c k q : Nat} {σ : Mm} (hs : mS σ q = c) : gI c k (some q) σ = some (mI σ q k) := by
  simp only [gI, Option.bind_some]; rw [if_pos hs]
theorem gR_s {c k q : Nat} {r : Option Nat} {σ : Mm} (hs : mS σ q = c) (hr : mR σ q k = r) : gR c k (some q) σ = some r := by
  simp only [gR, Option.bind_some]; rw [if_pos hs, hr]
theorem pI_s {c k q : Nat} {x : Int32} {σ : Mm} (hs : mS σ q = c) : pI c k (some q) x σ = some (wA σ q (up1 (mI σ q) k x)) := by
  simp only [pI, Option.bind_some]; rw [if_pos hs, wI_wA]
theorem pZ_s {c k q : Nat} {x : Int32} {σ : Mm} (hs : mS σ q = c) (hx : x = 0 ∨ x = 1) : pZ c k (some q) x σ = some (wA σ q (up1 (mI σ q) k x)) := by
  simp only [pZ, Option.bind_some]; rw [if_pos ⟨hs, hx⟩, wI_wA]
theorem rv_s {c q : Nat} {σ : Mm} (hs : mS σ q = c) : rv c (some q) σ = some q := by
  simp only [rv, Option.bind_some]; rw [if_pos hs]
theorem ck_s {β : Type} {c q : Nat} {σ : Mm} {k : Option β} (hs : mS σ q = c) : ck c q σ k = k := if_pos hs
theorem rZ_0 {β : Type} (r : β) : rZ (N 0) r = some (N 0, r) := if_pos (Or.inl rfl)
theorem rZ_1 {β : Type} (r : β) : rZ (N 1) r = some (N 1, r) := if_pos (Or.inr rfl)
theorem rZd_0 {β : Type} (r : β) : rZd (N 0) r = rt (N 0, r) := if_pos (Or.inl rfl)
theorem rZd_1 {β : Type} (r : β) : rZd (N 1) r = rt (N 1, r) := if_pos (Or.inr rfl)
theorem rZ_ite {β : Type} (c : Prop) [Decidable c] (r : β) : rZ (if c then N 0 else N 1) r = some (if c then N 0 else N 1, r) := by
  split
  · exact rZ_0 r
  · exact rZ_1 r
theorem pay_0 {β : Type} (m : Option (β × Nat × Nat)) : pay 0 0 m = m := by
  cases m with
  | none => rfl
  | some o => simp [pay]
theorem pay_pay {β : Type} (c z c' z' : Nat) (m : Option (β × Nat × Nat)) : pay c z (pay c' z' m) = pay (c + c') (z + z') m := by
  cases m with
  | none => rfl
  | some o => simp [pay, Nat.add_assoc]
theorem db_rt {α β : Type} (a : α) (f : α → DX β) : db (rt a) f = f a := by
  simp only [db, rt, Option.bind_some, pay_0]
theorem db_pay {α β : Type} (c z : Nat) (m : DX α) (f : α → DX β) : db (pay c z m) f = pay c z (db m f) := by
  cases m with
  | none => rfl
  | some o =>
    obtain ⟨o, c', z'⟩ := o
    cases o with
    | inl a => show pay (c + c') (z + z') (f a) = pay c z (pay c' z' (f a)); rw [pay_pay]
    | inr e => rfl
theorem db_thw {α β : Type} (k : Nat) (σ : Mm) (f : α → DX β) : db (thw k σ) f = thw k σ := rfl
theorem nle1_ : ((1 : Nat) ≤ 0) = False := by decide
theorem nle2_ : ((2 : Nat) ≤ 0) = False := by decide
theorem nle3_ : ((3 : Nat) ≤ 0) = False := by decide
theorem nle0_ : ((0 : Nat) ≤ 0) = True := by decide
theorem nlt1_ : ((0 : Nat) < 1) = True := by decide
theorem nlt2_ : ((0 : Nat) < 2) = True := by decide
theorem nlt3_ : ((0 : Nat) < 3) = True := by decide
theorem nlt0_ : ((0 : Nat) < 0) = False := by decide
theorem neq10_ : ((1 : Nat) = 0) = False := by decide
theorem neq01_ : ((0 : Nat) = 1) = False := by decide
theorem neq20_ : ((2 : Nat) = 0) = False := by decide
theorem neq30_ : ((3 : Nat) = 0) = False := by decide
theorem neq21_ : ((2 : Nat) = 1) = False := by decide
theorem neq31_ : ((3 : Nat) = 1) = False := by decide
theorem neq12_ : ((1 : Nat) = 2) = False := by decide
theorem neq32_ : ((3 : Nat) = 2) = False := by decide
theorem neq00_ : ((0 : Nat) = 0) = True := by decide
theorem neq11_ : ((1 : Nat) = 1) = True := by decide
/-- from k - 1 down to 0 -/
def fdd {α : Type} (f : Nat → α → α) : Nat → α → α
  | 0, a => a
  | k+1, a => fdd f k (f k a)
def dN (k : Nat) : Int32 := if k = 0 then M1 else N (k - 1)
theorem dN_0 : dN 0 = M1 := rfl
theorem dN_s (k : Nat) : dN (k + 1) = N k := rfl
theorem dN_d (k : Nat) : N k + M1 = dN k := by
  cases k with
  | zero => exact N0_dec
  | succ k => exact N_dec
theorem N_pred {k : Nat} : N k - N 1 = dN k := by
  rw [← dN_d]; show N k - N 1 = N k + (-N 1)
  rw [Int32.sub_eq_add_neg]
theorem fdd_congr {α : Type} {f g : Nat → α → α} (k : Nat) : ∀ (a : α), (∀ j, j < k → ∀ a, f j a = g j a) → fdd f k a = fdd g k a := by
  induction k with
  | zero => intro a _; rfl
  | succ k ih => intro a h; rw [fdd, fdd, h k (by omega)]; exact ih _ fun j hj => h j (by omega)
