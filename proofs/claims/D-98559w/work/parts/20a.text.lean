/-! THE PLAIN LAW, 50: texts: what is read, purely -/
set_option maxRecDepth 100000
/-- on while P holds, at most d steps -/
def wh (P : Nat → Prop) [∀ i, Decidable (P i)] : Nat → Nat → Nat
  | 0, k => k
  | d+1, k => if P k then wh P d (k + 1) else k
theorem wh_ge {P : Nat → Prop} [∀ i, Decidable (P i)] : ∀ d k, k ≤ wh P d k
  | 0, k => Nat.le_refl k
  | d+1, k => by
    rw [wh]
    split
    · exact Nat.le_trans (Nat.le_succ k) (wh_ge d (k + 1))
    · exact Nat.le_refl k
theorem wh_le {P : Nat → Prop} [∀ i, Decidable (P i)] : ∀ d k, wh P d k ≤ k + d
  | 0, k => Nat.le_refl k
  | d+1, k => by
    rw [wh]
    split
    · have := wh_le (P := P) d (k + 1); omega
    · omega
theorem wh_in {P : Nat → Prop} [∀ i, Decidable (P i)] : ∀ d k j, k ≤ j → j < wh P d k → P j
  | 0, k, j, h1, h2 => by rw [wh] at h2; omega
  | d+1, k, j, h1, h2 => by
    rw [wh] at h2
    split at h2
    · next h =>
      by_cases e : j = k
      · rw [e]; exact h
      · exact wh_in d (k + 1) j (by omega) h2
    · omega
theorem wh_at {P : Nat → Prop} [∀ i, Decidable (P i)] : ∀ d k, ¬ P (k + d) → ¬ P (wh P d k)
  | 0, k, h => h
  | d+1, k, h => by
    rw [wh]
    split
    · exact wh_at d (k + 1) (by rwa [show k + 1 + d = k + (d + 1) by omega])
    · next h => exact h
/-- T: the bytes, 256 from the end on -/
def TX (T : Nat → Nat) (e : Nat) : Prop := e ≤ 400 ∧ (∀ k, k < e → T k < 256) ∧ ∀ k, e ≤ k → T k = 256
def sk (T : Nat → Nat) (e k : Nat) : Nat := wh (fun j => T j = 32) (e - k) k
def wd (T : Nat → Nat) (e k : Nat) : Nat := wh (fun j => 97 ≤ T j ∧ T j ≤ 122) (e - k) k
def dg (T : Nat → Nat) (e k : Nat) : Nat := wh (fun j => 48 ≤ T j ∧ T j ≤ 57) (e - k) k
section
variable {T : Nat → Nat} {e k : Nat}
theorem TX.l (h : TX T e) : T k ≤ 256 := by
  by_cases hk : k < e
  · have := h.2.1 k hk; omega
  · rw [h.2.2 k (by omega)]; omega
theorem TX.lt (h : TX T e) (hk : T k ≠ 256) : k < e := Decidable.byContradiction fun z => hk (h.2.2 k (by omega))
theorem sk_ge : k ≤ sk T e k := wh_ge _ _
theorem sk_le (h : k ≤ e) : sk T e k ≤ e := by have := wh_le (P := fun j => T j = 32) (e - k) k; unfold sk; omega
theorem sk_at (h : TX T e) (hk : k ≤ e) : T (sk T e k) ≠ 32 := wh_at (P := fun j => T j = 32) (e - k) k (by show ¬ T (k + (e - k)) = 32; rw [h.2.2 _ (by omega)]; omega)
theorem sk_eq (hk : T k ≠ 32) : sk T e k = k := by
  unfold sk
  cases e - k with
  | zero => rfl
  | succ d => rw [wh, if_neg hk]
theorem sk_sk (h : TX T e) (hk : k ≤ e) : sk T e (sk T e k) = sk T e k := sk_eq (sk_at h hk)
theorem wd_ge : k ≤ wd T e k := wh_ge _ _
theorem wd_le (h : k ≤ e) : wd T e k ≤ e := by have := wh_le (P := fun j => 97 ≤ T j ∧ T j ≤ 122) (e - k) k; unfold wd; omega
theorem dg_ge : k ≤ dg T e k := wh_ge _ _
theorem dg_le (h : k ≤ e) : dg T e k ≤ e := by have := wh_le (P := fun j => 48 ≤ T j ∧ T j ≤ 57) (e - k) k; unfold dg; omega
theorem wd_in {j : Nat} (h1 : k ≤ j) (h2 : j < wd T e k) : 97 ≤ T j ∧ T j ≤ 122 := wh_in (P := fun j => 97 ≤ T j ∧ T j ≤ 122) _ k j h1 h2
theorem dg_in {j : Nat} (h1 : k ≤ j) (h2 : j < dg T e k) : 48 ≤ T j ∧ T j ≤ 57 := wh_in (P := fun j => 48 ≤ T j ∧ T j ≤ 57) _ k j h1 h2
theorem dg_pos (hk : k < e) (h : 48 ≤ T k ∧ T k ≤ 57) : k < dg T e k := by
  unfold dg
  rw [show e - k = (e - k - 1) + 1 by omega, wh, if_pos h]
  exact wh_ge _ _
theorem dg_no (h : ¬ (48 ≤ T k ∧ T k ≤ 57)) : dg T e k = k := by
  unfold dg
  cases e - k with
  | zero => rfl
  | succ d => rw [wh, if_neg h]
end
/-- the word at k is w -/
def isW (T : Nat → Nat) (e k : Nat) (w : List Nat) : Bool := decide (wd T e k - k = w.length) && (List.range w.length).all fun i => T (k + i) == w.getD i 0
theorem isW_iff {T : Nat → Nat} {e k : Nat} {w : List Nat} : isW T e k w = true ↔ wd T e k - k = w.length ∧ ∀ i, i < w.length → T (k + i) = w.getD i 0 := by
  unfold isW
  rw [Bool.and_eq_true, decide_eq_true_iff, List.all_eq_true]
  refine and_congr_right fun _ => ⟨fun h i hi => ?_, fun h i hi => ?_⟩
  · exact eq_of_beq (h i (List.mem_range.mpr hi))
  · rw [h i (List.mem_range.mp hi)]; exact beq_self_eq_true _
/-- the number of n figures from k on -/
def nv (T : Nat → Nat) (k : Nat) : Nat → Nat
  | 0 => 0
  | n+1 => 10 * nv T k n + (T (k + n) - 48)
theorem nv_lt {T : Nat → Nat} {k : Nat} : ∀ n, (∀ j, j < n → 48 ≤ T (k + j) ∧ T (k + j) ≤ 57) → nv T k n < 10 ^ n
  | 0, _ => Nat.zero_lt_one
  | n+1, h => by
    have h1 := nv_lt n fun j hj => h j (by omega)
    have h2 := h n (by omega)
    rw [nv, Nat.pow_succ]; omega
/-- what is read: the place of the first wrong byte, or what it is and where it goes on -/
abbrev PR (α : Type) := Except Nat (α × Nat)
/-- a number of lo to n - 1, of at most three figures -/
def numP (T : Nat → Nat) (e lo n k : Nat) : PR Nat :=
  let k1 := sk T e k
  let k2 := dg T e k1
  let v := nv T k1 (k2 - k1)
  if k2 = k1 ∨ 3 < k2 - k1 ∨ v < lo ∨ n ≤ v then .error k1 else .ok (v, k2)
/-! words -/
def wWho : List Nat := [119, 104, 111]
def wHour : List Nat := [104, 111, 117, 114]
def wHook : List Nat := [104, 111, 111, 107]
def wMarks : List Nat := [109, 97, 114, 107, 115]
def wHung : List Nat := [104, 117, 110, 103]
def wFree : List Nat := [102, 114, 101, 101]
def wNot : List Nat := [110, 111, 116]
def wOwn : List Nat := [111, 119, 110]
def wWed : List Nat := [119, 101, 100]
def wAnd : List Nat := [97, 110, 100]
def wOr : List Nat := [111, 114]
def wIf : List Nat := [105, 102]
def wHand : List Nat := [104, 97, 110, 100]
def wFetch : List Nat := [102, 101, 116, 99, 104]
def factP (T : Nat → Nat) (e k : Nat) : Option Nat := if isW T e k wWho = true then some 0 else if isW T e k wHour = true then some 1 else if isW T e k wHook = true then some 2 else if isW T e k wMarks = true then some 3 else if isW T e k wHung = true then some 4 else if isW T e k wFree = true then some 5 else none
/-- one thing behind another -/
def pb {α β : Type} (r : PR α) (f : α → Nat → PR β) : PR β := match r with
  | .error p => .error p
  | .ok o => f o.1 o.2
/-- a sum of one part, of more -/
abbrev Sm := (Nat → Int32) → Int32
abbrev Cn := (Nat → Int32) → Bool
def partP (T : Nat → Nat) (e k : Nat) : PR Sm :=
  if 48 ≤ T (sk T e k) ∧ T (sk T e k) ≤ 57 then pb (numP T e 0 1000 k) fun v k2 => .ok ((fun _ => N v), k2)
  else match factP T e (sk T e k) with
    | some j => .ok ((fun E => E j), wd T e (sk T e k))
    | none => .error (sk T e k)
def sumL (T : Nat → Nat) (e : Nat) : Nat → Sm → Nat → PR Sm
  | 0, _, k => .error k
  | n+1, f, k => if T (sk T e k) = 43 then pb (partP T e (sk T e k + 1)) fun g k2 => sumL T e n (fun E => f E + g E) k2 else .ok (f, sk T e k)
def sumP (T : Nat → Nat) (e k : Nat) : PR Sm := pb (partP T e k) (sumL T e 401)
def lessP (T : Nat → Nat) (e : Nat) (f : Sm) (k : Nat) : PR Cn :=
  if T (sk T e k) = 60 then pb (sumP T e (sk T e k + 1)) fun g k4 => .ok ((fun E => decide (f E < g E)), k4)
  else if T (sk T e k) = 62 then pb (sumP T e (sk T e k + 1)) fun g k4 => .ok ((fun E => decide (g E < f E)), k4)
  else .error (sk T e k)
def plainP (T : Nat → Nat) (e k : Nat) : PR Cn :=
  if isW T e k wOwn = true then .ok ((fun E => E 6 == N 1), wd T e k)
  else if isW T e k wWed = true then .ok ((fun E => E 7 == N 1), wd T e k)
  else pb (sumP T e k) (lessP T e)
/-- many, with a word between -/
def manyL (T : Nat → Nat) (e : Nat) (w : List Nat) (op : Bool → Bool → Bool) (Rf : Nat → PR Cn) : Nat → Cn → Nat → PR Cn
  | 0, _, k => .error k
  | n+1, c, k => if isW T e (sk T e k) w = true then pb (Rf (wd T e (sk T e k))) fun c' k2 => manyL T e w op Rf n (fun E => op (c E) (c' E)) k2 else .ok (c, sk T e k)
def manyP (T : Nat → Nat) (e : Nat) (w : List Nat) (op : Bool → Bool → Bool) (Rf : Nat → PR Cn) (k : Nat) : PR Cn := pb (Rf k) (manyL T e w op Rf 401)
def everyP (T : Nat → Nat) (e : Nat) (Rf : Nat → PR Cn) (k : Nat) : PR Cn := manyP T e wAnd and Rf k
def someP (T : Nat → Nat) (e : Nat) (Rf : Nat → PR Cn) (k : Nat) : PR Cn := manyP T e wOr or (everyP T e Rf) k
def closeP (T : Nat → Nat) (e : Nat) (c : Cn) (k : Nat) : PR Cn := if T (sk T e k) = 41 then .ok (c, sk T e k + 1) else .error (sk T e k)
/-- dd: how deep -/
def atomR (T : Nat → Nat) (e : Nat) (Rf : Nat → Nat → PR Cn) (dd k : Nat) : PR Cn :=
  if isW T e (sk T e k) wNot = true then (if dd = 6 then .error (sk T e k) else pb (Rf (dd + 1) (wd T e (sk T e k))) fun c k2 => .ok ((fun E => !c E), k2))
  else if T (sk T e k) = 40 then (if dd = 6 then .error (sk T e k) else pb (someP T e (Rf (dd + 1)) (sk T e k + 1)) (closeP T e))
  else plainP T e (sk T e k)
def atomP (T : Nat → Nat) (e : Nat) : Nat → Nat → Nat → PR Cn
  | 0 => fun _ k => .error k
  | d+1 => atomR T e (atomP T e d)
/-- a line: hand or fetch; when -/
def whenP (T : Nat → Nat) (e : Nat) (h : Bool) (k : Nat) : PR (Bool × Option Cn) :=
  if isW T e (sk T e k) wIf = true then pb (someP T e (atomP T e 8 0) (wd T e (sk T e k))) fun c k3 => .ok ((h, some c), k3)
  else .ok ((h, none), sk T e k)
def lineP (T : Nat → Nat) (e k : Nat) : PR (Bool × Option Cn) :=
  if isW T e (sk T e k) wHand = true then whenP T e true (wd T e (sk T e k))
  else if isW T e (sk T e k) wFetch = true then whenP T e false (wd T e (sk T e k))
  else .error (sk T e k)
def lawL (T : Nat → Nat) (e : Nat) : Nat → List (Bool × Option Cn) → Nat → PR (List (Bool × Option Cn))
  | 0, _, k => .error (sk T e k)
  | n+1, l, k => pb (lineP T e k) fun x k2 => if sk T e k2 = e then .ok (l ++ [x], e) else if T (sk T e k2) = 59 then lawL T e n (l ++ [x]) (sk T e k2 + 1) else .error (sk T e k2)
def lawP (T : Nat → Nat) (e : Nat) : PR (List (Bool × Option Cn)) := if sk T e 0 = e then .ok ([], e) else lawL T e 12 [] (sk T e 0)
