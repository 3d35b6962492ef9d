/-! what each method computes (printed by walk.py) -/
set_option maxRecDepth 100000
def FJ0_fill_5 (y0 : Option Nat) (y1 : Int32) (y3 : Int32) : Nat → Int32 → Mm → (Mm → Option (Mm)) → Option (Mm)
  | 0, _, _, _ => none
  | n+1, v2, σ, kx20 =>
    (if y3 ≤ v2 then (
    kx20 σ) else (
    (sI y0 v2 y1 σ).bind fun σ22 =>
    FJ0_fill_5 y0 y1 y3 n (v2 + 1) σ22 kx20))
def FJ0_fill (x0 : Option Nat) (x1 : Int32) (σ : Mm) : Option (Mm) :=
(aL 100 x0 σ).bind fun x21 =>
FJ0_fill_5 x0 x1 x21 fu 0 σ (fun  (σ : Mm) => (
some σ))
def FX2_init (h0 : Nat) (σ : Mm) : Option (Mm) :=
(pI 2 2 (some h0) 6 σ).bind fun σ21 =>
(pI 2 7 (some h0) 1 σ21).bind fun σ22 =>
(nA 100 10 σ22).bind fun (x23, σ24) =>
(pR 2 8 (some h0) x23 σ24).bind fun σ25 =>
(nA 100 10 σ25).bind fun (x26, σ27) =>
(pR 2 9 (some h0) x26 σ27).bind fun σ28 =>
(nA 100 10 σ28).bind fun (x29, σ30) =>
(pR 2 10 (some h0) x29 σ30).bind fun σ31 =>
(nA 100 10 σ31).bind fun (x32, σ33) =>
(pR 2 11 (some h0) x32 σ33).bind fun σ34 =>
(nA 100 10 σ34).bind fun (x35, σ36) =>
(pR 2 12 (some h0) x35 σ36).bind fun σ37 =>
(nA 100 10 σ37).bind fun (x38, σ39) =>
(pR 2 13 (some h0) x38 σ39).bind fun σ40 =>
(nA 100 100 σ40).bind fun (x41, σ42) =>
(pR 2 14 (some h0) x41 σ42).bind fun σ43 =>
(nA 100 100 σ43).bind fun (x44, σ45) =>
(pR 2 15 (some h0) x44 σ45).bind fun σ46 =>
(nA 100 10 σ46).bind fun (x47, σ48) =>
(pR 2 16 (some h0) x47 σ48).bind fun σ49 =>
(nA 100 12 σ49).bind fun (x50, σ51) =>
(pR 2 17 (some h0) x50 σ51).bind fun σ52 =>
(nA 100 300 σ52).bind fun (x53, σ54) =>
(pR 2 18 (some h0) x53 σ54).bind fun σ55 =>
(gR 2 17 (some h0) σ55).bind fun x56 =>
(FJ0_fill x56 (-1) σ55).bind fun σ57 =>
some σ57
def FX3_init (h0 : Nat) (σ : Mm) : Option (Mm) :=
(nA 101 400 σ).bind fun (x21, σ22) =>
(pR 3 0 (some h0) x21 σ22).bind fun σ23 =>
(pI 3 5 (some h0) (-1) σ23).bind fun σ24 =>
some σ24
def FX4_init (h0 : Nat) (σ : Mm) : Option (Mm) :=
some σ
def FJ1_init (h0 : Nat) (σ : Mm) : Option (Mm) :=
some σ
def FJ2_init (h0 : Nat) (σ : Mm) : Option (Mm) :=
ck 17 h0 σ <|
(FJ1_init h0 σ).bind fun σ22 =>
(pI 17 0 (some h0) 0 σ22).bind fun σ23 =>
some σ23
def FJ3_init (h0 : Nat) (σ : Mm) : Option (Mm) :=
ck 17 h0 σ <|
(FJ2_init h0 σ).bind fun σ22 =>
(pR 17 1 (some h0) (some (BIG + 122)) σ22).bind fun σ23 =>
some σ23
def FX5_init (h0 : Nat) (x1 : Option Nat) (σ : Mm) : Option (Mm) :=
(pR 5 3 (some h0) x1 σ).bind fun σ21 =>
(nA 100 10 σ21).bind fun (x22, σ23) =>
(pR 5 0 (some h0) x22 σ23).bind fun σ24 =>
(nA 100 10 σ24).bind fun (x25, σ26) =>
(pR 5 1 (some h0) x25 σ26).bind fun σ27 =>
some σ27
def FX6_init (h0 : Nat) (x1 : Option Nat) (σ : Mm) : Option (Mm) :=
(pR 6 2 (some h0) x1 σ).bind fun σ21 =>
(nA 100 10 σ21).bind fun (x22, σ23) =>
(pR 6 0 (some h0) x22 σ23).bind fun σ24 =>
(nA 100 1024 σ24).bind fun (x25, σ26) =>
(pR 6 1 (some h0) x25 σ26).bind fun σ27 =>
some σ27
def FX7_init (h0 : Nat) (x1 : Option Nat) (σ : Mm) : Option (Mm) :=
(pR 7 3 (some h0) x1 σ).bind fun σ21 =>
(nA 100 10 σ21).bind fun (x22, σ23) =>
(pR 7 0 (some h0) x22 σ23).bind fun σ24 =>
(nA 100 10240 σ24).bind fun (x25, σ26) =>
(pR 7 1 (some h0) x25 σ26).bind fun σ27 =>
some σ27
def FX1_init (h0 : Nat) (σ : Mm) : Option (Mm) :=
(nO 2 σ).bind fun (x21, σ22) =>
(rv 2 x21 σ22).bind fun q23 =>
(FX2_init q23 σ22).bind fun σ25 =>
(pR 1 0 (some h0) x21 σ25).bind fun σ26 =>
(nO 2 σ26).bind fun (x27, σ28) =>
(rv 2 x27 σ28).bind fun q29 =>
(FX2_init q29 σ28).bind fun σ31 =>
(pR 1 1 (some h0) x27 σ31).bind fun σ32 =>
(nO 2 σ32).bind fun (x33, σ34) =>
(rv 2 x33 σ34).bind fun q35 =>
(FX2_init q35 σ34).bind fun σ37 =>
(pR 1 2 (some h0) x33 σ37).bind fun σ38 =>
(nO 3 σ38).bind fun (x39, σ40) =>
(rv 3 x39 σ40).bind fun q41 =>
(FX3_init q41 σ40).bind fun σ43 =>
(pR 1 4 (some h0) x39 σ43).bind fun σ44 =>
(nO 4 σ44).bind fun (x45, σ46) =>
(rv 4 x45 σ46).bind fun q47 =>
(FX4_init q47 σ46).bind fun σ49 =>
(pR 1 5 (some h0) x45 σ49).bind fun σ50 =>
(nO 17 σ50).bind fun (x51, σ52) =>
(rv 17 x51 σ52).bind fun q53 =>
(FJ3_init q53 σ52).bind fun σ55 =>
(pR 1 6 (some h0) x51 σ55).bind fun σ56 =>
(nO 5 σ56).bind fun (x57, σ58) =>
(rv 5 x57 σ58).bind fun q59 =>
(FX5_init q59 (some h0) σ58).bind fun σ61 =>
(pR 1 7 (some h0) x57 σ61).bind fun σ62 =>
(nO 6 σ62).bind fun (x63, σ64) =>
(rv 6 x63 σ64).bind fun q65 =>
(FX6_init q65 (some h0) σ64).bind fun σ67 =>
(pR 1 8 (some h0) x63 σ67).bind fun σ68 =>
(nO 7 σ68).bind fun (x69, σ70) =>
(rv 7 x69 σ70).bind fun q71 =>
(FX7_init q71 (some h0) σ70).bind fun σ73 =>
(pR 1 9 (some h0) x69 σ73).bind fun σ74 =>
(nO 2 σ74).bind fun (x75, σ76) =>
(rv 2 x75 σ76).bind fun q77 =>
(FX2_init q77 σ76).bind fun σ79 =>
(pR 1 10 (some h0) x75 σ79).bind fun σ80 =>
some σ80
def FX3_add_39 (h0 : Nat) (y2 : Option Nat) (y3 : Int32) (y4 : Int32) (y5 : Int32) : Nat → Int32 → Mm → (Mm → Option (Int32 × Mm)) → Option (Int32 × Mm)
  | 0, _, _, _ => none
  | n+1, v6, σ, kx75 =>
    (if v6 < 0 then (
    kx75 σ) else (
    (gR 3 0 (some h0) σ).bind fun x24 =>
    (gI 3 1 (some h0) σ).bind fun x25 =>
    (sB x24 x25 ((y5 >>> (v6 &&& 31)).toInt8.toInt32) σ).bind fun σ26 =>
    (gI 3 1 (some h0) σ26).bind fun x27 =>
    (pI 3 1 (some h0) (x27 + 1) σ26).bind fun σ28 =>
    FX3_add_39 h0 y2 y3 y4 y5 n (v6 + (-8)) σ28 kx75))
def FX3_add_23 (h0 : Nat) (y2 : Option Nat) (y3 : Int32) : Nat → Int32 → Mm → (Mm → Option (Int32 × Mm)) → Option (Int32 × Mm)
  | 0, _, _, _ => none
  | n+1, v4, σ, kx81 =>
    (if y3 ≤ v4 then (
    kx81 σ) else (
    (aI 100 y2 v4 σ).bind fun x23 =>
    FX3_add_39 h0 y2 y3 v4 x23 fu 24 σ (fun  (σ : Mm) => (
    FX3_add_23 h0 y2 y3 n (v4 + 1) σ kx81))))
def FX3_add (h0 : Nat) (x1 : Option Nat) (σ : Mm) : Option (Int32 × Mm) :=
(gI 3 1 (some h0) σ).bind fun x21 =>
(if (x21 + 20) ≤ 400 then (
(aL 100 x1 σ).bind fun x22 =>
FX3_add_23 h0 x1 x22 fu 0 σ (fun  (σ : Mm) => (
(gI 3 1 (some h0) σ).bind fun x31 =>
some (x31, σ)))) else (
some ((-1), σ)))
def FX1_feed (h0 : Nat) (x1 : Int32) (x2 : Int32) (x3 : Int32) (x4 : Int32) (x5 : Int32) (σ : Mm) : Option (Int32 × Mm) :=
(gR 1 4 (some h0) σ).bind fun x21 =>
(nA 100 5 σ).bind fun (x22, σ23) =>
(sI x22 0 x1 σ23).bind fun σ24 =>
(sI x22 1 x2 σ24).bind fun σ25 =>
(sI x22 2 x3 σ25).bind fun σ26 =>
(sI x22 3 x4 σ26).bind fun σ27 =>
(sI x22 4 x5 σ27).bind fun σ28 =>
(rv 3 x21 σ28).bind fun q29 =>
(FX3_add q29 x22 σ28).bind fun (x31, σ32) =>
some (x31, σ32)
def FX3_cut (h0 : Nat) (x1 : Int32) (σ : Mm) : Option (Int32 × Mm) :=
(if x1 < 0 then (
rZ 0 σ) else (
(gI 3 1 (some h0) σ).bind fun x21 =>
(if x1 ≤ x21 then (
(pI 3 1 (some h0) x1 σ).bind fun σ22 =>
rZ 1 σ22) else (
rZ 0 σ))))
def FX1_end (h0 : Nat) (x1 : Int32) (σ : Mm) : Option (Int32 × Mm) :=
(gR 1 4 (some h0) σ).bind fun x21 =>
(rv 3 x21 σ).bind fun q22 =>
(FX3_cut q22 x1 σ).bind fun (x24, σ25) =>
rZ x24 σ25
def FX1_fault (h0 : Nat) (σ : Mm) : Option (Int32 × Mm) :=
(gR 1 4 (some h0) σ).bind fun x21 =>
(gI 3 5 x21 σ).bind fun x22 =>
some (x22, σ)
def FX1_wrongOf_4 (y0 : Option Nat) : Nat → Int32 → Int32 → Mm → (Int32 → Mm → Option (Int32 × Mm)) → Option (Int32 × Mm)
  | 0, _, _, _, _ => none
  | n+1, v1, v2, σ, kx48 =>
    (gI 2 1 y0 σ).bind fun x21 =>
    (if x21 ≤ v2 then (
    kx48 v1 σ) else (
    (gR 2 10 y0 σ).bind fun x22 =>
    (aI 100 x22 v2 σ).bind fun x23 =>
    jn (fun (z24 : Int32) (σ : Mm) => (
    FX1_wrongOf_4 y0 n (v1 ||| z24) (v2 + 1) σ kx48)) fun J40 =>
    (if x23 = (-1) then (
    J40 0 σ) else (
    (gR 2 10 y0 σ).bind fun x25 =>
    (aI 100 x25 v2 σ).bind fun x26 =>
    (if x26 = v2 then (
    J40 0 σ) else (
    J40 (1 <<< (v2 &&& 31)) σ))))))
def FX1_wrongOf (x0 : Option Nat) (σ : Mm) : Option (Int32 × Mm) :=
FX1_wrongOf_4 x0 fu 0 0 σ (fun (x30 : Int32) (σ : Mm) => (
some (x30, σ)))
def FX1_wrong (h0 : Nat) (σ : Mm) : Option (Int32 × Mm) :=
(gR 1 0 (some h0) σ).bind fun x21 =>
(FX1_wrongOf x21 σ).bind fun (x22, σ23) =>
some (x22, σ23)
def FX2_wearer_2 (h0 : Nat) (y1 : Int32) : Nat → Int32 → Mm → (Mm → Option (Int32 × Mm)) → (Int32 → Mm → Option (Int32 × Mm)) → Option (Int32 × Mm)
  | 0, _, _, _, _ => none
  | n+1, v2, σ, kx28, kx20 =>
    (gI 2 1 (some h0) σ).bind fun x21 =>
    (if x21 ≤ v2 then (
    kx28 σ) else (
    (gR 2 10 (some h0) σ).bind fun x22 =>
    (aI 100 x22 v2 σ).bind fun x23 =>
    (if x23 = y1 then (
    kx20 v2 σ) else (
    FX2_wearer_2 h0 y1 n (v2 + 1) σ kx28 kx20))))
def FX2_wearer (h0 : Nat) (x1 : Int32) (σ : Mm) : Option (Int32 × Mm) :=
FX2_wearer_2 h0 x1 fu 0 σ (fun  (σ : Mm) => (
some ((-1), σ))) (fun (x26 : Int32) (σ : Mm) => (
some (x26, σ)))
def FX2_hookOf_2 (h0 : Nat) (y1 : Int32) : Nat → Int32 → Mm → (Mm → Option (Int32 × Mm)) → (Int32 → Mm → Option (Int32 × Mm)) → Option (Int32 × Mm)
  | 0, _, _, _, _ => none
  | n+1, v2, σ, kx28, kx20 =>
    (gI 2 2 (some h0) σ).bind fun x21 =>
    (if x21 ≤ v2 then (
    kx28 σ) else (
    (gR 2 17 (some h0) σ).bind fun x22 =>
    (aI 100 x22 v2 σ).bind fun x23 =>
    (if x23 = y1 then (
    kx20 v2 σ) else (
    FX2_hookOf_2 h0 y1 n (v2 + 1) σ kx28 kx20))))
def FX2_hookOf (h0 : Nat) (x1 : Int32) (σ : Mm) : Option (Int32 × Mm) :=
FX2_hookOf_2 h0 x1 fu 0 σ (fun  (σ : Mm) => (
some ((-1), σ))) (fun (x26 : Int32) (σ : Mm) => (
some (x26, σ)))
def FX1_isLost (h0 : Nat) (x1 : Int32) (σ : Mm) : Option (Int32 × Mm) :=
(gR 1 0 (some h0) σ).bind fun x21 =>
(rv 2 x21 σ).bind fun q22 =>
(FX2_wearer q22 x1 σ).bind fun (x24, σ25) =>
(if x24 = (-1) then (
(gR 1 0 (some h0) σ25).bind fun x26 =>
(rv 2 x26 σ25).bind fun q27 =>
(FX2_hookOf q27 x1 σ25).bind fun (x29, σ30) =>
(if x29 = (-1) then (
rZ 1 σ30) else (
rZ 0 σ30))) else (
rZ 0 σ25))
def FX1_lost_4 (h0 : Nat) : Nat → Int32 → Int32 → Mm → (Int32 → Mm → Option (Int32 × Mm)) → Option (Int32 × Mm)
  | 0, _, _, _, _ => none
  | n+1, v1, v2, σ, kx39 =>
    (gR 1 0 (some h0) σ).bind fun x21 =>
    (gI 2 1 x21 σ).bind fun x22 =>
    (if x22 ≤ v2 then (
    kx39 v1 σ) else (
    ck 1 h0 σ <|
    (FX1_isLost h0 v2 σ).bind fun (x24, σ25) =>
    jn (fun (z26 : Int32) (σ : Mm) => (
    FX1_lost_4 h0 n (v1 ||| z26) (v2 + 1) σ kx39)) fun J31 =>
    (if x24 = 0 then (
    J31 0 σ25) else (
    J31 (1 <<< (v2 &&& 31)) σ25))))
def FX1_lost (h0 : Nat) (σ : Mm) : Option (Int32 × Mm) :=
FX1_lost_4 h0 fu 0 0 σ (fun (x29 : Int32) (σ : Mm) => (
some (x29, σ)))
def FX2_isTicket_2 (h0 : Nat) (y1 : Int32) : Nat → Int32 → Mm → (Mm → Option (Int32 × Mm)) → (Mm → Option (Int32 × Mm)) → Option (Int32 × Mm)
  | 0, _, _, _, _ => none
  | n+1, v2, σ, kx28, kx20 =>
    (gI 2 1 (some h0) σ).bind fun x21 =>
    (if x21 ≤ v2 then (
    kx28 σ) else (
    (gR 2 11 (some h0) σ).bind fun x22 =>
    (aI 100 x22 v2 σ).bind fun x23 =>
    (if x23 = y1 then (
    kx20 σ) else (
    FX2_isTicket_2 h0 y1 n (v2 + 1) σ kx28 kx20))))
def FX2_isTicket (h0 : Nat) (x1 : Int32) (σ : Mm) : Option (Int32 × Mm) :=
FX2_isTicket_2 h0 x1 fu 0 σ (fun  (σ : Mm) => (
rZ 0 σ)) (fun  (σ : Mm) => (
rZ 1 σ))
def FX1_unclaimed_4 (h0 : Nat) : Nat → Int32 → Int32 → Mm → (Int32 → Mm → Option (Int32 × Mm)) → Option (Int32 × Mm)
  | 0, _, _, _, _ => none
  | n+1, v1, v2, σ, kx63 =>
    (gR 1 0 (some h0) σ).bind fun x21 =>
    (gI 2 2 x21 σ).bind fun x22 =>
    (if x22 ≤ v2 then (
    kx63 v1 σ) else (
    (gR 1 0 (some h0) σ).bind fun x23 =>
    (gR 2 17 x23 σ).bind fun x24 =>
    (aI 100 x24 v2 σ).bind fun x25 =>
    jn (fun (z26 : Int32) (σ : Mm) => (
    FX1_unclaimed_4 h0 n (v1 ||| z26) (v2 + 1) σ kx63)) fun J55 =>
    (if x25 = (-1) then (
    J55 0 σ) else (
    (gR 1 0 (some h0) σ).bind fun x27 =>
    (rv 2 x27 σ).bind fun q28 =>
    (FX2_isTicket q28 v2 σ).bind fun (x30, σ31) =>
    (if x30 = 0 then (
    (gR 1 0 (some h0) σ31).bind fun x32 =>
    (gR 2 17 x32 σ31).bind fun x33 =>
    (aI 100 x33 v2 σ31).bind fun x34 =>
    J55 (1 <<< (x34 &&& 31)) σ31) else (
    J55 0 σ31))))))
def FX1_unclaimed (h0 : Nat) (σ : Mm) : Option (Int32 × Mm) :=
FX1_unclaimed_4 h0 fu 0 0 σ (fun (x38 : Int32) (σ : Mm) => (
some (x38, σ)))
def FX1_has (x0 : Int32) (x1 : Int32) (σ : Mm) : Option (Int32 × Mm) :=
(if ((x0 >>> (x1 &&& 31)) &&& 1) = 1 then (
rZ 1 σ) else (
rZ 0 σ))
def FX1_ringOf_4 (h0 : Nat) : Nat → Int32 → Int32 → Mm → (Int32 → Mm → Option (Int32 × Mm)) → Option (Int32 × Mm)
  | 0, _, _, _, _ => none
  | n+1, v2, v3, σ, kx35 =>
    (if v3 = (-1) then (
    kx35 v2 σ) else (
    (FX1_has v2 v3 σ).bind fun (x21, σ22) =>
    (if x21 = 0 then (
    (gR 1 0 (some h0) σ22).bind fun x23 =>
    (rv 2 x23 σ22).bind fun q24 =>
    (FX2_wearer q24 v3 σ22).bind fun (x26, σ27) =>
    FX1_ringOf_4 h0 n (v2 ||| (1 <<< (v3 &&& 31))) x26 σ27 kx35) else (
    kx35 v2 σ22))))
def FX1_ringOf (h0 : Nat) (x1 : Int32) (σ : Mm) : Option (Int32 × Mm) :=
FX1_ringOf_4 h0 fu 0 x1 σ (fun (x30 : Int32) (σ : Mm) => (
some (x30, σ)))
def FJ16_bitCount (x0 : Int32) (σ : Mm) : Option (Int32 × Mm) :=
some (((((((((x0 - ((ush x0 1) &&& 1431655765)) &&& 858993459) + ((ush (x0 - ((ush x0 1) &&& 1431655765)) 2) &&& 858993459)) + (ush (((x0 - ((ush x0 1) &&& 1431655765)) &&& 858993459) + ((ush (x0 - ((ush x0 1) &&& 1431655765)) 2) &&& 858993459)) 4)) &&& 252645135) + (ush (((((x0 - ((ush x0 1) &&& 1431655765)) &&& 858993459) + ((ush (x0 - ((ush x0 1) &&& 1431655765)) 2) &&& 858993459)) + (ush (((x0 - ((ush x0 1) &&& 1431655765)) &&& 858993459) + ((ush (x0 - ((ush x0 1) &&& 1431655765)) 2) &&& 858993459)) 4)) &&& 252645135) 8)) + (ush ((((((x0 - ((ush x0 1) &&& 1431655765)) &&& 858993459) + ((ush (x0 - ((ush x0 1) &&& 1431655765)) 2) &&& 858993459)) + (ush (((x0 - ((ush x0 1) &&& 1431655765)) &&& 858993459) + ((ush (x0 - ((ush x0 1) &&& 1431655765)) 2) &&& 858993459)) 4)) &&& 252645135) + (ush (((((x0 - ((ush x0 1) &&& 1431655765)) &&& 858993459) + ((ush (x0 - ((ush x0 1) &&& 1431655765)) 2) &&& 858993459)) + (ush (((x0 - ((ush x0 1) &&& 1431655765)) &&& 858993459) + ((ush (x0 - ((ush x0 1) &&& 1431655765)) 2) &&& 858993459)) 4)) &&& 252645135) 8)) 16)) &&& 63), σ)
def FJ16_numberOfTrailingZeros (x0 : Int32) (σ : Mm) : Option (Int32 × Mm) :=
(if 0 < ((x0 ^^^ (-1)) &&& (x0 - 1)) then (
jn (fun (x21 : Int32) (x22 : Int32) (σ : Mm) => (
jn (fun (x23 : Int32) (x24 : Int32) (σ : Mm) => (
jn (fun (x25 : Int32) (x26 : Int32) (σ : Mm) => (
jn (fun (x27 : Int32) (x28 : Int32) (σ : Mm) => (
some ((x28 + (ush x27 1)), σ))) fun J74 =>
(if x25 ≤ 4 then (
J74 x25 x26 σ) else (
J74 (ush x25 2) (x26 + 2) σ)))) fun J62 =>
(if x23 ≤ 16 then (
J62 x23 x24 σ) else (
J62 (ush x23 4) (x24 + 4) σ)))) fun J49 =>
(if x21 ≤ 256 then (
J49 x21 x22 σ) else (
J49 (ush x21 8) (x22 + 8) σ)))) fun J34 =>
(if ((x0 ^^^ (-1)) &&& (x0 - 1)) ≤ 65536 then (
J34 ((x0 ^^^ (-1)) &&& (x0 - 1)) 1 σ) else (
J34 (ush ((x0 ^^^ (-1)) &&& (x0 - 1)) 16) (1 + 16) σ))) else (
some ((((x0 ^^^ (-1)) &&& (x0 - 1)) &&& 32), σ)))
def FX1_isClosed_11 (h0 : Nat) (y1 : Int32) : Nat → Int32 → Int32 → Mm → (Mm → Option (Int32 × Mm)) → (Mm → Option (Int32 × Mm)) → Option (Int32 × Mm)
  | 0, _, _, _, _, _ => none
  | n+1, v2, v3, σ, kx44, kx27 =>
    (if 10 ≤ v3 then (
    kx44 σ) else (
    (if v2 = (-1) then (
    kx44 σ) else (
    (if v2 = y1 then (
    kx27 σ) else (
    (gR 1 0 (some h0) σ).bind fun x26 =>
    (rv 2 x26 σ).bind fun q27 =>
    (FX2_wearer q27 v2 σ).bind fun (x29, σ30) =>
    FX1_isClosed_11 h0 y1 n x29 (v3 + 1) σ30 kx44 kx27))))))
def FX1_isClosed (h0 : Nat) (x1 : Int32) (σ : Mm) : Option (Int32 × Mm) :=
(gR 1 0 (some h0) σ).bind fun x21 =>
(rv 2 x21 σ).bind fun q22 =>
(FX2_wearer q22 x1 σ).bind fun (x24, σ25) =>
FX1_isClosed_11 h0 x1 fu x24 0 σ25 (fun  (σ : Mm) => (
rZ 0 σ)) (fun  (σ : Mm) => (
rZ 1 σ))
def FX1_begins (h0 : Nat) (x1 : Int32) (σ : Mm) : Option (Int32 × Mm) :=
ck 1 h0 σ <|
(FX1_ringOf h0 x1 σ).bind fun (x22, σ23) =>
(FJ16_bitCount x22 σ23).bind fun (x24, σ25) =>
(if x24 ≤ 1 then (
rZ 0 σ25) else (
(FJ16_numberOfTrailingZeros x22 σ25).bind fun (x26, σ27) =>
(if x26 = x1 then (
ck 1 h0 σ27 <|
(FX1_isClosed h0 x1 σ27).bind fun (x29, σ30) =>
(if x29 = 0 then (
rZ 0 σ30) else (
rZ 1 σ30))) else (
rZ 0 σ27))))
def FX1_swaps_4 (h0 : Nat) : Nat → Int32 → Int32 → Mm → (Int32 → Mm → Option (Int32 × Mm)) → Option (Int32 × Mm)
  | 0, _, _, _, _ => none
  | n+1, v1, v2, σ, kx66 =>
    (gR 1 0 (some h0) σ).bind fun x21 =>
    (gI 2 1 x21 σ).bind fun x22 =>
    (if x22 ≤ v2 then (
    kx66 v1 σ) else (
    ck 1 h0 σ <|
    (FX1_isLost h0 v2 σ).bind fun (x24, σ25) =>
    jn (fun (z26 : Int32) (σ : Mm) => (
    ck 1 h0 σ <|
    (FX1_begins h0 v2 σ).bind fun (x28, σ29) =>
    jn (fun (z30 : Int32) (σ : Mm) => (
    FX1_swaps_4 h0 n ((v1 + z26) - z30) (v2 + 1) σ kx66)) fun J58 =>
    (if x28 = 0 then (
    J58 0 σ29) else (
    J58 1 σ29)))) fun J42 =>
    (if x24 = 0 then (
    (gR 1 0 (some h0) σ25).bind fun x32 =>
    (gR 2 10 x32 σ25).bind fun x33 =>
    (aI 100 x33 v2 σ25).bind fun x34 =>
    (if x34 = v2 then (
    J42 0 σ25) else (
    J42 1 σ25))) else (
    J42 0 σ25))))
def FX1_swaps (h0 : Nat) (σ : Mm) : Option (Int32 × Mm) :=
FX1_swaps_4 h0 fu 0 0 σ (fun (x38 : Int32) (σ : Mm) => (
some (x38, σ)))
def FX1_saved_4 (h0 : Nat) : Nat → Int32 → Int32 → Mm → (Int32 → Mm → Option (Int32 × Mm)) → Option (Int32 × Mm)
  | 0, _, _, _, _ => none
  | n+1, v1, v2, σ, kx72 =>
    (gR 1 0 (some h0) σ).bind fun x21 =>
    (gI 2 1 x21 σ).bind fun x22 =>
    (if x22 ≤ v2 then (
    kx72 v1 σ) else (
    (gR 1 0 (some h0) σ).bind fun x23 =>
    (gR 2 12 x23 σ).bind fun x24 =>
    (aI 100 x24 v2 σ).bind fun x25 =>
    jn (fun (z26 : Int32) (σ : Mm) => (
    FX1_saved_4 h0 n (v1 ||| z26) (v2 + 1) σ kx72)) fun J64 =>
    (if x25 = (-1) then (
    J64 0 σ) else (
    (gR 1 0 (some h0) σ).bind fun x27 =>
    (gR 2 10 x27 σ).bind fun x28 =>
    (aI 100 x28 v2 σ).bind fun x29 =>
    (if x29 = x25 then (
    (gR 1 0 (some h0) σ).bind fun x30 =>
    (gR 2 10 x30 σ).bind fun x31 =>
    (aI 100 x31 x25 σ).bind fun x32 =>
    (if x32 = v2 then (
    J64 (1 <<< (v2 &&& 31)) σ) else (
    J64 0 σ))) else (
    J64 0 σ))))))
def FX1_saved (h0 : Nat) (σ : Mm) : Option (Int32 × Mm) :=
FX1_saved_4 h0 fu 0 0 σ (fun (x37 : Int32) (σ : Mm) => (
some (x37, σ)))
def FX1_areUnlike_15 (h0 : Nat) (y1 : Int32) (y2 : Int32) : Nat → Int32 → Mm → (Mm → Option (Int32 × Mm)) → (Mm → Option (Int32 × Mm)) → Option (Int32 × Mm)
  | 0, _, _, _, _ => none
  | n+1, v3, σ, kx52, kx44 =>
    (if y2 ≤ v3 then (
    kx52 σ) else (
    (gR 1 0 (some h0) σ).bind fun x23 =>
    (gR 2 8 x23 σ).bind fun x24 =>
    (aI 100 x24 y2 σ).bind fun x25 =>
    (gR 1 0 (some h0) σ).bind fun x26 =>
    (gR 2 8 x26 σ).bind fun x27 =>
    (aI 100 x27 v3 σ).bind fun x28 =>
    (if ((x25 ^^^ x28) &&& y1) = 0 then (
    kx44 σ) else (
    FX1_areUnlike_15 h0 y1 y2 n (v3 + 1) σ kx52 kx44))))
def FX1_areUnlike_2 (h0 : Nat) (y1 : Int32) : Nat → Int32 → Mm → (Mm → Option (Int32 × Mm)) → (Mm → Option (Int32 × Mm)) → Option (Int32 × Mm)
  | 0, _, _, _, _ => none
  | n+1, v2, σ, kx58, kx44 =>
    (gR 1 0 (some h0) σ).bind fun x21 =>
    (gI 2 1 x21 σ).bind fun x22 =>
    (if x22 ≤ v2 then (
    kx58 σ) else (
    FX1_areUnlike_15 h0 y1 v2 fu 0 σ (fun  (σ : Mm) => (
    FX1_areUnlike_2 h0 y1 n (v2 + 1) σ kx58 kx44)) (fun  (σ : Mm) => (
    kx44 σ))))
def FX1_areUnlike (h0 : Nat) (x1 : Int32) (σ : Mm) : Option (Int32 × Mm) :=
FX1_areUnlike_2 h0 x1 fu 0 σ (fun  (σ : Mm) => (
rZ 1 σ)) (fun  (σ : Mm) => (
rZ 0 σ))
def FX1_marks_20 (h0 : Nat) : Nat → Int32 → Int32 → Mm → (Int32 → Mm → Option (Int32 × Mm)) → Option (Int32 × Mm)
  | 0, _, _, _, _ => none
  | n+1, v1, v2, σ, kx51 =>
    (if v2 < 0 then (
    kx51 v1 σ) else (
    (FJ16_bitCount v2 σ).bind fun (x24, σ25) =>
    (FJ16_bitCount v1 σ25).bind fun (x26, σ27) =>
    (if x26 < x24 then (
    FX1_marks_20 h0 n v1 (v2 + (-1)) σ27 kx51) else (
    ck 1 h0 σ27 <|
    (FX1_areUnlike h0 v2 σ27).bind fun (x29, σ30) =>
    (if x29 = 0 then (
    FX1_marks_20 h0 n v1 (v2 + (-1)) σ30 kx51) else (
    FX1_marks_20 h0 n v2 (v2 + (-1)) σ30 kx51))))))
def FX1_marks (h0 : Nat) (σ : Mm) : Option (Int32 × Mm) :=
ck 1 h0 σ <|
(FX1_areUnlike h0 255 σ).bind fun (x22, σ23) =>
(if x22 = 0 then (
some ((-1), σ23)) else (
FX1_marks_20 h0 fu 255 255 σ23 (fun (x34 : Int32) (σ : Mm) => (
some (x34, σ)))))
def FX1_unknown_17 (h0 : Nat) (y2 : Int32) : Nat → Int32 → Int32 → Mm → (Int32 → Mm → Option (Int32 × Mm)) → Option (Int32 × Mm)
  | 0, _, _, _, _ => none
  | n+1, v1, v3, σ, kx70 =>
    (gR 1 0 (some h0) σ).bind fun x23 =>
    (gI 2 1 x23 σ).bind fun x24 =>
    (if x24 ≤ v3 then (
    kx70 v1 σ) else (
    jn (fun (z25 : Int32) (σ : Mm) => (
    FX1_unknown_17 h0 y2 n (v1 ||| z25) (v3 + 1) σ kx70)) fun J62 =>
    (if y2 = v3 then (
    J62 0 σ) else (
    (gR 1 0 (some h0) σ).bind fun x26 =>
    (gR 2 9 x26 σ).bind fun x27 =>
    (aI 100 x27 y2 σ).bind fun x28 =>
    (gR 1 0 (some h0) σ).bind fun x29 =>
    (gR 2 9 x29 σ).bind fun x30 =>
    (aI 100 x30 v3 σ).bind fun x31 =>
    (if x28 = x31 then (
    J62 (1 <<< (y2 &&& 31)) σ) else (
    J62 0 σ))))))
def FX1_unknown_4 (h0 : Nat) : Nat → Int32 → Int32 → Mm → (Int32 → Mm → Option (Int32 × Mm)) → Option (Int32 × Mm)
  | 0, _, _, _, _ => none
  | n+1, v1, v2, σ, kx76 =>
    (gR 1 0 (some h0) σ).bind fun x21 =>
    (gI 2 1 x21 σ).bind fun x22 =>
    (if x22 ≤ v2 then (
    kx76 v1 σ) else (
    FX1_unknown_17 h0 v2 fu v1 0 σ (fun (x35 : Int32) (σ : Mm) => (
    FX1_unknown_4 h0 n x35 (v2 + 1) σ kx76))))
def FX1_unknown (h0 : Nat) (σ : Mm) : Option (Int32 × Mm) :=
FX1_unknown_4 h0 fu 0 0 σ (fun (x37 : Int32) (σ : Mm) => (
some (x37, σ)))
def FX5_dearest_2 (h0 : Nat) (y1 : Int32) : Nat → Int32 → Mm → (Mm → Option (Int32 × Mm)) → (Int32 → Mm → Option (Int32 × Mm)) → Option (Int32 × Mm)
  | 0, _, _, _, _ => none
  | n+1, v2, σ, kx68, kx60 =>
    (gR 5 3 (some h0) σ).bind fun x21 =>
    (gR 1 0 x21 σ).bind fun x22 =>
    (gI 2 1 x22 σ).bind fun x23 =>
    (if x23 ≤ v2 then (
    kx68 σ) else (
    (gR 5 3 (some h0) σ).bind fun x24 =>
    (gR 1 0 x24 σ).bind fun x25 =>
    (gR 5 3 (some h0) σ).bind fun x26 =>
    (gR 1 0 x26 σ).bind fun x27 =>
    (gR 2 15 x27 σ).bind fun x28 =>
    (aI 100 x28 ((10 * y1) + v2) σ).bind fun x29 =>
    (rv 2 x25 σ).bind fun q30 =>
    (FX2_wearer q30 x29 σ).bind fun (x32, σ33) =>
    (if x32 = (-1) then (
    FX5_dearest_2 h0 y1 n (v2 + 1) σ33 kx68 kx60) else (
    (gI 5 2 (some h0) σ33).bind fun x34 =>
    (FX1_has x34 x32 σ33).bind fun (x35, σ36) =>
    (if x35 = 0 then (
    FX5_dearest_2 h0 y1 n (v2 + 1) σ36 kx68 kx60) else (
    kx60 x32 σ36))))))
def FX5_dearest (h0 : Nat) (x1 : Int32) (σ : Mm) : Option (Int32 × Mm) :=
FX5_dearest_2 h0 x1 fu 0 σ (fun  (σ : Mm) => (
some (x1, σ))) (fun (x40 : Int32) (σ : Mm) => (
some (x40, σ)))
def FX5_ring_10 (h0 : Nat) : Nat → Int32 → Int32 → Mm → (Int32 → Mm → Option (Int32 × Mm)) → Option (Int32 × Mm)
  | 0, _, _, _, _ => none
  | n+1, v1, v2, σ, kx29 =>
    (if 10 ≤ v2 then (
    kx29 v1 σ) else (
    (gR 5 1 (some h0) σ).bind fun x24 =>
    (aI 100 x24 v1 σ).bind fun x25 =>
    FX5_ring_10 h0 n x25 (v2 + 1) σ kx29))
def FX5_ring_31 (h0 : Nat) : Nat → Int32 → Int32 → Mm → (Int32 → Mm → Option (Int32 × Mm)) → Option (Int32 × Mm)
  | 0, _, _, _, _ => none
  | n+1, v1, v2, σ, kx55 =>
    (FX1_has v2 v1 σ).bind fun (x28, σ29) =>
    (if x28 = 0 then (
    (gR 5 1 (some h0) σ29).bind fun x30 =>
    (aI 100 x30 v1 σ29).bind fun x31 =>
    FX5_ring_31 h0 n x31 (v2 ||| (1 <<< (v1 &&& 31))) σ29 kx55) else (
    kx55 v2 σ29))
def FX5_ring (h0 : Nat) (σ : Mm) : Option (Int32 × Mm) :=
(gI 5 2 (some h0) σ).bind fun x21 =>
(FJ16_numberOfTrailingZeros x21 σ).bind fun (x22, σ23) =>
FX5_ring_10 h0 fu x22 0 σ23 (fun (x27 : Int32) (σ : Mm) => (
FX5_ring_31 h0 fu x27 0 σ (fun (x33 : Int32) (σ : Mm) => (
some (x33, σ)))))
def FX5_run_15 (h0 : Nat) : Nat → Int32 → Mm → (Mm → Option (Option Nat × Mm)) → Option (Option Nat × Mm)
  | 0, _, _, _ => none
  | n+1, v1, σ, kx67 =>
    (gR 5 3 (some h0) σ).bind fun x24 =>
    (gR 1 0 x24 σ).bind fun x25 =>
    (gI 2 1 x25 σ).bind fun x26 =>
    (if x26 ≤ v1 then (
    kx67 σ) else (
    (gI 5 2 (some h0) σ).bind fun x27 =>
    (gR 5 3 (some h0) σ).bind fun x28 =>
    (gR 1 0 x28 σ).bind fun x29 =>
    (gR 2 10 x29 σ).bind fun x30 =>
    (aI 100 x30 v1 σ).bind fun x31 =>
    jn (fun (z32 : Int32) (σ : Mm) => (
    (pI 5 2 (some h0) (x27 ||| z32) σ).bind fun σ33 =>
    FX5_run_15 h0 n (v1 + 1) σ33 kx67)) fun J57 =>
    (if x31 = (-1) then (
    J57 0 σ) else (
    J57 (1 <<< (v1 &&& 31)) σ))))
def FX5_run_76 (h0 : Nat) : Nat → Int32 → Mm → (Mm → Option (Option Nat × Mm)) → Option (Option Nat × Mm)
  | 0, _, _, _ => none
  | n+1, v1, σ, kx122 =>
    (gR 5 3 (some h0) σ).bind fun x37 =>
    (gR 1 0 x37 σ).bind fun x38 =>
    (gI 2 1 x38 σ).bind fun x39 =>
    (if x39 ≤ v1 then (
    kx122 σ) else (
    (gR 5 1 (some h0) σ).bind fun x40 =>
    (gI 5 2 (some h0) σ).bind fun x41 =>
    (FX1_has x41 v1 σ).bind fun (x42, σ43) =>
    jn (fun (z44 : Int32) (σ : Mm) => (
    (sI x40 v1 z44 σ).bind fun σ45 =>
    FX5_run_76 h0 n (v1 + 1) σ45 kx122)) fun J115 =>
    (if x42 = 0 then (
    J115 (-1) σ43) else (
    ck 5 h0 σ43 <|
    (FX5_dearest h0 v1 σ43).bind fun (x47, σ48) =>
    J115 x47 σ48))))
def FX5_run_129 (h0 : Nat) (y1 : Int32) : Nat → Int32 → Mm → (Mm → Option (Option Nat × Mm)) → Option (Option Nat × Mm)
  | 0, _, _, _ => none
  | n+1, v2, σ, kx180 =>
    (gR 5 3 (some h0) σ).bind fun x54 =>
    (gR 1 0 x54 σ).bind fun x55 =>
    (gI 2 1 x55 σ).bind fun x56 =>
    (if x56 ≤ v2 then (
    kx180 σ) else (
    (FX1_has y1 v2 σ).bind fun (x57, σ58) =>
    (if x57 = 0 then (
    FX5_run_129 h0 y1 n (v2 + 1) σ58 kx180) else (
    (gR 5 0 (some h0) σ58).bind fun x59 =>
    (gR 5 3 (some h0) σ58).bind fun x60 =>
    (gR 1 0 x60 σ58).bind fun x61 =>
    (gR 2 10 x61 σ58).bind fun x62 =>
    (gR 5 1 (some h0) σ58).bind fun x63 =>
    (aI 100 x63 v2 σ58).bind fun x64 =>
    (aI 100 x62 x64 σ58).bind fun x65 =>
    (sI x59 v2 x65 σ58).bind fun σ66 =>
    FX5_run_129 h0 y1 n (v2 + 1) σ66 kx180))))
def FX5_run_67 (h0 : Nat) : Nat → Mm → (Mm → Option (Option Nat × Mm)) → Option (Option Nat × Mm)
  | 0, _, _ => none
  | n+1, σ, kx195 =>
    (gI 5 2 (some h0) σ).bind fun x36 =>
    (if x36 = 0 then (
    kx195 σ) else (
    FX5_run_76 h0 fu 0 σ (fun  (σ : Mm) => (
    ck 5 h0 σ <|
    (FX5_ring h0 σ).bind fun (x52, σ53) =>
    FX5_run_129 h0 x52 fu 0 σ53 (fun  (σ : Mm) => (
    (gI 5 2 (some h0) σ).bind fun x69 =>
    (pI 5 2 (some h0) (x69 &&& (x52 ^^^ (-1))) σ).bind fun σ70 =>
    FX5_run_67 h0 n σ70 kx195))))))
def FX5_run (h0 : Nat) (σ : Mm) : Option (Option Nat × Mm) :=
(gR 5 0 (some h0) σ).bind fun x21 =>
(FJ0_fill x21 (-1) σ).bind fun σ22 =>
(pI 5 2 (some h0) 0 σ22).bind fun σ23 =>
FX5_run_15 h0 fu 0 σ23 (fun  (σ : Mm) => (
FX5_run_67 h0 fu σ (fun  (σ : Mm) => (
some ((some h0), σ)))))
def FX1_gains_12 (h0 : Nat) : Nat → Int32 → Int32 → Mm → (Int32 → Mm → Option (Int32 × Mm)) → Option (Int32 × Mm)
  | 0, _, _, _, _ => none
  | n+1, v1, v2, σ, kx58 =>
    (gR 1 0 (some h0) σ).bind fun x26 =>
    (gI 2 1 x26 σ).bind fun x27 =>
    (if x27 ≤ v2 then (
    kx58 v1 σ) else (
    (gR 1 7 (some h0) σ).bind fun x28 =>
    (gR 5 0 x28 σ).bind fun x29 =>
    (aI 100 x29 v2 σ).bind fun x30 =>
    (gR 1 0 (some h0) σ).bind fun x31 =>
    (gR 2 10 x31 σ).bind fun x32 =>
    (aI 100 x32 v2 σ).bind fun x33 =>
    jn (fun (z34 : Int32) (σ : Mm) => (
    FX1_gains_12 h0 n (v1 + z34) (v2 + 1) σ kx58)) fun J50 =>
    (if x30 = x33 then (
    J50 0 σ) else (
    J50 1 σ))))
def FX1_gains (h0 : Nat) (σ : Mm) : Option (Int32 × Mm) :=
(gR 1 7 (some h0) σ).bind fun x21 =>
(rv 5 x21 σ).bind fun q22 =>
(FX5_run q22 σ).bind fun (x24, σ25) =>
FX1_gains_12 h0 fu 0 0 σ25 (fun (x37 : Int32) (σ : Mm) => (
some (x37, σ)))
def FX2_withTickets_4 (h0 : Nat) : Nat → Int32 → Int32 → Mm → (Int32 → Mm → Option (Int32 × Mm)) → Option (Int32 × Mm)
  | 0, _, _, _, _ => none
  | n+1, v1, v2, σ, kx38 =>
    (gI 2 1 (some h0) σ).bind fun x21 =>
    (if x21 ≤ v2 then (
    kx38 v1 σ) else (
    (gR 2 11 (some h0) σ).bind fun x22 =>
    (aI 100 x22 v2 σ).bind fun x23 =>
    jn (fun (z24 : Int32) (σ : Mm) => (
    FX2_withTickets_4 h0 n (v1 ||| z24) (v2 + 1) σ kx38)) fun J30 =>
    (if x23 = (-1) then (
    J30 0 σ) else (
    J30 (1 <<< (v2 &&& 31)) σ))))
def FX2_withTickets (h0 : Nat) (σ : Mm) : Option (Int32 × Mm) :=
FX2_withTickets_4 h0 fu 0 0 σ (fun (x27 : Int32) (σ : Mm) => (
some (x27, σ)))
def FX1_kth_4 (y1 : Int32) : Nat → Int32 → Int32 → Mm → (Int32 → Mm → Option (Int32 × Mm)) → Option (Int32 × Mm)
  | 0, _, _, _, _ => none
  | n+1, v2, v3, σ, kx21 =>
    (if y1 ≤ v3 then (
    kx21 v2 σ) else (
    FX1_kth_4 y1 n (v2 &&& (v2 - 1)) (v3 + 1) σ kx21))
def FX1_kth (x0 : Int32) (x1 : Int32) (σ : Mm) : Option (Int32 × Mm) :=
FX1_kth_4 x1 fu x0 0 σ (fun (x22 : Int32) (σ : Mm) => (
(FJ16_numberOfTrailingZeros x22 σ).bind fun (x23, σ24) =>
some (x23, σ24)))
def FX7_hookOf (h0 : Nat) (x1 : Int32) (σ : Mm) : Option (Int32 × Mm) :=
(if x1 = (-1) then (
some (0, σ)) else (
(gR 7 3 (some h0) σ).bind fun x21 =>
(gR 1 0 x21 σ).bind fun x22 =>
(gR 2 11 x22 σ).bind fun x23 =>
(gR 7 0 (some h0) σ).bind fun x24 =>
(aI 100 x24 x1 σ).bind fun x25 =>
(aI 100 x23 x25 σ).bind fun x26 =>
some (x26, σ)))
def FX7_by (h0 : Nat) (x1 : Int32) (x2 : Int32) (x3 : Int32) (σ : Mm) : Option (Int32 × Mm) :=
ck 7 h0 σ <|
(FX7_hookOf h0 x2 σ).bind fun (x22, σ23) =>
ck 7 h0 σ23 <|
(FX7_hookOf h0 x3 σ23).bind fun (x25, σ26) =>
(gI 7 2 (some h0) σ26).bind fun x27 =>
(FJ16_bitCount x1 σ26).bind fun (x28, σ29) =>
(gR 7 1 (some h0) σ29).bind fun x30 =>
(aI 100 x30 (((x3 <<< (10 &&& 31)) ||| x1) ||| (1 <<< (x3 &&& 31))) σ29).bind fun x31 =>
some (((((iabs (x22 - x25)) + 1) * (x27 - x28)) + x31), σ29)
def FX7_rest_20 (h0 : Nat) (y1 : Int32) (y2 : Int32) : Nat → Int32 → Int32 → Mm → (Int32 → Mm → Option (Int32 × Mm)) → Option (Int32 × Mm)
  | 0, _, _, _, _ => none
  | n+1, v3, v4, σ, kx57 =>
    (gI 7 2 (some h0) σ).bind fun x22 =>
    (if x22 ≤ v4 then (
    kx57 v3 σ) else (
    (FX1_has y1 v4 σ).bind fun (x23, σ24) =>
    (if x23 = 0 then (
    ck 7 h0 σ24 <|
    (FX7_by h0 y1 y2 v4 σ24).bind fun (x26, σ27) =>
    FX7_rest_20 h0 y1 y2 n (imin v3 x26) (v4 + 1) σ27 kx57) else (
    FX7_rest_20 h0 y1 y2 n v3 (v4 + 1) σ24 kx57))))
def FX7_rest (h0 : Nat) (x1 : Int32) (x2 : Int32) (σ : Mm) : Option (Int32 × Mm) :=
(gI 7 2 (some h0) σ).bind fun x21 =>
(if x1 = ((1 <<< (x21 &&& 31)) - 1) then (
some (0, σ)) else (
FX7_rest_20 h0 x1 x2 fu 100000 0 σ (fun (x30 : Int32) (σ : Mm) => (
some (x30, σ)))))
def FX7_begins_21 (h0 : Nat) (y1 : Int32) : Nat → Int32 → Mm → (Mm → Option (Option Nat × Mm)) → Option (Option Nat × Mm)
  | 0, _, _, _ => none
  | n+1, v2, σ, kx46 =>
    (gI 7 2 (some h0) σ).bind fun x30 =>
    (if x30 ≤ v2 then (
    kx46 σ) else (
    (gR 7 0 (some h0) σ).bind fun x31 =>
    (FX1_kth y1 v2 σ).bind fun (x32, σ33) =>
    (sI x31 v2 x32 σ33).bind fun σ34 =>
    FX7_begins_21 h0 y1 n (v2 + 1) σ34 kx46))
def FX7_begins_61 (h0 : Nat) (y2 : Int32) : Nat → Int32 → Mm → (Mm → Option (Option Nat × Mm)) → Option (Option Nat × Mm)
  | 0, _, _, _ => none
  | n+1, v3, σ, kx92 =>
    (gI 7 2 (some h0) σ).bind fun x37 =>
    (if x37 ≤ v3 then (
    kx92 σ) else (
    (gR 7 1 (some h0) σ).bind fun x38 =>
    ck 7 h0 σ <|
    (FX7_rest h0 y2 v3 σ).bind fun (x40, σ41) =>
    (sI x38 ((v3 <<< (10 &&& 31)) ||| y2) x40 σ41).bind fun σ42 =>
    FX7_begins_61 h0 y2 n (v3 + 1) σ42 kx92))
def FX7_begins_55 (h0 : Nat) : Nat → Int32 → Mm → (Mm → Option (Option Nat × Mm)) → Option (Option Nat × Mm)
  | 0, _, _, _ => none
  | n+1, v2, σ, kx98 =>
    (if v2 ≤ 0 then (
    kx98 σ) else (
    FX7_begins_61 h0 v2 fu 0 σ (fun  (σ : Mm) => (
    FX7_begins_55 h0 n (v2 + (-1)) σ kx98))))
def FX7_begins (h0 : Nat) (σ : Mm) : Option (Option Nat × Mm) :=
(gR 7 3 (some h0) σ).bind fun x21 =>
(gR 1 0 x21 σ).bind fun x22 =>
(rv 2 x22 σ).bind fun q23 =>
(FX2_withTickets q23 σ).bind fun (x25, σ26) =>
(FJ16_bitCount x25 σ26).bind fun (x27, σ28) =>
(pI 7 2 (some h0) x27 σ28).bind fun σ29 =>
FX7_begins_21 h0 x25 fu 0 σ29 (fun  (σ : Mm) => (
(gI 7 2 (some h0) σ).bind fun x36 =>
FX7_begins_55 h0 fu ((1 <<< (x36 &&& 31)) - 1) σ (fun  (σ : Mm) => (
some ((some h0), σ)))))
def FX1_in (x0 : Int32) (x1 : Int32) (x2 : Int32) (σ : Mm) : Option (Int32 × Mm) :=
(if x0 < x1 then (
rZ 0 σ) else (
(if x2 < x0 then (
rZ 0 σ) else (
rZ 1 σ))))
def FX7_kthServed_24 (h0 : Nat) (y1 : Int32) (y2 : Int32) (y3 : Int32) (y4 : Int32) (y5 : Int32) : Nat → Int32 → Mm → (Int32 → Mm → Option (Int32 × Mm)) → Option (Int32 × Mm)
  | 0, _, _, _ => none
  | n+1, v6, σ, kx52 =>
    (FX1_has y2 v6 σ).bind fun (x24, σ25) =>
    (if x24 = 0 then (
    ck 7 h0 σ25 <|
    (FX7_by h0 y2 y3 v6 σ25).bind fun (x27, σ28) =>
    (if x27 = y5 then (
    kx52 v6 σ28) else (
    FX7_kthServed_24 h0 y1 y2 y3 y4 y5 n (v6 + 1) σ28 kx52))) else (
    FX7_kthServed_24 h0 y1 y2 y3 y4 y5 n (v6 + 1) σ25 kx52))
def FX7_kthServed_7 (h0 : Nat) (y1 : Int32) : Nat → Int32 → Int32 → Int32 → Mm → (Int32 → Mm → Option (Int32 × Mm)) → Option (Int32 × Mm)
  | 0, _, _, _, _, _ => none
  | n+1, v2, v3, v4, σ, kx68 =>
    (if y1 < v4 then (
    kx68 v3 σ) else (
    ck 7 h0 σ <|
    (FX7_rest h0 v2 v3 σ).bind fun (x22, σ23) =>
    FX7_kthServed_24 h0 y1 v2 v3 v4 x22 fu 0 σ23 (fun (x31 : Int32) (σ : Mm) => (
    FX7_kthServed_7 h0 y1 n (v2 ||| (1 <<< (x31 &&& 31))) x31 (v4 + 1) σ kx68))))
def FX7_kthServed (h0 : Nat) (x1 : Int32) (σ : Mm) : Option (Int32 × Mm) :=
FX7_kthServed_7 h0 x1 fu 0 (-1) 0 σ (fun (x33 : Int32) (σ : Mm) => (
(gR 7 0 (some h0) σ).bind fun x34 =>
(aI 100 x34 x33 σ).bind fun x35 =>
some (x35, σ)))
def FX1_queue (h0 : Nat) (x1 : Int32) (σ : Mm) : Option (Int32 × Mm) :=
(gR 1 9 (some h0) σ).bind fun x21 =>
(rv 7 x21 σ).bind fun q22 =>
(FX7_begins q22 σ).bind fun (x24, σ25) =>
(if x1 = (-1) then (
(gR 1 9 (some h0) σ25).bind fun x36 =>
(rv 7 x36 σ25).bind fun q37 =>
(FX7_rest q37 0 (-1) σ25).bind fun (x39, σ40) =>
some (x39, σ40)) else (
(gR 1 9 (some h0) σ25).bind fun x26 =>
(gI 7 2 x26 σ25).bind fun x27 =>
(FX1_in x1 0 (x27 - 1) σ25).bind fun (x28, σ29) =>
(if x28 = 0 then (
some ((-1), σ29)) else (
(gR 1 9 (some h0) σ29).bind fun x30 =>
(rv 7 x30 σ29).bind fun q31 =>
(FX7_kthServed q31 x1 σ29).bind fun (x33, σ34) =>
some (x33, σ34)))))
def FX1_rowFrom_2 (h0 : Nat) (y1 : Int32) : Nat → Int32 → Mm → (Int32 → Mm → Option (Int32 × Mm)) → Option (Int32 × Mm)
  | 0, _, _, _ => none
  | n+1, v2, σ, kx36 =>
    (gR 1 0 (some h0) σ).bind fun x21 =>
    (gI 2 2 x21 σ).bind fun x22 =>
    (if x22 ≤ (y1 + v2) then (
    kx36 v2 σ) else (
    (gR 1 0 (some h0) σ).bind fun x23 =>
    (gR 2 17 x23 σ).bind fun x24 =>
    (aI 100 x24 (y1 + v2) σ).bind fun x25 =>
    (if x25 = (-1) then (
    kx36 v2 σ) else (
    FX1_rowFrom_2 h0 y1 n (v2 + 1) σ kx36))))
def FX1_rowFrom (h0 : Nat) (x1 : Int32) (σ : Mm) : Option (Int32 × Mm) :=
FX1_rowFrom_2 h0 x1 fu 0 σ (fun (x28 : Int32) (σ : Mm) => (
some (x28, σ)))
def FX1_row_7 (h0 : Nat) (y1 : Int32) : Nat → Int32 → Int32 → Int32 → Mm → (Int32 → Int32 → Mm → Option (Int32 × Mm)) → Option (Int32 × Mm)
  | 0, _, _, _, _, _ => none
  | n+1, v2, v3, v4, σ, kx48 =>
    (gR 1 0 (some h0) σ).bind fun x21 =>
    (gI 2 2 x21 σ).bind fun x22 =>
    (if x22 ≤ v4 then (
    kx48 v2 v3 σ) else (
    ck 1 h0 σ <|
    (FX1_rowFrom h0 v4 σ).bind fun (x24, σ25) =>
    (if v3 < x24 then (
    ck 1 h0 σ25 <|
    (FX1_rowFrom h0 v4 σ25).bind fun (x27, σ28) =>
    FX1_row_7 h0 y1 n v4 x27 (v4 + 1) σ28 kx48) else (
    FX1_row_7 h0 y1 n v2 v3 (v4 + 1) σ25 kx48))))
def FX1_row (h0 : Nat) (x1 : Int32) (σ : Mm) : Option (Int32 × Mm) :=
FX1_row_7 h0 x1 fu (-1) 0 0 σ (fun (x31 : Int32) (x32 : Int32) (σ : Mm) => (
(if x1 = 0 then (
some (x32, σ)) else (
some (x31, σ)))))
def FX1_seed (h0 : Nat) (x1 : Int32) (σ : Mm) : Option (Int32 × Mm) :=
(gR 1 0 (some h0) σ).bind fun x21 =>
(gI 2 7 x21 σ).bind fun x22 =>
(gR 1 0 (some h0) σ).bind fun x23 =>
(pI 2 7 x23 x1 σ).bind fun σ24 =>
some (x22, σ24)
def FJ3_isEmpty (h0 : Nat) (σ : Mm) : Option (Int32 × Mm) :=
(gI 17 2 (some h0) σ).bind fun x21 =>
(if x21 = 0 then (
rZ 1 σ) else (
rZ 0 σ))
def FJ3_size (h0 : Nat) (σ : Mm) : Option (Int32 × Mm) :=
(gI 17 2 (some h0) σ).bind fun x21 =>
some (x21, σ)
def FJ11_checkIndex (x0 : Int32) (x1 : Int32) (x2 : Option Nat) (σ : Mm) : Option (Int32 × Mm) :=
jn (fun  (σ : Mm) => (
none)) fun J9 =>
(if x0 < 0 then (
J9 σ) else (
(if x0 < x1 then (
some (x0, σ)) else (
J9 σ))))
def FJ23_checkIndex (x0 : Int32) (x1 : Int32) (σ : Mm) : Option (Int32 × Mm) :=
(FJ11_checkIndex x0 x1 none σ).bind fun (x21, σ22) =>
some (x21, σ22)
def FJ3_fastRemove (h0 : Nat) (x1 : Option Nat) (x2 : Int32) (σ : Mm) : Option (Mm) :=
(gI 17 0 (some h0) σ).bind fun x21 =>
(pI 17 0 (some h0) (x21 + 1) σ).bind fun σ22 =>
(gI 17 2 (some h0) σ22).bind fun x23 =>
jn (fun  (σ : Mm) => (
(pI 17 2 (some h0) (x23 - 1) σ).bind fun σ24 =>
(sR x1 (x23 - 1) none σ24).bind fun σ25 =>
some σ25)) fun J34 =>
(if (x23 - 1) ≤ x2 then (
J34 σ22) else (
(cpR x1 (x2 + 1) x1 x2 ((x23 - 1) - x2) σ22).bind fun σ26 =>
J34 σ26))
def FJ3_remove (h0 : Nat) (x1 : Int32) (σ : Mm) : Option (Option Nat × Mm) :=
(gI 17 2 (some h0) σ).bind fun x21 =>
(FJ23_checkIndex x1 x21 σ).bind fun (x22, σ23) =>
(gR 17 1 (some h0) σ23).bind fun x24 =>
(aR 102 x24 x1 σ23).bind fun x25 =>
ck 17 h0 σ23 <|
(FJ3_fastRemove h0 x24 x1 σ23).bind fun σ27 =>
some (x25, σ27)
def FX2_row (x0 : Option Nat) (x1 : Option Nat) (σ : Mm) : Option (Mm) :=
(aL 100 x1 σ).bind fun x21 =>
(cpI 100 x0 0 x1 0 x21 σ).bind fun σ22 =>
some σ22
def FX2_likens (h0 : Nat) (x1 : Option Nat) (σ : Mm) : Option (Option Nat × Mm) :=
(gI 2 0 x1 σ).bind fun x21 =>
(pI 2 0 (some h0) x21 σ).bind fun σ22 =>
(gI 2 1 x1 σ22).bind fun x23 =>
(pI 2 1 (some h0) x23 σ22).bind fun σ24 =>
(gI 2 2 x1 σ24).bind fun x25 =>
(pI 2 2 (some h0) x25 σ24).bind fun σ26 =>
(gI 2 3 x1 σ26).bind fun x27 =>
(pI 2 3 (some h0) x27 σ26).bind fun σ28 =>
(gI 2 4 x1 σ28).bind fun x29 =>
(pI 2 4 (some h0) x29 σ28).bind fun σ30 =>
(gI 2 5 x1 σ30).bind fun x31 =>
(pI 2 5 (some h0) x31 σ30).bind fun σ32 =>
(gI 2 6 x1 σ32).bind fun x33 =>
(pI 2 6 (some h0) x33 σ32).bind fun σ34 =>
(gI 2 7 x1 σ34).bind fun x35 =>
(pI 2 7 (some h0) x35 σ34).bind fun σ36 =>
(gR 2 19 x1 σ36).bind fun x37 =>
(pR 2 19 (some h0) x37 σ36).bind fun σ38 =>
(gR 2 8 x1 σ38).bind fun x39 =>
(gR 2 8 (some h0) σ38).bind fun x40 =>
(FX2_row x39 x40 σ38).bind fun σ41 =>
(gR 2 9 x1 σ41).bind fun x42 =>
(gR 2 9 (some h0) σ41).bind fun x43 =>
(FX2_row x42 x43 σ41).bind fun σ44 =>
(gR 2 10 x1 σ44).bind fun x45 =>
(gR 2 10 (some h0) σ44).bind fun x46 =>
(FX2_row x45 x46 σ44).bind fun σ47 =>
(gR 2 11 x1 σ47).bind fun x48 =>
(gR 2 11 (some h0) σ47).bind fun x49 =>
(FX2_row x48 x49 σ47).bind fun σ50 =>
(gR 2 12 x1 σ50).bind fun x51 =>
(gR 2 12 (some h0) σ50).bind fun x52 =>
(FX2_row x51 x52 σ50).bind fun σ53 =>
(gR 2 13 x1 σ53).bind fun x54 =>
(gR 2 13 (some h0) σ53).bind fun x55 =>
(FX2_row x54 x55 σ53).bind fun σ56 =>
(gR 2 14 x1 σ56).bind fun x57 =>
(gR 2 14 (some h0) σ56).bind fun x58 =>
(FX2_row x57 x58 σ56).bind fun σ59 =>
(gR 2 15 x1 σ59).bind fun x60 =>
(gR 2 15 (some h0) σ59).bind fun x61 =>
(FX2_row x60 x61 σ59).bind fun σ62 =>
(gR 2 16 x1 σ62).bind fun x63 =>
(gR 2 16 (some h0) σ62).bind fun x64 =>
(FX2_row x63 x64 σ62).bind fun σ65 =>
(gR 2 17 x1 σ65).bind fun x66 =>
(gR 2 17 (some h0) σ65).bind fun x67 =>
(FX2_row x66 x67 σ65).bind fun σ68 =>
(gR 2 18 x1 σ68).bind fun x69 =>
(gR 2 18 (some h0) σ68).bind fun x70 =>
(FX2_row x69 x70 σ68).bind fun σ71 =>
some ((some h0), σ71)
def FX1_undo (h0 : Nat) (σ : Mm) : Option (Int32 × Mm) :=
(gR 1 6 (some h0) σ).bind fun x21 =>
(rv 17 x21 σ).bind fun q22 =>
(FJ3_isEmpty q22 σ).bind fun (x24, σ25) =>
(if x24 = 0 then (
(gR 1 0 (some h0) σ25).bind fun x26 =>
(gR 1 6 (some h0) σ25).bind fun x27 =>
(gR 1 6 (some h0) σ25).bind fun x28 =>
(rv 17 x28 σ25).bind fun q29 =>
(FJ3_size q29 σ25).bind fun (x31, σ32) =>
(rv 17 x27 σ32).bind fun q33 =>
(FJ3_remove q33 (x31 - 1) σ32).bind fun (x35, σ36) =>
(rv 2 x35 σ36).bind fun q37 =>
(rv 2 x26 σ36).bind fun q40 =>
(FX2_likens q40 (some q37) σ36).bind fun (x42, σ43) =>
rZ 1 σ43) else (
rZ 0 σ25))
def FX1_image (h0 : Nat) (σ : Mm) : Option (Mm) :=
(pZ 1 3 (some h0) 1 σ).bind fun σ21 =>
(gR 1 2 (some h0) σ21).bind fun x22 =>
(gR 1 0 (some h0) σ21).bind fun x23 =>
(rv 2 x22 σ21).bind fun q24 =>
(FX2_likens q24 x23 σ21).bind fun (x26, σ27) =>
some σ27
def FJ3_clear_27 (y1 : Option Nat) (y2 : Int32) : Nat → Int32 → Mm → (Mm → Option (Mm)) → Option (Mm)
  | 0, _, _, _ => none
  | n+1, v3, σ, kx42 =>
    (if y2 ≤ v3 then (
    kx42 σ) else (
    (sR y1 v3 none σ).bind fun σ26 =>
    FJ3_clear_27 y1 y2 n (v3 + 1) σ26 kx42))
def FJ3_clear (h0 : Nat) (σ : Mm) : Option (Mm) :=
(gI 17 0 (some h0) σ).bind fun x21 =>
(pI 17 0 (some h0) (x21 + 1) σ).bind fun σ22 =>
(gR 17 1 (some h0) σ22).bind fun x23 =>
(gI 17 2 (some h0) σ22).bind fun x24 =>
(pI 17 2 (some h0) 0 σ22).bind fun σ25 =>
FJ3_clear_27 x23 x24 fu 0 σ25 (fun  (σ : Mm) => (
some σ))
def FX1_back (h0 : Nat) (σ : Mm) : Option (Int32 × Mm) :=
(gI 1 3 (some h0) σ).bind fun x21 =>
(if x21 = 0 then (
rZ 0 σ) else (
(gR 1 0 (some h0) σ).bind fun x22 =>
(gR 1 2 (some h0) σ).bind fun x23 =>
(rv 2 x22 σ).bind fun q24 =>
(FX2_likens q24 x23 σ).bind fun (x26, σ27) =>
(gR 1 6 (some h0) σ27).bind fun x28 =>
(rv 17 x28 σ27).bind fun q29 =>
(FJ3_clear q29 σ27).bind fun σ31 =>
rZ 1 σ31))
def FX2_hung_4 (h0 : Nat) : Nat → Int32 → Int32 → Mm → (Int32 → Mm → Option (Int32 × Mm)) → Option (Int32 × Mm)
  | 0, _, _, _, _ => none
  | n+1, v1, v2, σ, kx36 =>
    (gI 2 2 (some h0) σ).bind fun x21 =>
    (if x21 ≤ v2 then (
    kx36 v1 σ) else (
    (gR 2 17 (some h0) σ).bind fun x22 =>
    (aI 100 x22 v2 σ).bind fun x23 =>
    jn (fun (z24 : Int32) (σ : Mm) => (
    FX2_hung_4 h0 n (v1 + z24) (v2 + 1) σ kx36)) fun J28 =>
    (if x23 = (-1) then (
    J28 0 σ) else (
    J28 1 σ))))
def FX2_hung (h0 : Nat) (σ : Mm) : Option (Int32 × Mm) :=
FX2_hung_4 h0 fu 0 0 σ (fun (x27 : Int32) (σ : Mm) => (
some (x27, σ)))
def FX1_allMarks_4 (h0 : Nat) : Nat → Int32 → Int32 → Mm → (Int32 → Mm → Option (Int32 × Mm)) → Option (Int32 × Mm)
  | 0, _, _, _, _ => none
  | n+1, v1, v2, σ, kx36 =>
    (gR 1 0 (some h0) σ).bind fun x21 =>
    (gI 2 1 x21 σ).bind fun x22 =>
    (if x22 ≤ v2 then (
    kx36 v1 σ) else (
    (gR 1 0 (some h0) σ).bind fun x23 =>
    (gR 2 8 x23 σ).bind fun x24 =>
    (aI 100 x24 v2 σ).bind fun x25 =>
    (FJ16_bitCount x25 σ).bind fun (x26, σ27) =>
    FX1_allMarks_4 h0 n (v1 + x26) (v2 + 1) σ27 kx36))
def FX1_allMarks (h0 : Nat) (σ : Mm) : Option (Int32 × Mm) :=
FX1_allMarks_4 h0 fu 0 0 σ (fun (x29 : Int32) (σ : Mm) => (
some (x29, σ)))
def FX1_count (h0 : Nat) (x1 : Int32) (σ : Mm) : Option (Int32 × Mm) :=
(gR 1 0 (some h0) σ).bind fun x21 =>
(if x1 = 0 then (
(gI 2 1 x21 σ).bind fun x23 =>
some (x23, σ)) else (
(if x1 = 1 then (
(gI 2 2 x21 σ).bind fun x25 =>
some (x25, σ)) else (
(if x1 = 2 then (
(rv 2 x21 σ).bind fun q27 =>
(FX2_hung q27 σ).bind fun (x29, σ30) =>
some (x29, σ30)) else (
(if x1 = 3 then (
(gI 2 0 x21 σ).bind fun x32 =>
some (x32, σ)) else (
(if x1 = 4 then (
(gR 2 19 x21 σ).bind fun x34 =>
(match x34 with
| none => (
some ((-1), σ))
| some q35 => (
(gR 2 19 x21 σ).bind fun x37 =>
(gR 10 0 x37 σ).bind fun x38 =>
(rv 17 x38 σ).bind fun q39 =>
(FJ3_size q39 σ).bind fun (x41, σ42) =>
some (x41, σ42)))) else (
(if x1 = 5 then (
(gI 2 3 x21 σ).bind fun x44 =>
some (x44, σ)) else (
(if x1 = 6 then (
(gI 2 4 x21 σ).bind fun x46 =>
some (x46, σ)) else (
(if x1 = 7 then (
(gI 2 5 x21 σ).bind fun x48 =>
some (x48, σ)) else (
(if x1 = 8 then (
(rv 2 x21 σ).bind fun q50 =>
(FX2_withTickets q50 σ).bind fun (x52, σ53) =>
some (x52, σ53)) else (
(if x1 = 9 then (
ck 1 h0 σ <|
(FX1_allMarks h0 σ).bind fun (x56, σ57) =>
some (x56, σ57)) else (
(if x1 = 10 then (
(gI 2 6 x21 σ).bind fun x59 =>
some (x59, σ)) else (
(if x1 = 11 then (
(gR 1 6 (some h0) σ).bind fun x61 =>
(rv 17 x61 σ).bind fun q62 =>
(FJ3_size q62 σ).bind fun (x64, σ65) =>
some (x64, σ65)) else (
some ((-1), σ)))))))))))))))))))))))))
def FX3_begins (h0 : Nat) (σ : Mm) : Option (Mm) :=
(gI 3 1 (some h0) σ).bind fun x21 =>
(pI 3 2 (some h0) x21 σ).bind fun σ22 =>
(pI 3 1 (some h0) 0 σ22).bind fun σ23 =>
(pI 3 3 (some h0) 0 σ23).bind fun σ24 =>
(pI 3 6 (some h0) 0 σ24).bind fun σ25 =>
some σ25
def FX3_byteAt (h0 : Nat) (x1 : Int32) (σ : Mm) : Option (Int32 × Mm) :=
(gI 3 2 (some h0) σ).bind fun x21 =>
(if x21 ≤ x1 then (
some ((-1), σ)) else (
(gR 3 0 (some h0) σ).bind fun x22 =>
(aI 101 x22 x1 σ).bind fun x23 =>
some (x23, σ)))
def FX3_blanks_0 (h0 : Nat) : Nat → Mm → (Mm → Option (Mm)) → Option (Mm)
  | 0, _, _ => none
  | n+1, σ, kx26 =>
    (gI 3 3 (some h0) σ).bind fun x21 =>
    ck 3 h0 σ <|
    (FX3_byteAt h0 x21 σ).bind fun (x23, σ24) =>
    (if x23 = 32 then (
    (gI 3 3 (some h0) σ24).bind fun x25 =>
    (pI 3 3 (some h0) (x25 + 1) σ24).bind fun σ26 =>
    FX3_blanks_0 h0 n σ26 kx26) else (
    kx26 σ24))
def FX3_blanks (h0 : Nat) (σ : Mm) : Option (Mm) :=
FX3_blanks_0 h0 fu σ (fun  (σ : Mm) => (
(gI 3 3 (some h0) σ).bind fun x28 =>
(pI 3 4 (some h0) x28 σ).bind fun σ29 =>
some σ29))
def FX3_isOver (h0 : Nat) (σ : Mm) : Option (Int32 × Mm) :=
ck 3 h0 σ <|
(FX3_blanks h0 σ).bind fun σ22 =>
(gI 3 3 (some h0) σ22).bind fun x23 =>
(gI 3 2 (some h0) σ22).bind fun x24 =>
(if x23 = x24 then (
rZ 1 σ22) else (
rZ 0 σ22))
def FJ4_init (h0 : Nat) (x1 : Int32) (σ : Mm) : DX (Mm) :=
(if (1 : Int32) = 0 then (
none) else (
pay 1 (x1.toNatClampNeg) <|
(nA 101 x1 σ).bind fun (x21, σ22) =>
(pR 19 0 (some h0) x21 σ22).bind fun σ23 =>
(pZ 19 1 (some h0) 0 σ23).bind fun σ24 =>
rt σ24))
def FJ5_init (h0 : Nat) (σ : Mm) : DX (Mm) :=
ck 19 h0 σ <|
db (FJ4_init h0 16 σ) fun σ22 =>
rt σ22
def FJ8_newLength (x0 : Int32) (x1 : Int32) (x2 : Int32) (σ : Mm) : Option (Int32 × Mm) :=
jn (fun  (σ : Mm) => (
none)) fun J21 =>
(if (x0 + (imax x1 x2)) ≤ 0 then (
J21 σ) else (
(if 2147483639 < (x0 + (imax x1 x2)) then (
J21 σ) else (
some ((x0 + (imax x1 x2)), σ)))))
def FJ4_newCapacity (h0 : Nat) (x1 : Int32) (σ : Mm) : Option (Int32 × Mm) :=
(gR 19 0 (some h0) σ).bind fun x21 =>
(aL 101 x21 σ).bind fun x22 =>
(gI 19 1 (some h0) σ).bind fun x23 =>
(gI 19 1 (some h0) σ).bind fun x24 =>
(FJ8_newLength x22 ((x1 <<< (x23 &&& 31)) - x22) (x22 + (2 <<< (x24 &&& 31))) σ).bind fun (x25, σ26) =>
(if x25 = 2147483647 then (
none) else (
(gI 19 1 (some h0) σ26).bind fun x27 =>
some ((x25 >>> (x27 &&& 31)), σ26)))
def FJ0_copyOf (x0 : Option Nat) (x1 : Int32) (σ : Mm) : DX (Option Nat × Mm) :=
(aL 101 x0 σ).bind fun x21 =>
(if x1 = x21 then (
none) else (
pay 1 (x1.toNatClampNeg) <|
(nA 101 x1 σ).bind fun (x22, σ23) =>
(aL 101 x0 σ23).bind fun x24 =>
(cpI 101 x0 0 x22 0 (imin x24 x1) σ23).bind fun σ25 =>
rt (x22, σ25)))
def FJ4_ensureCapacityInternal (h0 : Nat) (x1 : Int32) (σ : Mm) : DX (Mm) :=
(gR 19 0 (some h0) σ).bind fun x21 =>
(aL 101 x21 σ).bind fun x22 =>
(gI 19 1 (some h0) σ).bind fun x23 =>
(if (x1 - (x22 >>> (x23 &&& 31))) ≤ 0 then (
rt σ) else (
(gR 19 0 (some h0) σ).bind fun x24 =>
ck 19 h0 σ <|
(FJ4_newCapacity h0 x1 σ).bind fun (x26, σ27) =>
(gI 19 1 (some h0) σ27).bind fun x28 =>
db (FJ0_copyOf x24 (x26 <<< (x28 &&& 31)) σ27) fun (x29, σ30) =>
(pR 19 0 (some h0) x29 σ30).bind fun σ31 =>
rt σ31))
def FJ4_isLatin1 (h0 : Nat) (σ : Mm) : Option (Int32 × Mm) :=
(if (1 : Int32) = 0 then (
rZ 0 σ) else (
(gI 19 1 (some h0) σ).bind fun x21 =>
(if x21 = 0 then (
rZ 1 σ) else (
rZ 0 σ))))
def FJ10_canEncode (x0 : Int32) (σ : Mm) : Option (Int32 × Mm) :=
(if 255 < x0 then (
rZ 0 σ) else (
rZ 1 σ))
def FJ4_append (h0 : Nat) (x1 : Int32) (σ : Mm) : DX (Option Nat × Mm) :=
(gI 19 3 (some h0) σ).bind fun x21 =>
ck 19 h0 σ <|
db (FJ4_ensureCapacityInternal h0 (x21 + 1) σ) fun σ23 =>
ck 19 h0 σ23 <|
(FJ4_isLatin1 h0 σ23).bind fun (x25, σ26) =>
jn (fun  (σ : Mm) => (
ck 19 h0 σ <|
(FJ4_isLatin1 h0 σ).bind fun (x28, σ29) =>
(if x28 = 0 then (
(gR 19 0 (some h0) σ29).bind fun x30 =>
(gI 19 3 (some h0) σ29).bind fun x31 =>
(pI 19 3 (some h0) (x31 + 1) σ29).bind fun σ32 =>
none) else (
none)))) fun J45 =>
(if x25 = 0 then (
J45 σ26) else (
(FJ10_canEncode x1 σ26).bind fun (x34, σ35) =>
(if x34 = 0 then (
J45 σ35) else (
(gR 19 0 (some h0) σ35).bind fun x36 =>
(gI 19 3 (some h0) σ35).bind fun x37 =>
(pI 19 3 (some h0) (x37 + 1) σ35).bind fun σ38 =>
(sB x36 x37 (x1.toInt8.toInt32) σ38).bind fun σ39 =>
rt ((some h0), σ39)))))
def FJ5_append (h0 : Nat) (x1 : Int32) (σ : Mm) : DX (Option Nat × Mm) :=
ck 19 h0 σ <|
db (FJ4_append h0 x1 σ) fun (x22, σ23) =>
rt ((some h0), σ23)
def FJ4_getValue (h0 : Nat) (σ : Mm) : Option (Option Nat × Mm) :=
(gR 19 0 (some h0) σ).bind fun x21 =>
some (x21, σ)
def FJ4_length (h0 : Nat) (σ : Mm) : Option (Int32 × Mm) :=
(gI 19 3 (some h0) σ).bind fun x21 =>
some (x21, σ)
def FJ0_checkLength (x0 : Int32) (x1 : Int32) (σ : Mm) : Option (Mm) :=
(if x0 ≤ x1 then (
some σ) else (
none))
def FJ0_copyOfRangeByte (x0 : Option Nat) (x1 : Int32) (x2 : Int32) (σ : Mm) : DX (Option Nat × Mm) :=
(FJ0_checkLength x1 x2 σ).bind fun σ21 =>
pay 1 ((x2 - x1).toNatClampNeg) <|
(nA 101 (x2 - x1) σ21).bind fun (x22, σ23) =>
(aL 101 x0 σ23).bind fun x24 =>
(cpI 101 x0 x1 x22 0 (imin (x24 - x1) (x2 - x1)) σ23).bind fun σ25 =>
rt (x22, σ25)
def FJ0_copyOfRange (x0 : Option Nat) (x1 : Int32) (x2 : Int32) (σ : Mm) : DX (Option Nat × Mm) :=
jn (fun  (σ : Mm) => (
db (FJ0_copyOfRangeByte x0 x1 x2 σ) fun (x21, σ22) =>
rt (x21, σ22))) fun J10 =>
(if x1 = 0 then (
(aL 101 x0 σ).bind fun x23 =>
(if x2 = x23 then (
pay 1 (clZ x0 σ) <|
(clB x0 σ).bind fun (x24, σ25) =>
(rv 101 x24 σ25).bind fun q26 =>
rt ((some q26), σ25)) else (
J10 σ))) else (
J10 σ))
def FJ5_length (h0 : Nat) (σ : Mm) : Option (Int32 × Mm) :=
ck 19 h0 σ <|
(FJ4_length h0 σ).bind fun (x22, σ23) =>
some (x22, σ23)
def FJ6_init_2 (h0 : Nat) (x1 : Option Nat) (x2 : Option Nat) (σ : Mm) : DX (Mm) :=
(rv 19 x1 σ).bind fun q21 =>
(FJ4_getValue q21 σ).bind fun (x23, σ24) =>
(rv 19 x1 σ24).bind fun q25 =>
(FJ5_length q25 σ24).bind fun (x27, σ28) =>
(rv 19 x1 σ28).bind fun q29 =>
(FJ4_isLatin1 q29 σ28).bind fun (x31, σ32) =>
(if x31 = 0 then (
jn (fun  (σ : Mm) => (
(pZ 20 1 (some h0) 1 σ).bind fun σ33 =>
db (FJ0_copyOfRange x23 0 (x27 <<< (1 &&& 31)) σ33) fun (x34, σ35) =>
(pR 20 0 (some h0) x34 σ35).bind fun σ36 =>
rt σ36)) fun J79 =>
(if (1 : Int32) = 0 then (
J79 σ32) else (
(gI 19 2 x1 σ32).bind fun x37 =>
(if x37 = 0 then (
J79 σ32) else (
none))))) else (
(pZ 20 1 (some h0) 0 σ32).bind fun σ40 =>
db (FJ0_copyOfRange x23 0 x27 σ40) fun (x41, σ42) =>
(pR 20 0 (some h0) x41 σ42).bind fun σ43 =>
rt σ43))
def FJ6_init (h0 : Nat) (x1 : Option Nat) (σ : Mm) : DX (Mm) :=
ck 20 h0 σ <|
db (FJ6_init_2 h0 x1 none σ) fun σ22 =>
rt σ22
def FJ5_toString (h0 : Nat) (σ : Mm) : DX (Option Nat × Mm) :=
pay 1 4 <|
(nO 20 σ).bind fun (x21, σ22) =>
(rv 20 x21 σ22).bind fun q23 =>
db (FJ6_init q23 (some h0) σ22) fun σ25 =>
rt (x21, σ25)
def FX3_word_4 (h0 : Nat) : Nat → Mm → (Mm → DX (Option Nat × Mm)) → DX (Option Nat × Mm)
  | 0, _, _ => none
  | n+1, σ, kx35 =>
    (gI 3 3 (some h0) σ).bind fun x23 =>
    ck 3 h0 σ <|
    (FX3_byteAt h0 x23 σ).bind fun (x25, σ26) =>
    (FX1_in x25 97 122 σ26).bind fun (x27, σ28) =>
    (if x27 = 0 then (
    kx35 σ28) else (
    (gI 3 3 (some h0) σ28).bind fun x29 =>
    (pI 3 3 (some h0) (x29 + 1) σ28).bind fun σ30 =>
    FX3_word_4 h0 n σ30 kx35))
def FX3_word_48 (h0 : Nat) (y1 : Option Nat) : Nat → Int32 → Mm → (Mm → DX (Option Nat × Mm)) → DX (Option Nat × Mm)
  | 0, _, _, _ => none
  | n+1, v2, σ, kx74 =>
    (gI 3 3 (some h0) σ).bind fun x38 =>
    (if x38 ≤ v2 then (
    kx74 σ) else (
    (gR 3 0 (some h0) σ).bind fun x39 =>
    (aI 101 x39 v2 σ).bind fun x40 =>
    (rv 19 y1 σ).bind fun q41 =>
    db (FJ5_append q41 ((x40.toUInt32 % 65536).toInt32) σ) fun (x43, σ44) =>
    FX3_word_48 h0 y1 n (v2 + 1) σ44 kx74))
def FX3_word (h0 : Nat) (σ : Mm) : DX (Option Nat × Mm) :=
ck 3 h0 σ <|
(FX3_blanks h0 σ).bind fun σ22 =>
FX3_word_4 h0 fu σ22 (fun  (σ : Mm) => (
pay 1 4 <|
(nO 19 σ).bind fun (x32, σ33) =>
(rv 19 x32 σ33).bind fun q34 =>
db (FJ5_init q34 σ33) fun σ36 =>
(gI 3 4 (some h0) σ36).bind fun x37 =>
FX3_word_48 h0 x32 fu x37 σ36 (fun  (σ : Mm) => (
(rv 19 x32 σ).bind fun q46 =>
db (FJ5_toString q46 σ) fun (x48, σ49) =>
rt (x48, σ49)))))
def FJ12_init_3 (h0 : Nat) (x1 : Option Nat) (x2 : Option Nat) (x3 : Int32) (x4 : Int32) (σ : Mm) : Option (Mm) :=
(pR 9 0 (some h0) (some h0) σ).bind fun σ21 =>
(pR 9 1 (some h0) (mR σ21 (BIG + 200) 0) σ21).bind fun σ22 =>
(pR 9 2 (some h0) (mR σ22 (BIG + 200) 1) σ22).bind fun σ23 =>
(if x4 = 0 then (
(pR 9 1 (some h0) none σ23).bind fun σ24 =>
(pR 9 3 (some h0) x1 σ24).bind fun σ25 =>
(pR 9 0 (some h0) x2 σ25).bind fun σ26 =>
(if x3 = 0 then (
(pR 9 2 (some h0) none σ26).bind fun σ27 =>
some σ27) else (
some σ26))) else (
none))
def FJ13_init_2 (h0 : Nat) (x1 : Option Nat) (x2 : Option Nat) (x3 : Int32) (x4 : Int32) (σ : Mm) : Option (Mm) :=
ck 9 h0 σ <|
(FJ12_init_3 h0 x1 x2 x3 x4 σ).bind fun σ22 =>
some σ22
def FX9_init (h0 : Nat) (σ : Mm) : Option (Mm) :=
ck 9 h0 σ <|
(FJ13_init_2 h0 none none 0 0 σ).bind fun σ22 =>
some σ22
def FX3_wrong (h0 : Nat) (σ : Mm) : Option (Option Nat × Mm) :=
(nO 9 σ).bind fun (x21, σ22) =>
(rv 9 x21 σ22).bind fun q23 =>
(FX9_init q23 σ22).bind fun σ25 =>
some (x21, σ25)
def FX1_noMore (h0 : Nat) (x1 : Int32) (x2 : Int32) (σ : Mm) : DX (Mm) :=
(if x2 ≤ x1 then (
(gR 1 4 (some h0) σ).bind fun x21 =>
(rv 3 x21 σ).bind fun q22 =>
db (FX3_word q22 σ) fun (x24, σ25) =>
(gR 1 4 (some h0) σ25).bind fun x26 =>
(rv 3 x26 σ25).bind fun q27 =>
pay 1 6 <|
(FX3_wrong q27 σ25).bind fun (x29, σ30) =>
thrd x29 σ30) else (
rt σ))
def FX1_marksTold_13 (y1 : Option Nat) : Nat → Int32 → Int32 → Mm → (Int32 → Int32 → Mm → DX (Int32 × Mm)) → DX (Int32 × Mm)
  | 0, _, _, _, _ => none
  | n+1, v2, v3, σ, kx109 =>
    (gI 3 3 y1 σ).bind fun x25 =>
    (rv 3 y1 σ).bind fun q26 =>
    (FX3_byteAt q26 x25 σ).bind fun (x28, σ29) =>
    (FX1_in x28 48 57 σ29).bind fun (x30, σ31) =>
    (if x30 = 0 then (
    kx109 v2 v3 σ31) else (
    (gI 3 3 y1 σ31).bind fun x32 =>
    (gI 3 4 y1 σ31).bind fun x33 =>
    jn (fun (z34 : Int32) (σ : Mm) => (
    jn (fun (x35 : Int32) (σ : Mm) => (
    (gI 3 3 y1 σ).bind fun x36 =>
    (pI 3 3 y1 (x36 + 1) σ).bind fun σ37 =>
    FX1_marksTold_13 y1 n x35 z34 σ37 kx109)) fun J96 =>
    (if z34 = 0 then (
    J96 v2 σ) else (
    (gI 3 3 y1 σ).bind fun x38 =>
    (rv 3 y1 σ).bind fun q39 =>
    (FX3_byteAt q39 x38 σ).bind fun (x41, σ42) =>
    (if x41 = 49 then (
    J96 (v2 ||| (1 <<< ((x32 - x33) &&& 31))) σ42) else (
    J96 v2 σ42)))))) fun J71 =>
    (if v3 = 0 then (
    J71 0 σ31) else (
    (if 8 ≤ (x32 - x33) then (
    J71 0 σ31) else (
    (gI 3 3 y1 σ31).bind fun x45 =>
    (rv 3 y1 σ31).bind fun q46 =>
    (FX3_byteAt q46 x45 σ31).bind fun (x48, σ49) =>
    (if 49 < x48 then (
    J71 0 σ49) else (
    J71 1 σ49))))))))
def FX1_marksTold (h0 : Nat) (σ : Mm) : DX (Int32 × Mm) :=
(gR 1 4 (some h0) σ).bind fun x21 =>
(rv 3 x21 σ).bind fun q22 =>
(FX3_blanks q22 σ).bind fun σ24 =>
FX1_marksTold_13 x21 fu 0 1 σ24 (fun (x54 : Int32) (x55 : Int32) (σ : Mm) => (
jn (fun  (σ : Mm) => (
(rv 3 x21 σ).bind fun q56 =>
pay 1 6 <|
(FX3_wrong q56 σ).bind fun (x58, σ59) =>
thrd x58 σ59)) fun J127 =>
(if x55 = 0 then (
J127 σ) else (
(gI 3 3 x21 σ).bind fun x60 =>
(gI 3 4 x21 σ).bind fun x61 =>
(if (x60 - x61) = 8 then (
rt (x54, σ)) else (
J127 σ))))))
def FX2_isTold_2 (h0 : Nat) (y1 : Int32) (y2 : Int32) : Nat → Int32 → Mm → (Mm → Option (Int32 × Mm)) → (Mm → Option (Int32 × Mm)) → Option (Int32 × Mm)
  | 0, _, _, _, _ => none
  | n+1, v3, σ, kx35, kx27 =>
    (gR 2 16 (some h0) σ).bind fun x21 =>
    (aI 100 x21 y1 σ).bind fun x22 =>
    (if x22 ≤ v3 then (
    kx35 σ) else (
    (gR 2 15 (some h0) σ).bind fun x23 =>
    (aI 100 x23 ((10 * y1) + v3) σ).bind fun x24 =>
    (if x24 = y2 then (
    kx27 σ) else (
    FX2_isTold_2 h0 y1 y2 n (v3 + 1) σ kx35 kx27))))
def FX2_isTold (h0 : Nat) (x1 : Int32) (x2 : Int32) (σ : Mm) : Option (Int32 × Mm) :=
FX2_isTold_2 h0 x1 x2 fu 0 σ (fun  (σ : Mm) => (
rZ 0 σ)) (fun  (σ : Mm) => (
rZ 1 σ))
def FX2_fillsWishes_9 (h0 : Nat) (y1 : Int32) : Nat → Int32 → Int32 → Mm → (Mm → Option (Mm)) → Option (Mm)
  | 0, _, _, _, _ => none
  | n+1, v2, v3, σ, kx50 =>
    (gI 2 1 (some h0) σ).bind fun x23 =>
    (if x23 ≤ v3 then (
    kx50 σ) else (
    ck 2 h0 σ <|
    (FX2_isTold h0 y1 v3 σ).bind fun (x25, σ26) =>
    (if x25 = 0 then (
    (gR 2 15 (some h0) σ26).bind fun x27 =>
    (sI x27 ((10 * y1) + v2) v3 σ26).bind fun σ28 =>
    FX2_fillsWishes_9 h0 y1 n (v2 + 1) (v3 + 1) σ28 kx50) else (
    FX2_fillsWishes_9 h0 y1 n v2 (v3 + 1) σ26 kx50))))
def FX2_fillsWishes (h0 : Nat) (x1 : Int32) (σ : Mm) : Option (Mm) :=
(gR 2 16 (some h0) σ).bind fun x21 =>
(aI 100 x21 x1 σ).bind fun x22 =>
FX2_fillsWishes_9 h0 x1 fu x22 0 σ (fun  (σ : Mm) => (
some σ))
def FX1_aPerson_76 (y1 : Option Nat) (y2 : Int32) : Nat → Int32 → Mm → (Mm → DX (Mm)) → DX (Mm)
  | 0, _, _, _ => none
  | n+1, v3, σ, kx112 =>
    (if 10 ≤ v3 then (
    kx112 σ) else (
    (gR 2 14 y1 σ).bind fun x42 =>
    (sI x42 ((10 * y2) + v3) 0 σ).bind fun σ43 =>
    (gR 2 14 y1 σ43).bind fun x44 =>
    (sI x44 ((10 * v3) + y2) 0 σ43).bind fun σ45 =>
    FX1_aPerson_76 y1 y2 n (v3 + 1) σ45 kx112))
def FX1_aPerson_124 (y1 : Option Nat) : Nat → Int32 → Mm → (Mm → DX (Mm)) → DX (Mm)
  | 0, _, _, _ => none
  | n+1, v3, σ, kx143 =>
    (gI 2 1 y1 σ).bind fun x49 =>
    (if x49 ≤ v3 then (
    kx143 σ) else (
    (rv 2 y1 σ).bind fun q50 =>
    (FX2_fillsWishes q50 v3 σ).bind fun σ52 =>
    FX1_aPerson_124 y1 n (v3 + 1) σ52 kx143))
def FX1_aPerson (h0 : Nat) (x1 : Option Nat) (σ : Mm) : DX (Mm) :=
(gI 2 1 x1 σ).bind fun x21 =>
(if x21 = 10 then (
(gR 1 4 (some h0) σ).bind fun x54 =>
(rv 3 x54 σ).bind fun q55 =>
pay 1 6 <|
(FX3_wrong q55 σ).bind fun (x57, σ58) =>
thrd x57 σ58) else (
(gR 2 8 x1 σ).bind fun x22 =>
ck 1 h0 σ <|
db (FX1_marksTold h0 σ) fun (x24, σ25) =>
(sI x22 x21 x24 σ25).bind fun σ26 =>
(gR 2 9 x1 σ26).bind fun x27 =>
ck 1 h0 σ26 <|
db (FX1_marksTold h0 σ26) fun (x29, σ30) =>
(sI x27 x21 x29 σ30).bind fun σ31 =>
(gR 2 10 x1 σ31).bind fun x32 =>
(sI x32 x21 x21 σ31).bind fun σ33 =>
(gR 2 11 x1 σ33).bind fun x34 =>
(sI x34 x21 (-1) σ33).bind fun σ35 =>
(gR 2 12 x1 σ35).bind fun x36 =>
(sI x36 x21 (-1) σ35).bind fun σ37 =>
(gR 2 13 x1 σ37).bind fun x38 =>
(sI x38 x21 0 σ37).bind fun σ39 =>
(gR 2 16 x1 σ39).bind fun x40 =>
(sI x40 x21 0 σ39).bind fun σ41 =>
FX1_aPerson_76 x1 x21 fu 0 σ41 (fun  (σ : Mm) => (
(gI 2 1 x1 σ).bind fun x47 =>
(pI 2 1 x1 (x47 + 1) σ).bind fun σ48 =>
FX1_aPerson_124 x1 fu 0 σ48 (fun  (σ : Mm) => (
rt σ))))))
def FX3_figures_7 (h0 : Nat) (y1 : Int32) (y2 : Int32) (y3 : Int32) : Nat → Int32 → Mm → (Int32 → Mm → DX (Int32 × Mm)) → DX (Int32 × Mm)
  | 0, _, _, _ => none
  | n+1, v4, σ, kx75 =>
    (gI 3 3 (some h0) σ).bind fun x23 =>
    ck 3 h0 σ <|
    (FX3_byteAt h0 x23 σ).bind fun (x25, σ26) =>
    (FX1_in x25 48 57 σ26).bind fun (x27, σ28) =>
    (if x27 = 0 then (
    kx75 v4 σ28) else (
    (gI 3 3 (some h0) σ28).bind fun x29 =>
    (gI 3 4 (some h0) σ28).bind fun x30 =>
    jn (fun (z31 : Int32) (σ : Mm) => (
    (gI 3 3 (some h0) σ).bind fun x32 =>
    (pI 3 3 (some h0) (x32 + 1) σ).bind fun σ33 =>
    FX3_figures_7 h0 y1 y2 y3 n z31 σ33 kx75)) fun J60 =>
    (if y3 ≤ (x29 - x30) then (
    J60 v4 σ28) else (
    (gI 3 3 (some h0) σ28).bind fun x34 =>
    ck 3 h0 σ28 <|
    (FX3_byteAt h0 x34 σ28).bind fun (x36, σ37) =>
    J60 (((10 * v4) + x36) - 48) σ37))))
def FX3_figures (h0 : Nat) (x1 : Int32) (x2 : Int32) (x3 : Int32) (σ : Mm) : DX (Int32 × Mm) :=
ck 3 h0 σ <|
(FX3_blanks h0 σ).bind fun σ22 =>
FX3_figures_7 h0 x1 x2 x3 fu 0 σ22 (fun (x40 : Int32) (σ : Mm) => (
(gI 3 3 (some h0) σ).bind fun x41 =>
(gI 3 4 (some h0) σ).bind fun x42 =>
jn (fun  (σ : Mm) => (
ck 3 h0 σ <|
pay 1 6 <|
(FX3_wrong h0 σ).bind fun (x44, σ45) =>
thrd x44 σ45)) fun J109 =>
(if x41 = x42 then (
J109 σ) else (
(gI 3 3 (some h0) σ).bind fun x46 =>
(gI 3 4 (some h0) σ).bind fun x47 =>
(if x3 < (x46 - x47) then (
J109 σ) else (
(FX1_in x40 x1 x2 σ).bind fun (x48, σ49) =>
(if x48 = 0 then (
J109 σ49) else (
rt (x40, σ49)))))))))
def FX3_number (h0 : Nat) (x1 : Int32) (x2 : Int32) (σ : Mm) : DX (Int32 × Mm) :=
ck 3 h0 σ <|
db (FX3_figures h0 x1 x2 3 σ) fun (x22, σ23) =>
rt (x22, σ23)
def FX1_personTold (h0 : Nat) (x1 : Option Nat) (σ : Mm) : DX (Int32 × Mm) :=
(gR 1 4 (some h0) σ).bind fun x21 =>
(gI 2 1 x1 σ).bind fun x22 =>
(rv 3 x21 σ).bind fun q23 =>
db (FX3_number q23 0 (x22 - 1) σ) fun (x25, σ26) =>
rt (x25, σ26)
def FX3_isFigure (h0 : Nat) (σ : Mm) : Option (Int32 × Mm) :=
ck 3 h0 σ <|
(FX3_blanks h0 σ).bind fun σ22 =>
(gI 3 3 (some h0) σ22).bind fun x23 =>
ck 3 h0 σ22 <|
(FX3_byteAt h0 x23 σ22).bind fun (x25, σ26) =>
(FX1_in x25 48 57 σ26).bind fun (x27, σ28) =>
rZ x27 σ28
def FX1_aWish_18 (h0 : Nat) (y1 : Option Nat) (y2 : Option Nat) (y3 : Int32) : Nat → Mm → (Mm → DX (Mm)) → (Mm → DX (Mm)) → DX (Mm)
  | 0, _, _, _ => none
  | n+1, σ, kx35, kx75 =>
    ck 1 h0 σ <|
    db (FX1_personTold h0 y1 σ) fun (x28, σ29) =>
    (rv 2 y1 σ29).bind fun q30 =>
    (FX2_isTold q30 y3 x28 σ29).bind fun (x32, σ33) =>
    (if x32 = 0 then (
    (gR 2 15 y1 σ33).bind fun x34 =>
    (gR 2 16 y1 σ33).bind fun x35 =>
    (aI 100 x35 y3 σ33).bind fun x36 =>
    (sI x34 ((10 * y3) + x36) x28 σ33).bind fun σ37 =>
    (gR 2 16 y1 σ37).bind fun x38 =>
    (aI 100 x38 y3 σ37).bind fun x39 =>
    (sI x38 y3 (x39 + 1) σ37).bind fun σ40 =>
    (rv 3 y2 σ40).bind fun q41 =>
    (FX3_isFigure q41 σ40).bind fun (x43, σ44) =>
    (if x43 = 0 then (
    kx75 σ44) else (
    FX1_aWish_18 h0 y1 y2 y3 n σ44 kx35 kx75))) else (
    kx35 σ33))
def FX1_aWish (h0 : Nat) (x1 : Option Nat) (σ : Mm) : DX (Mm) :=
(gR 1 4 (some h0) σ).bind fun x21 =>
ck 1 h0 σ <|
db (FX1_personTold h0 x1 σ) fun (x23, σ24) =>
(gR 2 16 x1 σ24).bind fun x25 =>
(sI x25 x23 0 σ24).bind fun σ26 =>
FX1_aWish_18 h0 x1 x21 x23 fu σ26 (fun  (σ : Mm) => (
(rv 3 x21 σ).bind fun q47 =>
pay 1 6 <|
(FX3_wrong q47 σ).bind fun (x49, σ50) =>
thrd x49 σ50)) (fun  (σ : Mm) => (
(rv 2 x1 σ).bind fun q51 =>
(FX2_fillsWishes q51 x23 σ).bind fun σ53 =>
rt σ53))
def FX1_singleTold (h0 : Nat) (x1 : Option Nat) (σ : Mm) : DX (Int32 × Mm) :=
ck 1 h0 σ <|
db (FX1_personTold h0 x1 σ) fun (x22, σ23) =>
(gR 2 12 x1 σ23).bind fun x24 =>
(aI 100 x24 x22 σ23).bind fun x25 =>
(if x25 = (-1) then (
rt (x22, σ23)) else (
(gR 1 4 (some h0) σ23).bind fun x26 =>
(rv 3 x26 σ23).bind fun q27 =>
pay 1 6 <|
(FX3_wrong q27 σ23).bind fun (x29, σ30) =>
thrd x29 σ30))
def FX1_aWedding (h0 : Nat) (x1 : Option Nat) (σ : Mm) : DX (Mm) :=
ck 1 h0 σ <|
db (FX1_singleTold h0 x1 σ) fun (x22, σ23) =>
ck 1 h0 σ23 <|
db (FX1_singleTold h0 x1 σ23) fun (x25, σ26) =>
(if x22 = x25 then (
(gR 1 4 (some h0) σ26).bind fun x31 =>
(rv 3 x31 σ26).bind fun q32 =>
pay 1 6 <|
(FX3_wrong q32 σ26).bind fun (x34, σ35) =>
thrd x34 σ35) else (
(gR 2 12 x1 σ26).bind fun x27 =>
(sI x27 x22 x25 σ26).bind fun σ28 =>
(gR 2 12 x1 σ28).bind fun x29 =>
(sI x29 x25 x22 σ28).bind fun σ30 =>
rt σ30))
def FX1_aKnowing_11 (h0 : Nat) (y1 : Option Nat) (y2 : Option Nat) (y3 : Int32) : Nat → Mm → (Mm → DX (Mm)) → (Mm → DX (Mm)) → DX (Mm)
  | 0, _, _, _ => none
  | n+1, σ, kx24, kx49 =>
    ck 1 h0 σ <|
    db (FX1_personTold h0 y1 σ) fun (x26, σ27) =>
    (if x26 = y3 then (
    kx24 σ27) else (
    (gR 2 13 y1 σ27).bind fun x28 =>
    (aI 100 x28 y3 σ27).bind fun x29 =>
    (sI x28 y3 (x29 ||| (1 <<< (x26 &&& 31))) σ27).bind fun σ30 =>
    (rv 3 y2 σ30).bind fun q31 =>
    (FX3_isFigure q31 σ30).bind fun (x33, σ34) =>
    (if x33 = 0 then (
    kx49 σ34) else (
    FX1_aKnowing_11 h0 y1 y2 y3 n σ34 kx24 kx49))))
def FX1_aKnowing (h0 : Nat) (x1 : Option Nat) (σ : Mm) : DX (Mm) :=
(gR 1 4 (some h0) σ).bind fun x21 =>
ck 1 h0 σ <|
db (FX1_personTold h0 x1 σ) fun (x23, σ24) =>
FX1_aKnowing_11 h0 x1 x21 x23 fu σ24 (fun  (σ : Mm) => (
(rv 3 x21 σ).bind fun q37 =>
pay 1 6 <|
(FX3_wrong q37 σ).bind fun (x39, σ40) =>
thrd x39 σ40)) (fun  (σ : Mm) => (
rt σ))
def FX1_theHooks_13 (h0 : Nat) (y1 : Option Nat) (y2 : Int32) : Nat → Int32 → Mm → (Mm → DX (Mm)) → (Mm → DX (Mm)) → DX (Mm)
  | 0, _, _, _, _ => none
  | n+1, v3, σ, kx51, kx37 =>
    (if 12 ≤ v3 then (
    kx51 σ) else (
    (gR 2 17 y1 σ).bind fun x26 =>
    (aI 100 x26 v3 σ).bind fun x27 =>
    (if x27 = (-1) then (
    (rv 2 y1 σ).bind fun q28 =>
    (FX2_isTicket q28 v3 σ).bind fun (x30, σ31) =>
    (if x30 = 0 then (
    FX1_theHooks_13 h0 y1 y2 n (v3 + 1) σ31 kx51 kx37) else (
    kx37 σ31))) else (
    kx37 σ))))
def FX1_theHooks (h0 : Nat) (x1 : Option Nat) (σ : Mm) : DX (Mm) :=
(gR 1 4 (some h0) σ).bind fun x21 =>
(rv 3 x21 σ).bind fun q22 =>
db (FX3_number q22 1 12 σ) fun (x24, σ25) =>
FX1_theHooks_13 h0 x1 x24 fu x24 σ25 (fun  (σ : Mm) => (
(pI 2 2 x1 x24 σ).bind fun σ35 =>
rt σ35)) (fun  (σ : Mm) => (
(gR 1 4 (some h0) σ).bind fun x36 =>
(rv 3 x36 σ).bind fun q37 =>
pay 1 6 <|
(FX3_wrong q37 σ).bind fun (x39, σ40) =>
thrd x39 σ40))
def FJ6_isLatin1 (h0 : Nat) (σ : Mm) : Option (Int32 × Mm) :=
(if (1 : Int32) = 0 then (
rZ 0 σ) else (
(gI 20 1 (some h0) σ).bind fun x21 =>
(if x21 = 0 then (
rZ 1 σ) else (
rZ 0 σ))))
def FJ8_signedHashCode_8 (y1 : Option Nat) (y4 : Int32) : Nat → Int32 → Int32 → Mm → (Int32 → Mm → Option (Int32 × Mm)) → Option (Int32 × Mm)
  | 0, _, _, _, _ => none
  | n+1, v0, v5, σ, kx35 =>
    (if y4 ≤ v5 then (
    kx35 v0 σ) else (
    (aI 101 y1 v5 σ).bind fun x21 =>
    FJ8_signedHashCode_8 y1 y4 n ((31 * v0) + (x21 &&& 255)) (v5 + 1) σ kx35))
def FJ8_signedHashCode (x0 : Int32) (x1 : Option Nat) (x2 : Int32) (x3 : Int32) (σ : Mm) : Option (Int32 × Mm) :=
FJ8_signedHashCode_8 x1 (x2 + x3) fu x0 x2 σ (fun (x23 : Int32) (σ : Mm) => (
some (x23, σ)))
def FJ8_hashCode_2_8 (y1 : Option Nat) (y4 : Int32) : Nat → Int32 → Int32 → Mm → (Int32 → Mm → Option (Int32 × Mm)) → Option (Int32 × Mm)
  | 0, _, _, _, _ => none
  | n+1, v0, v5, σ, kx31 =>
    (if y4 ≤ v5 then (
    kx31 v0 σ) else (
    (aI 101 y1 v5 σ).bind fun x21 =>
    FJ8_hashCode_2_8 y1 y4 n ((31 * v0) + x21) (v5 + 1) σ kx31))
def FJ8_hashCode_2 (x0 : Int32) (x1 : Option Nat) (x2 : Int32) (x3 : Int32) (σ : Mm) : Option (Int32 × Mm) :=
FJ8_hashCode_2_8 x1 (x2 + x3) fu x0 x2 σ (fun (x23 : Int32) (σ : Mm) => (
some (x23, σ)))
def FJ8_vectorizedHashCode (x0 : Option Nat) (x1 : Int32) (x2 : Int32) (x3 : Int32) (x4 : Int32) (σ : Mm) : Option (Int32 × Mm) :=
(if x4 = 4 then (
(rv 101 x0 σ).bind fun q22 =>
(FJ8_signedHashCode x3 (some q22) x1 x2 σ).bind fun (x25, σ26) =>
some (x25, σ26)) else (
(if x4 = 5 then (
none) else (
(if x4 = 6 then (
none) else (
(if x4 = 7 then (
none) else (
(if x4 = 8 then (
(rv 101 x0 σ).bind fun q31 =>
(FJ8_hashCode_2 x3 (some q31) x1 x2 σ).bind fun (x34, σ35) =>
some (x34, σ35)) else (
(if x4 = 9 then (
none) else (
(if x4 = 10 then (
none) else (
none))))))))))))))
def FJ10_hashCode (x0 : Option Nat) (σ : Mm) : Option (Int32 × Mm) :=
(aL 101 x0 σ).bind fun x21 =>
(if x21 = 0 then (
some (0, σ)) else (
(if x21 = 1 then (
(aI 101 x0 0 σ).bind fun x24 =>
some ((x24 &&& 255), σ)) else (
(aL 101 x0 σ).bind fun x25 =>
(FJ8_vectorizedHashCode x0 0 x25 0 4 σ).bind fun (x26, σ27) =>
some (x26, σ27)))))
def FJ6_hashCode (h0 : Nat) (σ : Mm) : Option (Int32 × Mm) :=
(gI 20 2 (some h0) σ).bind fun x21 =>
(if x21 = 0 then (
(gI 20 3 (some h0) σ).bind fun x22 =>
(if x22 = 0 then (
ck 20 h0 σ <|
(FJ6_isLatin1 h0 σ).bind fun (x24, σ25) =>
(if x24 = 0 then (
(gR 20 0 (some h0) σ25).bind fun x26 =>
none) else (
(gR 20 0 (some h0) σ25).bind fun x27 =>
(FJ10_hashCode x27 σ25).bind fun (x28, σ29) =>
(if x28 = 0 then (
(pZ 20 3 (some h0) 1 σ29).bind fun σ31 =>
some (x28, σ31)) else (
(pI 20 2 (some h0) x28 σ29).bind fun σ30 =>
some (x28, σ30)))))) else (
some (x21, σ)))) else (
some (x21, σ)))
def FJ10_equalsk01_9 (y0 : Option Nat) (y1 : Option Nat) : Nat → Int32 → Mm → (Mm → Option (Int32 × Mm)) → (Mm → Option (Int32 × Mm)) → Option (Int32 × Mm)
  | 0, _, _, _, _ => none
  | n+1, v2, σ, kx32, kx24 =>
    (aL 101 y0 σ).bind fun x23 =>
    (if x23 ≤ v2 then (
    kx32 σ) else (
    (aI 101 y0 v2 σ).bind fun x24 =>
    (aI 601 y1 v2 σ).bind fun x25 =>
    (if x24 = x25 then (
    FJ10_equalsk01_9 y0 y1 n (v2 + 1) σ kx32 kx24) else (
    kx24 σ))))
def FJ10_equalsk01 (x0 : Option Nat) (x1 : Option Nat) (σ : Mm) : Option (Int32 × Mm) :=
(aL 101 x0 σ).bind fun x21 =>
(aL 601 x1 σ).bind fun x22 =>
(if x21 = x22 then (
FJ10_equalsk01_9 x0 x1 fu 0 σ (fun  (σ : Mm) => (
rZ 1 σ)) (fun  (σ : Mm) => (
rZ 0 σ))) else (
rZ 0 σ))
def FJ6_equalsk01 (h0 : Nat) (x1 : Option Nat) (σ : Mm) : Option (Int32 × Mm) :=
(if dif h0 x1 then (
(rv 520 x1 σ).bind fun q21 =>
(if (1 : Int32) = 0 then (
rZ 0 σ) else (
(rv 520 x1 σ).bind fun q24 =>
jn (fun  (σ : Mm) => (
(gR 20 0 (some h0) σ).bind fun x27 =>
(gR 520 0 (some q24) σ).bind fun x28 =>
(FJ10_equalsk01 x27 x28 σ).bind fun (x29, σ30) =>
(if x29 = 0 then (
rZ 0 σ30) else (
rZ 1 σ30)))) fun J36 =>
(if (1 : Int32) = 0 then (
J36 σ) else (
(gI 20 1 (some h0) σ).bind fun x32 =>
(gI 520 1 (some q24) σ).bind fun x33 =>
(if x32 = x33 then (
J36 σ) else (
rZ 0 σ))))))) else none)
def FX1_doorLine (h0 : Nat) (x1 : Option Nat) (σ : Mm) : DX (Mm) :=
(gR 1 4 (some h0) σ).bind fun x21 =>
(rv 3 x21 σ).bind fun q22 =>
db (FX3_word q22 σ) fun (x24, σ25) =>
(rv 20 x24 σ25).bind fun q26 =>
(FJ6_hashCode q26 σ25).bind fun (x28, σ29) =>
jn (fun (x30 : Int32) (σ : Mm) => (
(if x30 = 0 then (
ck 1 h0 σ <|
db (FX1_aPerson h0 x1 σ) fun σ33 =>
rt σ33) else (
(if x30 = 1 then (
ck 1 h0 σ <|
db (FX1_aWish h0 x1 σ) fun σ36 =>
rt σ36) else (
(if x30 = 2 then (
ck 1 h0 σ <|
db (FX1_aWedding h0 x1 σ) fun σ39 =>
rt σ39) else (
(if x30 = 3 then (
ck 1 h0 σ <|
db (FX1_aKnowing h0 x1 σ) fun σ42 =>
rt σ42) else (
(if x30 = 4 then (
ck 1 h0 σ <|
db (FX1_theHooks h0 x1 σ) fun σ45 =>
rt σ45) else (
(if x30 = 5 then (
(rv 3 x21 σ).bind fun q47 =>
db (FX3_number q47 0 100 σ) fun (x49, σ50) =>
(pI 2 4 x1 x49 σ50).bind fun σ51 =>
rt σ51) else (
(if x30 = 6 then (
(rv 3 x21 σ).bind fun q53 =>
db (FX3_number q53 0 100 σ) fun (x55, σ56) =>
(pI 2 5 x1 x55 σ56).bind fun σ57 =>
rt σ57) else (
(rv 3 x21 σ).bind fun q58 =>
pay 1 6 <|
(FX3_wrong q58 σ).bind fun (x60, σ61) =>
thrd x60 σ61)))))))))))))))) fun J187 =>
(if x28 = (-991716523) then (
(rv 20 x24 σ29).bind fun q63 =>
(FJ6_equalsk01 q63 (some (BIG + 2 * 0)) σ29).bind fun (x65, σ66) =>
(if x65 = 0 then (
J187 (-1) σ66) else (
J187 0 σ66))) else (
(if x28 = 108124 then (
(rv 20 x24 σ29).bind fun q69 =>
(FJ6_equalsk01 q69 (some (BIG + 2 * 5)) σ29).bind fun (x71, σ72) =>
(if x71 = 0 then (
J187 (-1) σ72) else (
J187 5 σ72))) else (
(if x28 = 117590 then (
(rv 20 x24 σ29).bind fun q75 =>
(FJ6_equalsk01 q75 (some (BIG + 2 * 2)) σ29).bind fun (x77, σ78) =>
(if x77 = 0 then (
J187 (-1) σ78) else (
J187 2 σ78))) else (
(if x28 = 3649703 then (
(rv 20 x24 σ29).bind fun q81 =>
(FJ6_equalsk01 q81 (some (BIG + 2 * 1)) σ29).bind fun (x83, σ84) =>
(if x83 = 0 then (
J187 (-1) σ84) else (
J187 1 σ84))) else (
(if x28 = 99463088 then (
(rv 20 x24 σ29).bind fun q87 =>
(FJ6_equalsk01 q87 (some (BIG + 2 * 4)) σ29).bind fun (x89, σ90) =>
(if x89 = 0 then (
J187 (-1) σ90) else (
J187 4 σ90))) else (
(if x28 = 102204232 then (
(rv 20 x24 σ29).bind fun q93 =>
(FJ6_equalsk01 q93 (some (BIG + 2 * 3)) σ29).bind fun (x95, σ96) =>
(if x95 = 0 then (
J187 (-1) σ96) else (
J187 3 σ96))) else (
(if x28 = 110330838 then (
(rv 20 x24 σ29).bind fun q99 =>
(FJ6_equalsk01 q99 (some (BIG + 2 * 6)) σ29).bind fun (x101, σ102) =>
(if x101 = 0 then (
J187 (-1) σ102) else (
J187 6 σ102))) else (
J187 (-1) σ29))))))))))))))
def FX3_sign (h0 : Nat) (x1 : Int32) (σ : Mm) : Option (Int32 × Mm) :=
ck 3 h0 σ <|
(FX3_blanks h0 σ).bind fun σ22 =>
(gI 3 3 (some h0) σ22).bind fun x23 =>
ck 3 h0 σ22 <|
(FX3_byteAt h0 x23 σ22).bind fun (x25, σ26) =>
(if x25 = x1 then (
(gI 3 3 (some h0) σ26).bind fun x27 =>
(pI 3 3 (some h0) (x27 + 1) σ26).bind fun σ28 =>
rZ 1 σ28) else (
rZ 0 σ26))
def FX1_goesOn (h0 : Nat) (σ : Mm) : DX (Int32 × Mm) :=
(gR 1 4 (some h0) σ).bind fun x21 =>
(rv 3 x21 σ).bind fun q22 =>
(FX3_isOver q22 σ).bind fun (x24, σ25) =>
(if x24 = 0 then (
(gR 1 4 (some h0) σ25).bind fun x26 =>
(rv 3 x26 σ25).bind fun q27 =>
(FX3_sign q27 59 σ25).bind fun (x29, σ30) =>
(if x29 = 0 then (
(gR 1 4 (some h0) σ30).bind fun x31 =>
(rv 3 x31 σ30).bind fun q32 =>
pay 1 6 <|
(FX3_wrong q32 σ30).bind fun (x34, σ35) =>
thrd x34 σ35) else (
rZd 1 σ30))) else (
rZd 0 σ25))
def FX1_doorText_13 (h0 : Nat) (y1 : Option Nat) : Nat → Int32 → Mm → (Mm → DX (Mm)) → DX (Mm)
  | 0, _, _, _ => none
  | n+1, v2, σ, kx35 =>
    ck 1 h0 σ <|
    db (FX1_noMore h0 v2 14 σ) fun σ27 =>
    ck 1 h0 σ27 <|
    db (FX1_doorLine h0 y1 σ27) fun σ29 =>
    ck 1 h0 σ29 <|
    db (FX1_goesOn h0 σ29) fun (x31, σ32) =>
    (if x31 = 0 then (
    kx35 σ32) else (
    FX1_doorText_13 h0 y1 n (v2 + 1) σ32 kx35))
def FX1_doorText (h0 : Nat) (x1 : Option Nat) (σ : Mm) : DX (Mm) :=
(gR 1 4 (some h0) σ).bind fun x21 =>
(rv 3 x21 σ).bind fun q22 =>
(FX3_isOver q22 σ).bind fun (x24, σ25) =>
(if x24 = 0 then (
FX1_doorText_13 h0 x1 fu 0 σ25 (fun  (σ : Mm) => (
rt σ))) else (
rt σ25))
def FX1_fails (h0 : Nat) (σ : Mm) : DX (Mm) :=
(gR 1 4 (some h0) σ).bind fun x21 =>
(gR 1 4 (some h0) σ).bind fun x22 =>
(gI 3 4 x22 σ).bind fun x23 =>
(pI 3 5 x21 x23 σ).bind fun σ24 =>
thw 3 σ24
def FX1_door (h0 : Nat) (σ : Mm) : DX (Int32 × Mm) :=
(gR 1 4 (some h0) σ).bind fun x21 =>
(rv 3 x21 σ).bind fun q22 =>
(FX3_begins q22 σ).bind fun σ24 =>
(gR 1 1 (some h0) σ24).bind fun x25 =>
(gR 1 0 (some h0) σ24).bind fun x26 =>
(rv 2 x25 σ24).bind fun q27 =>
(FX2_likens q27 x26 σ24).bind fun (x29, σ30) =>
(gR 1 1 (some h0) σ30).bind fun x31 =>
jn (fun  (σ : Mm) => (
(gR 1 0 (some h0) σ).bind fun x34 =>
(gI 2 0 x34 σ).bind fun x35 =>
(if x35 = 12 then (
thw 6 σ) else (
(gR 1 1 (some h0) σ).bind fun x36 =>
(gI 2 0 x36 σ).bind fun x37 =>
(pI 2 0 x36 (x37 + 1) σ).bind fun σ38 =>
(gR 1 0 (some h0) σ38).bind fun x39 =>
(gR 1 1 (some h0) σ38).bind fun x40 =>
(rv 2 x39 σ38).bind fun q41 =>
(FX2_likens q41 x40 σ38).bind fun (x43, σ44) =>
(gR 1 6 (some h0) σ44).bind fun x45 =>
(rv 17 x45 σ44).bind fun q46 =>
(FJ3_clear q46 σ44).bind fun σ48 =>
(gR 1 0 (some h0) σ48).bind fun x49 =>
(gI 2 0 x49 σ48).bind fun x50 =>
rt (x50, σ48))))) fun J43 =>
ck 1 h0 σ30 <|
dt (FX1_doorText h0 x31 σ30) (fun σ33 => (
(gR 1 4 (some h0) σ33).bind fun x52 =>
(pI 3 5 x52 (-1) σ33).bind fun σ53 =>
J43 σ53)) (fun k54 σ55 =>
(if k54 = 1 then (
ck 1 h0 σ55 <|
db (FX1_fails h0 σ55) fun σ57 =>
J43 σ57) else none))
def FX10_init (h0 : Nat) (σ : Mm) : Option (Mm) :=
(nO 17 σ).bind fun (x21, σ22) =>
(rv 17 x21 σ22).bind fun q23 =>
(FJ3_init q23 σ22).bind fun σ25 =>
(pR 10 0 (some h0) x21 σ25).bind fun σ26 =>
some σ26
def FJ10_equals_9 (y0 : Option Nat) (y1 : Option Nat) : Nat → Int32 → Mm → (Mm → Option (Int32 × Mm)) → (Mm → Option (Int32 × Mm)) → Option (Int32 × Mm)
  | 0, _, _, _, _ => none
  | n+1, v2, σ, kx32, kx24 =>
    (aL 101 y0 σ).bind fun x23 =>
    (if x23 ≤ v2 then (
    kx32 σ) else (
    (aI 101 y0 v2 σ).bind fun x24 =>
    (aI 101 y1 v2 σ).bind fun x25 =>
    (if x24 = x25 then (
    FJ10_equals_9 y0 y1 n (v2 + 1) σ kx32 kx24) else (
    kx24 σ))))
def FJ10_equals (x0 : Option Nat) (x1 : Option Nat) (σ : Mm) : Option (Int32 × Mm) :=
(aL 101 x0 σ).bind fun x21 =>
(aL 101 x1 σ).bind fun x22 =>
(if x21 = x22 then (
FJ10_equals_9 x0 x1 fu 0 σ (fun  (σ : Mm) => (
rZ 1 σ)) (fun  (σ : Mm) => (
rZ 0 σ))) else (
rZ 0 σ))
def FJ6_equals (h0 : Nat) (x1 : Option Nat) (σ : Mm) : Option (Int32 × Mm) :=
(if dif h0 x1 then (
(rv 20 x1 σ).bind fun q21 =>
(if (1 : Int32) = 0 then (
rZ 0 σ) else (
(rv 20 x1 σ).bind fun q24 =>
jn (fun  (σ : Mm) => (
(gR 20 0 (some h0) σ).bind fun x27 =>
(gR 20 0 (some q24) σ).bind fun x28 =>
(FJ10_equals x27 x28 σ).bind fun (x29, σ30) =>
(if x29 = 0 then (
rZ 0 σ30) else (
rZ 1 σ30)))) fun J36 =>
(if (1 : Int32) = 0 then (
J36 σ) else (
(gI 20 1 (some h0) σ).bind fun x32 =>
(gI 20 1 (some q24) σ).bind fun x33 =>
(if x32 = x33 then (
J36 σ) else (
rZ 0 σ))))))) else none)
def FX3_passes (h0 : Nat) (x1 : Option Nat) (σ : Mm) : DX (Int32 × Mm) :=
ck 3 h0 σ <|
db (FX3_word h0 σ) fun (x22, σ23) =>
(rv 20 x22 σ23).bind fun q24 =>
(FJ6_equals q24 x1 σ23).bind fun (x26, σ27) =>
(if x26 = 0 then (
(gI 3 4 (some h0) σ27).bind fun x28 =>
(pI 3 3 (some h0) x28 σ27).bind fun σ29 =>
rZd 0 σ29) else (
rZd 1 σ27))
def FX3_goesDeeper (h0 : Nat) (σ : Mm) : DX (Mm) :=
(gI 3 6 (some h0) σ).bind fun x21 =>
(if x21 = 6 then (
ck 3 h0 σ <|
pay 1 6 <|
(FX3_wrong h0 σ).bind fun (x25, σ26) =>
thrd x25 σ26) else (
(gI 3 6 (some h0) σ).bind fun x22 =>
(pI 3 6 (some h0) (x22 + 1) σ).bind fun σ23 =>
rt σ23))
def FX12_init (h0 : Nat) (x1 : Int32) (σ : Mm) : Option (Mm) :=
(nO 17 σ).bind fun (x21, σ22) =>
(rv 17 x21 σ22).bind fun q23 =>
(FJ3_init q23 σ22).bind fun σ25 =>
(pR 12 1 (some h0) x21 σ25).bind fun σ26 =>
(pZ 12 0 (some h0) x1 σ26).bind fun σ27 =>
some σ27
def FJ0_copyOf_3 (x0 : Option Nat) (x1 : Int32) (x2 : Option Nat) (σ : Mm) : DX (Option Nat × Mm) :=
(if x2 = (some (BIG + 302)) then (
pay 1 (x1.toNatClampNeg) <|
(nA 102 x1 σ).bind fun (x21, σ22) =>
(aLo 102 x0 σ22).bind fun x23 =>
(cpR x0 0 x21 0 (imin x23 x1) σ22).bind fun σ24 =>
rt (x21, σ24)) else none)
def FJ0_copyOf_2 (x0 : Option Nat) (x1 : Int32) (σ : Mm) : DX (Option Nat × Mm) :=
(rv 102 x0 σ).bind fun q21 =>
db (FJ0_copyOf_3 x0 x1 (some (BIG + 302)) σ) fun (x23, σ24) =>
rt (x23, σ24)
def FJ3_grow_2 (h0 : Nat) (x1 : Int32) (σ : Mm) : DX (Option Nat × Mm) :=
(gR 17 1 (some h0) σ).bind fun x21 =>
(aLo 102 x21 σ).bind fun x22 =>
jn (fun  (σ : Mm) => (
(FJ8_newLength x22 (x1 - x22) (x22 >>> (1 &&& 31)) σ).bind fun (x23, σ24) =>
(gR 17 1 (some h0) σ24).bind fun x25 =>
db (FJ0_copyOf_2 x25 x23 σ24) fun (x26, σ27) =>
(pR 17 1 (some h0) x26 σ27).bind fun σ28 =>
rt (x26, σ28))) fun J20 =>
(if 0 < x22 then (
J20 σ) else (
(gR 17 1 (some h0) σ).bind fun x29 =>
(if x29 = some (BIG + 122) then (
pay 1 ((imax 10 x1).toNatClampNeg) <|
(nA 102 (imax 10 x1) σ).bind fun (x30, σ31) =>
(pR 17 1 (some h0) x30 σ31).bind fun σ32 =>
rt (x30, σ32)) else if isd x29 then (
J20 σ) else none)))
def FJ3_grow (h0 : Nat) (σ : Mm) : DX (Option Nat × Mm) :=
(gI 17 2 (some h0) σ).bind fun x21 =>
ck 17 h0 σ <|
db (FJ3_grow_2 h0 (x21 + 1) σ) fun (x23, σ24) =>
rt (x23, σ24)
def FJ3_add_2 (h0 : Nat) (x1 : Option Nat) (x2 : Option Nat) (x3 : Int32) (σ : Mm) : DX (Mm) :=
(aLo 102 x2 σ).bind fun x21 =>
jn (fun (x22 : Option Nat) (σ : Mm) => (
(sR x22 x3 x1 σ).bind fun σ23 =>
(pI 17 2 (some h0) (x3 + 1) σ23).bind fun σ24 =>
rt σ24)) fun J11 =>
(if x3 = x21 then (
ck 17 h0 σ <|
db (FJ3_grow h0 σ) fun (x26, σ27) =>
J11 x26 σ27) else (
J11 x2 σ))
def FJ3_add (h0 : Nat) (x1 : Option Nat) (σ : Mm) : DX (Int32 × Mm) :=
(gI 17 0 (some h0) σ).bind fun x21 =>
(pI 17 0 (some h0) (x21 + 1) σ).bind fun σ22 =>
(gR 17 1 (some h0) σ22).bind fun x23 =>
(gI 17 2 (some h0) σ22).bind fun x24 =>
ck 17 h0 σ22 <|
db (FJ3_add_2 h0 x1 x23 x24 σ22) fun σ26 =>
rZd 1 σ26
def FX3_passesk01 (h0 : Nat) (x1 : Option Nat) (σ : Mm) : DX (Int32 × Mm) :=
ck 3 h0 σ <|
db (FX3_word h0 σ) fun (x22, σ23) =>
(rv 20 x22 σ23).bind fun q24 =>
(FJ6_equalsk01 q24 x1 σ23).bind fun (x26, σ27) =>
(if x26 = 0 then (
(gI 3 4 (some h0) σ27).bind fun x28 =>
(pI 3 3 (some h0) x28 σ27).bind fun σ29 =>
rZd 0 σ29) else (
rZd 1 σ27))
def RX1_allOf_9 (Rf : Nat → Mm → DX (Option Nat × Mm)) (h0 : Nat) (y1 : Option Nat) : Nat → Mm → (Mm → DX (Option Nat × Mm)) → DX (Option Nat × Mm)
  | 0, _, _ => none
  | n+1, σ, kx34 =>
    (gR 12 1 y1 σ).bind fun x26 =>
    ck 1 h0 σ <|
    db (Rf h0 σ) fun (x28, σ29) =>
    (rv 17 x26 σ29).bind fun q30 =>
    db (FJ3_add q30 x28 σ29) fun (x32, σ33) =>
    (gR 1 4 (some h0) σ33).bind fun x34 =>
    (rv 3 x34 σ33).bind fun q35 =>
    db (FX3_passesk01 q35 (some (BIG + 2 * 12)) σ33) fun (x37, σ38) =>
    (if x37 = 0 then (
    kx34 σ38) else (
    RX1_allOf_9 Rf h0 y1 n σ38 kx34))
def RX1_allOf (Rf : Nat → Mm → DX (Option Nat × Mm)) (h0 : Nat) (σ : Mm) : DX (Option Nat × Mm) :=
pay 1 2 <|
(nO 12 σ).bind fun (x21, σ22) =>
(rv 12 x21 σ22).bind fun q23 =>
pay 1 3 <|
(FX12_init q23 1 σ22).bind fun σ25 =>
RX1_allOf_9 Rf h0 x21 fu σ25 (fun  (σ : Mm) => (
rt (x21, σ)))
def RX1_cond_9 (Rf : Nat → Mm → DX (Option Nat × Mm)) (h0 : Nat) (y1 : Option Nat) : Nat → Mm → (Mm → DX (Option Nat × Mm)) → DX (Option Nat × Mm)
  | 0, _, _ => none
  | n+1, σ, kx34 =>
    (gR 12 1 y1 σ).bind fun x26 =>
    ck 1 h0 σ <|
    db (RX1_allOf Rf h0 σ) fun (x28, σ29) =>
    (rv 17 x26 σ29).bind fun q30 =>
    db (FJ3_add q30 x28 σ29) fun (x32, σ33) =>
    (gR 1 4 (some h0) σ33).bind fun x34 =>
    (rv 3 x34 σ33).bind fun q35 =>
    db (FX3_passesk01 q35 (some (BIG + 2 * 13)) σ33) fun (x37, σ38) =>
    (if x37 = 0 then (
    kx34 σ38) else (
    RX1_cond_9 Rf h0 y1 n σ38 kx34))
def RX1_cond (Rf : Nat → Mm → DX (Option Nat × Mm)) (h0 : Nat) (σ : Mm) : DX (Option Nat × Mm) :=
pay 1 2 <|
(nO 12 σ).bind fun (x21, σ22) =>
(rv 12 x21 σ22).bind fun q23 =>
pay 1 3 <|
(FX12_init q23 0 σ22).bind fun σ25 =>
RX1_cond_9 Rf h0 x21 fu σ25 (fun  (σ : Mm) => (
rt (x21, σ)))
def FX3_comesUp (h0 : Nat) (σ : Mm) : Option (Mm) :=
(gI 3 6 (some h0) σ).bind fun x21 =>
(pI 3 6 (some h0) (x21 - 1) σ).bind fun σ22 =>
some σ22
def FX13_init (h0 : Nat) (x1 : Option Nat) (σ : Mm) : Option (Mm) :=
(pR 13 0 (some h0) x1 σ).bind fun σ21 =>
some σ21
def FX14_init (h0 : Nat) (x1 : Int32) (σ : Mm) : Option (Mm) :=
(pZ 14 0 (some h0) x1 σ).bind fun σ21 =>
some σ21
def FX15_init (h0 : Nat) (σ : Mm) : Option (Mm) :=
(nO 17 σ).bind fun (x21, σ22) =>
(rv 17 x21 σ22).bind fun q23 =>
(FJ3_init q23 σ22).bind fun σ25 =>
(pR 15 0 (some h0) x21 σ25).bind fun σ26 =>
some σ26
def FX16_init (h0 : Nat) (x1 : Int32) (x2 : Option Nat) (σ : Mm) : Option (Mm) :=
(pI 16 0 (some h0) x1 σ).bind fun σ21 =>
(pR 16 1 (some h0) x2 σ21).bind fun σ22 =>
some σ22
def FX17_values  (σ : Mm) : DX (Option Nat × Mm) :=
pay 1 6 <|
(clF (some (BIG + 120)) σ).bind fun (x21, σ22) =>
(rv 103 x21 σ22).bind fun q23 =>
rt ((some q23), σ22)
def FJ10_equalsk10_9 (y0 : Option Nat) (y1 : Option Nat) : Nat → Int32 → Mm → (Mm → Option (Int32 × Mm)) → (Mm → Option (Int32 × Mm)) → Option (Int32 × Mm)
  | 0, _, _, _, _ => none
  | n+1, v2, σ, kx32, kx24 =>
    (aL 601 y0 σ).bind fun x23 =>
    (if x23 ≤ v2 then (
    kx32 σ) else (
    (aI 601 y0 v2 σ).bind fun x24 =>
    (aI 101 y1 v2 σ).bind fun x25 =>
    (if x24 = x25 then (
    FJ10_equalsk10_9 y0 y1 n (v2 + 1) σ kx32 kx24) else (
    kx24 σ))))
def FJ10_equalsk10 (x0 : Option Nat) (x1 : Option Nat) (σ : Mm) : Option (Int32 × Mm) :=
(aL 601 x0 σ).bind fun x21 =>
(aL 101 x1 σ).bind fun x22 =>
(if x21 = x22 then (
FJ10_equalsk10_9 x0 x1 fu 0 σ (fun  (σ : Mm) => (
rZ 1 σ)) (fun  (σ : Mm) => (
rZ 0 σ))) else (
rZ 0 σ))
def FJ6_equalsk10 (h0 : Nat) (x1 : Option Nat) (σ : Mm) : Option (Int32 × Mm) :=
(if dif h0 x1 then (
(rv 20 x1 σ).bind fun q21 =>
(if (1 : Int32) = 0 then (
rZ 0 σ) else (
(rv 20 x1 σ).bind fun q24 =>
jn (fun  (σ : Mm) => (
(gR 520 0 (some h0) σ).bind fun x27 =>
(gR 20 0 (some q24) σ).bind fun x28 =>
(FJ10_equalsk10 x27 x28 σ).bind fun (x29, σ30) =>
(if x29 = 0 then (
rZ 0 σ30) else (
rZ 1 σ30)))) fun J36 =>
(if (1 : Int32) = 0 then (
J36 σ) else (
(gI 520 1 (some h0) σ).bind fun x32 =>
(gI 20 1 (some q24) σ).bind fun x33 =>
(if x32 = x33 then (
J36 σ) else (
rZ 0 σ))))))) else none)
def FX17_of_9 (y0 : Option Nat) (y1 : Option Nat) (y2 : Int32) : Nat → Int32 → Mm → (Mm → DX (Option Nat × Mm)) → (Option Nat → Mm → DX (Option Nat × Mm)) → DX (Option Nat × Mm)
  | 0, _, _, _, _ => none
  | n+1, v3, σ, kx40, kx31 =>
    (if y2 ≤ v3 then (
    kx40 σ) else (
    (aR 103 y1 v3 σ).bind fun x24 =>
    (gR 522 1 x24 σ).bind fun x25 =>
    (rv 520 x25 σ).bind fun q26 =>
    (FJ6_equalsk10 q26 y0 σ).bind fun (x28, σ29) =>
    (if x28 = 0 then (
    FX17_of_9 y0 y1 y2 n (v3 + 1) σ29 kx40 kx31) else (
    kx31 x24 σ29))))
def FX17_of (x0 : Option Nat) (σ : Mm) : DX (Option Nat × Mm) :=
db (FX17_values σ) fun (x21, σ22) =>
(aL 103 x21 σ22).bind fun x23 =>
FX17_of_9 x0 x21 x23 fu 0 σ22 (fun  (σ : Mm) => (
rt (none, σ))) (fun (x32 : Option Nat) (σ : Mm) => (
rt (x32, σ)))
def FX1_onePart (h0 : Nat) (σ : Mm) : DX (Option Nat × Mm) :=
(gR 1 4 (some h0) σ).bind fun x21 =>
(rv 3 x21 σ).bind fun q22 =>
(FX3_isFigure q22 σ).bind fun (x24, σ25) =>
(if x24 = 0 then (
(gR 1 4 (some h0) σ25).bind fun x26 =>
(rv 3 x26 σ25).bind fun q27 =>
db (FX3_word q27 σ25) fun (x29, σ30) =>
db (FX17_of x29 σ30) fun (x31, σ32) =>
(match x31 with
| none => (
(gR 1 4 (some h0) σ32).bind fun x35 =>
(rv 3 x35 σ32).bind fun q36 =>
pay 1 6 <|
(FX3_wrong q36 σ32).bind fun (x38, σ39) =>
thrd x38 σ39)
| some q33 => (
pay 1 2 <|
(nO 16 σ32).bind fun (x40, σ41) =>
(rv 16 x40 σ41).bind fun q42 =>
(FX16_init q42 0 x31 σ41).bind fun σ44 =>
rt (x40, σ44)))) else (
pay 1 2 <|
(nO 16 σ25).bind fun (x45, σ46) =>
(gR 1 4 (some h0) σ46).bind fun x47 =>
(rv 3 x47 σ46).bind fun q48 =>
db (FX3_number q48 0 999 σ46) fun (x50, σ51) =>
(rv 16 x45 σ51).bind fun q52 =>
(FX16_init q52 x50 none σ51).bind fun σ54 =>
rt (x45, σ54)))
def FX1_sum_8 (h0 : Nat) (y1 : Option Nat) : Nat → Mm → (Mm → DX (Option Nat × Mm)) → DX (Option Nat × Mm)
  | 0, _, _ => none
  | n+1, σ, kx32 =>
    (gR 15 0 y1 σ).bind fun x26 =>
    ck 1 h0 σ <|
    db (FX1_onePart h0 σ) fun (x28, σ29) =>
    (rv 17 x26 σ29).bind fun q30 =>
    db (FJ3_add q30 x28 σ29) fun (x32, σ33) =>
    (gR 1 4 (some h0) σ33).bind fun x34 =>
    (rv 3 x34 σ33).bind fun q35 =>
    (FX3_sign q35 43 σ33).bind fun (x37, σ38) =>
    (if x37 = 0 then (
    kx32 σ38) else (
    FX1_sum_8 h0 y1 n σ38 kx32))
def FX1_sum (h0 : Nat) (σ : Mm) : DX (Option Nat × Mm) :=
pay 1 1 <|
(nO 15 σ).bind fun (x21, σ22) =>
(rv 15 x21 σ22).bind fun q23 =>
pay 1 3 <|
(FX15_init q23 σ22).bind fun σ25 =>
FX1_sum_8 h0 x21 fu σ25 (fun  (σ : Mm) => (
rt (x21, σ)))
def FX18_init (h0 : Nat) (x1 : Option Nat) (x2 : Option Nat) (σ : Mm) : Option (Mm) :=
(pR 18 0 (some h0) x1 σ).bind fun σ21 =>
(pR 18 1 (some h0) x2 σ21).bind fun σ22 =>
some σ22
def RX1_atom (Rf : Nat → Mm → DX (Option Nat × Mm)) (h0 : Nat) (σ : Mm) : DX (Option Nat × Mm) :=
(gR 1 4 (some h0) σ).bind fun x21 =>
(rv 3 x21 σ).bind fun q22 =>
(FX3_sign q22 40 σ).bind fun (x24, σ25) =>
(if x24 = 0 then (
(rv 3 x21 σ25).bind fun q26 =>
db (FX3_passesk01 q26 (some (BIG + 2 * 10)) σ25) fun (x28, σ29) =>
(if x28 = 0 then (
(rv 3 x21 σ29).bind fun q30 =>
db (FX3_passesk01 q30 (some (BIG + 2 * 11)) σ29) fun (x32, σ33) =>
(if x32 = 0 then (
(rv 3 x21 σ33).bind fun q34 =>
db (FX3_passesk01 q34 (some (BIG + 2 * 2)) σ33) fun (x36, σ37) =>
(if x36 = 0 then (
ck 1 h0 σ37 <|
db (FX1_sum h0 σ37) fun (x39, σ40) =>
(rv 3 x21 σ40).bind fun q41 =>
(FX3_sign q41 60 σ40).bind fun (x43, σ44) =>
(if x43 = 0 then (
(rv 3 x21 σ44).bind fun q45 =>
(FX3_sign q45 62 σ44).bind fun (x47, σ48) =>
(if x47 = 0 then (
(rv 3 x21 σ48).bind fun q57 =>
pay 1 6 <|
(FX3_wrong q57 σ48).bind fun (x59, σ60) =>
thrd x59 σ60) else (
pay 1 2 <|
(nO 18 σ48).bind fun (x49, σ50) =>
ck 1 h0 σ50 <|
db (FX1_sum h0 σ50) fun (x52, σ53) =>
(rv 18 x49 σ53).bind fun q54 =>
(FX18_init q54 x52 x39 σ53).bind fun σ56 =>
rt (x49, σ56)))) else (
pay 1 2 <|
(nO 18 σ44).bind fun (x62, σ63) =>
ck 1 h0 σ63 <|
db (FX1_sum h0 σ63) fun (x65, σ66) =>
(rv 18 x62 σ66).bind fun q67 =>
(FX18_init q67 x39 x65 σ66).bind fun σ69 =>
rt (x62, σ69)))) else (
pay 1 1 <|
(nO 14 σ37).bind fun (x71, σ72) =>
(rv 14 x71 σ72).bind fun q73 =>
(FX14_init q73 0 σ72).bind fun σ75 =>
rt (x71, σ75)))) else (
pay 1 1 <|
(nO 14 σ33).bind fun (x77, σ78) =>
(rv 14 x77 σ78).bind fun q79 =>
(FX14_init q79 1 σ78).bind fun σ81 =>
rt (x77, σ81)))) else (
(rv 3 x21 σ29).bind fun q83 =>
db (FX3_goesDeeper q83 σ29) fun σ85 =>
ck 1 h0 σ85 <|
db (Rf h0 σ85) fun (x87, σ88) =>
(rv 3 x21 σ88).bind fun q89 =>
(FX3_comesUp q89 σ88).bind fun σ91 =>
pay 1 1 <|
(nO 13 σ91).bind fun (x92, σ93) =>
(rv 13 x92 σ93).bind fun q94 =>
(FX13_init q94 x87 σ93).bind fun σ96 =>
rt (x92, σ96)))) else (
(rv 3 x21 σ25).bind fun q98 =>
db (FX3_goesDeeper q98 σ25) fun σ100 =>
ck 1 h0 σ100 <|
db (RX1_cond Rf h0 σ100) fun (x102, σ103) =>
(rv 3 x21 σ103).bind fun q104 =>
(FX3_comesUp q104 σ103).bind fun σ106 =>
(rv 3 x21 σ106).bind fun q107 =>
(FX3_sign q107 41 σ106).bind fun (x109, σ110) =>
(if x109 = 0 then (
(rv 3 x21 σ110).bind fun q111 =>
pay 1 6 <|
(FX3_wrong q111 σ110).bind fun (x113, σ114) =>
thrd x113 σ114) else (
rt (x102, σ110)))))
def FX1_atom : Nat → Nat → Mm → DX (Option Nat × Mm)
  | 0 => fun _ _ => none
  | d+1 => RX1_atom (FX1_atom d)
def FX1_cond (h0 : Nat) (σ : Mm) : DX (Option Nat × Mm) := RX1_cond (FX1_atom 8) h0 σ
def FX1_allOf (h0 : Nat) (σ : Mm) : DX (Option Nat × Mm) := RX1_allOf (FX1_atom 8) h0 σ
def FX11_init (h0 : Nat) (x1 : Int32) (x2 : Option Nat) (σ : Mm) : Option (Mm) :=
(pZ 11 0 (some h0) x1 σ).bind fun σ21 =>
(pR 11 1 (some h0) x2 σ21).bind fun σ22 =>
some σ22
def FX1_lawLine (h0 : Nat) (σ : Mm) : DX (Option Nat × Mm) :=
(gR 1 4 (some h0) σ).bind fun x21 =>
(rv 3 x21 σ).bind fun q22 =>
db (FX3_word q22 σ) fun (x24, σ25) =>
(rv 20 x24 σ25).bind fun q26 =>
(FJ6_equalsk01 q26 (some (BIG + 2 * 7)) σ25).bind fun (x28, σ29) =>
jn (fun  (σ : Mm) => (
pay 1 2 <|
(nO 11 σ).bind fun (x30, σ31) =>
(gR 1 4 (some h0) σ31).bind fun x32 =>
(rv 3 x32 σ31).bind fun q33 =>
db (FX3_passesk01 q33 (some (BIG + 2 * 9)) σ31) fun (x35, σ36) =>
jn (fun (z37 : Option Nat) (σ : Mm) => (
(rv 11 x30 σ).bind fun q38 =>
(FX11_init q38 x28 z37 σ).bind fun σ40 =>
rt (x30, σ40))) fun J64 =>
(if x35 = 0 then (
J64 none σ36) else (
ck 1 h0 σ36 <|
db (FX1_cond h0 σ36) fun (x42, σ43) =>
J64 x42 σ43)))) fun J38 =>
(if x28 = 0 then (
(rv 20 x24 σ29).bind fun q45 =>
(FJ6_equalsk01 q45 (some (BIG + 2 * 8)) σ29).bind fun (x47, σ48) =>
(if x47 = 0 then (
(gR 1 4 (some h0) σ48).bind fun x49 =>
(rv 3 x49 σ48).bind fun q50 =>
pay 1 6 <|
(FX3_wrong q50 σ48).bind fun (x52, σ53) =>
thrd x52 σ53) else (
J38 σ48))) else (
J38 σ29))
def FX1_lawText_20 (h0 : Nat) (y1 : Option Nat) : Nat → Mm → (Mm → DX (Option Nat × Mm)) → DX (Option Nat × Mm)
  | 0, _, _ => none
  | n+1, σ, kx52 =>
    (gR 10 0 y1 σ).bind fun x31 =>
    (rv 17 x31 σ).bind fun q32 =>
    (FJ3_size q32 σ).bind fun (x34, σ35) =>
    ck 1 h0 σ35 <|
    db (FX1_noMore h0 x34 12 σ35) fun σ37 =>
    (gR 10 0 y1 σ37).bind fun x38 =>
    ck 1 h0 σ37 <|
    db (FX1_lawLine h0 σ37) fun (x40, σ41) =>
    (rv 17 x38 σ41).bind fun q42 =>
    db (FJ3_add q42 x40 σ41) fun (x44, σ45) =>
    ck 1 h0 σ45 <|
    db (FX1_goesOn h0 σ45) fun (x47, σ48) =>
    (if x47 = 0 then (
    kx52 σ48) else (
    FX1_lawText_20 h0 y1 n σ48 kx52))
def FX1_lawText (h0 : Nat) (σ : Mm) : DX (Option Nat × Mm) :=
pay 1 1 <|
(nO 10 σ).bind fun (x21, σ22) =>
(rv 10 x21 σ22).bind fun q23 =>
pay 1 3 <|
(FX10_init q23 σ22).bind fun σ25 =>
(gR 1 4 (some h0) σ25).bind fun x26 =>
(rv 3 x26 σ25).bind fun q27 =>
(FX3_isOver q27 σ25).bind fun (x29, σ30) =>
(if x29 = 0 then (
FX1_lawText_20 h0 x21 fu σ30 (fun  (σ : Mm) => (
rt (x21, σ)))) else (
rt (x21, σ30)))
def FX1_law (h0 : Nat) (σ : Mm) : DX (Int32 × Mm) :=
(gR 1 4 (some h0) σ).bind fun x21 =>
(rv 3 x21 σ).bind fun q22 =>
(FX3_begins q22 σ).bind fun σ24 =>
(gR 1 0 (some h0) σ24).bind fun x25 =>
jn (fun  (σ : Mm) => (
(gR 1 6 (some h0) σ).bind fun x28 =>
(rv 17 x28 σ).bind fun q29 =>
(FJ3_clear q29 σ).bind fun σ31 =>
(gR 1 0 (some h0) σ31).bind fun x32 =>
(gR 2 19 x32 σ31).bind fun x33 =>
(gR 10 0 x33 σ31).bind fun x34 =>
(rv 17 x34 σ31).bind fun q35 =>
(FJ3_size q35 σ31).bind fun (x37, σ38) =>
rt (x37, σ38))) fun J34 =>
ck 1 h0 σ24 <|
dt (FX1_lawText h0 σ24) (fun (x39, σ27) => (
(pR 2 19 x25 x39 σ27).bind fun σ40 =>
(gR 1 4 (some h0) σ40).bind fun x41 =>
(pI 3 5 x41 (-1) σ40).bind fun σ42 =>
J34 σ42)) (fun k43 σ44 =>
(if k43 = 1 then (
ck 1 h0 σ44 <|
db (FX1_fails h0 σ44) fun σ46 =>
J34 σ46) else none))
def FX1_there (x0 : Int32) (x1 : Int32) (σ : Mm) : DX (Mm) :=
(FX1_in x0 0 (x1 - 1) σ).bind fun (x21, σ22) =>
(if x21 = 0 then (
thw 2 σ22) else (
rt σ22))
def FX1_personAt (h0 : Nat) (x1 : Int32) (σ : Mm) : DX (Mm) :=
(gR 1 0 (some h0) σ).bind fun x21 =>
(gI 2 1 x21 σ).bind fun x22 =>
db (FX1_there x1 x22 σ) fun σ23 =>
rt σ23
def FX1_question (x0 : Int32) (x1 : Int32) (σ : Mm) : DX (Mm) :=
(FX1_in x0 0 x1 σ).bind fun (x21, σ22) =>
(if x21 = 0 then (
thw 5 σ22) else (
rt σ22))
def FX1_person (h0 : Nat) (x1 : Int32) (x2 : Int32) (σ : Mm) : DX (Int32 × Mm) :=
ck 1 h0 σ <|
db (FX1_personAt h0 x1 σ) fun σ22 =>
db (FX1_question x2 5 σ22) fun σ23 =>
(gR 1 0 (some h0) σ23).bind fun x24 =>
(if x2 = 0 then (
(gR 2 9 x24 σ23).bind fun x26 =>
(aI 100 x26 x1 σ23).bind fun x27 =>
rt (x27, σ23)) else (
(if x2 = 1 then (
(gR 2 10 x24 σ23).bind fun x29 =>
(aI 100 x29 x1 σ23).bind fun x30 =>
rt (x30, σ23)) else (
(if x2 = 2 then (
(gR 2 11 x24 σ23).bind fun x32 =>
(aI 100 x32 x1 σ23).bind fun x33 =>
rt (x33, σ23)) else (
(if x2 = 3 then (
(gR 2 12 x24 σ23).bind fun x35 =>
(aI 100 x35 x1 σ23).bind fun x36 =>
rt (x36, σ23)) else (
(if x2 = 4 then (
(gR 2 13 x24 σ23).bind fun x38 =>
(aI 100 x38 x1 σ23).bind fun x39 =>
rt (x39, σ23)) else (
ck 1 h0 σ23 <|
(FX1_ringOf h0 x1 σ23).bind fun (x41, σ42) =>
rt (x41, σ42)))))))))))
def FX1_alike_4 (h0 : Nat) (y1 : Int32) : Nat → Int32 → Int32 → Mm → (Int32 → Mm → Option (Int32 × Mm)) → Option (Int32 × Mm)
  | 0, _, _, _, _ => none
  | n+1, v2, v3, σ, kx57 =>
    (gR 1 0 (some h0) σ).bind fun x21 =>
    (gI 2 1 x21 σ).bind fun x22 =>
    (if x22 ≤ v3 then (
    kx57 v2 σ) else (
    jn (fun (z23 : Int32) (σ : Mm) => (
    FX1_alike_4 h0 y1 n (v2 ||| z23) (v3 + 1) σ kx57)) fun J49 =>
    (if v3 = y1 then (
    J49 0 σ) else (
    (gR 1 0 (some h0) σ).bind fun x24 =>
    (gR 2 8 x24 σ).bind fun x25 =>
    (aI 100 x25 v3 σ).bind fun x26 =>
    (gR 1 0 (some h0) σ).bind fun x27 =>
    (gR 2 8 x27 σ).bind fun x28 =>
    (aI 100 x28 y1 σ).bind fun x29 =>
    (if x26 = x29 then (
    J49 (1 <<< (v3 &&& 31)) σ) else (
    J49 0 σ))))))
def FX1_alike (h0 : Nat) (x1 : Int32) (σ : Mm) : Option (Int32 × Mm) :=
FX1_alike_4 h0 x1 fu 0 0 σ (fun (x33 : Int32) (σ : Mm) => (
some (x33, σ)))
def FX1_face (h0 : Nat) (x1 : Int32) (x2 : Int32) (σ : Mm) : DX (Int32 × Mm) :=
ck 1 h0 σ <|
db (FX1_personAt h0 x1 σ) fun σ22 =>
db (FX1_question x2 3 σ22) fun σ23 =>
(gR 1 0 (some h0) σ23).bind fun x24 =>
(if x2 = 0 then (
(gR 2 8 x24 σ23).bind fun x26 =>
(aI 100 x26 x1 σ23).bind fun x27 =>
rt (x27, σ23)) else (
(if x2 = 1 then (
(rv 2 x24 σ23).bind fun q29 =>
(FX2_wearer q29 x1 σ23).bind fun (x31, σ32) =>
rt (x31, σ32)) else (
(if x2 = 2 then (
(rv 2 x24 σ23).bind fun q34 =>
(FX2_hookOf q34 x1 σ23).bind fun (x36, σ37) =>
rt (x36, σ37)) else (
ck 1 h0 σ23 <|
(FX1_alike h0 x1 σ23).bind fun (x39, σ40) =>
rt (x39, σ40)))))))
def FX1_hookAt (h0 : Nat) (x1 : Int32) (σ : Mm) : DX (Mm) :=
(gR 1 0 (some h0) σ).bind fun x21 =>
(gI 2 2 x21 σ).bind fun x22 =>
db (FX1_there x1 x22 σ) fun σ23 =>
rt σ23
def FX1_hook (h0 : Nat) (x1 : Int32) (σ : Mm) : DX (Int32 × Mm) :=
ck 1 h0 σ <|
db (FX1_hookAt h0 x1 σ) fun σ22 =>
(gR 1 0 (some h0) σ22).bind fun x23 =>
(gR 2 17 x23 σ22).bind fun x24 =>
(aI 100 x24 x1 σ22).bind fun x25 =>
rt (x25, σ22)
def FX1_wish (h0 : Nat) (x1 : Int32) (x2 : Int32) (σ : Mm) : DX (Int32 × Mm) :=
ck 1 h0 σ <|
db (FX1_personAt h0 x1 σ) fun σ22 =>
(gR 1 0 (some h0) σ22).bind fun x23 =>
(gI 2 1 x23 σ22).bind fun x24 =>
(FX1_in x2 0 (x24 - 1) σ22).bind fun (x25, σ26) =>
(if x25 = 0 then (
rt ((-1), σ26)) else (
(gR 1 0 (some h0) σ26).bind fun x27 =>
(gR 2 15 x27 σ26).bind fun x28 =>
(aI 100 x28 ((10 * x1) + x2) σ26).bind fun x29 =>
rt (x29, σ26)))
def FX1_demand (x0 : Int32) (σ : Mm) : DX (Mm) :=
(if x0 = 0 then (
thw 3 σ) else (
rt σ))
def FX1_twoAt (h0 : Nat) (x1 : Int32) (x2 : Int32) (σ : Mm) : DX (Mm) :=
ck 1 h0 σ <|
db (FX1_personAt h0 x1 σ) fun σ22 =>
ck 1 h0 σ22 <|
db (FX1_personAt h0 x2 σ22) fun σ24 =>
jn (fun (z25 : Int32) (σ : Mm) => (
db (FX1_demand z25 σ) fun σ26 =>
rt σ26)) fun J20 =>
(if x1 = x2 then (
J20 0 σ24) else (
J20 1 σ24))
def FX1_thinks (h0 : Nat) (x1 : Int32) (x2 : Int32) (σ : Mm) : DX (Int32 × Mm) :=
ck 1 h0 σ <|
db (FX1_twoAt h0 x1 x2 σ) fun σ22 =>
(gR 1 0 (some h0) σ22).bind fun x23 =>
(gR 2 14 x23 σ22).bind fun x24 =>
(aI 100 x24 ((10 * x1) + x2) σ22).bind fun x25 =>
rt (x25, σ22)
def FX1_can (x0 : Int32) (σ : Mm) : DX (Mm) :=
(if x0 = 0 then (
thw 4 σ) else (
rt σ))
def FX1_remembers (h0 : Nat) (σ : Mm) : DX (Mm) :=
(gR 1 6 (some h0) σ).bind fun x21 =>
(rv 17 x21 σ).bind fun q22 =>
(FJ3_size q22 σ).bind fun (x24, σ25) =>
jn (fun (z26 : Option Nat) (σ : Mm) => (
(gR 1 6 (some h0) σ).bind fun x27 =>
(gR 1 0 (some h0) σ).bind fun x28 =>
(rv 2 z26 σ).bind fun q29 =>
(FX2_likens q29 x28 σ).bind fun (x31, σ32) =>
(rv 17 x27 σ32).bind fun q33 =>
db (FJ3_add q33 x31 σ32) fun (x35, σ36) =>
rt σ36)) fun J33 =>
(if x24 = 12 then (
(gR 1 6 (some h0) σ25).bind fun x42 =>
(rv 17 x42 σ25).bind fun q43 =>
(FJ3_remove q43 0 σ25).bind fun (x45, σ46) =>
(rv 2 x45 σ46).bind fun q47 =>
J33 (some q47) σ46) else (
pay 1 20 <|
(nO 2 σ25).bind fun (x37, σ38) =>
(rv 2 x37 σ38).bind fun q39 =>
pay 11 582 <|
(FX2_init q39 σ38).bind fun σ41 =>
J33 x37 σ41))
def FX2_tells (h0 : Nat) (x1 : Int32) (x2 : Int32) (x3 : Int32) (x4 : Option Nat) (σ : Mm) : Option (Mm) :=
(gR 2 18 (some h0) σ).bind fun x21 =>
(gR 2 18 (some h0) σ).bind fun x22 =>
(gR 2 18 (some h0) σ).bind fun x23 =>
(aL 100 x23 σ).bind fun x24 =>
(cpI 100 x21 0 x22 5 (x24 - 5) σ).bind fun σ25 =>
(gR 2 18 (some h0) σ25).bind fun x26 =>
(gI 2 3 (some h0) σ25).bind fun x27 =>
(sI x26 0 x27 σ25).bind fun σ28 =>
(gR 2 18 (some h0) σ28).bind fun x29 =>
(sI x29 1 x1 σ28).bind fun σ30 =>
(gR 2 18 (some h0) σ30).bind fun x31 =>
(sI x31 2 x2 σ30).bind fun σ32 =>
(gR 2 18 (some h0) σ32).bind fun x33 =>
(sI x33 3 x3 σ32).bind fun σ34 =>
(gR 2 18 (some h0) σ34).bind fun x35 =>
(gI 521 0 x4 σ34).bind fun x36 =>
(sI x35 4 x36 σ34).bind fun σ37 =>
(gI 2 6 (some h0) σ37).bind fun x38 =>
(pI 2 6 (some h0) (imin 60 (x38 + 1)) σ37).bind fun σ39 =>
some σ39
def FX2_hands (h0 : Nat) (x1 : Int32) (x2 : Int32) (σ : Mm) : Option (Mm) :=
(gR 2 17 (some h0) σ).bind fun x21 =>
(gR 2 10 (some h0) σ).bind fun x22 =>
(aI 100 x22 x1 σ).bind fun x23 =>
(sI x21 x2 x23 σ).bind fun σ24 =>
(gR 2 10 (some h0) σ24).bind fun x25 =>
(aI 100 x25 x1 σ24).bind fun x26 =>
ck 2 h0 σ24 <|
(FX2_tells h0 x1 x2 x26 (some (BIG + 100)) σ24).bind fun σ28 =>
(gR 2 10 (some h0) σ28).bind fun x29 =>
(sI x29 x1 (-1) σ28).bind fun σ30 =>
(gR 2 11 (some h0) σ30).bind fun x31 =>
(sI x31 x1 x2 σ30).bind fun σ32 =>
some σ32
def FX1_hand (h0 : Nat) (x1 : Int32) (x2 : Int32) (σ : Mm) : DX (Int32 × Mm) :=
ck 1 h0 σ <|
db (FX1_personAt h0 x1 σ) fun σ22 =>
ck 1 h0 σ22 <|
db (FX1_hookAt h0 x2 σ22) fun σ24 =>
(gR 1 0 (some h0) σ24).bind fun x25 =>
(gR 2 10 x25 σ24).bind fun x26 =>
(aI 100 x26 x1 σ24).bind fun x27 =>
jn (fun (z28 : Int32) (σ : Mm) => (
db (FX1_can z28 σ) fun σ29 =>
ck 1 h0 σ29 <|
db (FX1_remembers h0 σ29) fun σ31 =>
(gR 1 0 (some h0) σ31).bind fun x32 =>
(rv 2 x32 σ31).bind fun q33 =>
(FX2_hands q33 x1 x2 σ31).bind fun σ35 =>
(gR 1 0 (some h0) σ35).bind fun x36 =>
(gR 2 17 x36 σ35).bind fun x37 =>
(aI 100 x37 x2 σ35).bind fun x38 =>
rt (x38, σ35))) fun J54 =>
(if x27 = (-1) then (
J54 0 σ24) else (
(gR 1 0 (some h0) σ24).bind fun x39 =>
(gR 2 11 x39 σ24).bind fun x40 =>
(aI 100 x40 x1 σ24).bind fun x41 =>
(if x41 = (-1) then (
(gR 1 0 (some h0) σ24).bind fun x42 =>
(gR 2 17 x42 σ24).bind fun x43 =>
(aI 100 x43 x2 σ24).bind fun x44 =>
(if x44 = (-1) then (
J54 1 σ24) else (
J54 0 σ24))) else (
J54 0 σ24))))
def FX2_takes (h0 : Nat) (x1 : Int32) (x2 : Int32) (x3 : Option Nat) (σ : Mm) : Option (Mm) :=
(gR 2 10 (some h0) σ).bind fun x21 =>
(gR 2 17 (some h0) σ).bind fun x22 =>
(aI 100 x22 x2 σ).bind fun x23 =>
(sI x21 x1 x23 σ).bind fun σ24 =>
(gR 2 17 (some h0) σ24).bind fun x25 =>
(sI x25 x2 (-1) σ24).bind fun σ26 =>
(gR 2 10 (some h0) σ26).bind fun x27 =>
(aI 100 x27 x1 σ26).bind fun x28 =>
ck 2 h0 σ26 <|
(FX2_tells h0 x1 x2 x28 x3 σ26).bind fun σ30 =>
some σ30
def FX2_fetches (h0 : Nat) (x1 : Int32) (σ : Mm) : Option (Mm) :=
(gR 2 11 (some h0) σ).bind fun x21 =>
(aI 100 x21 x1 σ).bind fun x22 =>
(gR 2 11 (some h0) σ).bind fun x23 =>
(sI x23 x1 (-1) σ).bind fun σ24 =>
ck 2 h0 σ24 <|
(FX2_takes h0 x1 x22 (some (BIG + 101)) σ24).bind fun σ26 =>
some σ26
def FX1_fetch (h0 : Nat) (x1 : Int32) (σ : Mm) : DX (Int32 × Mm) :=
ck 1 h0 σ <|
db (FX1_personAt h0 x1 σ) fun σ22 =>
(gR 1 0 (some h0) σ22).bind fun x23 =>
(gR 2 11 x23 σ22).bind fun x24 =>
(aI 100 x24 x1 σ22).bind fun x25 =>
jn (fun (z26 : Int32) (σ : Mm) => (
db (FX1_can z26 σ) fun σ27 =>
ck 1 h0 σ27 <|
db (FX1_remembers h0 σ27) fun σ29 =>
(gR 1 0 (some h0) σ29).bind fun x30 =>
(rv 2 x30 σ29).bind fun q31 =>
(FX2_fetches q31 x1 σ29).bind fun σ33 =>
(gR 1 0 (some h0) σ33).bind fun x34 =>
(gR 2 10 x34 σ33).bind fun x35 =>
(aI 100 x35 x1 σ33).bind fun x36 =>
rt (x36, σ33))) fun J36 =>
(if x25 = (-1) then (
J36 0 σ22) else (
(gR 1 0 (some h0) σ22).bind fun x37 =>
(gR 2 10 x37 σ22).bind fun x38 =>
(aI 100 x38 x1 σ22).bind fun x39 =>
(if x39 = (-1) then (
J36 1 σ22) else (
J36 0 σ22))))
def FX2_mixes (h0 : Nat) (x1 : Int32) (x2 : Int32) (σ : Mm) : Option (Mm) :=
(gR 2 11 (some h0) σ).bind fun x21 =>
(aI 100 x21 x1 σ).bind fun x22 =>
(gR 2 11 (some h0) σ).bind fun x23 =>
(gR 2 11 (some h0) σ).bind fun x24 =>
(aI 100 x24 x2 σ).bind fun x25 =>
(sI x23 x1 x25 σ).bind fun σ26 =>
(gR 2 11 (some h0) σ26).bind fun x27 =>
(sI x27 x2 x22 σ26).bind fun σ28 =>
(gR 2 11 (some h0) σ28).bind fun x29 =>
(aI 100 x29 (imin x1 x2) σ28).bind fun x30 =>
ck 2 h0 σ28 <|
(FX2_tells h0 (imin x1 x2) x30 (-1) (some (BIG + 103)) σ28).bind fun σ32 =>
(gR 2 11 (some h0) σ32).bind fun x33 =>
(aI 100 x33 (imax x1 x2) σ32).bind fun x34 =>
ck 2 h0 σ32 <|
(FX2_tells h0 (imax x1 x2) x34 (-1) (some (BIG + 103)) σ32).bind fun σ36 =>
some σ36
def FX1_mix (h0 : Nat) (x1 : Int32) (x2 : Int32) (σ : Mm) : DX (Int32 × Mm) :=
ck 1 h0 σ <|
db (FX1_twoAt h0 x1 x2 σ) fun σ22 =>
(gR 1 0 (some h0) σ22).bind fun x23 =>
(gR 2 11 x23 σ22).bind fun x24 =>
(aI 100 x24 x1 σ22).bind fun x25 =>
jn (fun (z26 : Int32) (σ : Mm) => (
db (FX1_can z26 σ) fun σ27 =>
ck 1 h0 σ27 <|
db (FX1_remembers h0 σ27) fun σ29 =>
(gR 1 0 (some h0) σ29).bind fun x30 =>
(rv 2 x30 σ29).bind fun q31 =>
(FX2_mixes q31 x1 x2 σ29).bind fun σ33 =>
(gR 1 0 (some h0) σ33).bind fun x34 =>
(gR 2 11 x34 σ33).bind fun x35 =>
(aI 100 x35 x1 σ33).bind fun x36 =>
rt (x36, σ33))) fun J37 =>
(if x25 = (-1) then (
J37 0 σ22) else (
(gR 1 0 (some h0) σ22).bind fun x37 =>
(gR 2 11 x37 σ22).bind fun x38 =>
(aI 100 x38 x2 σ22).bind fun x39 =>
(if x39 = (-1) then (
J37 0 σ22) else (
J37 1 σ22))))
def FX1_steal (h0 : Nat) (x1 : Int32) (x2 : Int32) (σ : Mm) : DX (Int32 × Mm) :=
ck 1 h0 σ <|
db (FX1_personAt h0 x1 σ) fun σ22 =>
ck 1 h0 σ22 <|
db (FX1_hookAt h0 x2 σ22) fun σ24 =>
(gR 1 0 (some h0) σ24).bind fun x25 =>
(gR 2 10 x25 σ24).bind fun x26 =>
(aI 100 x26 x1 σ24).bind fun x27 =>
jn (fun (z28 : Int32) (σ : Mm) => (
db (FX1_can z28 σ) fun σ29 =>
ck 1 h0 σ29 <|
db (FX1_remembers h0 σ29) fun σ31 =>
(gR 1 0 (some h0) σ31).bind fun x32 =>
(rv 2 x32 σ31).bind fun q33 =>
(FX2_takes q33 x1 x2 (some (BIG + 102)) σ31).bind fun σ35 =>
(gR 1 0 (some h0) σ35).bind fun x36 =>
(gR 2 10 x36 σ35).bind fun x37 =>
(aI 100 x37 x1 σ35).bind fun x38 =>
rt (x38, σ35))) fun J41 =>
(if x27 = (-1) then (
(gR 1 0 (some h0) σ24).bind fun x39 =>
(gR 2 17 x39 σ24).bind fun x40 =>
(aI 100 x40 x2 σ24).bind fun x41 =>
(if x41 = (-1) then (
J41 0 σ24) else (
J41 1 σ24))) else (
J41 0 σ24))
def FX1_change (h0 : Nat) (x1 : Int32) (x2 : Int32) (σ : Mm) : DX (Int32 × Mm) :=
ck 1 h0 σ <|
db (FX1_twoAt h0 x1 x2 σ) fun σ22 =>
(gR 1 0 (some h0) σ22).bind fun x23 =>
(gR 2 10 x23 σ22).bind fun x24 =>
(aI 100 x24 x1 σ22).bind fun x25 =>
jn (fun (z26 : Int32) (σ : Mm) => (
db (FX1_can z26 σ) fun σ27 =>
ck 1 h0 σ27 <|
db (FX1_remembers h0 σ27) fun σ29 =>
(gR 1 0 (some h0) σ29).bind fun x30 =>
(gR 2 10 x30 σ29).bind fun x31 =>
(aI 100 x31 x1 σ29).bind fun x32 =>
(gR 1 0 (some h0) σ29).bind fun x33 =>
(gR 2 10 x33 σ29).bind fun x34 =>
(gR 1 0 (some h0) σ29).bind fun x35 =>
(gR 2 10 x35 σ29).bind fun x36 =>
(aI 100 x36 x2 σ29).bind fun x37 =>
(sI x34 x1 x37 σ29).bind fun σ38 =>
(gR 1 0 (some h0) σ38).bind fun x39 =>
(gR 2 10 x39 σ38).bind fun x40 =>
(sI x40 x2 x32 σ38).bind fun σ41 =>
(gR 1 0 (some h0) σ41).bind fun x42 =>
(gR 2 10 x42 σ41).bind fun x43 =>
(aI 100 x43 x1 σ41).bind fun x44 =>
rt (x44, σ41))) fun J37 =>
(if x25 = (-1) then (
J37 0 σ22) else (
(gR 1 0 (some h0) σ22).bind fun x45 =>
(gR 2 10 x45 σ22).bind fun x46 =>
(aI 100 x46 x2 σ22).bind fun x47 =>
(if x47 = (-1) then (
J37 0 σ22) else (
J37 1 σ22))))
def FX1_shave (h0 : Nat) (x1 : Int32) (x2 : Int32) (σ : Mm) : DX (Int32 × Mm) :=
ck 1 h0 σ <|
db (FX1_personAt h0 x1 σ) fun σ22 =>
db (FX1_there x2 8 σ22) fun σ23 =>
(gR 1 0 (some h0) σ23).bind fun x24 =>
(gR 2 8 x24 σ23).bind fun x25 =>
(aI 100 x25 x1 σ23).bind fun x26 =>
(FX1_has x26 x2 σ23).bind fun (x27, σ28) =>
db (FX1_can x27 σ28) fun σ29 =>
ck 1 h0 σ29 <|
db (FX1_remembers h0 σ29) fun σ31 =>
(gR 1 0 (some h0) σ31).bind fun x32 =>
(gR 2 8 x32 σ31).bind fun x33 =>
(aI 100 x33 x1 σ31).bind fun x34 =>
(sI x33 x1 (x34 &&& ((1 <<< (x2 &&& 31)) ^^^ (-1))) σ31).bind fun σ35 =>
(gR 1 0 (some h0) σ35).bind fun x36 =>
(gR 2 8 x36 σ35).bind fun x37 =>
(aI 100 x37 x1 σ35).bind fun x38 =>
(FJ16_bitCount x38 σ35).bind fun (x39, σ40) =>
rt (x39, σ40)
def FX1_graft (h0 : Nat) (x1 : Int32) (x2 : Int32) (x3 : Int32) (σ : Mm) : DX (Int32 × Mm) :=
ck 1 h0 σ <|
db (FX1_personAt h0 x1 σ) fun σ22 =>
ck 1 h0 σ22 <|
db (FX1_personAt h0 x2 σ22) fun σ24 =>
db (FX1_there x3 8 σ24) fun σ25 =>
jn (fun (z26 : Int32) (σ : Mm) => (
db (FX1_demand z26 σ) fun σ27 =>
(gR 1 0 (some h0) σ27).bind fun x28 =>
(gR 2 8 x28 σ27).bind fun x29 =>
(aI 100 x29 x1 σ27).bind fun x30 =>
(FX1_has x30 x3 σ27).bind fun (x31, σ32) =>
jn (fun (z33 : Int32) (σ : Mm) => (
db (FX1_can z33 σ) fun σ34 =>
ck 1 h0 σ34 <|
db (FX1_remembers h0 σ34) fun σ36 =>
(gR 1 0 (some h0) σ36).bind fun x37 =>
(gR 2 8 x37 σ36).bind fun x38 =>
(aI 100 x38 x1 σ36).bind fun x39 =>
(sI x38 x1 (x39 &&& ((1 <<< (x3 &&& 31)) ^^^ (-1))) σ36).bind fun σ40 =>
(gR 1 0 (some h0) σ40).bind fun x41 =>
(gR 2 8 x41 σ40).bind fun x42 =>
(aI 100 x42 x2 σ40).bind fun x43 =>
(sI x42 x2 (x43 ||| (1 <<< (x3 &&& 31))) σ40).bind fun σ44 =>
(gR 1 0 (some h0) σ44).bind fun x45 =>
(gR 2 8 x45 σ44).bind fun x46 =>
(aI 100 x46 x2 σ44).bind fun x47 =>
(FJ16_bitCount x47 σ44).bind fun (x48, σ49) =>
rt (x48, σ49))) fun J66 =>
(if x31 = 0 then (
J66 0 σ32) else (
(gR 1 0 (some h0) σ32).bind fun x50 =>
(gR 2 8 x50 σ32).bind fun x51 =>
(aI 100 x51 x2 σ32).bind fun x52 =>
(FX1_has x52 x3 σ32).bind fun (x53, σ54) =>
(if x53 = 0 then (
J66 1 σ54) else (
J66 0 σ54)))))) fun J26 =>
(if x1 = x2 then (
J26 0 σ25) else (
J26 1 σ25))
def FX2_meets (h0 : Nat) (x1 : Int32) (x2 : Int32) (σ : Mm) : Option (Mm) :=
(gR 2 13 (some h0) σ).bind fun x21 =>
(aI 100 x21 x1 σ).bind fun x22 =>
(gR 2 13 (some h0) σ).bind fun x23 =>
(aI 100 x23 x2 σ).bind fun x24 =>
(gR 2 13 (some h0) σ).bind fun x25 =>
(sI x25 x1 ((((x22 ||| x24) ||| (1 <<< (x1 &&& 31))) ||| (1 <<< (x2 &&& 31))) &&& ((1 <<< (x1 &&& 31)) ^^^ (-1))) σ).bind fun σ26 =>
(gR 2 13 (some h0) σ26).bind fun x27 =>
(sI x27 x2 ((((x22 ||| x24) ||| (1 <<< (x1 &&& 31))) ||| (1 <<< (x2 &&& 31))) &&& ((1 <<< (x2 &&& 31)) ^^^ (-1))) σ26).bind fun σ28 =>
(gR 2 14 (some h0) σ28).bind fun x29 =>
(gR 2 13 (some h0) σ28).bind fun x30 =>
(aI 100 x30 x2 σ28).bind fun x31 =>
(sI x29 ((10 * x1) + x2) x31 σ28).bind fun σ32 =>
(gR 2 14 (some h0) σ32).bind fun x33 =>
(gR 2 13 (some h0) σ32).bind fun x34 =>
(aI 100 x34 x1 σ32).bind fun x35 =>
(sI x33 ((10 * x2) + x1) x35 σ32).bind fun σ36 =>
some σ36
def FX1_meet (h0 : Nat) (x1 : Int32) (x2 : Int32) (σ : Mm) : DX (Int32 × Mm) :=
ck 1 h0 σ <|
db (FX1_twoAt h0 x1 x2 σ) fun σ22 =>
ck 1 h0 σ22 <|
db (FX1_remembers h0 σ22) fun σ24 =>
(gR 1 0 (some h0) σ24).bind fun x25 =>
(rv 2 x25 σ24).bind fun q26 =>
(FX2_meets q26 x1 x2 σ24).bind fun σ28 =>
(gR 1 0 (some h0) σ28).bind fun x29 =>
(gR 2 13 x29 σ28).bind fun x30 =>
(aI 100 x30 x1 σ28).bind fun x31 =>
(gR 1 0 (some h0) σ28).bind fun x32 =>
(gR 2 13 x32 σ28).bind fun x33 =>
(aI 100 x33 x2 σ28).bind fun x34 =>
rt ((x31 ||| x34), σ28)
def FX2_freeHook_2 (h0 : Nat) : Nat → Int32 → Mm → (Mm → Option (Int32 × Mm)) → (Int32 → Mm → Option (Int32 × Mm)) → Option (Int32 × Mm)
  | 0, _, _, _, _ => none
  | n+1, v1, σ, kx28, kx20 =>
    (gI 2 2 (some h0) σ).bind fun x21 =>
    (if x21 ≤ v1 then (
    kx28 σ) else (
    (gR 2 17 (some h0) σ).bind fun x22 =>
    (aI 100 x22 v1 σ).bind fun x23 =>
    (if x23 = (-1) then (
    kx20 v1 σ) else (
    FX2_freeHook_2 h0 n (v1 + 1) σ kx28 kx20))))
def FX2_freeHook (h0 : Nat) (σ : Mm) : Option (Int32 × Mm) :=
FX2_freeHook_2 h0 fu 0 σ (fun  (σ : Mm) => (
some ((-1), σ))) (fun (x26 : Int32) (σ : Mm) => (
some (x26, σ)))
def FX2_faceOf (h0 : Nat) (x1 : Int32) (σ : Mm) : Option (Int32 × Mm) :=
(gR 2 10 (some h0) σ).bind fun x21 =>
(aI 100 x21 x1 σ).bind fun x22 =>
(if x22 = (-1) then (
(gR 2 11 (some h0) σ).bind fun x23 =>
(aI 100 x23 x1 σ).bind fun x24 =>
(if x24 = (-1) then (
some ((-1), σ)) else (
(gR 2 17 (some h0) σ).bind fun x25 =>
(gR 2 11 (some h0) σ).bind fun x26 =>
(aI 100 x26 x1 σ).bind fun x27 =>
(aI 100 x25 x27 σ).bind fun x28 =>
some (x28, σ)))) else (
(gR 2 10 (some h0) σ).bind fun x30 =>
(aI 100 x30 x1 σ).bind fun x31 =>
some (x31, σ)))
def FJ3_elementData (h0 : Nat) (x1 : Int32) (σ : Mm) : Option (Option Nat × Mm) :=
(gR 17 1 (some h0) σ).bind fun x21 =>
(aR 102 x21 x1 σ).bind fun x22 =>
some (x22, σ)
def FJ3_get (h0 : Nat) (x1 : Int32) (σ : Mm) : Option (Option Nat × Mm) :=
(gI 17 2 (some h0) σ).bind fun x21 =>
(FJ23_checkIndex x1 x21 σ).bind fun (x22, σ23) =>
ck 17 h0 σ23 <|
(FJ3_elementData h0 x1 σ23).bind fun (x25, σ26) =>
some (x25, σ26)
def RX12_holds_2 (Rf : Nat → Option Nat → Mm → Option (Int32 × Mm)) (h0 : Nat) (y1 : Option Nat) : Nat → Int32 → Mm → (Mm → Option (Int32 × Mm)) → (Mm → Option (Int32 × Mm)) → Option (Int32 × Mm)
  | 0, _, _, _, _ => none
  | n+1, v2, σ, kx56, kx37 =>
    (gR 12 1 (some h0) σ).bind fun x21 =>
    (rv 17 x21 σ).bind fun q22 =>
    (FJ3_size q22 σ).bind fun (x24, σ25) =>
    (if x24 ≤ v2 then (
    kx56 σ25) else (
    (gR 12 1 (some h0) σ25).bind fun x26 =>
    (rv 17 x26 σ25).bind fun q27 =>
    (FJ3_get q27 v2 σ25).bind fun (x29, σ30) =>
    (rvC x29 σ30).bind fun q31 =>
    (ifc Rf (some q31) y1 σ30).bind fun (x34, σ35) =>
    (gI 12 0 (some h0) σ35).bind fun x36 =>
    (if x34 = x36 then (
    RX12_holds_2 Rf h0 y1 n (v2 + 1) σ35 kx56 kx37) else (
    kx37 σ35))))
def RX12_holds (Rf : Nat → Option Nat → Mm → Option (Int32 × Mm)) (h0 : Nat) (x1 : Option Nat) (σ : Mm) : Option (Int32 × Mm) :=
RX12_holds_2 Rf h0 x1 fu 0 σ (fun  (σ : Mm) => (
(gI 12 0 (some h0) σ).bind fun x39 =>
rZ x39 σ)) (fun  (σ : Mm) => (
(gI 12 0 (some h0) σ).bind fun x40 =>
(if x40 = 0 then (
rZ 1 σ) else (
rZ 0 σ))))
def RX13_holds (Rf : Nat → Option Nat → Mm → Option (Int32 × Mm)) (h0 : Nat) (x1 : Option Nat) (σ : Mm) : Option (Int32 × Mm) :=
(gR 13 0 (some h0) σ).bind fun x21 =>
(ifc Rf x21 x1 σ).bind fun (x22, σ23) =>
(if x22 = 0 then (
rZ 1 σ23) else (
rZ 0 σ23))
def RX14_holds (Rf : Nat → Option Nat → Mm → Option (Int32 × Mm)) (h0 : Nat) (x1 : Option Nat) (σ : Mm) : Option (Int32 × Mm) :=
(gI 14 0 (some h0) σ).bind fun x21 =>
(if x21 = 0 then (
(gI 4 7 x1 σ).bind fun x22 =>
rZ x22 σ) else (
(gI 4 6 x1 σ).bind fun x23 =>
rZ x23 σ))
def FX4_of (h0 : Nat) (x1 : Option Nat) (σ : Mm) : Option (Int32 × Mm) :=
(gI 522 0 x1 σ).bind fun x21 =>
(if x21 = 0 then (
(gI 4 0 (some h0) σ).bind fun x23 =>
some (x23, σ)) else (
(if x21 = 1 then (
(gI 4 1 (some h0) σ).bind fun x25 =>
some (x25, σ)) else (
(if x21 = 2 then (
(gI 4 2 (some h0) σ).bind fun x27 =>
some (x27, σ)) else (
(if x21 = 3 then (
(gI 4 3 (some h0) σ).bind fun x29 =>
some (x29, σ)) else (
(if x21 = 4 then (
(gI 4 4 (some h0) σ).bind fun x31 =>
some (x31, σ)) else (
(gI 4 5 (some h0) σ).bind fun x32 =>
some (x32, σ)))))))))))
def FX16_in (h0 : Nat) (x1 : Option Nat) (σ : Mm) : Option (Int32 × Mm) :=
(gR 16 1 (some h0) σ).bind fun x21 =>
(match x21 with
| none => (
(gI 16 0 (some h0) σ).bind fun x24 =>
some (x24, σ))
| some q22 => (
(gR 16 1 (some h0) σ).bind fun x25 =>
(rv 4 x1 σ).bind fun q26 =>
(FX4_of q26 x25 σ).bind fun (x28, σ29) =>
some (x28, σ29)))
def FX15_in_4 (h0 : Nat) (y1 : Option Nat) : Nat → Int32 → Int32 → Mm → (Int32 → Mm → Option (Int32 × Mm)) → Option (Int32 × Mm)
  | 0, _, _, _, _ => none
  | n+1, v2, v3, σ, kx39 =>
    (gR 15 0 (some h0) σ).bind fun x21 =>
    (rv 17 x21 σ).bind fun q22 =>
    (FJ3_size q22 σ).bind fun (x24, σ25) =>
    (if x24 ≤ v3 then (
    kx39 v2 σ25) else (
    (gR 15 0 (some h0) σ25).bind fun x26 =>
    (rv 17 x26 σ25).bind fun q27 =>
    (FJ3_get q27 v3 σ25).bind fun (x29, σ30) =>
    (rv 16 x29 σ30).bind fun q31 =>
    ck 16 q31 σ30 <|
    (FX16_in q31 y1 σ30).bind fun (x35, σ36) =>
    FX15_in_4 h0 y1 n (v2 + x35) (v3 + 1) σ36 kx39))
def FX15_in (h0 : Nat) (x1 : Option Nat) (σ : Mm) : Option (Int32 × Mm) :=
FX15_in_4 h0 x1 fu 0 0 σ (fun (x38 : Int32) (σ : Mm) => (
some (x38, σ)))
def RX18_holds (Rf : Nat → Option Nat → Mm → Option (Int32 × Mm)) (h0 : Nat) (x1 : Option Nat) (σ : Mm) : Option (Int32 × Mm) :=
(gR 18 0 (some h0) σ).bind fun x21 =>
(rv 15 x21 σ).bind fun q22 =>
(FX15_in q22 x1 σ).bind fun (x24, σ25) =>
(gR 18 1 (some h0) σ25).bind fun x26 =>
(rv 15 x26 σ25).bind fun q27 =>
(FX15_in q27 x1 σ25).bind fun (x29, σ30) =>
(if x29 ≤ x24 then (
rZ 0 σ30) else (
rZ 1 σ30))
def Fholds : Nat → Nat → Option Nat → Mm → Option (Int32 × Mm)
  | 0 => fun _ _ _ => none
  | d+1 => fun q x σ => if mS σ q = 12 then RX12_holds (Fholds d) q x σ else if mS σ q = 13 then RX13_holds (Fholds d) q x σ else if mS σ q = 14 then RX14_holds (Fholds d) q x σ else if mS σ q = 18 then RX18_holds (Fholds d) q x σ else none
def RX10_tells_2 (Rf : Nat → Option Nat → Mm → Option (Int32 × Mm)) (h0 : Nat) (y1 : Int32) (y2 : Option Nat) : Nat → Int32 → Mm → (Mm → Option (Int32 × Mm)) → (Mm → Option (Int32 × Mm)) → Option (Int32 × Mm)
  | 0, _, _, _, _ => none
  | n+1, v3, σ, kx65, kx57 =>
    (gR 10 0 (some h0) σ).bind fun x21 =>
    (rv 17 x21 σ).bind fun q22 =>
    (FJ3_size q22 σ).bind fun (x24, σ25) =>
    (if x24 ≤ v3 then (
    kx65 σ25) else (
    (gR 10 0 (some h0) σ25).bind fun x26 =>
    (rv 17 x26 σ25).bind fun q27 =>
    (FJ3_get q27 v3 σ25).bind fun (x29, σ30) =>
    (rv 11 x29 σ30).bind fun q31 =>
    (gI 11 0 (some q31) σ30).bind fun x34 =>
    (if x34 = y1 then (
    (gR 11 1 (some q31) σ30).bind fun x35 =>
    (match x35 with
    | none => (
    kx57 σ30)
    | some q36 => (
    (gR 11 1 (some q31) σ30).bind fun x38 =>
    (ifc Rf x38 y2 σ30).bind fun (x39, σ40) =>
    (if x39 = 0 then (
    RX10_tells_2 Rf h0 y1 y2 n (v3 + 1) σ40 kx65 kx57) else (
    kx57 σ40))))) else (
    RX10_tells_2 Rf h0 y1 y2 n (v3 + 1) σ30 kx65 kx57))))
def RX10_tells (Rf : Nat → Option Nat → Mm → Option (Int32 × Mm)) (h0 : Nat) (x1 : Int32) (x2 : Option Nat) (σ : Mm) : Option (Int32 × Mm) :=
RX10_tells_2 Rf h0 x1 x2 fu 0 σ (fun  (σ : Mm) => (
rZ 0 σ)) (fun  (σ : Mm) => (
rZ 1 σ))
def FX10_tells (h0 : Nat) (x1 : Int32) (x2 : Option Nat) (σ : Mm) : Option (Int32 × Mm) := RX10_tells (Fholds 20) h0 x1 x2 σ
def FX1_says (h0 : Nat) (x1 : Option Nat) (x2 : Int32) (x3 : Int32) (σ : Mm) : Option (Int32 × Mm) :=
(gR 2 19 x1 σ).bind fun x21 =>
(match x21 with
| none => (
rZ 0 σ)
| some q22 => (
(rv 2 x1 σ).bind fun q24 =>
(FX2_faceOf q24 x2 σ).bind fun (x26, σ27) =>
(gR 1 5 (some h0) σ27).bind fun x28 =>
(pI 4 0 x28 x2 σ27).bind fun σ29 =>
(gR 1 5 (some h0) σ29).bind fun x30 =>
(gI 2 3 x1 σ29).bind fun x31 =>
(pI 4 1 x30 x31 σ29).bind fun σ32 =>
(gR 1 5 (some h0) σ32).bind fun x33 =>
(gR 2 11 x1 σ32).bind fun x34 =>
(aI 100 x34 x2 σ32).bind fun x35 =>
jn (fun (z36 : Int32) (σ : Mm) => (
(pI 4 2 x33 z36 σ).bind fun σ37 =>
(gR 1 5 (some h0) σ37).bind fun x38 =>
jn (fun (z39 : Int32) (σ : Mm) => (
(pI 4 3 x38 z39 σ).bind fun σ40 =>
(gR 1 5 (some h0) σ40).bind fun x41 =>
(rv 2 x1 σ40).bind fun q42 =>
(FX2_hung q42 σ40).bind fun (x44, σ45) =>
(pI 4 4 x41 x44 σ45).bind fun σ46 =>
(gR 1 5 (some h0) σ46).bind fun x47 =>
(gI 2 2 x1 σ46).bind fun x48 =>
(gR 1 5 (some h0) σ46).bind fun x49 =>
(gI 4 4 x49 σ46).bind fun x50 =>
(pI 4 5 x47 (x48 - x50) σ46).bind fun σ51 =>
(gR 1 5 (some h0) σ51).bind fun x52 =>
jn (fun (z53 : Int32) (σ : Mm) => (
(pZ 4 6 x52 z53 σ).bind fun σ54 =>
(gR 1 5 (some h0) σ54).bind fun x55 =>
(gR 2 12 x1 σ54).bind fun x56 =>
(aI 100 x56 x2 σ54).bind fun x57 =>
jn (fun (z58 : Int32) (σ : Mm) => (
(pZ 4 7 x55 z58 σ).bind fun σ59 =>
(gR 2 19 x1 σ59).bind fun x60 =>
(gR 1 5 (some h0) σ59).bind fun x61 =>
(rv 10 x60 σ59).bind fun q62 =>
(FX10_tells q62 x3 x61 σ59).bind fun (x64, σ65) =>
rZ x64 σ65)) fun J157 =>
(if x57 = (-1) then (
J157 0 σ54) else (
J157 1 σ54)))) fun J135 =>
(if x26 = x2 then (
J135 1 σ51) else (
J135 0 σ51)))) fun J87 =>
(if x26 = (-1) then (
J87 0 σ37) else (
(gR 2 8 x1 σ37).bind fun x68 =>
(aI 100 x68 x26 σ37).bind fun x69 =>
(FJ16_bitCount x69 σ37).bind fun (x70, σ71) =>
J87 x70 σ71)))) fun J60 =>
(if x35 = (-1) then (
J60 99 σ32) else (
(gR 2 11 x1 σ32).bind fun x73 =>
(aI 100 x73 x2 σ32).bind fun x74 =>
J60 x74 σ32))))
def FX1_acts (h0 : Nat) (x1 : Option Nat) (x2 : Int32) (σ : Mm) : Option (Int32 × Mm) :=
(rv 2 x1 σ).bind fun q21 =>
(FX2_freeHook q21 σ).bind fun (x23, σ24) =>
(gR 2 10 x1 σ24).bind fun x25 =>
(aI 100 x25 x2 σ24).bind fun x26 =>
jn (fun  (σ : Mm) => (
(gR 2 10 x1 σ).bind fun x27 =>
(aI 100 x27 x2 σ).bind fun x28 =>
(if x28 = (-1) then (
(gR 2 11 x1 σ).bind fun x29 =>
(aI 100 x29 x2 σ).bind fun x30 =>
(if x30 = (-1) then (
rZ 0 σ) else (
ck 1 h0 σ <|
(FX1_says h0 x1 x2 0 σ).bind fun (x32, σ33) =>
(if x32 = 0 then (
rZ 0 σ33) else (
(rv 2 x1 σ33).bind fun q34 =>
(FX2_fetches q34 x2 σ33).bind fun σ36 =>
rZ 1 σ36))))) else (
rZ 0 σ)))) fun J48 =>
(if x26 = (-1) then (
J48 σ24) else (
(gR 2 11 x1 σ24).bind fun x40 =>
(aI 100 x40 x2 σ24).bind fun x41 =>
(if x41 = (-1) then (
(if x23 = (-1) then (
J48 σ24) else (
ck 1 h0 σ24 <|
(FX1_says h0 x1 x2 1 σ24).bind fun (x43, σ44) =>
(if x43 = 0 then (
J48 σ44) else (
(rv 2 x1 σ44).bind fun q45 =>
(FX2_hands q45 x2 x23 σ44).bind fun σ47 =>
rZ 1 σ47))))) else (
J48 σ24))))
def FX2_draw (h0 : Nat) (x1 : Int32) (σ : Mm) : Option (Int32 × Mm) :=
(gI 2 7 (some h0) σ).bind fun x21 =>
(pI 2 7 (some h0) ((1103515245 * x21) + 12345) σ).bind fun σ22 =>
(gI 2 7 (some h0) σ22).bind fun x23 =>
(rm_ ((ush x23 16) &&& 32767) x1).bind fun x24 =>
some (x24, σ22)
def FX1_mixing (x0 : Option Nat) (σ : Mm) : Option (Mm) :=
(rv 2 x0 σ).bind fun q21 =>
(FX2_draw q21 100 σ).bind fun (x23, σ24) =>
(gI 2 4 x0 σ24).bind fun x25 =>
jn (fun (z26 : Int32) (σ : Mm) => (
(rv 2 x0 σ).bind fun q27 =>
(FX2_withTickets q27 σ).bind fun (x29, σ30) =>
(FJ16_bitCount x29 σ30).bind fun (x31, σ32) =>
(if z26 = 0 then (
some σ32) else (
(if 2 ≤ x31 then (
(rv 2 x0 σ32).bind fun q33 =>
(FX2_draw q33 x31 σ32).bind fun (x35, σ36) =>
(FX1_kth x29 x35 σ36).bind fun (x37, σ38) =>
(rv 2 x0 σ38).bind fun q39 =>
(FX2_draw q39 (x31 - 1) σ38).bind fun (x41, σ42) =>
(FX1_kth (x29 &&& ((1 <<< (x37 &&& 31)) ^^^ (-1))) x41 σ42).bind fun (x43, σ44) =>
(rv 2 x0 σ44).bind fun q45 =>
(FX2_mixes q45 x37 x43 σ44).bind fun σ47 =>
some σ47) else (
some σ32)))))) fun J18 =>
(if x25 ≤ x23 then (
J18 0 σ24) else (
J18 1 σ24))
def FX1_thieving_42 (y0 : Option Nat) : Nat → Int32 → Int32 → Mm → (Mm → Option (Mm)) → Option (Mm)
  | 0, _, _, _, _ => none
  | n+1, v3, v4, σ, kx104 =>
    (gI 2 2 y0 σ).bind fun x35 =>
    (if x35 ≤ v4 then (
    kx104 σ) else (
    (gR 2 17 y0 σ).bind fun x36 =>
    (aI 100 x36 v4 σ).bind fun x37 =>
    (if x37 = (-1) then (
    FX1_thieving_42 y0 n v3 (v4 + 1) σ kx104) else (
    (if v3 = 0 then (
    (gR 2 8 y0 σ).bind fun x38 =>
    (gR 2 17 y0 σ).bind fun x39 =>
    (aI 100 x39 v4 σ).bind fun x40 =>
    (aI 100 x38 x40 σ).bind fun x41 =>
    (gR 2 8 y0 σ).bind fun x42 =>
    (gR 2 17 y0 σ).bind fun x43 =>
    (aI 100 x43 v4 σ).bind fun x44 =>
    (aI 100 x42 x44 σ).bind fun x45 =>
    (sI x38 x40 (x41 &&& (x45 - 1)) σ).bind fun σ46 =>
    FX1_thieving_42 y0 n (v3 + (-1)) (v4 + 1) σ46 kx104) else (
    FX1_thieving_42 y0 n (v3 + (-1)) (v4 + 1) σ kx104))))))
def FX1_thieving (x0 : Option Nat) (σ : Mm) : Option (Mm) :=
(rv 2 x0 σ).bind fun q21 =>
(FX2_draw q21 100 σ).bind fun (x23, σ24) =>
(gI 2 5 x0 σ24).bind fun x25 =>
jn (fun (z26 : Int32) (σ : Mm) => (
(rv 2 x0 σ).bind fun q27 =>
(FX2_hung q27 σ).bind fun (x29, σ30) =>
(if z26 = 0 then (
some σ30) else (
(if x29 = 0 then (
some σ30) else (
(rv 2 x0 σ30).bind fun q31 =>
(FX2_draw q31 x29 σ30).bind fun (x33, σ34) =>
FX1_thieving_42 x0 fu x33 0 σ34 (fun  (σ : Mm) => (
some σ)))))))) fun J18 =>
(if x25 ≤ x23 then (
J18 0 σ24) else (
J18 1 σ24))
def FX1_anHour_4 (h0 : Nat) (y1 : Option Nat) : Nat → Int32 → Int32 → Mm → (Int32 → Mm → Option (Int32 × Mm)) → Option (Int32 × Mm)
  | 0, _, _, _, _ => none
  | n+1, v2, v3, σ, kx35 =>
    (gI 2 1 y1 σ).bind fun x21 =>
    (if x21 ≤ v3 then (
    kx35 v2 σ) else (
    ck 1 h0 σ <|
    (FX1_acts h0 y1 v3 σ).bind fun (x23, σ24) =>
    jn (fun (z25 : Int32) (σ : Mm) => (
    FX1_anHour_4 h0 y1 n (v2 + z25) (v3 + 1) σ kx35)) fun J27 =>
    (if x23 = 0 then (
    J27 0 σ24) else (
    J27 1 σ24))))
def FX1_anHour (h0 : Nat) (x1 : Option Nat) (σ : Mm) : Option (Int32 × Mm) :=
FX1_anHour_4 h0 x1 fu 0 0 σ (fun (x28 : Int32) (σ : Mm) => (
(FX1_mixing x1 σ).bind fun σ29 =>
(FX1_thieving x1 σ29).bind fun σ30 =>
(gI 2 3 x1 σ30).bind fun x31 =>
(pI 2 3 x1 (x31 + 1) σ30).bind fun σ32 =>
some (x28, σ32)))
def FX1_hours_18 (h0 : Nat) (y1 : Int32) : Nat → Int32 → Int32 → Mm → (Int32 → Mm → DX (Int32 × Mm)) → DX (Int32 × Mm)
  | 0, _, _, _, _ => none
  | n+1, v2, v3, σ, kx40 =>
    (if y1 ≤ v3 then (
    kx40 v2 σ) else (
    (gR 1 0 (some h0) σ).bind fun x26 =>
    ck 1 h0 σ <|
    (FX1_anHour h0 x26 σ).bind fun (x28, σ29) =>
    FX1_hours_18 h0 y1 n (v2 + x28) (v3 + 1) σ29 kx40))
def FX1_hours (h0 : Nat) (x1 : Int32) (σ : Mm) : DX (Int32 × Mm) :=
(FX1_in x1 1 50 σ).bind fun (x21, σ22) =>
db (FX1_demand x21 σ22) fun σ23 =>
ck 1 h0 σ23 <|
db (FX1_remembers h0 σ23) fun σ25 =>
FX1_hours_18 h0 x1 fu 0 0 σ25 (fun (x31 : Int32) (σ : Mm) => (
rt (x31, σ)))
def FX1_passes_34 (h0 : Nat) (y1 : Int32) (y2 : Int32) : Nat → Int32 → Int32 → Mm → (Int32 → Mm → DX (Int32 × Mm)) → DX (Int32 × Mm)
  | 0, _, _, _, _ => none
  | n+1, v3, v4, σ, kx82 =>
    (gR 1 0 (some h0) σ).bind fun x25 =>
    (gI 2 1 x25 σ).bind fun x26 =>
    (if x26 ≤ v4 then (
    kx82 v3 σ) else (
    (gR 1 0 (some h0) σ).bind fun x27 =>
    (gR 2 8 x27 σ).bind fun x28 =>
    (aI 100 x28 v4 σ).bind fun x29 =>
    (FJ16_bitCount (x29 ^^^ y1) σ).bind fun (x30, σ31) =>
    jn (fun (z32 : Int32) (σ : Mm) => (
    FX1_passes_34 h0 y1 y2 n (v3 ||| z32) (v4 + 1) σ kx82)) fun J74 =>
    (if y2 < x30 then (
    J74 0 σ31) else (
    J74 (1 <<< (v4 &&& 31)) σ31))))
def FX1_passes (h0 : Nat) (x1 : Int32) (x2 : Int32) (σ : Mm) : DX (Int32 × Mm) :=
(FX1_in x1 0 255 σ).bind fun (x21, σ22) =>
jn (fun (z23 : Int32) (σ : Mm) => (
db (FX1_demand z23 σ) fun σ24 =>
FX1_passes_34 h0 x1 x2 fu 0 0 σ24 (fun (x35 : Int32) (σ : Mm) => (
rt (x35, σ))))) fun J26 =>
(if x21 = 0 then (
J26 0 σ22) else (
(FX1_in x2 0 8 σ22).bind fun (x36, σ37) =>
(if x36 = 0 then (
J26 0 σ37) else (
J26 1 σ37))))
def FX1_core (h0 : Nat) (x1 : Int32) (σ : Mm) : DX (Int32 × Mm) :=
ck 1 h0 σ <|
db (FX1_personAt h0 x1 σ) fun σ22 =>
(gR 1 7 (some h0) σ22).bind fun x23 =>
(rv 5 x23 σ22).bind fun q24 =>
(FX5_run q24 σ22).bind fun (x26, σ27) =>
(gR 5 0 x26 σ27).bind fun x28 =>
(aI 100 x28 x1 σ27).bind fun x29 =>
rt (x29, σ27)
def FX2_all (h0 : Nat) (σ : Mm) : Option (Int32 × Mm) :=
(gI 2 1 (some h0) σ).bind fun x21 =>
some (((1 <<< (x21 &&& 31)) - 1), σ)
def FX2_place_2 (h0 : Nat) (y1 : Int32) (y2 : Int32) : Nat → Int32 → Mm → (Int32 → Mm → Option (Int32 × Mm)) → Option (Int32 × Mm)
  | 0, _, _, _ => none
  | n+1, v3, σ, kx23 =>
    (gR 2 15 (some h0) σ).bind fun x21 =>
    (aI 100 x21 ((10 * y1) + v3) σ).bind fun x22 =>
    (if x22 = y2 then (
    kx23 v3 σ) else (
    FX2_place_2 h0 y1 y2 n (v3 + 1) σ kx23))
def FX2_place (h0 : Nat) (x1 : Int32) (x2 : Int32) (σ : Mm) : Option (Int32 × Mm) :=
FX2_place_2 h0 x1 x2 fu 0 σ (fun (x24 : Int32) (σ : Mm) => (
some (x24, σ)))
def FX1_rather (h0 : Nat) (x1 : Int32) (x2 : Int32) (σ : Mm) : Option (Int32 × Mm) :=
(gR 1 0 (some h0) σ).bind fun x21 =>
(gR 1 0 (some h0) σ).bind fun x22 =>
(gR 2 10 x22 σ).bind fun x23 =>
(aI 100 x23 x2 σ).bind fun x24 =>
(rv 2 x21 σ).bind fun q25 =>
(FX2_place q25 x1 x24 σ).bind fun (x27, σ28) =>
(gR 1 0 (some h0) σ28).bind fun x29 =>
(gR 1 0 (some h0) σ28).bind fun x30 =>
(gR 2 10 x30 σ28).bind fun x31 =>
(aI 100 x31 x1 σ28).bind fun x32 =>
(rv 2 x29 σ28).bind fun q33 =>
(FX2_place q33 x1 x32 σ28).bind fun (x35, σ36) =>
(if x35 ≤ x27 then (
rZ 0 σ36) else (
rZ 1 σ36))
def FX1_takesFrom_2 (h0 : Nat) (y1 : Int32) (y2 : Int32) : Nat → Int32 → Mm → (Mm → Option (Int32 × Mm)) → (Mm → Option (Int32 × Mm)) → Option (Int32 × Mm)
  | 0, _, _, _, _ => none
  | n+1, v3, σ, kx43, kx35 =>
    (gR 1 0 (some h0) σ).bind fun x21 =>
    (gI 2 1 x21 σ).bind fun x22 =>
    (if x22 ≤ v3 then (
    kx43 σ) else (
    (if v3 = y1 then (
    FX1_takesFrom_2 h0 y1 y2 n (v3 + 1) σ kx43 kx35) else (
    (FX1_has y2 v3 σ).bind fun (x23, σ24) =>
    (if x23 = 0 then (
    FX1_takesFrom_2 h0 y1 y2 n (v3 + 1) σ24 kx43 kx35) else (
    ck 1 h0 σ24 <|
    (FX1_rather h0 y1 v3 σ24).bind fun (x26, σ27) =>
    (if x26 = 0 then (
    FX1_takesFrom_2 h0 y1 y2 n (v3 + 1) σ27 kx43 kx35) else (
    kx35 σ27))))))))
def FX1_takesFrom (h0 : Nat) (x1 : Int32) (x2 : Int32) (σ : Mm) : Option (Int32 × Mm) :=
FX1_takesFrom_2 h0 x1 x2 fu 0 σ (fun  (σ : Mm) => (
rZ 0 σ)) (fun  (σ : Mm) => (
rZ 1 σ))
def FX1_block_12 (h0 : Nat) (y2 : Int32) : Nat → Int32 → Mm → (Mm → DX (Int32 × Mm)) → DX (Int32 × Mm)
  | 0, _, _, _ => none
  | n+1, v3, σ, kx58 =>
    (gR 1 0 (some h0) σ).bind fun x26 =>
    (gI 2 1 x26 σ).bind fun x27 =>
    (if x27 ≤ v3 then (
    kx58 σ) else (
    (FX1_has y2 v3 σ).bind fun (x28, σ29) =>
    jn (fun (z30 : Int32) (σ : Mm) => (
    db (FX1_can z30 σ) fun σ31 =>
    FX1_block_12 h0 y2 n (v3 + 1) σ31 kx58)) fun J49 =>
    (if x28 = 0 then (
    J49 1 σ29) else (
    (gR 1 0 (some h0) σ29).bind fun x32 =>
    (gR 2 10 x32 σ29).bind fun x33 =>
    (aI 100 x33 v3 σ29).bind fun x34 =>
    (if x34 = (-1) then (
    J49 0 σ29) else (
    J49 1 σ29))))))
def FX1_block_70 (h0 : Nat) (y3 : Int32) : Nat → Int32 → Int32 → Mm → (Int32 → Mm → DX (Int32 × Mm)) → DX (Int32 × Mm)
  | 0, _, _, _, _ => none
  | n+1, v2, v4, σ, kx116 =>
    (gR 1 0 (some h0) σ).bind fun x38 =>
    (gI 2 1 x38 σ).bind fun x39 =>
    (if x39 ≤ v4 then (
    kx116 v2 σ) else (
    (FX1_has v2 v4 σ).bind fun (x40, σ41) =>
    (if x40 = 0 then (
    FX1_block_70 h0 y3 n v2 (v4 + 1) σ41 kx116) else (
    ck 1 h0 σ41 <|
    (FX1_takesFrom h0 v4 v2 σ41).bind fun (x43, σ44) =>
    (if x43 = 0 then (
    FX1_block_70 h0 y3 n (v2 &&& ((1 <<< (v4 &&& 31)) ^^^ (-1))) (v4 + 1) σ44 kx116) else (
    FX1_block_70 h0 y3 n v2 (v4 + 1) σ44 kx116))))))
def FX1_block_60 (h0 : Nat) : Nat → Int32 → Int32 → Mm → (Int32 → Mm → DX (Int32 × Mm)) → DX (Int32 × Mm)
  | 0, _, _, _, _ => none
  | n+1, v2, v3, σ, kx119 =>
    (if v2 = v3 then (
    kx119 v2 σ) else (
    FX1_block_70 h0 v2 fu v2 0 σ (fun (x48 : Int32) (σ : Mm) => (
    FX1_block_60 h0 n x48 v2 σ kx119))))
def FX1_block (h0 : Nat) (x1 : Int32) (σ : Mm) : DX (Int32 × Mm) :=
(gR 1 0 (some h0) σ).bind fun x21 =>
(rv 2 x21 σ).bind fun q22 =>
(FX2_all q22 σ).bind fun (x24, σ25) =>
FX1_block_12 h0 (x1 &&& x24) fu 0 σ25 (fun  (σ : Mm) => (
FX1_block_60 h0 fu (x1 &&& x24) (-1) σ (fun (x50 : Int32) (σ : Mm) => (
(if x50 = 0 then (
rZd 0 σ) else (
rZd 1 σ))))))
def FX1_askedOf (h0 : Nat) (x1 : Int32) (σ : Mm) : DX (Mm) :=
(gR 1 0 (some h0) σ).bind fun x21 =>
(gI 2 1 x21 σ).bind fun x22 =>
(FX1_in x1 0 (x22 - 1) σ).bind fun (x23, σ24) =>
(if x23 = 0 then (
(gR 1 4 (some h0) σ24).bind fun x25 =>
(rv 3 x25 σ24).bind fun q26 =>
(FX3_begins q26 σ24).bind fun σ28 =>
thw 2 σ28) else (
rt σ24))
def FX1_saidAll_37 (h0 : Nat) (y1 : Option Nat) : Nat → Int32 → Mm → (Mm → DX (Int32 × Mm)) → DX (Int32 × Mm)
  | 0, _, _, _ => none
  | n+1, v2, σ, kx121 =>
    (gI 3 2 y1 σ).bind fun x29 =>
    (if x29 ≤ v2 then (
    kx121 σ) else (
    (gR 3 0 y1 σ).bind fun x30 =>
    (aI 101 x30 v2 σ).bind fun x31 =>
    (gR 1 0 (some h0) σ).bind fun x32 =>
    (gI 2 1 x32 σ).bind fun x33 =>
    (FX1_in x31 0 (x33 - 1) σ).bind fun (x34, σ35) =>
    jn (fun (z36 : Int32) (σ : Mm) => (
    db (FX1_demand z36 σ) fun σ37 =>
    FX1_saidAll_37 h0 y1 n (v2 + 3) σ37 kx121)) fun J112 =>
    (if x34 = 0 then (
    J112 0 σ35) else (
    (gR 3 0 y1 σ35).bind fun x38 =>
    (aI 101 x38 (v2 + 1) σ35).bind fun x39 =>
    (gR 1 0 (some h0) σ35).bind fun x40 =>
    (gI 2 1 x40 σ35).bind fun x41 =>
    (FX1_in x39 0 (x41 - 1) σ35).bind fun (x42, σ43) =>
    (if x42 = 0 then (
    J112 0 σ43) else (
    (gR 3 0 y1 σ43).bind fun x44 =>
    (aI 101 x44 (v2 + 2) σ43).bind fun x45 =>
    (FX1_in x45 0 1 σ43).bind fun (x46, σ47) =>
    (if x46 = 0 then (
    J112 0 σ47) else (
    J112 1 σ47))))))))
def FX1_saidAll (h0 : Nat) (σ : Mm) : DX (Int32 × Mm) :=
(gR 1 4 (some h0) σ).bind fun x21 =>
(rv 3 x21 σ).bind fun q22 =>
(FX3_begins q22 σ).bind fun σ24 =>
(gI 3 2 x21 σ24).bind fun x25 =>
(rm_ x25 3).bind fun x26 =>
jn (fun (z27 : Int32) (σ : Mm) => (
db (FX1_demand z27 σ) fun σ28 =>
FX1_saidAll_37 h0 x21 fu 0 σ28 (fun  (σ : Mm) => (
(gI 3 2 x21 σ).bind fun x52 =>
(dv x52 3).bind fun x53 =>
rt (((1 <<< (x53 &&& 31)) - 1), σ))))) fun J32 =>
(if x26 = 0 then (
(gI 3 2 x21 σ24).bind fun x54 =>
(if 36 < x54 then (
J32 0 σ24) else (
J32 1 σ24))) else (
J32 0 σ24))
def FX6_says (h0 : Nat) (x1 : Int32) (x2 : Int32) (x3 : Int32) (σ : Mm) : Option (Mm) :=
(gR 6 0 (some h0) σ).bind fun x21 =>
(aI 100 x21 x1 σ).bind fun x22 =>
jn (fun (z23 : Int32) (σ : Mm) => (
(sI x21 x1 (x22 &&& z23) σ).bind fun σ24 =>
some σ24)) fun J22 =>
(if x3 = 0 then (
J22 ((1 <<< (x2 &&& 31)) ^^^ (-1)) σ) else (
J22 (1 <<< (x2 &&& 31)) σ))
def FX6_by_19 (h0 : Nat) (y1 : Int32) : Nat → Int32 → Mm → (Mm → Option (Option Nat × Mm)) → Option (Option Nat × Mm)
  | 0, _, _, _ => none
  | n+1, v2, σ, kx108 =>
    (gR 6 2 (some h0) σ).bind fun x29 =>
    (gR 1 4 x29 σ).bind fun x30 =>
    (gI 3 2 x30 σ).bind fun x31 =>
    (if x31 ≤ (3 * v2) then (
    kx108 σ) else (
    (FX1_has y1 v2 σ).bind fun (x32, σ33) =>
    (if x32 = 0 then (
    FX6_by_19 h0 y1 n (v2 + 1) σ33 kx108) else (
    (gR 6 2 (some h0) σ33).bind fun x34 =>
    (gR 1 4 x34 σ33).bind fun x35 =>
    (gR 3 0 x35 σ33).bind fun x36 =>
    (aI 101 x36 (3 * v2) σ33).bind fun x37 =>
    (gR 6 2 (some h0) σ33).bind fun x38 =>
    (gR 1 4 x38 σ33).bind fun x39 =>
    (gR 3 0 x39 σ33).bind fun x40 =>
    (aI 101 x40 ((3 * v2) + 1) σ33).bind fun x41 =>
    (gR 6 2 (some h0) σ33).bind fun x42 =>
    (gR 1 4 x42 σ33).bind fun x43 =>
    (gR 3 0 x43 σ33).bind fun x44 =>
    (aI 101 x44 ((3 * v2) + 2) σ33).bind fun x45 =>
    jn (fun (z46 : Int32) (σ : Mm) => (
    ck 6 h0 σ <|
    (FX6_says h0 x37 x41 z46 σ).bind fun σ48 =>
    FX6_by_19 h0 y1 n (v2 + 1) σ48 kx108)) fun J99 =>
    (if x45 = 1 then (
    J99 1 σ33) else (
    J99 0 σ33))))))
def FX6_by (h0 : Nat) (x1 : Int32) (σ : Mm) : Option (Option Nat × Mm) :=
(gR 6 0 (some h0) σ).bind fun x21 =>
(gR 6 2 (some h0) σ).bind fun x22 =>
(gR 1 0 x22 σ).bind fun x23 =>
(rv 2 x23 σ).bind fun q24 =>
(FX2_all q24 σ).bind fun (x26, σ27) =>
(FJ0_fill x21 x26 σ27).bind fun σ28 =>
FX6_by_19 h0 x1 fu 0 σ28 (fun  (σ : Mm) => (
some ((some h0), σ)))
def FX6_many_43 (h0 : Nat) (y1 : Int32) (y2 : Int32) : Nat → Int32 → Int32 → Mm → (Int32 → Mm → Option (Int32 × Mm)) → Option (Int32 × Mm)
  | 0, _, _, _, _ => none
  | n+1, v3, v4, σ, kx115 =>
    (gR 6 2 (some h0) σ).bind fun x36 =>
    (gR 1 0 x36 σ).bind fun x37 =>
    (gI 2 1 x37 σ).bind fun x38 =>
    (if x38 ≤ v4 then (
    kx115 v3 σ) else (
    (gR 6 2 (some h0) σ).bind fun x39 =>
    (gR 1 0 x39 σ).bind fun x40 =>
    (gI 2 1 x40 σ).bind fun x41 =>
    (if x41 ≤ y2 then (
    kx115 v3 σ) else (
    (FX1_has y1 v4 σ).bind fun (x42, σ43) =>
    (if x42 = 0 then (
    (gR 6 0 (some h0) σ43).bind fun x44 =>
    (aI 100 x44 y2 σ43).bind fun x45 =>
    (FX1_has x45 v4 σ43).bind fun (x46, σ47) =>
    (if x46 = 0 then (
    FX6_many_43 h0 y1 y2 n v3 (v4 + 1) σ47 kx115) else (
    (gR 6 1 (some h0) σ47).bind fun x48 =>
    (aI 100 x48 (y1 ||| (1 <<< (v4 &&& 31))) σ47).bind fun x49 =>
    FX6_many_43 h0 y1 y2 n (v3 + x49) (v4 + 1) σ47 kx115))) else (
    FX6_many_43 h0 y1 y2 n v3 (v4 + 1) σ43 kx115))))))
def FX6_many_11 (h0 : Nat) : Nat → Int32 → Mm → (Mm → Option (Int32 × Mm)) → Option (Int32 × Mm)
  | 0, _, _, _ => none
  | n+1, v1, σ, kx128 =>
    (if v1 < 0 then (
    kx128 σ) else (
    (FJ16_bitCount v1 σ).bind fun (x27, σ28) =>
    (gR 6 2 (some h0) σ28).bind fun x29 =>
    (gR 1 0 x29 σ28).bind fun x30 =>
    (rv 2 x30 σ28).bind fun q31 =>
    (FX2_all q31 σ28).bind fun (x33, σ34) =>
    jn (fun (z35 : Int32) (σ : Mm) => (
    FX6_many_43 h0 v1 x27 fu z35 0 σ (fun (x54 : Int32) (σ : Mm) => (
    (gR 6 1 (some h0) σ).bind fun x55 =>
    (sI x55 v1 x54 σ).bind fun σ56 =>
    FX6_many_11 h0 n (v1 + (-1)) σ56 kx128)))) fun J39 =>
    (if v1 = x33 then (
    J39 1 σ34) else (
    J39 0 σ34))))
def FX6_many (h0 : Nat) (σ : Mm) : Option (Int32 × Mm) :=
(gR 6 2 (some h0) σ).bind fun x21 =>
(gR 1 0 x21 σ).bind fun x22 =>
(rv 2 x22 σ).bind fun q23 =>
(FX2_all q23 σ).bind fun (x25, σ26) =>
FX6_many_11 h0 fu x25 σ26 (fun  (σ : Mm) => (
(gR 6 1 (some h0) σ).bind fun x59 =>
(aI 100 x59 0 σ).bind fun x60 =>
some (x60, σ)))
def FX6_having (h0 : Nat) (x1 : Int32) (x2 : Int32) (σ : Mm) : Option (Int32 × Mm) :=
(gR 6 0 (some h0) σ).bind fun x21 =>
(aI 100 x21 x1 σ).bind fun x22 =>
(gR 6 0 (some h0) σ).bind fun x23 =>
(aI 100 x23 x1 σ).bind fun x24 =>
(sI x23 x1 (x24 &&& (1 <<< (x2 &&& 31))) σ).bind fun σ25 =>
ck 6 h0 σ25 <|
(FX6_many h0 σ25).bind fun (x27, σ28) =>
(gR 6 0 (some h0) σ28).bind fun x29 =>
(sI x29 x1 x22 σ28).bind fun σ30 =>
some (x27, σ30)
def FX1_fits_39 (h0 : Nat) (y1 : Int32) (y2 : Int32) : Nat → Int32 → Mm → (Mm → DX (Int32 × Mm)) → (Int32 → Mm → DX (Int32 × Mm)) → DX (Int32 × Mm)
  | 0, _, _, _, _ => none
  | n+1, v3, σ, kx75, kx67 =>
    (gR 1 0 (some h0) σ).bind fun x34 =>
    (gI 2 1 x34 σ).bind fun x35 =>
    (if x35 ≤ v3 then (
    kx75 σ) else (
    (if y2 ≤ 0 then (
    kx75 σ) else (
    (gR 1 8 (some h0) σ).bind fun x36 =>
    (rv 6 x36 σ).bind fun q37 =>
    (FX6_having q37 y1 v3 σ).bind fun (x39, σ40) =>
    (if x39 = y2 then (
    kx67 v3 σ40) else (
    FX1_fits_39 h0 y1 y2 n (v3 + 1) σ40 kx75 kx67))))))
def FX1_fits (h0 : Nat) (x1 : Int32) (σ : Mm) : DX (Int32 × Mm) :=
jn (fun  (σ : Mm) => (
(gR 1 8 (some h0) σ).bind fun x21 =>
ck 1 h0 σ <|
db (FX1_saidAll h0 σ) fun (x23, σ24) =>
(rv 6 x21 σ24).bind fun q25 =>
(FX6_by q25 x23 σ24).bind fun (x27, σ28) =>
(gR 1 8 (some h0) σ28).bind fun x29 =>
(rv 6 x29 σ28).bind fun q30 =>
(FX6_many q30 σ28).bind fun (x32, σ33) =>
(if x1 = (-1) then (
rt (x32, σ33)) else (
FX1_fits_39 h0 x1 x32 fu 0 σ33 (fun  (σ : Mm) => (
rt ((-1), σ))) (fun (x44 : Int32) (σ : Mm) => (
rt (x44, σ))))))) fun J10 =>
(if x1 = (-1) then (
J10 σ) else (
ck 1 h0 σ <|
db (FX1_askedOf h0 x1 σ) fun σ47 =>
J10 σ47))
def FX1_ask_42 (h0 : Nat) (y1 : Int32) (y2 : Int32) : Nat → Int32 → Int32 → Int32 → Mm → (Int32 → Mm → DX (Int32 × Mm)) → DX (Int32 × Mm)
  | 0, _, _, _, _, _ => none
  | n+1, v3, v4, v5, σ, kx100 =>
    (gR 1 0 (some h0) σ).bind fun x36 =>
    (gI 2 1 x36 σ).bind fun x37 =>
    (if x37 ≤ v5 then (
    kx100 v3 σ) else (
    (gR 1 8 (some h0) σ).bind fun x38 =>
    (rv 6 x38 σ).bind fun q39 =>
    (FX6_having q39 y1 v5 σ).bind fun (x41, σ42) =>
    (if (imax x41 (y2 - x41)) < v4 then (
    FX1_ask_42 h0 y1 y2 n v5 (imax x41 (y2 - x41)) (v5 + 1) σ42 kx100) else (
    FX1_ask_42 h0 y1 y2 n v3 v4 (v5 + 1) σ42 kx100))))
def FX1_ask (h0 : Nat) (x1 : Int32) (σ : Mm) : DX (Int32 × Mm) :=
ck 1 h0 σ <|
db (FX1_askedOf h0 x1 σ) fun σ22 =>
(gR 1 8 (some h0) σ22).bind fun x23 =>
ck 1 h0 σ22 <|
db (FX1_saidAll h0 σ22) fun (x25, σ26) =>
(rv 6 x23 σ26).bind fun q27 =>
(FX6_by q27 x25 σ26).bind fun (x29, σ30) =>
(gR 1 8 (some h0) σ30).bind fun x31 =>
(rv 6 x31 σ30).bind fun q32 =>
(FX6_many q32 σ30).bind fun (x34, σ35) =>
(if 2 ≤ x34 then (
FX1_ask_42 h0 x1 x34 fu (-1) (x34 + 1) 0 σ35 (fun (x45 : Int32) (σ : Mm) => (
rt (x45, σ)))) else (
rt ((-1), σ35)))
def FX1_clash_25 (h0 : Nat) : Nat → Int32 → Int32 → Mm → (Int32 → Mm → DX (Int32 × Mm)) → DX (Int32 × Mm)
  | 0, _, _, _, _ => none
  | n+1, v2, v3, σ, kx62 =>
    (if v3 ≤ 0 then (
    kx62 v2 σ) else (
    (FJ16_bitCount v3 σ).bind fun (x33, σ34) =>
    (FJ16_bitCount v2 σ34).bind fun (x35, σ36) =>
    (if x35 < x33 then (
    FX1_clash_25 h0 n v2 (v3 + (-1)) σ36 kx62) else (
    (gR 1 8 (some h0) σ36).bind fun x37 =>
    (rv 6 x37 σ36).bind fun q38 =>
    (FX6_by q38 v3 σ36).bind fun (x40, σ41) =>
    (rv 6 x40 σ41).bind fun q42 =>
    (FX6_many q42 σ41).bind fun (x44, σ45) =>
    (if x44 = 0 then (
    FX1_clash_25 h0 n v3 (v3 + (-1)) σ45 kx62) else (
    FX1_clash_25 h0 n v2 (v3 + (-1)) σ45 kx62))))))
def FX1_clash (h0 : Nat) (σ : Mm) : DX (Int32 × Mm) :=
ck 1 h0 σ <|
db (FX1_saidAll h0 σ) fun (x22, σ23) =>
(gR 1 8 (some h0) σ23).bind fun x24 =>
(rv 6 x24 σ23).bind fun q25 =>
(FX6_by q25 x22 σ23).bind fun (x27, σ28) =>
(rv 6 x27 σ28).bind fun q29 =>
(FX6_many q29 σ28).bind fun (x31, σ32) =>
(if x31 ≤ 0 then (
FX1_clash_25 h0 fu x22 x22 σ32 (fun (x49 : Int32) (σ : Mm) => (
rt (x49, σ)))) else (
rt (0, σ32)))
def FX1_marksOf_4 (h0 : Nat) (y1 : Int32) : Nat → Int32 → Int32 → Mm → (Int32 → Mm → Option (Int32 × Mm)) → Option (Int32 × Mm)
  | 0, _, _, _, _ => none
  | n+1, v2, v3, σ, kx45 =>
    (gR 1 0 (some h0) σ).bind fun x21 =>
    (gI 2 1 x21 σ).bind fun x22 =>
    (if x22 ≤ v3 then (
    kx45 v2 σ) else (
    (FX1_has y1 v3 σ).bind fun (x23, σ24) =>
    jn (fun (z25 : Int32) (σ : Mm) => (
    FX1_marksOf_4 h0 y1 n (v2 ||| z25) (v3 + 1) σ kx45)) fun J37 =>
    (if x23 = 0 then (
    J37 0 σ24) else (
    (gR 1 0 (some h0) σ24).bind fun x26 =>
    (gR 2 8 x26 σ24).bind fun x27 =>
    (aI 100 x27 v3 σ24).bind fun x28 =>
    J37 x28 σ24))))
def FX1_marksOf (h0 : Nat) (x1 : Int32) (σ : Mm) : Option (Int32 × Mm) :=
FX1_marksOf_4 h0 x1 fu 0 0 σ (fun (x31 : Int32) (σ : Mm) => (
some (x31, σ)))
def FX1_forged_15 (h0 : Nat) (y1 : Int32) : Nat → Int32 → Int32 → Mm → (Int32 → Mm → DX (Int32 × Mm)) → DX (Int32 × Mm)
  | 0, _, _, _, _ => none
  | n+1, v2, v3, σ, kx63 =>
    (gR 1 0 (some h0) σ).bind fun x24 =>
    (gI 2 2 x24 σ).bind fun x25 =>
    (if x25 ≤ v3 then (
    kx63 v2 σ) else (
    (gR 1 0 (some h0) σ).bind fun x26 =>
    (gR 2 17 x26 σ).bind fun x27 =>
    (aI 100 x27 v3 σ).bind fun x28 =>
    jn (fun (z29 : Int32) (σ : Mm) => (
    FX1_forged_15 h0 y1 n (v2 ||| z29) (v3 + 1) σ kx63)) fun J55 =>
    (if x28 = (-1) then (
    J55 0 σ) else (
    (gR 1 0 (some h0) σ).bind fun x30 =>
    (gR 2 17 x30 σ).bind fun x31 =>
    (aI 100 x31 v3 σ).bind fun x32 =>
    J55 (1 <<< (x32 &&& 31)) σ))))
def FX1_forged_68 (h0 : Nat) (y1 : Int32) (y2 : Int32) : Nat → Int32 → Int32 → Mm → (Int32 → Mm → DX (Int32 × Mm)) → DX (Int32 × Mm)
  | 0, _, _, _, _ => none
  | n+1, v3, v4, σ, kx124 =>
    (if v4 < 0 then (
    kx124 v3 σ) else (
    (if (v4 &&& (y2 ^^^ (-1))) = 0 then (
    jn (fun  (σ : Mm) => (
    ck 1 h0 σ <|
    (FX1_marksOf h0 v4 σ).bind fun (x37, σ38) =>
    (if (y1 &&& (x37 ^^^ (-1))) = 0 then (
    FX1_forged_68 h0 y1 y2 n v4 (v4 + (-1)) σ38 kx124) else (
    FX1_forged_68 h0 y1 y2 n v3 (v4 + (-1)) σ38 kx124)))) fun J102 =>
    (if v3 = (-1) then (
    J102 σ) else (
    (FJ16_bitCount v4 σ).bind fun (x40, σ41) =>
    (FJ16_bitCount v3 σ41).bind fun (x42, σ43) =>
    (if x40 ≤ x42 then (
    J102 σ43) else (
    FX1_forged_68 h0 y1 y2 n v3 (v4 + (-1)) σ43 kx124))))) else (
    FX1_forged_68 h0 y1 y2 n v3 (v4 + (-1)) σ kx124))))
def FX1_forged (h0 : Nat) (x1 : Int32) (σ : Mm) : DX (Int32 × Mm) :=
(FX1_in x1 0 255 σ).bind fun (x21, σ22) =>
db (FX1_demand x21 σ22) fun σ23 =>
FX1_forged_15 h0 x1 fu 0 0 σ23 (fun (x35 : Int32) (σ : Mm) => (
FX1_forged_68 h0 x1 x35 fu (-1) x35 σ (fun (x48 : Int32) (σ : Mm) => (
rt (x48, σ)))))
def FX1_choices_4 (y0 : Int32) (y1 : Int32) : Nat → Int32 → Int32 → Mm → (Int32 → Mm → Option (Int32 × Mm)) → Option (Int32 × Mm)
  | 0, _, _, _, _ => none
  | n+1, v2, v3, σ, kx25 =>
    (if y1 ≤ v3 then (
    kx25 v2 σ) else (
    (dv (v2 * (y0 - v3)) (v3 + 1)).bind fun x21 =>
    FX1_choices_4 y0 y1 n x21 (v3 + 1) σ kx25))
def FX1_choices (x0 : Int32) (x1 : Int32) (σ : Mm) : Option (Int32 × Mm) :=
FX1_choices_4 x0 x1 fu 1 0 σ (fun (x23 : Int32) (σ : Mm) => (
some (x23, σ)))
def FX1_astray_6 (y0 : Int32) : Nat → Int32 → Int32 → Int32 → Mm → (Int32 → Mm → Option (Int32 × Mm)) → Option (Int32 × Mm)
  | 0, _, _, _, _, _ => none
  | n+1, v1, v2, v3, σ, kx31 =>
    (if y0 < v3 then (
    kx31 v2 σ) else (
    FX1_astray_6 y0 n v2 ((v3 - 1) * (v1 + v2)) (v3 + 1) σ kx31))
def FX1_astray (x0 : Int32) (σ : Mm) : Option (Int32 × Mm) :=
FX1_astray_6 x0 fu 1 0 2 σ (fun (x22 : Int32) (σ : Mm) => (
(if x0 = 0 then (
some (1, σ)) else (
some (x22, σ)))))
def FX1_ways (h0 : Nat) (x1 : Int32) (σ : Mm) : DX (Int32 × Mm) :=
(FX1_in x1 0 10 σ).bind fun (x21, σ22) =>
db (FX1_demand x21 σ22) fun σ23 =>
(gR 1 0 (some h0) σ23).bind fun x24 =>
(rv 2 x24 σ23).bind fun q25 =>
(FX2_withTickets q25 σ23).bind fun (x27, σ28) =>
(FJ16_bitCount x27 σ28).bind fun (x29, σ30) =>
(if x1 ≤ x29 then (
(FX1_choices x29 x1 σ30).bind fun (x31, σ32) =>
(FX1_astray (x29 - x1) σ32).bind fun (x33, σ34) =>
rt ((x31 * x33), σ34)) else (
rt (0, σ30)))
def FX1_talk_22 (h0 : Nat) : Nat → Int32 → Mm → (Int32 → Mm → DX (Int32 × Mm)) → DX (Int32 × Mm)
  | 0, _, _, _ => none
  | n+1, v2, σ, kx47 =>
    (if v2 ≤ 0 then (
    kx47 v2 σ) else (
    (gR 1 0 (some h0) σ).bind fun x26 =>
    (gR 2 17 x26 σ).bind fun x27 =>
    (aI 100 x27 (v2 - 1) σ).bind fun x28 =>
    (if x28 = (-1) then (
    kx47 v2 σ) else (
    FX1_talk_22 h0 n (v2 + (-1)) σ kx47))))
def FX1_talk_52 (h0 : Nat) (y2 : Int32) : Nat → Int32 → Int32 → Mm → (Int32 → Mm → DX (Int32 × Mm)) → DX (Int32 × Mm)
  | 0, _, _, _, _ => none
  | n+1, v3, v4, σ, kx85 =>
    ck 1 h0 σ <|
    (FX1_rowFrom h0 y2 σ).bind fun (x33, σ34) =>
    (if x33 ≤ v4 then (
    kx85 v3 σ34) else (
    (gR 1 0 (some h0) σ34).bind fun x35 =>
    (gR 2 17 x35 σ34).bind fun x36 =>
    (aI 100 x36 (y2 + v4) σ34).bind fun x37 =>
    FX1_talk_52 h0 y2 n (v3 ||| (1 <<< (x37 &&& 31))) (v4 + 1) σ34 kx85))
def FX1_talk (h0 : Nat) (x1 : Int32) (σ : Mm) : DX (Int32 × Mm) :=
ck 1 h0 σ <|
db (FX1_hookAt h0 x1 σ) fun σ22 =>
(gR 1 0 (some h0) σ22).bind fun x23 =>
(gR 2 17 x23 σ22).bind fun x24 =>
(aI 100 x24 x1 σ22).bind fun x25 =>
(if x25 = (-1) then (
rt (0, σ22)) else (
FX1_talk_22 h0 fu x1 σ22 (fun (x31 : Int32) (σ : Mm) => (
FX1_talk_52 h0 x31 fu 0 0 σ (fun (x39 : Int32) (σ : Mm) => (
rt (x39, σ)))))))
def FX1_chain_26 (h0 : Nat) (y2 : Int32) (y3 : Int32) (y4 : Int32) : Nat → Int32 → Int32 → Mm → (Int32 → Mm → DX (Int32 × Mm)) → DX (Int32 × Mm)
  | 0, _, _, _, _ => none
  | n+1, v5, v6, σ, kx72 =>
    (gR 1 0 (some h0) σ).bind fun x23 =>
    (gI 2 1 x23 σ).bind fun x24 =>
    (if x24 ≤ v6 then (
    kx72 v5 σ) else (
    (FX1_has y3 v6 σ).bind fun (x25, σ26) =>
    jn (fun (z27 : Int32) (σ : Mm) => (
    FX1_chain_26 h0 y2 y3 y4 n (v5 ||| z27) (v6 + 1) σ kx72)) fun J63 =>
    (if x25 = 0 then (
    J63 0 σ26) else (
    (gR 1 0 (some h0) σ26).bind fun x28 =>
    (gR 2 13 x28 σ26).bind fun x29 =>
    (aI 100 x29 v6 σ26).bind fun x30 =>
    J63 x30 σ26))))
def FX1_chain_13 (h0 : Nat) (y2 : Int32) : Nat → Int32 → Int32 → Mm → (Mm → DX (Int32 × Mm)) → (Int32 → Mm → DX (Int32 × Mm)) → DX (Int32 × Mm)
  | 0, _, _, _, _, _ => none
  | n+1, v3, v4, σ, kx93, kx81 =>
    (if 10 ≤ v4 then (
    kx93 σ) else (
    FX1_chain_26 h0 y2 v3 v4 fu v3 0 σ (fun (x33 : Int32) (σ : Mm) => (
    (FX1_has x33 y2 σ).bind fun (x34, σ35) =>
    (if x34 = 0 then (
    FX1_chain_13 h0 y2 n x33 (v4 + 1) σ35 kx93 kx81) else (
    kx81 v4 σ35))))))
def FX1_chain (h0 : Nat) (x1 : Int32) (x2 : Int32) (σ : Mm) : DX (Int32 × Mm) :=
ck 1 h0 σ <|
db (FX1_twoAt h0 x1 x2 σ) fun σ22 =>
FX1_chain_13 h0 x2 fu (1 <<< (x1 &&& 31)) 1 σ22 (fun  (σ : Mm) => (
rt ((-1), σ))) (fun (x38 : Int32) (σ : Mm) => (
rt (x38, σ)))
def FX1_hears_54 (y1 : Int32) (y2 : Int32) (y3 : Option Nat) (y4 : Int32) (y5 : Int32) : Nat → Int32 → Mm → (Mm → DX (Int32 × Mm)) → DX (Int32 × Mm)
  | 0, _, _, _ => none
  | n+1, v6, σ, kx107 =>
    (gI 2 1 y3 σ).bind fun x33 =>
    (if x33 ≤ v6 then (
    kx107 σ) else (
    (gR 2 13 y3 σ).bind fun x34 =>
    (aI 100 x34 y5 σ).bind fun x35 =>
    (FX1_has x35 v6 σ).bind fun (x36, σ37) =>
    (if x36 = 0 then (
    FX1_hears_54 y1 y2 y3 y4 y5 n (v6 + 1) σ37 kx107) else (
    (gR 2 13 y3 σ37).bind fun x38 =>
    (aI 100 x38 v6 σ37).bind fun x39 =>
    (FX1_has x39 y5 σ37).bind fun (x40, σ41) =>
    (if x40 = 0 then (
    FX1_hears_54 y1 y2 y3 y4 y5 n (v6 + 1) σ41 kx107) else (
    (rv 2 y3 σ41).bind fun q42 =>
    (FX2_meets q42 y5 v6 σ41).bind fun σ44 =>
    FX1_hears_54 y1 y2 y3 y4 y5 n (v6 + 1) σ44 kx107))))))
def FX1_hears_39 (y1 : Int32) (y2 : Int32) (y3 : Option Nat) (y4 : Int32) : Nat → Int32 → Mm → (Mm → DX (Int32 × Mm)) → DX (Int32 × Mm)
  | 0, _, _, _ => none
  | n+1, v5, σ, kx113 =>
    (gI 2 1 y3 σ).bind fun x32 =>
    (if x32 ≤ v5 then (
    kx113 σ) else (
    FX1_hears_54 y1 y2 y3 y4 v5 fu (v5 + 1) σ (fun  (σ : Mm) => (
    FX1_hears_39 y1 y2 y3 y4 n (v5 + 1) σ kx113))))
def FX1_hears_30 (y1 : Int32) (y2 : Int32) (y3 : Option Nat) : Nat → Int32 → Mm → (Mm → DX (Int32 × Mm)) → DX (Int32 × Mm)
  | 0, _, _, _ => none
  | n+1, v4, σ, kx119 =>
    (if y2 ≤ v4 then (
    kx119 σ) else (
    FX1_hears_39 y1 y2 y3 v4 fu 0 σ (fun  (σ : Mm) => (
    FX1_hears_30 y1 y2 y3 n (v4 + 1) σ kx119))))
def FX1_hears (h0 : Nat) (x1 : Int32) (x2 : Int32) (σ : Mm) : DX (Int32 × Mm) :=
ck 1 h0 σ <|
db (FX1_personAt h0 x1 σ) fun σ22 =>
(FX1_in x2 0 20 σ22).bind fun (x23, σ24) =>
db (FX1_demand x23 σ24) fun σ25 =>
(gR 1 10 (some h0) σ25).bind fun x26 =>
(gR 1 0 (some h0) σ25).bind fun x27 =>
(rv 2 x26 σ25).bind fun q28 =>
(FX2_likens q28 x27 σ25).bind fun (x30, σ31) =>
FX1_hears_30 x1 x2 x30 fu 0 σ31 (fun  (σ : Mm) => (
(gR 2 13 x30 σ).bind fun x50 =>
(aI 100 x50 x1 σ).bind fun x51 =>
rt (x51, σ)))
def FX1_tries_2 (h0 : Nat) (y1 : Int32) : Nat → Int32 → Mm → (Mm → Option (Int32 × Mm)) → Option (Int32 × Mm)
  | 0, _, _, _ => none
  | n+1, v2, σ, kx22 =>
    (if y1 ≤ v2 then (
    kx22 σ) else (
    (gR 1 10 (some h0) σ).bind fun x21 =>
    ck 1 h0 σ <|
    (FX1_anHour h0 x21 σ).bind fun (x23, σ24) =>
    FX1_tries_2 h0 y1 n (v2 + 1) σ24 kx22))
def FX1_tries (h0 : Nat) (x1 : Int32) (σ : Mm) : Option (Int32 × Mm) :=
FX1_tries_2 h0 x1 fu 0 σ (fun  (σ : Mm) => (
(gR 1 10 (some h0) σ).bind fun x26 =>
(FX1_wrongOf x26 σ).bind fun (x27, σ28) =>
(FJ16_bitCount x27 σ28).bind fun (x29, σ30) =>
some (x29, σ30)))
def FX1_trial (h0 : Nat) (x1 : Int32) (σ : Mm) : DX (Int32 × Mm) :=
(FX1_in x1 0 30 σ).bind fun (x21, σ22) =>
db (FX1_demand x21 σ22) fun σ23 =>
(gR 1 10 (some h0) σ23).bind fun x24 =>
(gR 1 0 (some h0) σ23).bind fun x25 =>
(rv 2 x24 σ23).bind fun q26 =>
(FX2_likens q26 x25 σ23).bind fun (x28, σ29) =>
ck 1 h0 σ29 <|
(FX1_tries h0 x1 σ29).bind fun (x31, σ32) =>
rt (x31, σ32)
def FX1_span_15 (h0 : Nat) (y1 : Int32) (y2 : Int32) : Nat → Int32 → Int32 → Mm → (Int32 → Mm → DX (Int32 × Mm)) → DX (Int32 × Mm)
  | 0, _, _, _, _ => none
  | n+1, v3, v4, σ, kx86 =>
    (if 6 < v4 then (
    kx86 v3 σ) else (
    (gR 1 10 (some h0) σ).bind fun x24 =>
    (gR 1 0 (some h0) σ).bind fun x25 =>
    (rv 2 x24 σ).bind fun q26 =>
    (FX2_likens q26 x25 σ).bind fun (x28, σ29) =>
    (gR 1 10 (some h0) σ29).bind fun x30 =>
    (pI 2 7 x30 v4 σ29).bind fun σ31 =>
    ck 1 h0 σ31 <|
    (FX1_tries h0 y1 σ31).bind fun (x33, σ34) =>
    jn (fun (z35 : Int32) (σ : Mm) => (
    FX1_span_15 h0 y1 y2 n z35 (v4 + 1) σ kx86)) fun J79 =>
    (if v3 = (-1) then (
    J79 x33 σ34) else (
    (if y2 = 0 then (
    J79 (imin v3 x33) σ34) else (
    J79 (imax v3 x33) σ34))))))
def FX1_span (h0 : Nat) (x1 : Int32) (x2 : Int32) (σ : Mm) : DX (Int32 × Mm) :=
(FX1_in x1 0 30 σ).bind fun (x21, σ22) =>
db (FX1_demand x21 σ22) fun σ23 =>
FX1_span_15 h0 x1 x2 fu (-1) 1 σ23 (fun (x39 : Int32) (σ : Mm) => (
rt (x39, σ)))
def FX1_ofLog (h0 : Nat) (x1 : Int32) (x2 : Int32) (σ : Mm) : Option (Int32 × Mm) :=
(gR 1 0 (some h0) σ).bind fun x21 =>
(gR 2 18 x21 σ).bind fun x22 =>
(aI 100 x22 ((5 * x1) + x2) σ).bind fun x23 =>
some (x23, σ)
def FX1_isTaken (h0 : Nat) (x1 : Int32) (x2 : Int32) (σ : Mm) : Option (Int32 × Mm) :=
ck 1 h0 σ <|
(FX1_ofLog h0 x1 4 σ).bind fun (x22, σ23) =>
ck 1 h0 σ23 <|
(FX1_ofLog h0 x1 3 σ23).bind fun (x25, σ26) =>
(if x25 = x2 then (
(gI 521 0 (some (BIG + 101)) σ26).bind fun x27 =>
(if x22 = x27 then (
rZ 1 σ26) else (
(gI 521 0 (some (BIG + 102)) σ26).bind fun x28 =>
(if x22 = x28 then (
rZ 1 σ26) else (
rZ 0 σ26))))) else (
rZ 0 σ26))
def FX1_led_21 (h0 : Nat) (y1 : Int32) (y2 : Int32) : Nat → Int32 → Int32 → Int32 → Mm → (Int32 → Int32 → Mm → DX (Int32 × Mm)) → DX (Int32 × Mm)
  | 0, _, _, _, _, _ => none
  | n+1, v3, v4, v5, σ, kx57 =>
    (if v5 < 0 then (
    kx57 v3 v4 σ) else (
    ck 1 h0 σ <|
    (FX1_isTaken h0 v5 y1 σ).bind fun (x26, σ27) =>
    (if x26 = 0 then (
    FX1_led_21 h0 y1 y2 n v3 v4 (v5 + (-1)) σ27 kx57) else (
    ck 1 h0 σ27 <|
    (FX1_ofLog h0 v5 1 σ27).bind fun (x29, σ30) =>
    FX1_led_21 h0 y1 y2 n (v3 + 1) x29 (v5 + (-1)) σ30 kx57))))
def FX1_led (h0 : Nat) (x1 : Int32) (x2 : Int32) (σ : Mm) : DX (Int32 × Mm) :=
ck 1 h0 σ <|
db (FX1_personAt h0 x1 σ) fun σ22 =>
(gR 1 0 (some h0) σ22).bind fun x23 =>
(gI 2 6 x23 σ22).bind fun x24 =>
FX1_led_21 h0 x1 x2 fu 0 (-1) (x24 - 1) σ22 (fun (x33 : Int32) (x34 : Int32) (σ : Mm) => (
(if x2 = 0 then (
rt (x33, σ)) else (
rt (x34, σ)))))
def FX1_log (h0 : Nat) (x1 : Int32) (x2 : Int32) (σ : Mm) : DX (Int32 × Mm) :=
db (FX1_question x2 4 σ) fun σ21 =>
(gR 1 0 (some h0) σ21).bind fun x22 =>
(gI 2 6 x22 σ21).bind fun x23 =>
(FX1_in x1 0 (x23 - 1) σ21).bind fun (x24, σ25) =>
(if x24 = 0 then (
rt ((-99), σ25)) else (
ck 1 h0 σ25 <|
(FX1_ofLog h0 x1 x2 σ25).bind fun (x27, σ28) =>
rt (x27, σ28)))
def FX8_init_137 (h0 : Nat) : Nat → Int32 → Mm → (Mm → Option (Mm)) → Option (Mm)
  | 0, _, _, _ => none
  | n+1, v1, σ, kx160 =>
    (if 12 ≤ v1 then (
    kx160 σ) else (
    (gR 8 1 (some h0) σ).bind fun x64 =>
    (sI x64 (272 + v1) (-1) σ).bind fun σ65 =>
    FX8_init_137 h0 n (v1 + 1) σ65 kx160))
def FX8_init (h0 : Nat) (σ : Mm) : Option (Mm) :=
(nA 100 984 σ).bind fun (x21, σ22) =>
(pR 8 1 (some h0) x21 σ22).bind fun σ23 =>
(nA 100 984 σ23).bind fun (x24, σ25) =>
(pR 8 2 (some h0) x24 σ25).bind fun σ26 =>
(nA 100 584 σ26).bind fun (x27, σ28) =>
(pR 8 4 (some h0) x27 σ28).bind fun σ29 =>
(nA 100 7008 σ29).bind fun (x30, σ31) =>
(pR 8 5 (some h0) x30 σ31).bind fun σ32 =>
(nA 100 400 σ32).bind fun (x33, σ34) =>
(pR 8 7 (some h0) x33 σ34).bind fun σ35 =>
(pI 8 12 (some h0) (-1) σ35).bind fun σ36 =>
(nA 100 6 σ36).bind fun (x37, σ38) =>
(pR 8 14 (some h0) x37 σ38).bind fun σ39 =>
(nA 100 36 σ39).bind fun (x40, σ41) =>
(pR 8 19 (some h0) x40 σ41).bind fun σ42 =>
(nA 100 10 σ42).bind fun (x43, σ44) =>
(pR 8 21 (some h0) x43 σ44).bind fun σ45 =>
(nA 100 1024 σ45).bind fun (x46, σ47) =>
(pR 8 22 (some h0) x46 σ47).bind fun σ48 =>
(nA 100 10 σ48).bind fun (x49, σ50) =>
(pR 8 23 (some h0) x49 σ50).bind fun σ51 =>
(nA 100 10240 σ51).bind fun (x52, σ53) =>
(pR 8 24 (some h0) x52 σ53).bind fun σ54 =>
(nA 100 10 σ54).bind fun (x55, σ56) =>
(pR 8 25 (some h0) x55 σ56).bind fun σ57 =>
(gR 8 1 (some h0) σ57).bind fun x58 =>
(sI x58 1 (-1) σ57).bind fun σ59 =>
(gR 8 1 (some h0) σ59).bind fun x60 =>
(sI x60 4 6 σ59).bind fun σ61 =>
(gR 8 1 (some h0) σ61).bind fun x62 =>
(sI x62 9 1 σ61).bind fun σ63 =>
FX8_init_137 h0 fu 0 σ63 (fun  (σ : Mm) => (
some σ))
def FX8_thrown (h0 : Nat) (σ : Mm) : Option (Int32 × Mm) :=
(gI 8 0 (some h0) σ).bind fun x21 =>
some (x21, σ)
def FX8_feed_23 (h0 : Nat) (y1 : Int32) (y2 : Int32) (y3 : Int32) (y4 : Int32) (y5 : Int32) : Nat → Int32 → Mm → (Mm → Option (Int32 × Mm)) → Option (Int32 × Mm)
  | 0, _, _, _ => none
  | n+1, v6, σ, kx120 =>
    (if 20 ≤ v6 then (
    kx120 σ) else (
    jn (fun (z23 : Int32) (σ : Mm) => (
    (gR 8 7 (some h0) σ).bind fun x24 =>
    (gI 8 8 (some h0) σ).bind fun x25 =>
    (rm_ v6 4).bind fun x26 =>
    (sI x24 x25 ((ush z23 (24 - (8 * x26))) &&& 255) σ).bind fun σ27 =>
    (gI 8 8 (some h0) σ27).bind fun x28 =>
    (pI 8 8 (some h0) (x28 + 1) σ27).bind fun σ29 =>
    FX8_feed_23 h0 y1 y2 y3 y4 y5 n (v6 + 1) σ29 kx120)) fun J76 =>
    (if 4 ≤ v6 then (
    (if 8 ≤ v6 then (
    (if 12 ≤ v6 then (
    (if 16 ≤ v6 then (
    J76 y5 σ) else (
    J76 y4 σ))) else (
    J76 y3 σ))) else (
    J76 y2 σ))) else (
    J76 y1 σ))))
def FX8_feed (h0 : Nat) (x1 : Int32) (x2 : Int32) (x3 : Int32) (x4 : Int32) (x5 : Int32) (σ : Mm) : Option (Int32 × Mm) :=
(pI 8 0 (some h0) 0 σ).bind fun σ21 =>
(gI 8 8 (some h0) σ21).bind fun x22 =>
(if (x22 + 20) ≤ 400 then (
FX8_feed_23 h0 x1 x2 x3 x4 x5 fu 0 σ21 (fun  (σ : Mm) => (
(gI 8 8 (some h0) σ).bind fun x35 =>
some (x35, σ)))) else (
some ((-1), σ21)))
def FX8_isIn (x0 : Int32) (x1 : Int32) (x2 : Int32) (σ : Mm) : Option (Int32 × Mm) :=
(if x0 < x1 then (
rZ 0 σ) else (
(if x2 < x0 then (
rZ 0 σ) else (
rZ 1 σ))))
def FX8_end (h0 : Nat) (x1 : Int32) (σ : Mm) : Option (Int32 × Mm) :=
(pI 8 0 (some h0) 0 σ).bind fun σ21 =>
(gI 8 8 (some h0) σ21).bind fun x22 =>
(FX8_isIn x1 0 x22 σ21).bind fun (x23, σ24) =>
(if x23 = 0 then (
rZ 0 σ24) else (
(pI 8 8 (some h0) x1 σ24).bind fun σ25 =>
rZ 1 σ25))
def FX8_putsAside_2 (h0 : Nat) : Nat → Int32 → Mm → (Mm → Option (Mm)) → Option (Mm)
  | 0, _, _, _ => none
  | n+1, v1, σ, kx27 =>
    (if 584 ≤ v1 then (
    kx27 σ) else (
    (gR 8 4 (some h0) σ).bind fun x21 =>
    (gR 8 1 (some h0) σ).bind fun x22 =>
    (aI 100 x22 v1 σ).bind fun x23 =>
    (sI x21 v1 x23 σ).bind fun σ24 =>
    FX8_putsAside_2 h0 n (v1 + 1) σ24 kx27))
def FX8_putsAside (h0 : Nat) (σ : Mm) : Option (Mm) :=
FX8_putsAside_2 h0 fu 0 σ (fun  (σ : Mm) => (
some σ))
def FX8_begins (h0 : Nat) (σ : Mm) : Option (Mm) :=
(pI 8 12 (some h0) (-1) σ).bind fun σ21 =>
(pI 8 9 (some h0) (-1) σ21).bind fun σ22 =>
(gI 8 8 (some h0) σ22).bind fun x23 =>
(pI 8 10 (some h0) x23 σ22).bind fun σ24 =>
(pI 8 8 (some h0) 0 σ24).bind fun σ25 =>
(pI 8 11 (some h0) 0 σ25).bind fun σ26 =>
(pI 8 13 (some h0) 0 σ26).bind fun σ27 =>
some σ27
def FX8_letter (h0 : Nat) (x1 : Int32) (σ : Mm) : Option (Int32 × Mm) :=
(gI 8 9 (some h0) σ).bind fun x21 =>
(if x21 = (-1) then (
(gR 8 7 (some h0) σ).bind fun x25 =>
(aI 100 x25 x1 σ).bind fun x26 =>
some (x26, σ)) else (
(gR 8 1 (some h0) σ).bind fun x22 =>
(gI 8 9 (some h0) σ).bind fun x23 =>
(aI 100 x22 (x23 + x1) σ).bind fun x24 =>
some (x24, σ)))
def FX8_skip_0 (h0 : Nat) : Nat → Mm → (Mm → Option (Mm)) → Option (Mm)
  | 0, _, _ => none
  | n+1, σ, kx37 =>
    (gI 8 11 (some h0) σ).bind fun x21 =>
    (gI 8 10 (some h0) σ).bind fun x22 =>
    (if x22 ≤ x21 then (
    kx37 σ) else (
    (gI 8 11 (some h0) σ).bind fun x23 =>
    ck 8 h0 σ <|
    (FX8_letter h0 x23 σ).bind fun (x25, σ26) =>
    (if x25 = 32 then (
    (gI 8 11 (some h0) σ26).bind fun x27 =>
    (pI 8 11 (some h0) (x27 + 1) σ26).bind fun σ28 =>
    FX8_skip_0 h0 n σ28 kx37) else (
    kx37 σ26))))
def FX8_skip (h0 : Nat) (σ : Mm) : Option (Mm) :=
FX8_skip_0 h0 fu σ (fun  (σ : Mm) => (
some σ))
def FX8_wrong (h0 : Nat) (x1 : Int32) (σ : Mm) : Option (Mm) :=
(gI 8 12 (some h0) σ).bind fun x21 =>
(if x21 = (-1) then (
(pI 8 12 (some h0) x1 σ).bind fun σ22 =>
some σ22) else (
some σ))
def FJ6_coder (h0 : Nat) (σ : Mm) : Option (Int32 × Mm) :=
(if (1 : Int32) = 0 then (
rN .byte 1 σ) else (
(gI 20 1 (some h0) σ).bind fun x21 =>
rN .byte x21 σ))
def FJ6_length (h0 : Nat) (σ : Mm) : Option (Int32 × Mm) :=
(gR 20 0 (some h0) σ).bind fun x21 =>
(aL 101 x21 σ).bind fun x22 =>
ck 20 h0 σ <|
(FJ6_coder h0 σ).bind fun (x24, σ25) =>
some ((x22 >>> (x24 &&& 31)), σ25)
def FJ6_checkIndex (x0 : Int32) (x1 : Int32) (σ : Mm) : Option (Mm) :=
(FJ11_checkIndex x0 x1 (mR σ (BIG + 200) 2) σ).bind fun (x21, σ22) =>
some σ22
def FJ10_charAt (x0 : Option Nat) (x1 : Int32) (σ : Mm) : Option (Int32 × Mm) :=
(aL 101 x0 σ).bind fun x21 =>
(FJ6_checkIndex x1 x21 σ).bind fun σ22 =>
(aI 101 x0 x1 σ22).bind fun x23 =>
rN .char (((x23 &&& 255).toUInt32 % 65536).toInt32) σ22
def FJ6_charAt (h0 : Nat) (x1 : Int32) (σ : Mm) : Option (Int32 × Mm) :=
ck 20 h0 σ <|
(FJ6_isLatin1 h0 σ).bind fun (x22, σ23) =>
(if x22 = 0 then (
(gR 20 0 (some h0) σ23).bind fun x24 =>
none) else (
(gR 20 0 (some h0) σ23).bind fun x25 =>
(FJ10_charAt x25 x1 σ23).bind fun (x26, σ27) =>
rN .char x26 σ27))
def FX8_has_9 (h0 : Nat) (y1 : Option Nat) : Nat → Int32 → Mm → (Int32 → Mm → Option (Int32 × Mm)) → Option (Int32 × Mm)
  | 0, _, _, _ => none
  | n+1, v2, σ, kx38 =>
    (gI 8 10 (some h0) σ).bind fun x24 =>
    (if x24 ≤ v2 then (
    kx38 v2 σ) else (
    ck 8 h0 σ <|
    (FX8_letter h0 v2 σ).bind fun (x26, σ27) =>
    (FX8_isIn x26 97 122 σ27).bind fun (x28, σ29) =>
    (if x28 = 0 then (
    kx38 v2 σ29) else (
    FX8_has_9 h0 y1 n (v2 + 1) σ29 kx38))))
def FX8_has_55 (h0 : Nat) (y1 : Option Nat) (y2 : Int32) : Nat → Int32 → Mm → (Mm → Option (Int32 × Mm)) → (Mm → Option (Int32 × Mm)) → Option (Int32 × Mm)
  | 0, _, _, _, _ => none
  | n+1, v3, σ, kx89, kx81 =>
    (rv 20 y1 σ).bind fun q38 =>
    (FJ6_length q38 σ).bind fun (x40, σ41) =>
    (if x40 ≤ v3 then (
    kx89 σ41) else (
    (gI 8 11 (some h0) σ41).bind fun x42 =>
    ck 8 h0 σ41 <|
    (FX8_letter h0 (x42 + v3) σ41).bind fun (x44, σ45) =>
    (rv 20 y1 σ45).bind fun q46 =>
    (FJ6_charAt q46 v3 σ45).bind fun (x48, σ49) =>
    (if x44 = x48 then (
    FX8_has_55 h0 y1 y2 n (v3 + 1) σ49 kx89 kx81) else (
    kx81 σ49))))
def FX8_has (h0 : Nat) (x1 : Option Nat) (σ : Mm) : Option (Int32 × Mm) :=
ck 8 h0 σ <|
(FX8_skip h0 σ).bind fun σ22 =>
(gI 8 11 (some h0) σ22).bind fun x23 =>
FX8_has_9 h0 x1 fu x23 σ22 (fun (x32 : Int32) (σ : Mm) => (
(gI 8 11 (some h0) σ).bind fun x33 =>
(rv 20 x1 σ).bind fun q34 =>
(FJ6_length q34 σ).bind fun (x36, σ37) =>
(if (x32 - x33) = x36 then (
FX8_has_55 h0 x1 x32 fu 0 σ37 (fun  (σ : Mm) => (
(pI 8 11 (some h0) x32 σ).bind fun σ52 =>
rZ 1 σ52)) (fun  (σ : Mm) => (
rZ 0 σ))) else (
rZ 0 σ37))))
def FX8_place (h0 : Nat) (σ : Mm) : Option (Int32 × Mm) :=
ck 8 h0 σ <|
(FX8_skip h0 σ).bind fun σ22 =>
(gI 8 11 (some h0) σ22).bind fun x23 =>
some (x23, σ22)
def FX8_isSign (h0 : Nat) (x1 : Int32) (σ : Mm) : Option (Int32 × Mm) :=
ck 8 h0 σ <|
(FX8_skip h0 σ).bind fun σ22 =>
(gI 8 11 (some h0) σ22).bind fun x23 =>
(gI 8 10 (some h0) σ22).bind fun x24 =>
(if x24 ≤ x23 then (
rZ 0 σ22) else (
(gI 8 11 (some h0) σ22).bind fun x25 =>
ck 8 h0 σ22 <|
(FX8_letter h0 x25 σ22).bind fun (x27, σ28) =>
(if x27 = x1 then (
rZ 1 σ28) else (
rZ 0 σ28))))
def FX8_figures_18 (h0 : Nat) (y1 : Int32) (y2 : Int32) (y3 : Int32) : Nat → Int32 → Mm → (Int32 → Mm → Option (Int32 × Mm)) → Option (Int32 × Mm)
  | 0, _, _, _ => none
  | n+1, v4, σ, kx89 =>
    (gI 8 11 (some h0) σ).bind fun x25 =>
    (gI 8 10 (some h0) σ).bind fun x26 =>
    (if x26 ≤ x25 then (
    kx89 v4 σ) else (
    (gI 8 11 (some h0) σ).bind fun x27 =>
    ck 8 h0 σ <|
    (FX8_letter h0 x27 σ).bind fun (x29, σ30) =>
    (FX8_isIn x29 48 57 σ30).bind fun (x31, σ32) =>
    (if x31 = 0 then (
    kx89 v4 σ32) else (
    (gI 8 11 (some h0) σ32).bind fun x33 =>
    (if 3 < (x33 - y3) then (
    kx89 v4 σ32) else (
    (gI 8 11 (some h0) σ32).bind fun x34 =>
    ck 8 h0 σ32 <|
    (FX8_letter h0 x34 σ32).bind fun (x36, σ37) =>
    (gI 8 11 (some h0) σ37).bind fun x38 =>
    (pI 8 11 (some h0) (x38 + 1) σ37).bind fun σ39 =>
    FX8_figures_18 h0 y1 y2 y3 n (((10 * v4) + x36) - 48) σ39 kx89))))))
def FX8_figures (h0 : Nat) (x1 : Int32) (x2 : Int32) (σ : Mm) : Option (Int32 × Mm) :=
(gI 8 12 (some h0) σ).bind fun x21 =>
(if x21 = (-1) then (
ck 8 h0 σ <|
(FX8_place h0 σ).bind fun (x23, σ24) =>
FX8_figures_18 h0 x1 x2 x23 fu 0 σ24 (fun (x43 : Int32) (σ : Mm) => (
(gI 8 11 (some h0) σ).bind fun x44 =>
jn (fun  (σ : Mm) => (
ck 8 h0 σ <|
(FX8_wrong h0 x23 σ).bind fun σ46 =>
some (x43, σ46))) fun J119 =>
(if x44 = x23 then (
J119 σ) else (
(gI 8 11 (some h0) σ).bind fun x47 =>
(if 3 < (x47 - x23) then (
J119 σ) else (
(if x43 < x1 then (
J119 σ) else (
(if x43 ≤ x2 then (
some (x43, σ)) else (
J119 σ))))))))))) else (
some (0, σ)))
def FJ6_coderk1 (h0 : Nat) (σ : Mm) : Option (Int32 × Mm) :=
(if (1 : Int32) = 0 then (
rN .byte 1 σ) else (
(gI 520 1 (some h0) σ).bind fun x21 =>
rN .byte x21 σ))
def FJ6_lengthk1 (h0 : Nat) (σ : Mm) : Option (Int32 × Mm) :=
(gR 520 0 (some h0) σ).bind fun x21 =>
(aL 601 x21 σ).bind fun x22 =>
ck 520 h0 σ <|
(FJ6_coderk1 h0 σ).bind fun (x24, σ25) =>
some ((x22 >>> (x24 &&& 31)), σ25)
def FJ6_isLatin1k1 (h0 : Nat) (σ : Mm) : Option (Int32 × Mm) :=
(if (1 : Int32) = 0 then (
rZ 0 σ) else (
(gI 520 1 (some h0) σ).bind fun x21 =>
(if x21 = 0 then (
rZ 1 σ) else (
rZ 0 σ))))
def FJ10_charAtk10 (x0 : Option Nat) (x1 : Int32) (σ : Mm) : Option (Int32 × Mm) :=
(aL 601 x0 σ).bind fun x21 =>
(FJ6_checkIndex x1 x21 σ).bind fun σ22 =>
(aI 601 x0 x1 σ22).bind fun x23 =>
rN .char (((x23 &&& 255).toUInt32 % 65536).toInt32) σ22
def FJ6_charAtk10 (h0 : Nat) (x1 : Int32) (σ : Mm) : Option (Int32 × Mm) :=
ck 520 h0 σ <|
(FJ6_isLatin1k1 h0 σ).bind fun (x22, σ23) =>
(if x22 = 0 then (
(gR 520 0 (some h0) σ23).bind fun x24 =>
none) else (
(gR 520 0 (some h0) σ23).bind fun x25 =>
(FJ10_charAtk10 x25 x1 σ23).bind fun (x26, σ27) =>
rN .char x26 σ27))
def FX8_hask01_9 (h0 : Nat) (y1 : Option Nat) : Nat → Int32 → Mm → (Int32 → Mm → Option (Int32 × Mm)) → Option (Int32 × Mm)
  | 0, _, _, _ => none
  | n+1, v2, σ, kx38 =>
    (gI 8 10 (some h0) σ).bind fun x24 =>
    (if x24 ≤ v2 then (
    kx38 v2 σ) else (
    ck 8 h0 σ <|
    (FX8_letter h0 v2 σ).bind fun (x26, σ27) =>
    (FX8_isIn x26 97 122 σ27).bind fun (x28, σ29) =>
    (if x28 = 0 then (
    kx38 v2 σ29) else (
    FX8_hask01_9 h0 y1 n (v2 + 1) σ29 kx38))))
def FX8_hask01_55 (h0 : Nat) (y1 : Option Nat) (y2 : Int32) : Nat → Int32 → Mm → (Mm → Option (Int32 × Mm)) → (Mm → Option (Int32 × Mm)) → Option (Int32 × Mm)
  | 0, _, _, _, _ => none
  | n+1, v3, σ, kx89, kx81 =>
    (rv 520 y1 σ).bind fun q38 =>
    (FJ6_lengthk1 q38 σ).bind fun (x40, σ41) =>
    (if x40 ≤ v3 then (
    kx89 σ41) else (
    (gI 8 11 (some h0) σ41).bind fun x42 =>
    ck 8 h0 σ41 <|
    (FX8_letter h0 (x42 + v3) σ41).bind fun (x44, σ45) =>
    (rv 520 y1 σ45).bind fun q46 =>
    (FJ6_charAtk10 q46 v3 σ45).bind fun (x48, σ49) =>
    (if x44 = x48 then (
    FX8_hask01_55 h0 y1 y2 n (v3 + 1) σ49 kx89 kx81) else (
    kx81 σ49))))
def FX8_hask01 (h0 : Nat) (x1 : Option Nat) (σ : Mm) : Option (Int32 × Mm) :=
ck 8 h0 σ <|
(FX8_skip h0 σ).bind fun σ22 =>
(gI 8 11 (some h0) σ22).bind fun x23 =>
FX8_hask01_9 h0 x1 fu x23 σ22 (fun (x32 : Int32) (σ : Mm) => (
(gI 8 11 (some h0) σ).bind fun x33 =>
(rv 520 x1 σ).bind fun q34 =>
(FJ6_lengthk1 q34 σ).bind fun (x36, σ37) =>
(if (x32 - x33) = x36 then (
FX8_hask01_55 h0 x1 x32 fu 0 σ37 (fun  (σ : Mm) => (
(pI 8 11 (some h0) x32 σ).bind fun σ52 =>
rZ 1 σ52)) (fun  (σ : Mm) => (
rZ 0 σ))) else (
rZ 0 σ37))))
def FX8_part (h0 : Nat) (σ : Mm) : Option (Int32 × Mm) :=
(gI 8 12 (some h0) σ).bind fun x21 =>
(if x21 = (-1) then (
ck 8 h0 σ <|
(FX8_skip h0 σ).bind fun σ23 =>
(gI 8 11 (some h0) σ23).bind fun x24 =>
(gI 8 10 (some h0) σ23).bind fun x25 =>
jn (fun  (σ : Mm) => (
ck 8 h0 σ <|
(FX8_hask01 h0 (some (BIG + 2 * 15)) σ).bind fun (x27, σ28) =>
jn (fun (z29 : Int32) (σ : Mm) => (
(if z29 = (-1) then (
(gI 8 11 (some h0) σ).bind fun x32 =>
ck 8 h0 σ <|
(FX8_wrong h0 x32 σ).bind fun σ34 =>
some (0, σ34)) else (
(gR 8 14 (some h0) σ).bind fun x30 =>
(aI 100 x30 z29 σ).bind fun x31 =>
some (x31, σ))))) fun J131 =>
(if x27 = 0 then (
ck 8 h0 σ28 <|
(FX8_hask01 h0 (some (BIG + 2 * 16)) σ28).bind fun (x37, σ38) =>
(if x37 = 0 then (
ck 8 h0 σ38 <|
(FX8_hask01 h0 (some (BIG + 2 * 17)) σ38).bind fun (x40, σ41) =>
(if x40 = 0 then (
ck 8 h0 σ41 <|
(FX8_hask01 h0 (some (BIG + 2 * 18)) σ41).bind fun (x43, σ44) =>
(if x43 = 0 then (
ck 8 h0 σ44 <|
(FX8_hask01 h0 (some (BIG + 2 * 19)) σ44).bind fun (x46, σ47) =>
(if x46 = 0 then (
ck 8 h0 σ47 <|
(FX8_hask01 h0 (some (BIG + 2 * 20)) σ47).bind fun (x49, σ50) =>
(if x49 = 0 then (
J131 (-1) σ50) else (
J131 5 σ50))) else (
J131 4 σ47))) else (
J131 3 σ44))) else (
J131 2 σ41))) else (
J131 1 σ38))) else (
J131 0 σ28)))) fun J52 =>
(if x25 ≤ x24 then (
J52 σ23) else (
(gI 8 11 (some h0) σ23).bind fun x57 =>
ck 8 h0 σ23 <|
(FX8_letter h0 x57 σ23).bind fun (x59, σ60) =>
(FX8_isIn x59 48 57 σ60).bind fun (x61, σ62) =>
(if x61 = 0 then (
J52 σ62) else (
ck 8 h0 σ62 <|
(FX8_figures h0 0 999 σ62).bind fun (x64, σ65) =>
some (x64, σ65)))))) else (
some (0, σ)))
def FX8_sum_5 (h0 : Nat) : Nat → Int32 → Mm → (Int32 → Mm → Option (Int32 × Mm)) → Option (Int32 × Mm)
  | 0, _, _, _ => none
  | n+1, v1, σ, kx42 =>
    (gI 8 12 (some h0) σ).bind fun x24 =>
    (if x24 = (-1) then (
    ck 8 h0 σ <|
    (FX8_isSign h0 43 σ).bind fun (x26, σ27) =>
    (if x26 = 0 then (
    kx42 v1 σ27) else (
    (gI 8 11 (some h0) σ27).bind fun x28 =>
    (pI 8 11 (some h0) (x28 + 1) σ27).bind fun σ29 =>
    ck 8 h0 σ29 <|
    (FX8_part h0 σ29).bind fun (x31, σ32) =>
    FX8_sum_5 h0 n (v1 + x31) σ32 kx42))) else (
    kx42 v1 σ))
def FX8_sum (h0 : Nat) (σ : Mm) : Option (Int32 × Mm) :=
ck 8 h0 σ <|
(FX8_part h0 σ).bind fun (x22, σ23) =>
FX8_sum_5 h0 fu x22 σ23 (fun (x35 : Int32) (σ : Mm) => (
some (x35, σ)))
def FX8_plain (h0 : Nat) (σ : Mm) : Option (Int32 × Mm) :=
ck 8 h0 σ <|
(FX8_hask01 h0 (some (BIG + 2 * 11)) σ).bind fun (x22, σ23) =>
(if x22 = 0 then (
ck 8 h0 σ23 <|
(FX8_hask01 h0 (some (BIG + 2 * 2)) σ23).bind fun (x25, σ26) =>
(if x25 = 0 then (
ck 8 h0 σ26 <|
(FX8_sum h0 σ26).bind fun (x28, σ29) =>
(gI 8 12 (some h0) σ29).bind fun x30 =>
(if x30 = (-1) then (
ck 8 h0 σ29 <|
(FX8_isSign h0 60 σ29).bind fun (x32, σ33) =>
jn (fun  (σ : Mm) => (
(gI 8 11 (some h0) σ).bind fun x34 =>
(pI 8 11 (some h0) (x34 + 1) σ).bind fun σ35 =>
ck 8 h0 σ35 <|
(FX8_sum h0 σ35).bind fun (x37, σ38) =>
(if x32 = 0 then (
(if x28 ≤ x37 then (
rZ 0 σ38) else (
rZ 1 σ38))) else (
(if x37 ≤ x28 then (
rZ 0 σ38) else (
rZ 1 σ38)))))) fun J73 =>
(if x32 = 0 then (
ck 8 h0 σ33 <|
(FX8_isSign h0 62 σ33).bind fun (x43, σ44) =>
(if x43 = 0 then (
(gI 8 11 (some h0) σ44).bind fun x45 =>
ck 8 h0 σ44 <|
(FX8_wrong h0 x45 σ44).bind fun σ47 =>
rZ 0 σ47) else (
J73 σ44))) else (
J73 σ33))) else (
rZ 0 σ29))) else (
(gI 8 16 (some h0) σ26).bind fun x51 =>
rZ x51 σ26))) else (
(gI 8 15 (some h0) σ23).bind fun x53 =>
rZ x53 σ23))
def RX8_every_5 (Rf : Nat → Mm → Option (Int32 × Mm)) (h0 : Nat) : Nat → Int32 → Mm → (Int32 → Mm → Option (Int32 × Mm)) → Option (Int32 × Mm)
  | 0, _, _, _ => none
  | n+1, v1, σ, kx44 =>
    (gI 8 12 (some h0) σ).bind fun x24 =>
    (if x24 = (-1) then (
    ck 8 h0 σ <|
    (FX8_hask01 h0 (some (BIG + 2 * 12)) σ).bind fun (x26, σ27) =>
    (if x26 = 0 then (
    kx44 v1 σ27) else (
    ck 8 h0 σ27 <|
    (Rf h0 σ27).bind fun (x29, σ30) =>
    (if v1 = 0 then (
    RX8_every_5 Rf h0 n 0 σ30 kx44) else (
    (if x29 = 0 then (
    RX8_every_5 Rf h0 n 0 σ30 kx44) else (
    RX8_every_5 Rf h0 n 1 σ30 kx44))))))) else (
    kx44 v1 σ))
def RX8_every (Rf : Nat → Mm → Option (Int32 × Mm)) (h0 : Nat) (σ : Mm) : Option (Int32 × Mm) :=
ck 8 h0 σ <|
(Rf h0 σ).bind fun (x22, σ23) =>
RX8_every_5 Rf h0 fu x22 σ23 (fun (x35 : Int32) (σ : Mm) => (
rZ x35 σ))
def RX8_some_5 (Rf : Nat → Mm → Option (Int32 × Mm)) (h0 : Nat) : Nat → Int32 → Mm → (Int32 → Mm → Option (Int32 × Mm)) → Option (Int32 × Mm)
  | 0, _, _, _ => none
  | n+1, v1, σ, kx44 =>
    (gI 8 12 (some h0) σ).bind fun x24 =>
    (if x24 = (-1) then (
    ck 8 h0 σ <|
    (FX8_hask01 h0 (some (BIG + 2 * 13)) σ).bind fun (x26, σ27) =>
    (if x26 = 0 then (
    kx44 v1 σ27) else (
    ck 8 h0 σ27 <|
    (RX8_every Rf h0 σ27).bind fun (x29, σ30) =>
    (if v1 = 0 then (
    (if x29 = 0 then (
    RX8_some_5 Rf h0 n 0 σ30 kx44) else (
    RX8_some_5 Rf h0 n 1 σ30 kx44))) else (
    RX8_some_5 Rf h0 n 1 σ30 kx44))))) else (
    kx44 v1 σ))
def RX8_some (Rf : Nat → Mm → Option (Int32 × Mm)) (h0 : Nat) (σ : Mm) : Option (Int32 × Mm) :=
ck 8 h0 σ <|
(RX8_every Rf h0 σ).bind fun (x22, σ23) =>
RX8_some_5 Rf h0 fu x22 σ23 (fun (x35 : Int32) (σ : Mm) => (
rZ x35 σ))
def RX8_atom (Rf : Nat → Mm → Option (Int32 × Mm)) (h0 : Nat) (σ : Mm) : Option (Int32 × Mm) :=
(gI 8 12 (some h0) σ).bind fun x21 =>
(if x21 = (-1) then (
ck 8 h0 σ <|
(FX8_place h0 σ).bind fun (x23, σ24) =>
ck 8 h0 σ24 <|
(FX8_hask01 h0 (some (BIG + 2 * 10)) σ24).bind fun (x26, σ27) =>
jn (fun  (σ : Mm) => (
(gI 8 13 (some h0) σ).bind fun x28 =>
(if x28 = 6 then (
ck 8 h0 σ <|
(FX8_wrong h0 x23 σ).bind fun σ56 =>
rZ 0 σ56) else (
(gI 8 13 (some h0) σ).bind fun x29 =>
(pI 8 13 (some h0) (x29 + 1) σ).bind fun σ30 =>
jn (fun (x31 : Int32) (σ : Mm) => (
(gI 8 13 (some h0) σ).bind fun x32 =>
(pI 8 13 (some h0) (x32 - 1) σ).bind fun σ33 =>
rZ x31 σ33)) fun J138 =>
(if x26 = 0 then (
(gI 8 11 (some h0) σ30).bind fun x34 =>
(pI 8 11 (some h0) (x34 + 1) σ30).bind fun σ35 =>
ck 8 h0 σ35 <|
(RX8_some Rf h0 σ35).bind fun (x37, σ38) =>
(gI 8 12 (some h0) σ38).bind fun x39 =>
jn (fun  (σ : Mm) => (
(gI 8 11 (some h0) σ).bind fun x40 =>
(pI 8 11 (some h0) (x40 + 1) σ).bind fun σ41 =>
J138 x37 σ41)) fun J128 =>
(if x39 = (-1) then (
ck 8 h0 σ38 <|
(FX8_isSign h0 41 σ38).bind fun (x43, σ44) =>
(if x43 = 0 then (
(gI 8 11 (some h0) σ44).bind fun x45 =>
ck 8 h0 σ44 <|
(FX8_wrong h0 x45 σ44).bind fun σ47 =>
J128 σ47) else (
J128 σ44))) else (
J128 σ38))) else (
ck 8 h0 σ30 <|
(Rf h0 σ30).bind fun (x51, σ52) =>
(if x51 = 0 then (
J138 1 σ52) else (
J138 0 σ52)))))))) fun J40 =>
(if x26 = 0 then (
ck 8 h0 σ27 <|
(FX8_isSign h0 40 σ27).bind fun (x59, σ60) =>
(if x59 = 0 then (
ck 8 h0 σ60 <|
(FX8_plain h0 σ60).bind fun (x62, σ63) =>
rZ x62 σ63) else (
J40 σ60))) else (
J40 σ27))) else (
rZ 0 σ))
def FX8_atom : Nat → Nat → Mm → Option (Int32 × Mm)
  | 0 => fun _ _ => none
  | d+1 => RX8_atom (FX8_atom d)
def FX8_some (h0 : Nat) (σ : Mm) : Option (Int32 × Mm) := RX8_some (FX8_atom 8) h0 σ
def FX8_every (h0 : Nat) (σ : Mm) : Option (Int32 × Mm) := RX8_every (FX8_atom 8) h0 σ
def FX8_lawLine (h0 : Nat) (σ : Mm) : Option (Mm) :=
ck 8 h0 σ <|
(FX8_hask01 h0 (some (BIG + 2 * 7)) σ).bind fun (x22, σ23) =>
jn (fun  (σ : Mm) => (
ck 8 h0 σ <|
(FX8_hask01 h0 (some (BIG + 2 * 9)) σ).bind fun (x25, σ26) =>
jn (fun (z27 : Int32) (σ : Mm) => (
(gI 8 12 (some h0) σ).bind fun x28 =>
(if x28 = (-1) then (
(if z27 = 0 then (
some σ) else (
(if x22 = 0 then (
(pZ 8 18 (some h0) 1 σ).bind fun σ29 =>
some σ29) else (
(pZ 8 17 (some h0) 1 σ).bind fun σ30 =>
some σ30))))) else (
some σ)))) fun J50 =>
(if x25 = 0 then (
J50 1 σ26) else (
ck 8 h0 σ26 <|
(FX8_some h0 σ26).bind fun (x35, σ36) =>
(if x35 = 0 then (
J50 0 σ36) else (
J50 1 σ36)))))) fun J29 =>
(if x22 = 0 then (
ck 8 h0 σ23 <|
(FX8_hask01 h0 (some (BIG + 2 * 8)) σ23).bind fun (x40, σ41) =>
(if x40 = 0 then (
(gI 8 11 (some h0) σ41).bind fun x42 =>
ck 8 h0 σ41 <|
(FX8_wrong h0 x42 σ41).bind fun σ44 =>
some σ44) else (
J29 σ41))) else (
J29 σ23))
def FX8_eight_22 (h0 : Nat) (y1 : Int32) : Nat → Int32 → Int32 → Int32 → Mm → (Int32 → Int32 → Int32 → Mm → Option (Int32 × Mm)) → Option (Int32 × Mm)
  | 0, _, _, _, _, _ => none
  | n+1, v2, v3, v4, σ, kx122 =>
    (gI 8 11 (some h0) σ).bind fun x25 =>
    (gI 8 10 (some h0) σ).bind fun x26 =>
    (if x26 ≤ x25 then (
    kx122 v2 v3 v4 σ) else (
    (gI 8 11 (some h0) σ).bind fun x27 =>
    ck 8 h0 σ <|
    (FX8_letter h0 x27 σ).bind fun (x29, σ30) =>
    (FX8_isIn x29 48 57 σ30).bind fun (x31, σ32) =>
    (if x31 = 0 then (
    kx122 v2 v3 v4 σ32) else (
    jn (fun (z33 : Int32) (σ : Mm) => (
    jn (fun (x34 : Int32) (σ : Mm) => (
    (gI 8 11 (some h0) σ).bind fun x35 =>
    (pI 8 11 (some h0) (x35 + 1) σ).bind fun σ36 =>
    FX8_eight_22 h0 y1 n x34 (v3 + 1) z33 σ36 kx122)) fun J106 =>
    (if z33 = 0 then (
    J106 v2 σ) else (
    (gI 8 11 (some h0) σ).bind fun x37 =>
    ck 8 h0 σ <|
    (FX8_letter h0 x37 σ).bind fun (x39, σ40) =>
    (if x39 = 49 then (
    J106 (v2 ||| (1 <<< (v3 &&& 31))) σ40) else (
    J106 v2 σ40)))))) fun J80 =>
    (if v4 = 0 then (
    J80 0 σ32) else (
    (gI 8 11 (some h0) σ32).bind fun x43 =>
    ck 8 h0 σ32 <|
    (FX8_letter h0 x43 σ32).bind fun (x45, σ46) =>
    (if 49 < x45 then (
    J80 0 σ46) else (
    (if 8 ≤ v3 then (
    J80 0 σ46) else (
    J80 1 σ46))))))))))
def FX8_eight (h0 : Nat) (σ : Mm) : Option (Int32 × Mm) :=
(gI 8 12 (some h0) σ).bind fun x21 =>
(if x21 = (-1) then (
ck 8 h0 σ <|
(FX8_place h0 σ).bind fun (x23, σ24) =>
FX8_eight_22 h0 x23 fu 0 0 1 σ24 (fun (x52 : Int32) (x53 : Int32) (x54 : Int32) (σ : Mm) => (
jn (fun  (σ : Mm) => (
ck 8 h0 σ <|
(FX8_wrong h0 x23 σ).bind fun σ56 =>
some (x52, σ56))) fun J133 =>
(if x54 = 0 then (
J133 σ) else (
(if x53 = 8 then (
some (x52, σ)) else (
J133 σ))))))) else (
some (0, σ)))
def FX8_has_2 (h0 : Nat) (x1 : Int32) (x2 : Int32) (x3 : Int32) (σ : Mm) : Option (Mm) :=
(gR 8 1 (some h0) σ).bind fun x21 =>
(sI x21 ((12 + (6 * x1)) + x2) x3 σ).bind fun σ22 =>
some σ22
def FX8_personLine_95 (h0 : Nat) (y4 : Int32) : Nat → Int32 → Mm → (Mm → Option (Mm)) → Option (Mm)
  | 0, _, _, _ => none
  | n+1, v5, σ, kx162 =>
    (if 10 ≤ v5 then (
    kx162 σ) else (
    (gR 8 1 (some h0) σ).bind fun x44 =>
    (sI x44 ((72 + (10 * y4)) + v5) v5 σ).bind fun σ45 =>
    (gR 8 1 (some h0) σ45).bind fun x46 =>
    (sI x46 ((172 + (10 * y4)) + v5) 0 σ45).bind fun σ47 =>
    (gR 8 1 (some h0) σ47).bind fun x48 =>
    (sI x48 ((172 + (10 * v5)) + y4) 0 σ47).bind fun σ49 =>
    FX8_personLine_95 h0 y4 n (v5 + 1) σ49 kx162))
def FX8_personLine (h0 : Nat) (x1 : Int32) (σ : Mm) : Option (Mm) :=
(gR 8 1 (some h0) σ).bind fun x21 =>
(aI 100 x21 3 σ).bind fun x22 =>
jn (fun  (σ : Mm) => (
ck 8 h0 σ <|
(FX8_eight h0 σ).bind fun (x24, σ25) =>
ck 8 h0 σ25 <|
(FX8_eight h0 σ25).bind fun (x27, σ28) =>
(gI 8 12 (some h0) σ28).bind fun x29 =>
(if x29 = (-1) then (
(gR 8 1 (some h0) σ28).bind fun x30 =>
(aI 100 x30 3 σ28).bind fun x31 =>
ck 8 h0 σ28 <|
(FX8_has_2 h0 x31 0 x24 σ28).bind fun σ33 =>
ck 8 h0 σ33 <|
(FX8_has_2 h0 x31 1 x27 σ33).bind fun σ35 =>
ck 8 h0 σ35 <|
(FX8_has_2 h0 x31 2 x31 σ35).bind fun σ37 =>
ck 8 h0 σ37 <|
(FX8_has_2 h0 x31 3 (-1) σ37).bind fun σ39 =>
ck 8 h0 σ39 <|
(FX8_has_2 h0 x31 4 (-1) σ39).bind fun σ41 =>
ck 8 h0 σ41 <|
(FX8_has_2 h0 x31 5 0 σ41).bind fun σ43 =>
FX8_personLine_95 h0 x31 fu 0 σ43 (fun  (σ : Mm) => (
(gR 8 1 (some h0) σ).bind fun x51 =>
(aI 100 x51 3 σ).bind fun x52 =>
(sI x51 3 (x52 + 1) σ).bind fun σ53 =>
some σ53))) else (
some σ28)))) fun J16 =>
(if x22 = 10 then (
ck 8 h0 σ <|
(FX8_wrong h0 x1 σ).bind fun σ56 =>
J16 σ56) else (
J16 σ))
def FX8_isOf (x0 : Int32) (x1 : Int32) (σ : Mm) : Option (Int32 × Mm) :=
(if ((x0 >>> (x1 &&& 31)) &&& 1) = 1 then (
rZ 1 σ) else (
rZ 0 σ))
def FX8_isFigure (h0 : Nat) (σ : Mm) : Option (Int32 × Mm) :=
ck 8 h0 σ <|
(FX8_skip h0 σ).bind fun σ22 =>
(gI 8 11 (some h0) σ22).bind fun x23 =>
(gI 8 10 (some h0) σ22).bind fun x24 =>
(if x24 ≤ x23 then (
rZ 0 σ22) else (
(gI 8 11 (some h0) σ22).bind fun x25 =>
ck 8 h0 σ22 <|
(FX8_letter h0 x25 σ22).bind fun (x27, σ28) =>
(FX8_isIn x27 48 57 σ28).bind fun (x29, σ30) =>
(if x29 = 0 then (
rZ 0 σ30) else (
rZ 1 σ30))))
def FX8_wishLine_42 (h0 : Nat) (y5 : Int32) : Nat → Int32 → Int32 → Int32 → Mm → (Int32 → Int32 → Mm → Option (Mm)) → (Mm → Option (Mm)) → Option (Mm)
  | 0, _, _, _, _, _, _ => none
  | n+1, v2, v3, v4, σ, kx130, kx99 =>
    (if v4 = 0 then (
    kx130 v2 v3 σ) else (
    ck 8 h0 σ <|
    (FX8_place h0 σ).bind fun (x29, σ30) =>
    (gR 8 1 (some h0) σ30).bind fun x31 =>
    (aI 100 x31 3 σ30).bind fun x32 =>
    ck 8 h0 σ30 <|
    (FX8_figures h0 0 (x32 - 1) σ30).bind fun (x34, σ35) =>
    (gI 8 12 (some h0) σ35).bind fun x36 =>
    jn (fun  (σ : Mm) => (
    (gI 8 12 (some h0) σ).bind fun x37 =>
    (if x37 = (-1) then (
    (gR 8 1 (some h0) σ).bind fun x38 =>
    (sI x38 (y5 + v3) x34 σ).bind fun σ39 =>
    ck 8 h0 σ39 <|
    (FX8_isFigure h0 σ39).bind fun (x41, σ42) =>
    FX8_wishLine_42 h0 y5 n (v2 ||| (1 <<< (x34 &&& 31))) (v3 + 1) x41 σ42 kx130 kx99) else (
    kx99 σ)))) fun J91 =>
    (if x36 = (-1) then (
    (FX8_isOf v2 x34 σ35).bind fun (x44, σ45) =>
    (if x44 = 0 then (
    J91 σ45) else (
    ck 8 h0 σ45 <|
    (FX8_wrong h0 x29 σ45).bind fun σ47 =>
    J91 σ47))) else (
    J91 σ35))))
def FX8_wishLine_142 (h0 : Nat) (y2 : Int32) (y5 : Int32) : Nat → Int32 → Int32 → Mm → (Mm → Option (Mm)) → Option (Mm)
  | 0, _, _, _, _ => none
  | n+1, v3, v6, σ, kx181 =>
    (if 10 ≤ v6 then (
    kx181 σ) else (
    (FX8_isOf y2 v6 σ).bind fun (x54, σ55) =>
    (if x54 = 0 then (
    (gR 8 1 (some h0) σ55).bind fun x56 =>
    (sI x56 (y5 + v3) v6 σ55).bind fun σ57 =>
    FX8_wishLine_142 h0 y2 y5 n (v3 + 1) (v6 + 1) σ57 kx181) else (
    FX8_wishLine_142 h0 y2 y5 n v3 (v6 + 1) σ55 kx181))))
def FX8_wishLine (h0 : Nat) (σ : Mm) : Option (Mm) :=
(gR 8 1 (some h0) σ).bind fun x21 =>
(aI 100 x21 3 σ).bind fun x22 =>
ck 8 h0 σ <|
(FX8_figures h0 0 (x22 - 1) σ).bind fun (x24, σ25) =>
(gI 8 12 (some h0) σ25).bind fun x26 =>
jn (fun (z27 : Int32) (σ : Mm) => (
FX8_wishLine_42 h0 (72 + (10 * x24)) fu 0 0 z27 σ (fun (x51 : Int32) (x52 : Int32) (σ : Mm) => (
(gI 8 12 (some h0) σ).bind fun x53 =>
(if x53 = (-1) then (
FX8_wishLine_142 h0 x51 (72 + (10 * x24)) fu x52 0 σ (fun  (σ : Mm) => (
some σ))) else (
some σ)))) (fun  (σ : Mm) => (
some σ)))) fun J31 =>
(if x26 = (-1) then (
J31 1 σ25) else (
J31 0 σ25))
def FX8_of (h0 : Nat) (x1 : Int32) (x2 : Int32) (σ : Mm) : Option (Int32 × Mm) :=
(gR 8 1 (some h0) σ).bind fun x21 =>
(aI 100 x21 ((12 + (6 * x1)) + x2) σ).bind fun x22 =>
some (x22, σ)
def FX8_single (h0 : Nat) (x1 : Int32) (σ : Mm) : Option (Int32 × Mm) :=
ck 8 h0 σ <|
(FX8_place h0 σ).bind fun (x22, σ23) =>
(gR 8 1 (some h0) σ23).bind fun x24 =>
(aI 100 x24 3 σ23).bind fun x25 =>
ck 8 h0 σ23 <|
(FX8_figures h0 0 (x25 - 1) σ23).bind fun (x27, σ28) =>
(gI 8 12 (some h0) σ28).bind fun x29 =>
(if x29 = (-1) then (
jn (fun  (σ : Mm) => (
ck 8 h0 σ <|
(FX8_wrong h0 x22 σ).bind fun σ31 =>
some (x27, σ31))) fun J42 =>
(if x27 = x1 then (
J42 σ28) else (
ck 8 h0 σ28 <|
(FX8_of h0 x27 4 σ28).bind fun (x33, σ34) =>
(if x33 = (-1) then (
some (x27, σ34)) else (
J42 σ34))))) else (
some (x27, σ28)))
def FX8_wedLine (h0 : Nat) (σ : Mm) : Option (Mm) :=
ck 8 h0 σ <|
(FX8_single h0 (-1) σ).bind fun (x22, σ23) =>
ck 8 h0 σ23 <|
(FX8_single h0 x22 σ23).bind fun (x25, σ26) =>
(gI 8 12 (some h0) σ26).bind fun x27 =>
(if x27 = (-1) then (
ck 8 h0 σ26 <|
(FX8_has_2 h0 x22 4 x25 σ26).bind fun σ29 =>
ck 8 h0 σ29 <|
(FX8_has_2 h0 x25 4 x22 σ29).bind fun σ31 =>
some σ31) else (
some σ26))
def FX8_knowsLine_28 (h0 : Nat) (y1 : Int32) : Nat → Int32 → Mm → (Mm → Option (Mm)) → Option (Mm)
  | 0, _, _, _ => none
  | n+1, v2, σ, kx120 =>
    (if v2 = 0 then (
    kx120 σ) else (
    ck 8 h0 σ <|
    (FX8_place h0 σ).bind fun (x29, σ30) =>
    (gR 8 1 (some h0) σ30).bind fun x31 =>
    (aI 100 x31 3 σ30).bind fun x32 =>
    ck 8 h0 σ30 <|
    (FX8_figures h0 0 (x32 - 1) σ30).bind fun (x34, σ35) =>
    (gI 8 12 (some h0) σ35).bind fun x36 =>
    jn (fun  (σ : Mm) => (
    (gI 8 12 (some h0) σ).bind fun x37 =>
    jn (fun  (σ : Mm) => (
    (gI 8 12 (some h0) σ).bind fun x38 =>
    (if x38 = (-1) then (
    ck 8 h0 σ <|
    (FX8_isFigure h0 σ).bind fun (x40, σ41) =>
    (if x40 = 0 then (
    FX8_knowsLine_28 h0 y1 n 0 σ41 kx120) else (
    FX8_knowsLine_28 h0 y1 n 1 σ41 kx120))) else (
    FX8_knowsLine_28 h0 y1 n 0 σ kx120)))) fun J96 =>
    (if x37 = (-1) then (
    ck 8 h0 σ <|
    (FX8_of h0 y1 5 σ).bind fun (x45, σ46) =>
    ck 8 h0 σ46 <|
    (FX8_has_2 h0 y1 5 (x45 ||| (1 <<< (x34 &&& 31))) σ46).bind fun σ48 =>
    J96 σ48) else (
    J96 σ)))) fun J71 =>
    (if x36 = (-1) then (
    (if x34 = y1 then (
    ck 8 h0 σ35 <|
    (FX8_wrong h0 x29 σ35).bind fun σ51 =>
    J71 σ51) else (
    J71 σ35))) else (
    J71 σ35))))
def FX8_knowsLine (h0 : Nat) (σ : Mm) : Option (Mm) :=
(gR 8 1 (some h0) σ).bind fun x21 =>
(aI 100 x21 3 σ).bind fun x22 =>
ck 8 h0 σ <|
(FX8_figures h0 0 (x22 - 1) σ).bind fun (x24, σ25) =>
(gI 8 12 (some h0) σ25).bind fun x26 =>
jn (fun (z27 : Int32) (σ : Mm) => (
FX8_knowsLine_28 h0 x24 fu z27 σ (fun  (σ : Mm) => (
some σ)))) fun J27 =>
(if x26 = (-1) then (
J27 1 σ25) else (
J27 0 σ25))
def FX8_hasTicketOf_2 (h0 : Nat) (y1 : Int32) : Nat → Int32 → Mm → (Mm → Option (Int32 × Mm)) → (Mm → Option (Int32 × Mm)) → Option (Int32 × Mm)
  | 0, _, _, _, _ => none
  | n+1, v2, σ, kx30, kx22 =>
    (gR 8 1 (some h0) σ).bind fun x21 =>
    (aI 100 x21 3 σ).bind fun x22 =>
    (if x22 ≤ v2 then (
    kx30 σ) else (
    ck 8 h0 σ <|
    (FX8_of h0 v2 3 σ).bind fun (x24, σ25) =>
    (if x24 = y1 then (
    kx22 σ25) else (
    FX8_hasTicketOf_2 h0 y1 n (v2 + 1) σ25 kx30 kx22))))
def FX8_hasTicketOf (h0 : Nat) (x1 : Int32) (σ : Mm) : Option (Int32 × Mm) :=
FX8_hasTicketOf_2 h0 x1 fu 0 σ (fun  (σ : Mm) => (
rZ 0 σ)) (fun  (σ : Mm) => (
rZ 1 σ))
def FX8_lastTaken_4 (h0 : Nat) : Nat → Int32 → Int32 → Mm → (Int32 → Mm → Option (Int32 × Mm)) → Option (Int32 × Mm)
  | 0, _, _, _, _ => none
  | n+1, v1, v2, σ, kx44 =>
    (gR 8 1 (some h0) σ).bind fun x21 =>
    (aI 100 x21 4 σ).bind fun x22 =>
    (if x22 ≤ v2 then (
    kx44 v1 σ) else (
    (gR 8 1 (some h0) σ).bind fun x23 =>
    (aI 100 x23 (272 + v2) σ).bind fun x24 =>
    jn (fun  (σ : Mm) => (
    FX8_lastTaken_4 h0 n v2 (v2 + 1) σ kx44)) fun J36 =>
    (if x24 = (-1) then (
    ck 8 h0 σ <|
    (FX8_hasTicketOf h0 v2 σ).bind fun (x26, σ27) =>
    (if x26 = 0 then (
    FX8_lastTaken_4 h0 n v1 (v2 + 1) σ27 kx44) else (
    J36 σ27))) else (
    J36 σ))))
def FX8_lastTaken (h0 : Nat) (σ : Mm) : Option (Int32 × Mm) :=
FX8_lastTaken_4 h0 fu (-1) 0 σ (fun (x31 : Int32) (σ : Mm) => (
some (x31, σ)))
def FX8_greater (x0 : Int32) (x1 : Int32) (σ : Mm) : Option (Int32 × Mm) :=
(if x0 ≤ x1 then (
some (x1, σ)) else (
some (x0, σ)))
def FX8_doorLine (h0 : Nat) (σ : Mm) : Option (Mm) :=
ck 8 h0 σ <|
(FX8_place h0 σ).bind fun (x22, σ23) =>
ck 8 h0 σ23 <|
(FX8_hask01 h0 (some (BIG + 2 * 0)) σ23).bind fun (x25, σ26) =>
(if x25 = 0 then (
ck 8 h0 σ26 <|
(FX8_hask01 h0 (some (BIG + 2 * 1)) σ26).bind fun (x28, σ29) =>
(if x28 = 0 then (
ck 8 h0 σ29 <|
(FX8_hask01 h0 (some (BIG + 2 * 2)) σ29).bind fun (x31, σ32) =>
(if x31 = 0 then (
ck 8 h0 σ32 <|
(FX8_hask01 h0 (some (BIG + 2 * 3)) σ32).bind fun (x34, σ35) =>
(if x34 = 0 then (
ck 8 h0 σ35 <|
(FX8_hask01 h0 (some (BIG + 2 * 4)) σ35).bind fun (x37, σ38) =>
(if x37 = 0 then (
ck 8 h0 σ38 <|
(FX8_hask01 h0 (some (BIG + 2 * 5)) σ38).bind fun (x40, σ41) =>
(if x40 = 0 then (
ck 8 h0 σ41 <|
(FX8_hask01 h0 (some (BIG + 2 * 6)) σ41).bind fun (x43, σ44) =>
(if x43 = 0 then (
(gI 8 11 (some h0) σ44).bind fun x45 =>
ck 8 h0 σ44 <|
(FX8_wrong h0 x45 σ44).bind fun σ47 =>
some σ47) else (
ck 8 h0 σ44 <|
(FX8_figures h0 0 100 σ44).bind fun (x49, σ50) =>
(gI 8 12 (some h0) σ50).bind fun x51 =>
(if x51 = (-1) then (
(gR 8 1 (some h0) σ50).bind fun x52 =>
(sI x52 7 x49 σ50).bind fun σ53 =>
some σ53) else (
some σ50))))) else (
ck 8 h0 σ41 <|
(FX8_figures h0 0 100 σ41).bind fun (x57, σ58) =>
(gI 8 12 (some h0) σ58).bind fun x59 =>
(if x59 = (-1) then (
(gR 8 1 (some h0) σ58).bind fun x60 =>
(sI x60 6 x57 σ58).bind fun σ61 =>
some σ61) else (
some σ58))))) else (
ck 8 h0 σ38 <|
(FX8_lastTaken h0 σ38).bind fun (x65, σ66) =>
(FX8_greater 1 (x65 + 1) σ66).bind fun (x67, σ68) =>
ck 8 h0 σ68 <|
(FX8_figures h0 x67 12 σ68).bind fun (x70, σ71) =>
(gI 8 12 (some h0) σ71).bind fun x72 =>
(if x72 = (-1) then (
(gR 8 1 (some h0) σ71).bind fun x73 =>
(sI x73 4 x70 σ71).bind fun σ74 =>
some σ74) else (
some σ71))))) else (
ck 8 h0 σ35 <|
(FX8_knowsLine h0 σ35).bind fun σ78 =>
some σ78))) else (
ck 8 h0 σ32 <|
(FX8_wedLine h0 σ32).bind fun σ81 =>
some σ81))) else (
ck 8 h0 σ29 <|
(FX8_wishLine h0 σ29).bind fun σ84 =>
some σ84))) else (
ck 8 h0 σ26 <|
(FX8_personLine h0 x22 σ26).bind fun σ87 =>
some σ87))
def FX8_read_23 (h0 : Nat) (y1 : Int32) : Nat → Int32 → Int32 → Mm → (Int32 → Mm → Option (Int32 × Mm)) → Option (Int32 × Mm)
  | 0, _, _, _, _ => none
  | n+1, v2, v3, σ, kx144 =>
    (if v2 = 0 then (
    kx144 v3 σ) else (
    (gI 8 12 (some h0) σ).bind fun x26 =>
    (if x26 = (-1) then (
    ck 8 h0 σ <|
    (FX8_skip h0 σ).bind fun σ28 =>
    jn (fun (z29 : Int32) (σ : Mm) => (
    jn (fun  (σ : Mm) => (
    ck 8 h0 σ <|
    (FX8_skip h0 σ).bind fun σ31 =>
    (gI 8 12 (some h0) σ31).bind fun x32 =>
    jn (fun  (σ : Mm) => (
    FX8_read_23 h0 y1 n 0 (v3 + 1) σ kx144)) fun J106 =>
    (if x32 = (-1) then (
    (gI 8 11 (some h0) σ31).bind fun x33 =>
    (gI 8 10 (some h0) σ31).bind fun x34 =>
    (if x33 = x34 then (
    J106 σ31) else (
    ck 8 h0 σ31 <|
    (FX8_isSign h0 59 σ31).bind fun (x36, σ37) =>
    (if x36 = 0 then (
    (gI 8 11 (some h0) σ37).bind fun x38 =>
    ck 8 h0 σ37 <|
    (FX8_wrong h0 x38 σ37).bind fun σ40 =>
    FX8_read_23 h0 y1 n v2 (v3 + 1) σ40 kx144) else (
    (gI 8 11 (some h0) σ37).bind fun x41 =>
    (pI 8 11 (some h0) (x41 + 1) σ37).bind fun σ42 =>
    FX8_read_23 h0 y1 n v2 (v3 + 1) σ42 kx144))))) else (
    J106 σ31)))) fun J80 =>
    (if v3 = z29 then (
    (gI 8 11 (some h0) σ).bind fun x51 =>
    ck 8 h0 σ <|
    (FX8_wrong h0 x51 σ).bind fun σ53 =>
    J80 σ53) else (
    (if y1 = 0 then (
    ck 8 h0 σ <|
    (FX8_doorLine h0 σ).bind fun σ47 =>
    J80 σ47) else (
    ck 8 h0 σ <|
    (FX8_lawLine h0 σ).bind fun σ49 =>
    J80 σ49)))))) fun J51 =>
    (if y1 = 0 then (
    J51 14 σ28) else (
    J51 12 σ28))) else (
    kx144 v3 σ))))
def FX8_read (h0 : Nat) (x1 : Int32) (σ : Mm) : Option (Int32 × Mm) :=
ck 8 h0 σ <|
(FX8_skip h0 σ).bind fun σ22 =>
(gI 8 11 (some h0) σ22).bind fun x23 =>
(gI 8 10 (some h0) σ22).bind fun x24 =>
jn (fun (z25 : Int32) (σ : Mm) => (
FX8_read_23 h0 x1 fu z25 0 σ (fun (x58 : Int32) (σ : Mm) => (
some (x58, σ))))) fun J20 =>
(if x24 ≤ x23 then (
J20 0 σ22) else (
J20 1 σ22))
def FX8_comesBack_2 (h0 : Nat) : Nat → Int32 → Mm → (Mm → Option (Mm)) → Option (Mm)
  | 0, _, _, _ => none
  | n+1, v1, σ, kx27 =>
    (if 584 ≤ v1 then (
    kx27 σ) else (
    (gR 8 1 (some h0) σ).bind fun x21 =>
    (gR 8 4 (some h0) σ).bind fun x22 =>
    (aI 100 x22 v1 σ).bind fun x23 =>
    (sI x21 v1 x23 σ).bind fun σ24 =>
    FX8_comesBack_2 h0 n (v1 + 1) σ24 kx27))
def FX8_comesBack (h0 : Nat) (σ : Mm) : Option (Mm) :=
FX8_comesBack_2 h0 fu 0 σ (fun  (σ : Mm) => (
some σ))
def FX8_door (h0 : Nat) (σ : Mm) : Option (Int32 × Mm) :=
ck 8 h0 σ <|
(FX8_putsAside h0 σ).bind fun σ22 =>
ck 8 h0 σ22 <|
(FX8_begins h0 σ22).bind fun σ24 =>
ck 8 h0 σ24 <|
(FX8_read h0 0 σ24).bind fun (x26, σ27) =>
(gI 8 12 (some h0) σ27).bind fun x28 =>
jn (fun (z29 : Int32) (σ : Mm) => (
(pI 8 0 (some h0) z29 σ).bind fun σ30 =>
(gI 8 0 (some h0) σ30).bind fun x31 =>
(if x31 ≤ 0 then (
(gR 8 1 (some h0) σ30).bind fun x32 =>
(aI 100 x32 0 σ30).bind fun x33 =>
(sI x32 0 (x33 + 1) σ30).bind fun σ34 =>
(pI 8 6 (some h0) 0 σ34).bind fun σ35 =>
(gR 8 1 (some h0) σ35).bind fun x36 =>
(aI 100 x36 0 σ35).bind fun x37 =>
some (x37, σ35)) else (
ck 8 h0 σ30 <|
(FX8_comesBack h0 σ30).bind fun σ39 =>
some (0, σ39))))) fun J43 =>
(if x28 = (-1) then (
(gR 8 1 (some h0) σ27).bind fun x41 =>
(aI 100 x41 0 σ27).bind fun x42 =>
(if x42 = 12 then (
J43 2 σ27) else (
J43 0 σ27))) else (
J43 1 σ27))
def FX8_law_55 (h0 : Nat) (y1 : Int32) : Nat → Int32 → Mm → (Mm → Option (Int32 × Mm)) → Option (Int32 × Mm)
  | 0, _, _, _ => none
  | n+1, v2, σ, kx85 =>
    (gI 8 10 (some h0) σ).bind fun x35 =>
    (if x35 ≤ v2 then (
    kx85 σ) else (
    (gR 8 1 (some h0) σ).bind fun x36 =>
    (gR 8 7 (some h0) σ).bind fun x37 =>
    (aI 100 x37 v2 σ).bind fun x38 =>
    (sI x36 (584 + v2) x38 σ).bind fun σ39 =>
    FX8_law_55 h0 y1 n (v2 + 1) σ39 kx85))
def FX8_law (h0 : Nat) (σ : Mm) : Option (Int32 × Mm) :=
ck 8 h0 σ <|
(FX8_begins h0 σ).bind fun σ22 =>
ck 8 h0 σ22 <|
(FX8_read h0 1 σ22).bind fun (x24, σ25) =>
(gI 8 12 (some h0) σ25).bind fun x26 =>
jn (fun (z27 : Int32) (σ : Mm) => (
(pI 8 0 (some h0) z27 σ).bind fun σ28 =>
(gI 8 0 (some h0) σ28).bind fun x29 =>
(if x29 ≤ 0 then (
(gR 8 1 (some h0) σ28).bind fun x30 =>
(sI x30 1 x24 σ28).bind fun σ31 =>
(gR 8 1 (some h0) σ31).bind fun x32 =>
(gI 8 10 (some h0) σ31).bind fun x33 =>
(sI x32 2 x33 σ31).bind fun σ34 =>
FX8_law_55 h0 x24 fu 0 σ34 (fun  (σ : Mm) => (
(pI 8 6 (some h0) 0 σ).bind fun σ41 =>
some (x24, σ41)))) else (
some (0, σ28))))) fun J24 =>
(if x26 = (-1) then (
J24 0 σ25) else (
J24 1 σ25))
def FX8_fault (h0 : Nat) (σ : Mm) : Option (Int32 × Mm) :=
(pI 8 0 (some h0) 0 σ).bind fun σ21 =>
(gI 8 12 (some h0) σ21).bind fun x22 =>
some (x22, σ21)
def FX8_isPerson (h0 : Nat) (x1 : Int32) (σ : Mm) : Option (Int32 × Mm) :=
(gR 8 1 (some h0) σ).bind fun x21 =>
(aI 100 x21 3 σ).bind fun x22 =>
(FX8_isIn x1 0 (x22 - 1) σ).bind fun (x23, σ24) =>
rZ x23 σ24
def FX8_wearer_2 (h0 : Nat) (y1 : Int32) : Nat → Int32 → Mm → (Mm → Option (Int32 × Mm)) → (Int32 → Mm → Option (Int32 × Mm)) → Option (Int32 × Mm)
  | 0, _, _, _, _ => none
  | n+1, v2, σ, kx30, kx22 =>
    (gR 8 1 (some h0) σ).bind fun x21 =>
    (aI 100 x21 3 σ).bind fun x22 =>
    (if x22 ≤ v2 then (
    kx30 σ) else (
    ck 8 h0 σ <|
    (FX8_of h0 v2 2 σ).bind fun (x24, σ25) =>
    (if x24 = y1 then (
    kx22 v2 σ25) else (
    FX8_wearer_2 h0 y1 n (v2 + 1) σ25 kx30 kx22))))
def FX8_wearer (h0 : Nat) (x1 : Int32) (σ : Mm) : Option (Int32 × Mm) :=
FX8_wearer_2 h0 x1 fu 0 σ (fun  (σ : Mm) => (
some ((-1), σ))) (fun (x28 : Int32) (σ : Mm) => (
some (x28, σ)))
def FX8_ring_4 (h0 : Nat) : Nat → Int32 → Int32 → Mm → (Int32 → Mm → Option (Int32 × Mm)) → Option (Int32 × Mm)
  | 0, _, _, _, _ => none
  | n+1, v2, v3, σ, kx32 =>
    (if v3 = (-1) then (
    kx32 v2 σ) else (
    (FX8_isOf v2 v3 σ).bind fun (x21, σ22) =>
    (if x21 = 0 then (
    ck 8 h0 σ22 <|
    (FX8_wearer h0 v3 σ22).bind fun (x24, σ25) =>
    FX8_ring_4 h0 n (v2 ||| (1 <<< (v3 &&& 31))) x24 σ25 kx32) else (
    kx32 v2 σ22))))
def FX8_ring (h0 : Nat) (x1 : Int32) (σ : Mm) : Option (Int32 × Mm) :=
FX8_ring_4 h0 fu 0 x1 σ (fun (x28 : Int32) (σ : Mm) => (
some (x28, σ)))
def FX8_person (h0 : Nat) (x1 : Int32) (x2 : Int32) (σ : Mm) : Option (Int32 × Mm) :=
ck 8 h0 σ <|
(FX8_isPerson h0 x1 σ).bind fun (x22, σ23) =>
jn (fun (z24 : Int32) (σ : Mm) => (
(pI 8 0 (some h0) z24 σ).bind fun σ25 =>
(gI 8 0 (some h0) σ25).bind fun x26 =>
(if x26 ≤ 0 then (
(if 5 ≤ x2 then (
ck 8 h0 σ25 <|
(FX8_ring h0 x1 σ25).bind fun (x28, σ29) =>
some (x28, σ29)) else (
ck 8 h0 σ25 <|
(FX8_of h0 x1 (x2 + 1) σ25).bind fun (x31, σ32) =>
some (x31, σ32)))) else (
some (0, σ25))))) fun J27 =>
(if x22 = 0 then (
J27 1 σ23) else (
(FX8_isIn x2 0 5 σ23).bind fun (x35, σ36) =>
(if x35 = 0 then (
J27 2 σ36) else (
J27 0 σ36))))
def FX8_hookOf_2 (h0 : Nat) (y1 : Int32) : Nat → Int32 → Mm → (Mm → Option (Int32 × Mm)) → (Int32 → Mm → Option (Int32 × Mm)) → Option (Int32 × Mm)
  | 0, _, _, _, _ => none
  | n+1, v2, σ, kx34, kx26 =>
    (gR 8 1 (some h0) σ).bind fun x21 =>
    (aI 100 x21 4 σ).bind fun x22 =>
    (if x22 ≤ v2 then (
    kx34 σ) else (
    (gR 8 1 (some h0) σ).bind fun x23 =>
    (aI 100 x23 (272 + v2) σ).bind fun x24 =>
    (if x24 = y1 then (
    kx26 v2 σ) else (
    FX8_hookOf_2 h0 y1 n (v2 + 1) σ kx34 kx26))))
def FX8_hookOf (h0 : Nat) (x1 : Int32) (σ : Mm) : Option (Int32 × Mm) :=
FX8_hookOf_2 h0 x1 fu 0 σ (fun  (σ : Mm) => (
some ((-1), σ))) (fun (x27 : Int32) (σ : Mm) => (
some (x27, σ)))
def FX8_alike_4 (h0 : Nat) (y1 : Int32) : Nat → Int32 → Int32 → Mm → (Int32 → Mm → Option (Int32 × Mm)) → Option (Int32 × Mm)
  | 0, _, _, _, _ => none
  | n+1, v2, v3, σ, kx50 =>
    (gR 8 1 (some h0) σ).bind fun x21 =>
    (aI 100 x21 3 σ).bind fun x22 =>
    (if x22 ≤ v3 then (
    kx50 v2 σ) else (
    jn (fun (z23 : Int32) (σ : Mm) => (
    FX8_alike_4 h0 y1 n (v2 ||| z23) (v3 + 1) σ kx50)) fun J42 =>
    (if v3 = y1 then (
    J42 0 σ) else (
    ck 8 h0 σ <|
    (FX8_of h0 v3 0 σ).bind fun (x25, σ26) =>
    ck 8 h0 σ26 <|
    (FX8_of h0 y1 0 σ26).bind fun (x28, σ29) =>
    (if x25 = x28 then (
    J42 (1 <<< (v3 &&& 31)) σ29) else (
    J42 0 σ29))))))
def FX8_alike (h0 : Nat) (x1 : Int32) (σ : Mm) : Option (Int32 × Mm) :=
FX8_alike_4 h0 x1 fu 0 0 σ (fun (x33 : Int32) (σ : Mm) => (
some (x33, σ)))
def FX8_face (h0 : Nat) (x1 : Int32) (x2 : Int32) (σ : Mm) : Option (Int32 × Mm) :=
ck 8 h0 σ <|
(FX8_isPerson h0 x1 σ).bind fun (x22, σ23) =>
jn (fun (z24 : Int32) (σ : Mm) => (
(pI 8 0 (some h0) z24 σ).bind fun σ25 =>
(gI 8 0 (some h0) σ25).bind fun x26 =>
(if x26 ≤ 0 then (
(if x2 = 0 then (
ck 8 h0 σ25 <|
(FX8_of h0 x1 0 σ25).bind fun (x39, σ40) =>
some (x39, σ40)) else (
(if x2 = 1 then (
ck 8 h0 σ25 <|
(FX8_wearer h0 x1 σ25).bind fun (x35, σ36) =>
some (x35, σ36)) else (
(if x2 = 2 then (
ck 8 h0 σ25 <|
(FX8_hookOf h0 x1 σ25).bind fun (x31, σ32) =>
some (x31, σ32)) else (
ck 8 h0 σ25 <|
(FX8_alike h0 x1 σ25).bind fun (x28, σ29) =>
some (x28, σ29)))))))) else (
some (0, σ25))))) fun J27 =>
(if x22 = 0 then (
J27 1 σ23) else (
(FX8_isIn x2 0 3 σ23).bind fun (x43, σ44) =>
(if x43 = 0 then (
J27 2 σ44) else (
J27 0 σ44))))
def FX8_isHook (h0 : Nat) (x1 : Int32) (σ : Mm) : Option (Int32 × Mm) :=
(gR 8 1 (some h0) σ).bind fun x21 =>
(aI 100 x21 4 σ).bind fun x22 =>
(FX8_isIn x1 0 (x22 - 1) σ).bind fun (x23, σ24) =>
rZ x23 σ24
def FX8_hook (h0 : Nat) (x1 : Int32) (σ : Mm) : Option (Int32 × Mm) :=
ck 8 h0 σ <|
(FX8_isHook h0 x1 σ).bind fun (x22, σ23) =>
jn (fun (z24 : Int32) (σ : Mm) => (
(pI 8 0 (some h0) z24 σ).bind fun σ25 =>
(gI 8 0 (some h0) σ25).bind fun x26 =>
(if x26 ≤ 0 then (
(gR 8 1 (some h0) σ25).bind fun x27 =>
(aI 100 x27 (272 + x1) σ25).bind fun x28 =>
some (x28, σ25)) else (
some (0, σ25))))) fun J14 =>
(if x22 = 0 then (
J14 1 σ23) else (
J14 0 σ23))
def FX8_wish_58 (h0 : Nat) (y1 : Int32) : Nat → Int32 → Int32 → Mm → (Int32 → Mm → Option (Int32 × Mm)) → Option (Int32 × Mm)
  | 0, _, _, _, _ => none
  | n+1, v3, v4, σ, kx119 =>
    jn (fun  (σ : Mm) => (
    (gR 8 1 (some h0) σ).bind fun x33 =>
    (aI 100 x33 ((72 + (10 * y1)) + v4) σ).bind fun x34 =>
    (gR 8 1 (some h0) σ).bind fun x35 =>
    (aI 100 x35 3 σ).bind fun x36 =>
    (if x36 ≤ x34 then (
    FX8_wish_58 h0 y1 n v3 (v4 + 1) σ kx119) else (
    FX8_wish_58 h0 y1 n (v3 + (-1)) (v4 + 1) σ kx119)))) fun J86 =>
    (if 0 < v3 then (
    J86 σ) else (
    (gR 8 1 (some h0) σ).bind fun x38 =>
    (aI 100 x38 ((72 + (10 * y1)) + v4) σ).bind fun x39 =>
    (gR 8 1 (some h0) σ).bind fun x40 =>
    (aI 100 x40 3 σ).bind fun x41 =>
    (if x39 < x41 then (
    kx119 v4 σ) else (
    J86 σ))))
def FX8_wish (h0 : Nat) (x1 : Int32) (x2 : Int32) (σ : Mm) : Option (Int32 × Mm) :=
ck 8 h0 σ <|
(FX8_isPerson h0 x1 σ).bind fun (x22, σ23) =>
jn (fun (z24 : Int32) (σ : Mm) => (
(pI 8 0 (some h0) z24 σ).bind fun σ25 =>
(gI 8 0 (some h0) σ25).bind fun x26 =>
jn (fun  (σ : Mm) => (
(gI 8 0 (some h0) σ).bind fun x27 =>
(if x27 ≤ 0 then (
some ((-1), σ)) else (
some (0, σ))))) fun J40 =>
(if 0 < x26 then (
J40 σ25) else (
(gR 8 1 (some h0) σ25).bind fun x29 =>
(aI 100 x29 3 σ25).bind fun x30 =>
(FX8_isIn x2 0 (x30 - 1) σ25).bind fun (x31, σ32) =>
(if x31 = 0 then (
J40 σ32) else (
FX8_wish_58 h0 x1 fu x2 0 σ32 (fun (x44 : Int32) (σ : Mm) => (
(gR 8 1 (some h0) σ).bind fun x45 =>
(aI 100 x45 ((72 + (10 * x1)) + x44) σ).bind fun x46 =>
some (x46, σ))))))))) fun J14 =>
(if x22 = 0 then (
J14 1 σ23) else (
J14 0 σ23))
def FX8_two (h0 : Nat) (x1 : Int32) (x2 : Int32) (σ : Mm) : Option (Int32 × Mm) :=
ck 8 h0 σ <|
(FX8_isPerson h0 x1 σ).bind fun (x22, σ23) =>
(if x22 = 0 then (
some (1, σ23)) else (
ck 8 h0 σ23 <|
(FX8_isPerson h0 x2 σ23).bind fun (x25, σ26) =>
(if x25 = 0 then (
some (1, σ26)) else (
(if x1 = x2 then (
some (2, σ26)) else (
some (0, σ26)))))))
def FX8_thought (h0 : Nat) (x1 : Int32) (x2 : Int32) (σ : Mm) : Option (Int32 × Mm) :=
(gR 8 1 (some h0) σ).bind fun x21 =>
(aI 100 x21 ((172 + (10 * x1)) + x2) σ).bind fun x22 =>
some (x22, σ)
def FX8_thinks (h0 : Nat) (x1 : Int32) (x2 : Int32) (σ : Mm) : Option (Int32 × Mm) :=
ck 8 h0 σ <|
(FX8_two h0 x1 x2 σ).bind fun (x22, σ23) =>
(pI 8 0 (some h0) x22 σ23).bind fun σ24 =>
(gI 8 0 (some h0) σ24).bind fun x25 =>
(if x25 ≤ 0 then (
ck 8 h0 σ24 <|
(FX8_thought h0 x1 x2 σ24).bind fun (x27, σ28) =>
some (x27, σ28)) else (
some (0, σ24)))
def FX8_remembers_52 (h0 : Nat) : Nat → Int32 → Mm → (Mm → Option (Mm)) → Option (Mm)
  | 0, _, _, _ => none
  | n+1, v1, σ, kx86 =>
    (if 584 ≤ v1 then (
    kx86 σ) else (
    (gR 8 5 (some h0) σ).bind fun x22 =>
    (gI 8 6 (some h0) σ).bind fun x23 =>
    (gR 8 1 (some h0) σ).bind fun x24 =>
    (aI 100 x24 v1 σ).bind fun x25 =>
    (sI x22 ((584 * x23) + v1) x25 σ).bind fun σ26 =>
    FX8_remembers_52 h0 n (v1 + 1) σ26 kx86))
def FX8_remembers_11 (h0 : Nat) : Nat → Int32 → Mm → (Mm → Option (Mm)) → Option (Mm)
  | 0, _, _, _ => none
  | n+1, v1, σ, kx40 =>
    (if 6424 ≤ v1 then (
    kx40 σ) else (
    (gR 8 5 (some h0) σ).bind fun x30 =>
    (gR 8 5 (some h0) σ).bind fun x31 =>
    (aI 100 x31 (v1 + 584) σ).bind fun x32 =>
    (sI x30 v1 x32 σ).bind fun σ33 =>
    FX8_remembers_11 h0 n (v1 + 1) σ33 kx40))
def FX8_remembers (h0 : Nat) (σ : Mm) : Option (Mm) :=
(gI 8 6 (some h0) σ).bind fun x21 =>
jn (fun  (σ : Mm) => (
FX8_remembers_52 h0 fu 0 σ (fun  (σ : Mm) => (
(gI 8 6 (some h0) σ).bind fun x28 =>
(pI 8 6 (some h0) (x28 + 1) σ).bind fun σ29 =>
some σ29)))) fun J50 =>
(if x21 = 12 then (
FX8_remembers_11 h0 fu 0 σ (fun  (σ : Mm) => (
(gI 8 6 (some h0) σ).bind fun x35 =>
(pI 8 6 (some h0) (x35 - 1) σ).bind fun σ36 =>
J50 σ36))) else (
J50 σ))
def FX8_lesser (x0 : Int32) (x1 : Int32) (σ : Mm) : Option (Int32 × Mm) :=
(if x1 ≤ x0 then (
some (x1, σ)) else (
some (x0, σ)))
def FX8_writes_5 (h0 : Nat) (y1 : Int32) (y2 : Int32) (y3 : Int32) (y4 : Int32) : Nat → Int32 → Mm → (Mm → Option (Mm)) → Option (Mm)
  | 0, _, _, _ => none
  | n+1, v5, σ, kx41 =>
    (if v5 < 5 then (
    kx41 σ) else (
    (gR 8 1 (some h0) σ).bind fun x21 =>
    (gR 8 1 (some h0) σ).bind fun x22 =>
    (aI 100 x22 ((284 + v5) - 5) σ).bind fun x23 =>
    (sI x21 (284 + v5) x23 σ).bind fun σ24 =>
    FX8_writes_5 h0 y1 y2 y3 y4 n (v5 + (-1)) σ24 kx41))
def FX8_writes (h0 : Nat) (x1 : Int32) (x2 : Int32) (x3 : Int32) (x4 : Int32) (σ : Mm) : Option (Mm) :=
FX8_writes_5 h0 x1 x2 x3 x4 fu 299 σ (fun  (σ : Mm) => (
(gR 8 1 (some h0) σ).bind fun x26 =>
(gR 8 1 (some h0) σ).bind fun x27 =>
(aI 100 x27 5 σ).bind fun x28 =>
(sI x26 284 x28 σ).bind fun σ29 =>
(gR 8 1 (some h0) σ29).bind fun x30 =>
(sI x30 285 x1 σ29).bind fun σ31 =>
(gR 8 1 (some h0) σ31).bind fun x32 =>
(sI x32 286 x2 σ31).bind fun σ33 =>
(gR 8 1 (some h0) σ33).bind fun x34 =>
(sI x34 287 x3 σ33).bind fun σ35 =>
(gR 8 1 (some h0) σ35).bind fun x36 =>
(sI x36 288 x4 σ35).bind fun σ37 =>
(gR 8 1 (some h0) σ37).bind fun x38 =>
(gR 8 1 (some h0) σ37).bind fun x39 =>
(aI 100 x39 8 σ37).bind fun x40 =>
(FX8_lesser 60 (x40 + 1) σ37).bind fun (x41, σ42) =>
(sI x38 8 x41 σ42).bind fun σ43 =>
some σ43))
def FX8_handsIn (h0 : Nat) (x1 : Int32) (x2 : Int32) (σ : Mm) : Option (Int32 × Mm) :=
ck 8 h0 σ <|
(FX8_of h0 x1 2 σ).bind fun (x22, σ23) =>
(gR 8 1 (some h0) σ23).bind fun x24 =>
(sI x24 (272 + x2) x22 σ23).bind fun σ25 =>
ck 8 h0 σ25 <|
(FX8_has_2 h0 x1 2 (-1) σ25).bind fun σ27 =>
ck 8 h0 σ27 <|
(FX8_has_2 h0 x1 3 x2 σ27).bind fun σ29 =>
ck 8 h0 σ29 <|
(FX8_writes h0 x1 x2 x22 0 σ29).bind fun σ31 =>
some (x22, σ31)
def FX8_hand (h0 : Nat) (x1 : Int32) (x2 : Int32) (σ : Mm) : Option (Int32 × Mm) :=
ck 8 h0 σ <|
(FX8_isPerson h0 x1 σ).bind fun (x22, σ23) =>
jn (fun (z24 : Int32) (σ : Mm) => (
(pI 8 0 (some h0) z24 σ).bind fun σ25 =>
(gI 8 0 (some h0) σ25).bind fun x26 =>
(if x26 ≤ 0 then (
ck 8 h0 σ25 <|
(FX8_remembers h0 σ25).bind fun σ28 =>
ck 8 h0 σ28 <|
(FX8_handsIn h0 x1 x2 σ28).bind fun (x30, σ31) =>
some (x30, σ31)) else (
some (0, σ25))))) fun J60 =>
(if x22 = 0 then (
J60 1 σ23) else (
ck 8 h0 σ23 <|
(FX8_isHook h0 x2 σ23).bind fun (x34, σ35) =>
(if x34 = 0 then (
J60 1 σ35) else (
ck 8 h0 σ35 <|
(FX8_of h0 x1 2 σ35).bind fun (x37, σ38) =>
(if x37 = (-1) then (
J60 2 σ38) else (
ck 8 h0 σ38 <|
(FX8_of h0 x1 3 σ38).bind fun (x40, σ41) =>
(if x40 = (-1) then (
(gR 8 1 (some h0) σ41).bind fun x42 =>
(aI 100 x42 (272 + x2) σ41).bind fun x43 =>
(if x43 = (-1) then (
J60 0 σ41) else (
J60 2 σ41))) else (
J60 2 σ41))))))))
def FX8_gets (h0 : Nat) (x1 : Int32) (σ : Mm) : Option (Int32 × Mm) :=
ck 8 h0 σ <|
(FX8_of h0 x1 3 σ).bind fun (x22, σ23) =>
(gR 8 1 (some h0) σ23).bind fun x24 =>
(aI 100 x24 (272 + x22) σ23).bind fun x25 =>
(gR 8 1 (some h0) σ23).bind fun x26 =>
(sI x26 (272 + x22) (-1) σ23).bind fun σ27 =>
ck 8 h0 σ27 <|
(FX8_has_2 h0 x1 2 x25 σ27).bind fun σ29 =>
ck 8 h0 σ29 <|
(FX8_has_2 h0 x1 3 (-1) σ29).bind fun σ31 =>
ck 8 h0 σ31 <|
(FX8_writes h0 x1 x22 x25 1 σ31).bind fun σ33 =>
some (x25, σ33)
def FX8_fetch (h0 : Nat) (x1 : Int32) (σ : Mm) : Option (Int32 × Mm) :=
ck 8 h0 σ <|
(FX8_isPerson h0 x1 σ).bind fun (x22, σ23) =>
jn (fun (z24 : Int32) (σ : Mm) => (
(pI 8 0 (some h0) z24 σ).bind fun σ25 =>
(gI 8 0 (some h0) σ25).bind fun x26 =>
(if x26 ≤ 0 then (
ck 8 h0 σ25 <|
(FX8_remembers h0 σ25).bind fun σ28 =>
ck 8 h0 σ28 <|
(FX8_gets h0 x1 σ28).bind fun (x30, σ31) =>
some (x30, σ31)) else (
some (0, σ25))))) fun J38 =>
(if x22 = 0 then (
J38 1 σ23) else (
ck 8 h0 σ23 <|
(FX8_of h0 x1 3 σ23).bind fun (x34, σ35) =>
(if x34 = (-1) then (
J38 2 σ35) else (
ck 8 h0 σ35 <|
(FX8_of h0 x1 2 σ35).bind fun (x37, σ38) =>
(if x37 = (-1) then (
J38 0 σ38) else (
J38 2 σ38))))))
def FX8_mixes (h0 : Nat) (x1 : Int32) (x2 : Int32) (σ : Mm) : Option (Mm) :=
ck 8 h0 σ <|
(FX8_of h0 x1 3 σ).bind fun (x22, σ23) =>
ck 8 h0 σ23 <|
(FX8_of h0 x2 3 σ23).bind fun (x25, σ26) =>
ck 8 h0 σ26 <|
(FX8_has_2 h0 x1 3 x25 σ26).bind fun σ28 =>
ck 8 h0 σ28 <|
(FX8_has_2 h0 x2 3 x22 σ28).bind fun σ30 =>
(FX8_lesser x1 x2 σ30).bind fun (x31, σ32) =>
(FX8_greater x1 x2 σ32).bind fun (x33, σ34) =>
ck 8 h0 σ34 <|
(FX8_of h0 x31 3 σ34).bind fun (x36, σ37) =>
ck 8 h0 σ37 <|
(FX8_writes h0 x31 x36 (-1) 3 σ37).bind fun σ39 =>
ck 8 h0 σ39 <|
(FX8_of h0 x33 3 σ39).bind fun (x41, σ42) =>
ck 8 h0 σ42 <|
(FX8_writes h0 x33 x41 (-1) 3 σ42).bind fun σ44 =>
some σ44
def FX8_mix (h0 : Nat) (x1 : Int32) (x2 : Int32) (σ : Mm) : Option (Int32 × Mm) :=
ck 8 h0 σ <|
(FX8_two h0 x1 x2 σ).bind fun (x22, σ23) =>
jn (fun (z24 : Int32) (σ : Mm) => (
(pI 8 0 (some h0) z24 σ).bind fun σ25 =>
(gI 8 0 (some h0) σ25).bind fun x26 =>
(if x26 ≤ 0 then (
ck 8 h0 σ25 <|
(FX8_remembers h0 σ25).bind fun σ28 =>
ck 8 h0 σ28 <|
(FX8_mixes h0 x1 x2 σ28).bind fun σ30 =>
ck 8 h0 σ30 <|
(FX8_of h0 x1 3 σ30).bind fun (x32, σ33) =>
some (x32, σ33)) else (
some (0, σ25))))) fun J44 =>
(if x22 ≤ 0 then (
ck 8 h0 σ23 <|
(FX8_of h0 x1 3 σ23).bind fun (x36, σ37) =>
(if x36 = (-1) then (
J44 3 σ37) else (
ck 8 h0 σ37 <|
(FX8_of h0 x2 3 σ37).bind fun (x39, σ40) =>
(if x39 = (-1) then (
J44 3 σ40) else (
J44 0 σ40))))) else (
ck 8 h0 σ23 <|
(FX8_two h0 x1 x2 σ23).bind fun (x44, σ45) =>
J44 x44 σ45))
def FX8_steal (h0 : Nat) (x1 : Int32) (x2 : Int32) (σ : Mm) : Option (Int32 × Mm) :=
ck 8 h0 σ <|
(FX8_isPerson h0 x1 σ).bind fun (x22, σ23) =>
jn (fun (z24 : Int32) (σ : Mm) => (
(pI 8 0 (some h0) z24 σ).bind fun σ25 =>
(gI 8 0 (some h0) σ25).bind fun x26 =>
(if x26 ≤ 0 then (
ck 8 h0 σ25 <|
(FX8_remembers h0 σ25).bind fun σ28 =>
(gR 8 1 (some h0) σ28).bind fun x29 =>
(aI 100 x29 (272 + x2) σ28).bind fun x30 =>
(gR 8 1 (some h0) σ28).bind fun x31 =>
(sI x31 (272 + x2) (-1) σ28).bind fun σ32 =>
ck 8 h0 σ32 <|
(FX8_has_2 h0 x1 2 x30 σ32).bind fun σ34 =>
ck 8 h0 σ34 <|
(FX8_writes h0 x1 x2 x30 2 σ34).bind fun σ36 =>
some (x30, σ36)) else (
some (0, σ25))))) fun J50 =>
(if x22 = 0 then (
J50 1 σ23) else (
ck 8 h0 σ23 <|
(FX8_isHook h0 x2 σ23).bind fun (x39, σ40) =>
(if x39 = 0 then (
J50 1 σ40) else (
ck 8 h0 σ40 <|
(FX8_of h0 x1 2 σ40).bind fun (x42, σ43) =>
(if x42 = (-1) then (
(gR 8 1 (some h0) σ43).bind fun x44 =>
(aI 100 x44 (272 + x2) σ43).bind fun x45 =>
(if x45 = (-1) then (
J50 2 σ43) else (
J50 0 σ43))) else (
J50 2 σ43))))))
def FX8_change (h0 : Nat) (x1 : Int32) (x2 : Int32) (σ : Mm) : Option (Int32 × Mm) :=
ck 8 h0 σ <|
(FX8_two h0 x1 x2 σ).bind fun (x22, σ23) =>
jn (fun (z24 : Int32) (σ : Mm) => (
(pI 8 0 (some h0) z24 σ).bind fun σ25 =>
(gI 8 0 (some h0) σ25).bind fun x26 =>
(if x26 ≤ 0 then (
ck 8 h0 σ25 <|
(FX8_remembers h0 σ25).bind fun σ28 =>
ck 8 h0 σ28 <|
(FX8_of h0 x1 2 σ28).bind fun (x30, σ31) =>
ck 8 h0 σ31 <|
(FX8_of h0 x2 2 σ31).bind fun (x33, σ34) =>
ck 8 h0 σ34 <|
(FX8_has_2 h0 x1 2 x33 σ34).bind fun σ36 =>
ck 8 h0 σ36 <|
(FX8_has_2 h0 x2 2 x30 σ36).bind fun σ38 =>
ck 8 h0 σ38 <|
(FX8_of h0 x1 2 σ38).bind fun (x40, σ41) =>
some (x40, σ41)) else (
some (0, σ25))))) fun J44 =>
(if x22 ≤ 0 then (
ck 8 h0 σ23 <|
(FX8_of h0 x1 2 σ23).bind fun (x44, σ45) =>
(if x44 = (-1) then (
J44 3 σ45) else (
ck 8 h0 σ45 <|
(FX8_of h0 x2 2 σ45).bind fun (x47, σ48) =>
(if x47 = (-1) then (
J44 3 σ48) else (
J44 0 σ48))))) else (
ck 8 h0 σ23 <|
(FX8_two h0 x1 x2 σ23).bind fun (x52, σ53) =>
J44 x52 σ53))
def FX8_bits_4 (y0 : Int32) : Nat → Int32 → Int32 → Mm → (Int32 → Mm → Option (Int32 × Mm)) → Option (Int32 × Mm)
  | 0, _, _, _, _ => none
  | n+1, v1, v2, σ, kx24 =>
    (if 31 ≤ v2 then (
    kx24 v1 σ) else (
    FX8_bits_4 y0 n (v1 + ((y0 >>> (v2 &&& 31)) &&& 1)) (v2 + 1) σ kx24))
def FX8_bits (x0 : Int32) (σ : Mm) : Option (Int32 × Mm) :=
FX8_bits_4 x0 fu 0 0 σ (fun (x22 : Int32) (σ : Mm) => (
some (x22, σ)))
def FX8_shave (h0 : Nat) (x1 : Int32) (x2 : Int32) (σ : Mm) : Option (Int32 × Mm) :=
ck 8 h0 σ <|
(FX8_isPerson h0 x1 σ).bind fun (x22, σ23) =>
jn (fun (z24 : Int32) (σ : Mm) => (
(pI 8 0 (some h0) z24 σ).bind fun σ25 =>
(gI 8 0 (some h0) σ25).bind fun x26 =>
(if x26 ≤ 0 then (
ck 8 h0 σ25 <|
(FX8_remembers h0 σ25).bind fun σ28 =>
ck 8 h0 σ28 <|
(FX8_of h0 x1 0 σ28).bind fun (x30, σ31) =>
ck 8 h0 σ31 <|
(FX8_has_2 h0 x1 0 (x30 &&& ((1 <<< (x2 &&& 31)) ^^^ (-1))) σ31).bind fun σ33 =>
ck 8 h0 σ33 <|
(FX8_of h0 x1 0 σ33).bind fun (x35, σ36) =>
(FX8_bits x35 σ36).bind fun (x37, σ38) =>
some (x37, σ38)) else (
some (0, σ25))))) fun J41 =>
(if x22 = 0 then (
J41 1 σ23) else (
(FX8_isIn x2 0 7 σ23).bind fun (x40, σ41) =>
(if x40 = 0 then (
J41 1 σ41) else (
ck 8 h0 σ41 <|
(FX8_of h0 x1 0 σ41).bind fun (x43, σ44) =>
(FX8_isOf x43 x2 σ44).bind fun (x45, σ46) =>
(if x45 = 0 then (
J41 2 σ46) else (
J41 0 σ46))))))
def FX8_graft (h0 : Nat) (x1 : Int32) (x2 : Int32) (x3 : Int32) (σ : Mm) : Option (Int32 × Mm) :=
ck 8 h0 σ <|
(FX8_isPerson h0 x1 σ).bind fun (x22, σ23) =>
jn (fun (z24 : Int32) (σ : Mm) => (
(pI 8 0 (some h0) z24 σ).bind fun σ25 =>
(gI 8 0 (some h0) σ25).bind fun x26 =>
(if x26 ≤ 0 then (
ck 8 h0 σ25 <|
(FX8_remembers h0 σ25).bind fun σ28 =>
ck 8 h0 σ28 <|
(FX8_of h0 x1 0 σ28).bind fun (x30, σ31) =>
ck 8 h0 σ31 <|
(FX8_has_2 h0 x1 0 (x30 &&& ((1 <<< (x3 &&& 31)) ^^^ (-1))) σ31).bind fun σ33 =>
ck 8 h0 σ33 <|
(FX8_of h0 x2 0 σ33).bind fun (x35, σ36) =>
ck 8 h0 σ36 <|
(FX8_has_2 h0 x2 0 (x35 ||| (1 <<< (x3 &&& 31))) σ36).bind fun σ38 =>
ck 8 h0 σ38 <|
(FX8_of h0 x2 0 σ38).bind fun (x40, σ41) =>
(FX8_bits x40 σ41).bind fun (x42, σ43) =>
some (x42, σ43)) else (
some (0, σ25))))) fun J71 =>
(if x22 = 0 then (
J71 1 σ23) else (
ck 8 h0 σ23 <|
(FX8_isPerson h0 x2 σ23).bind fun (x46, σ47) =>
(if x46 = 0 then (
J71 1 σ47) else (
(FX8_isIn x3 0 7 σ47).bind fun (x48, σ49) =>
(if x48 = 0 then (
J71 1 σ49) else (
(if x1 = x2 then (
J71 2 σ49) else (
ck 8 h0 σ49 <|
(FX8_of h0 x1 0 σ49).bind fun (x51, σ52) =>
(FX8_isOf x51 x3 σ52).bind fun (x53, σ54) =>
(if x53 = 0 then (
J71 3 σ54) else (
ck 8 h0 σ54 <|
(FX8_of h0 x2 0 σ54).bind fun (x56, σ57) =>
(FX8_isOf x56 x3 σ57).bind fun (x58, σ59) =>
(if x58 = 0 then (
J71 0 σ59) else (
J71 3 σ59))))))))))))
def FX8_meets (h0 : Nat) (x1 : Int32) (x2 : Int32) (σ : Mm) : Option (Int32 × Mm) :=
ck 8 h0 σ <|
(FX8_of h0 x1 5 σ).bind fun (x22, σ23) =>
ck 8 h0 σ23 <|
(FX8_of h0 x2 5 σ23).bind fun (x25, σ26) =>
ck 8 h0 σ26 <|
(FX8_has_2 h0 x1 5 ((((x22 ||| x25) ||| (1 <<< (x1 &&& 31))) ||| (1 <<< (x2 &&& 31))) &&& ((1 <<< (x1 &&& 31)) ^^^ (-1))) σ26).bind fun σ28 =>
ck 8 h0 σ28 <|
(FX8_has_2 h0 x2 5 ((((x22 ||| x25) ||| (1 <<< (x1 &&& 31))) ||| (1 <<< (x2 &&& 31))) &&& ((1 <<< (x2 &&& 31)) ^^^ (-1))) σ28).bind fun σ30 =>
(gR 8 1 (some h0) σ30).bind fun x31 =>
ck 8 h0 σ30 <|
(FX8_of h0 x2 5 σ30).bind fun (x33, σ34) =>
(sI x31 ((172 + (10 * x1)) + x2) x33 σ34).bind fun σ35 =>
(gR 8 1 (some h0) σ35).bind fun x36 =>
ck 8 h0 σ35 <|
(FX8_of h0 x1 5 σ35).bind fun (x38, σ39) =>
(sI x36 ((172 + (10 * x2)) + x1) x38 σ39).bind fun σ40 =>
some ((((x22 ||| x25) ||| (1 <<< (x1 &&& 31))) ||| (1 <<< (x2 &&& 31))), σ40)
def FX8_meet (h0 : Nat) (x1 : Int32) (x2 : Int32) (σ : Mm) : Option (Int32 × Mm) :=
ck 8 h0 σ <|
(FX8_two h0 x1 x2 σ).bind fun (x22, σ23) =>
(pI 8 0 (some h0) x22 σ23).bind fun σ24 =>
(gI 8 0 (some h0) σ24).bind fun x25 =>
(if x25 ≤ 0 then (
ck 8 h0 σ24 <|
(FX8_remembers h0 σ24).bind fun σ27 =>
ck 8 h0 σ27 <|
(FX8_meets h0 x1 x2 σ27).bind fun (x29, σ30) =>
some (x29, σ30)) else (
some (0, σ24)))
def FX8_hung_4 (h0 : Nat) : Nat → Int32 → Int32 → Mm → (Int32 → Mm → Option (Int32 × Mm)) → Option (Int32 × Mm)
  | 0, _, _, _, _ => none
  | n+1, v1, v2, σ, kx42 =>
    (gR 8 1 (some h0) σ).bind fun x21 =>
    (aI 100 x21 4 σ).bind fun x22 =>
    (if x22 ≤ v2 then (
    kx42 v1 σ) else (
    (gR 8 1 (some h0) σ).bind fun x23 =>
    (aI 100 x23 (272 + v2) σ).bind fun x24 =>
    jn (fun (z25 : Int32) (σ : Mm) => (
    FX8_hung_4 h0 n (v1 + z25) (v2 + 1) σ kx42)) fun J34 =>
    (if x24 = (-1) then (
    J34 0 σ) else (
    J34 1 σ))))
def FX8_hung (h0 : Nat) (σ : Mm) : Option (Int32 × Mm) :=
FX8_hung_4 h0 fu 0 0 σ (fun (x28 : Int32) (σ : Mm) => (
some (x28, σ)))
def FX8_asks (h0 : Nat) (x1 : Int32) (σ : Mm) : Option (Mm) :=
(pZ 8 17 (some h0) 0 σ).bind fun σ21 =>
(pZ 8 18 (some h0) 0 σ21).bind fun σ22 =>
(gR 8 1 (some h0) σ22).bind fun x23 =>
(aI 100 x23 1 σ22).bind fun x24 =>
(if 1 ≤ x24 then (
ck 8 h0 σ22 <|
(FX8_of h0 x1 3 σ22).bind fun (x26, σ27) =>
ck 8 h0 σ27 <|
(FX8_of h0 x1 2 σ27).bind fun (x29, σ30) =>
jn (fun (z31 : Int32) (σ : Mm) => (
(gR 8 14 (some h0) σ).bind fun x32 =>
(sI x32 0 x1 σ).bind fun σ33 =>
(gR 8 14 (some h0) σ33).bind fun x34 =>
(gR 8 1 (some h0) σ33).bind fun x35 =>
(aI 100 x35 5 σ33).bind fun x36 =>
(sI x34 1 x36 σ33).bind fun σ37 =>
(gR 8 14 (some h0) σ37).bind fun x38 =>
jn (fun (z39 : Int32) (σ : Mm) => (
(sI x38 2 z39 σ).bind fun σ40 =>
(gR 8 14 (some h0) σ40).bind fun x41 =>
jn (fun (z42 : Int32) (σ : Mm) => (
(sI x41 3 z42 σ).bind fun σ43 =>
(gR 8 14 (some h0) σ43).bind fun x44 =>
ck 8 h0 σ43 <|
(FX8_hung h0 σ43).bind fun (x46, σ47) =>
(sI x44 4 x46 σ47).bind fun σ48 =>
(gR 8 14 (some h0) σ48).bind fun x49 =>
(gR 8 1 (some h0) σ48).bind fun x50 =>
(aI 100 x50 4 σ48).bind fun x51 =>
ck 8 h0 σ48 <|
(FX8_hung h0 σ48).bind fun (x53, σ54) =>
(sI x49 5 (x51 - x53) σ54).bind fun σ55 =>
jn (fun (z56 : Int32) (σ : Mm) => (
(pZ 8 15 (some h0) z56 σ).bind fun σ57 =>
ck 8 h0 σ57 <|
(FX8_of h0 x1 4 σ57).bind fun (x59, σ60) =>
jn (fun (z61 : Int32) (σ : Mm) => (
(pZ 8 16 (some h0) z61 σ).bind fun σ62 =>
(gI 8 12 (some h0) σ62).bind fun x63 =>
(pI 8 12 (some h0) (-1) σ62).bind fun σ64 =>
(pI 8 9 (some h0) 584 σ64).bind fun σ65 =>
(gR 8 1 (some h0) σ65).bind fun x66 =>
(aI 100 x66 2 σ65).bind fun x67 =>
(pI 8 10 (some h0) x67 σ65).bind fun σ68 =>
(pI 8 11 (some h0) 0 σ68).bind fun σ69 =>
(pI 8 13 (some h0) 0 σ69).bind fun σ70 =>
ck 8 h0 σ70 <|
(FX8_read h0 1 σ70).bind fun (x72, σ73) =>
(pI 8 12 (some h0) x63 σ73).bind fun σ74 =>
some σ74)) fun J184 =>
(if x59 = (-1) then (
J184 0 σ60) else (
J184 1 σ60)))) fun J165 =>
(if z31 = x1 then (
J165 1 σ55) else (
J165 0 σ55)))) fun J126 =>
(if z31 = (-1) then (
J126 0 σ40) else (
ck 8 h0 σ40 <|
(FX8_of h0 z31 0 σ40).bind fun (x78, σ79) =>
(FX8_bits x78 σ79).bind fun (x80, σ81) =>
J126 x80 σ81)))) fun J102 =>
(if x26 = (-1) then (
J102 99 σ37) else (
J102 x26 σ37)))) fun J66 =>
(if x29 = (-1) then (
(if x26 = (-1) then (
J66 (-1) σ30) else (
(gR 8 1 (some h0) σ30).bind fun x84 =>
(aI 100 x84 (272 + x26) σ30).bind fun x85 =>
J66 x85 σ30))) else (
ck 8 h0 σ30 <|
(FX8_of h0 x1 2 σ30).bind fun (x88, σ89) =>
J66 x88 σ89))) else (
some σ22))
def FX8_freeHook_2 (h0 : Nat) : Nat → Int32 → Mm → (Mm → Option (Int32 × Mm)) → (Int32 → Mm → Option (Int32 × Mm)) → Option (Int32 × Mm)
  | 0, _, _, _, _ => none
  | n+1, v1, σ, kx34, kx26 =>
    (gR 8 1 (some h0) σ).bind fun x21 =>
    (aI 100 x21 4 σ).bind fun x22 =>
    (if x22 ≤ v1 then (
    kx34 σ) else (
    (gR 8 1 (some h0) σ).bind fun x23 =>
    (aI 100 x23 (272 + v1) σ).bind fun x24 =>
    (if x24 = (-1) then (
    kx26 v1 σ) else (
    FX8_freeHook_2 h0 n (v1 + 1) σ kx34 kx26))))
def FX8_freeHook (h0 : Nat) (σ : Mm) : Option (Int32 × Mm) :=
FX8_freeHook_2 h0 fu 0 σ (fun  (σ : Mm) => (
some ((-1), σ))) (fun (x27 : Int32) (σ : Mm) => (
some (x27, σ)))
def FX8_draw (h0 : Nat) (x1 : Int32) (σ : Mm) : Option (Int32 × Mm) :=
(gR 8 1 (some h0) σ).bind fun x21 =>
(gR 8 1 (some h0) σ).bind fun x22 =>
(aI 100 x22 9 σ).bind fun x23 =>
(sI x21 9 ((1103515245 * x23) + 12345) σ).bind fun σ24 =>
(gR 8 1 (some h0) σ24).bind fun x25 =>
(aI 100 x25 9 σ24).bind fun x26 =>
(rm_ ((ush x26 16) &&& 32767) x1).bind fun x27 =>
some (x27, σ24)
def FX8_holders_4 (h0 : Nat) : Nat → Int32 → Int32 → Mm → (Int32 → Mm → Option (Int32 × Mm)) → Option (Int32 × Mm)
  | 0, _, _, _, _ => none
  | n+1, v1, v2, σ, kx40 =>
    (gR 8 1 (some h0) σ).bind fun x21 =>
    (aI 100 x21 3 σ).bind fun x22 =>
    (if x22 ≤ v2 then (
    kx40 v1 σ) else (
    ck 8 h0 σ <|
    (FX8_of h0 v2 3 σ).bind fun (x24, σ25) =>
    jn (fun (z26 : Int32) (σ : Mm) => (
    FX8_holders_4 h0 n (v1 ||| z26) (v2 + 1) σ kx40)) fun J32 =>
    (if x24 = (-1) then (
    J32 0 σ25) else (
    J32 (1 <<< (v2 &&& 31)) σ25))))
def FX8_holders (h0 : Nat) (σ : Mm) : Option (Int32 × Mm) :=
FX8_holders_4 h0 fu 0 0 σ (fun (x29 : Int32) (σ : Mm) => (
some (x29, σ)))
def FX8_holder_5 (h0 : Nat) (y2 : Int32) : Nat → Int32 → Int32 → Mm → (Mm → Option (Int32 × Mm)) → (Int32 → Mm → Option (Int32 × Mm)) → Option (Int32 × Mm)
  | 0, _, _, _, _, _ => none
  | n+1, v3, v4, σ, kx52, kx40 =>
    (gR 8 1 (some h0) σ).bind fun x21 =>
    (aI 100 x21 3 σ).bind fun x22 =>
    (if x22 ≤ v4 then (
    kx52 σ) else (
    ck 8 h0 σ <|
    (FX8_of h0 v4 3 σ).bind fun (x24, σ25) =>
    (if x24 = (-1) then (
    FX8_holder_5 h0 y2 n v3 (v4 + 1) σ25 kx52 kx40) else (
    (if v4 = y2 then (
    FX8_holder_5 h0 y2 n v3 (v4 + 1) σ25 kx52 kx40) else (
    (if v3 = 0 then (
    kx40 v4 σ25) else (
    FX8_holder_5 h0 y2 n (v3 + (-1)) (v4 + 1) σ25 kx52 kx40))))))))
def FX8_holder (h0 : Nat) (x1 : Int32) (x2 : Int32) (σ : Mm) : Option (Int32 × Mm) :=
FX8_holder_5 h0 x2 fu x1 0 σ (fun  (σ : Mm) => (
some ((-1), σ))) (fun (x30 : Int32) (σ : Mm) => (
some (x30, σ)))
def FX8_robs_11 (h0 : Nat) : Nat → Int32 → Int32 → Mm → (Mm → Option (Mm)) → Option (Mm)
  | 0, _, _, _, _ => none
  | n+1, v1, v2, σ, kx74 =>
    (gR 8 1 (some h0) σ).bind fun x27 =>
    (aI 100 x27 4 σ).bind fun x28 =>
    (if x28 ≤ v2 then (
    kx74 σ) else (
    (gR 8 1 (some h0) σ).bind fun x29 =>
    (aI 100 x29 (272 + v2) σ).bind fun x30 =>
    (if x30 = (-1) then (
    FX8_robs_11 h0 n v1 (v2 + 1) σ kx74) else (
    (if v1 = 0 then (
    ck 8 h0 σ <|
    (FX8_of h0 x30 0 σ).bind fun (x32, σ33) =>
    ck 8 h0 σ33 <|
    (FX8_of h0 x30 0 σ33).bind fun (x35, σ36) =>
    ck 8 h0 σ36 <|
    (FX8_has_2 h0 x30 0 (x32 &&& (x35 - 1)) σ36).bind fun σ38 =>
    FX8_robs_11 h0 n (v1 + (-1)) (v2 + 1) σ38 kx74) else (
    FX8_robs_11 h0 n (v1 + (-1)) (v2 + 1) σ kx74))))))
def FX8_robs (h0 : Nat) (σ : Mm) : Option (Mm) :=
ck 8 h0 σ <|
(FX8_hung h0 σ).bind fun (x22, σ23) =>
ck 8 h0 σ23 <|
(FX8_draw h0 x22 σ23).bind fun (x25, σ26) =>
FX8_robs_11 h0 fu x25 0 σ26 (fun  (σ : Mm) => (
some σ))
def FX8_hour_4 (h0 : Nat) : Nat → Int32 → Int32 → Mm → (Int32 → Mm → Option (Int32 × Mm)) → Option (Int32 × Mm)
  | 0, _, _, _, _ => none
  | n+1, v1, v2, σ, kx124 =>
    (gR 8 1 (some h0) σ).bind fun x21 =>
    (aI 100 x21 3 σ).bind fun x22 =>
    (if x22 ≤ v2 then (
    kx124 v1 σ) else (
    ck 8 h0 σ <|
    (FX8_of h0 v2 2 σ).bind fun (x24, σ25) =>
    jn (fun (z26 : Int32) (σ : Mm) => (
    ck 8 h0 σ <|
    (FX8_of h0 v2 3 σ).bind fun (x28, σ29) =>
    jn (fun (z30 : Int32) (σ : Mm) => (
    (if z26 = z30 then (
    FX8_hour_4 h0 n v1 (v2 + 1) σ kx124) else (
    ck 8 h0 σ <|
    (FX8_asks h0 v2 σ).bind fun σ32 =>
    jn (fun  (σ : Mm) => (
    (if z26 = 0 then (
    (gI 8 18 (some h0) σ).bind fun x33 =>
    (if x33 = 0 then (
    FX8_hour_4 h0 n v1 (v2 + 1) σ kx124) else (
    ck 8 h0 σ <|
    (FX8_gets h0 v2 σ).bind fun (x35, σ36) =>
    FX8_hour_4 h0 n (v1 + 1) (v2 + 1) σ36 kx124))) else (
    FX8_hour_4 h0 n v1 (v2 + 1) σ kx124)))) fun J97 =>
    (if z26 = 0 then (
    J97 σ32) else (
    (gI 8 17 (some h0) σ32).bind fun x39 =>
    (if x39 = 0 then (
    J97 σ32) else (
    ck 8 h0 σ32 <|
    (FX8_freeHook h0 σ32).bind fun (x41, σ42) =>
    (if x41 = (-1) then (
    J97 σ42) else (
    ck 8 h0 σ42 <|
    (FX8_freeHook h0 σ42).bind fun (x44, σ45) =>
    ck 8 h0 σ45 <|
    (FX8_handsIn h0 v2 x44 σ45).bind fun (x47, σ48) =>
    FX8_hour_4 h0 n (v1 + 1) (v2 + 1) σ48 kx124)))))))))) fun J45 =>
    (if x28 = (-1) then (
    J45 0 σ29) else (
    J45 1 σ29)))) fun J29 =>
    (if x24 = (-1) then (
    J29 0 σ25) else (
    J29 1 σ25))))
def FX8_hour (h0 : Nat) (σ : Mm) : Option (Int32 × Mm) :=
FX8_hour_4 h0 fu 0 0 σ (fun (x56 : Int32) (σ : Mm) => (
ck 8 h0 σ <|
(FX8_draw h0 100 σ).bind fun (x58, σ59) =>
(gR 8 1 (some h0) σ59).bind fun x60 =>
(aI 100 x60 6 σ59).bind fun x61 =>
jn (fun (z62 : Int32) (σ : Mm) => (
ck 8 h0 σ <|
(FX8_holders h0 σ).bind fun (x64, σ65) =>
(FX8_bits x64 σ65).bind fun (x66, σ67) =>
jn (fun  (σ : Mm) => (
ck 8 h0 σ <|
(FX8_draw h0 100 σ).bind fun (x69, σ70) =>
(gR 8 1 (some h0) σ70).bind fun x71 =>
(aI 100 x71 7 σ70).bind fun x72 =>
jn (fun  (σ : Mm) => (
(gR 8 1 (some h0) σ).bind fun x73 =>
(aI 100 x73 5 σ).bind fun x74 =>
(sI x73 5 (x74 + 1) σ).bind fun σ75 =>
some (x56, σ75))) fun J221 =>
(if x72 ≤ x69 then (
J221 σ70) else (
ck 8 h0 σ70 <|
(FX8_hung h0 σ70).bind fun (x77, σ78) =>
(if x77 ≤ 0 then (
J221 σ78) else (
ck 8 h0 σ78 <|
(FX8_robs h0 σ78).bind fun σ80 =>
J221 σ80)))))) fun J194 =>
(if z62 = 0 then (
J194 σ67) else (
(if x66 ≤ 1 then (
J194 σ67) else (
ck 8 h0 σ67 <|
(FX8_draw h0 x66 σ67).bind fun (x84, σ85) =>
ck 8 h0 σ85 <|
(FX8_holder h0 x84 (-1) σ85).bind fun (x87, σ88) =>
ck 8 h0 σ88 <|
(FX8_draw h0 (x66 - 1) σ88).bind fun (x90, σ91) =>
ck 8 h0 σ91 <|
(FX8_holder h0 x90 x87 σ91).bind fun (x93, σ94) =>
ck 8 h0 σ94 <|
(FX8_mixes h0 x87 x93 σ94).bind fun σ96 =>
J194 σ96)))))) fun J145 =>
(if x61 ≤ x58 then (
J145 0 σ59) else (
J145 1 σ59))))
def FX8_goes_4 (h0 : Nat) (y1 : Int32) : Nat → Int32 → Int32 → Mm → (Int32 → Mm → Option (Int32 × Mm)) → Option (Int32 × Mm)
  | 0, _, _, _, _ => none
  | n+1, v2, v3, σ, kx22 =>
    (if y1 ≤ v3 then (
    kx22 v2 σ) else (
    ck 8 h0 σ <|
    (FX8_hour h0 σ).bind fun (x22, σ23) =>
    FX8_goes_4 h0 y1 n (v2 + x22) (v3 + 1) σ23 kx22))
def FX8_goes (h0 : Nat) (x1 : Int32) (σ : Mm) : Option (Int32 × Mm) :=
FX8_goes_4 h0 x1 fu 0 0 σ (fun (x25 : Int32) (σ : Mm) => (
some (x25, σ)))
def FX8_hours (h0 : Nat) (x1 : Int32) (σ : Mm) : Option (Int32 × Mm) :=
(FX8_isIn x1 1 50 σ).bind fun (x21, σ22) =>
jn (fun (z23 : Int32) (σ : Mm) => (
(pI 8 0 (some h0) z23 σ).bind fun σ24 =>
(gI 8 0 (some h0) σ24).bind fun x25 =>
(if x25 ≤ 0 then (
ck 8 h0 σ24 <|
(FX8_remembers h0 σ24).bind fun σ27 =>
ck 8 h0 σ27 <|
(FX8_goes h0 x1 σ27).bind fun (x29, σ30) =>
some (x29, σ30)) else (
some (0, σ24))))) fun J16 =>
(if x21 = 0 then (
J16 1 σ22) else (
J16 0 σ22))
def FX8_wrongs_4 (h0 : Nat) : Nat → Int32 → Int32 → Mm → (Int32 → Mm → Option (Int32 × Mm)) → Option (Int32 × Mm)
  | 0, _, _, _, _ => none
  | n+1, v1, v2, σ, kx50 =>
    (gR 8 1 (some h0) σ).bind fun x21 =>
    (aI 100 x21 3 σ).bind fun x22 =>
    (if x22 ≤ v2 then (
    kx50 v1 σ) else (
    ck 8 h0 σ <|
    (FX8_of h0 v2 2 σ).bind fun (x24, σ25) =>
    jn (fun (z26 : Int32) (σ : Mm) => (
    FX8_wrongs_4 h0 n (v1 ||| z26) (v2 + 1) σ kx50)) fun J42 =>
    (if x24 = (-1) then (
    J42 0 σ25) else (
    ck 8 h0 σ25 <|
    (FX8_of h0 v2 2 σ25).bind fun (x28, σ29) =>
    (if x28 = v2 then (
    J42 0 σ29) else (
    J42 (1 <<< (v2 &&& 31)) σ29))))))
def FX8_wrongs (h0 : Nat) (σ : Mm) : Option (Int32 × Mm) :=
FX8_wrongs_4 h0 fu 0 0 σ (fun (x33 : Int32) (σ : Mm) => (
some (x33, σ)))
def FX8_wrong_2 (h0 : Nat) (σ : Mm) : Option (Int32 × Mm) :=
(pI 8 0 (some h0) 0 σ).bind fun σ21 =>
ck 8 h0 σ21 <|
(FX8_wrongs h0 σ21).bind fun (x23, σ24) =>
some (x23, σ24)
def FX8_isLost (h0 : Nat) (x1 : Int32) (σ : Mm) : Option (Int32 × Mm) :=
ck 8 h0 σ <|
(FX8_wearer h0 x1 σ).bind fun (x22, σ23) =>
(if x22 = (-1) then (
ck 8 h0 σ23 <|
(FX8_hookOf h0 x1 σ23).bind fun (x25, σ26) =>
(if x25 = (-1) then (
rZ 1 σ26) else (
rZ 0 σ26))) else (
rZ 0 σ23))
def FX8_lost_9 (h0 : Nat) : Nat → Int32 → Int32 → Mm → (Int32 → Mm → Option (Int32 × Mm)) → Option (Int32 × Mm)
  | 0, _, _, _, _ => none
  | n+1, v1, v2, σ, kx43 =>
    (gR 8 1 (some h0) σ).bind fun x22 =>
    (aI 100 x22 3 σ).bind fun x23 =>
    (if x23 ≤ v2 then (
    kx43 v1 σ) else (
    ck 8 h0 σ <|
    (FX8_isLost h0 v2 σ).bind fun (x25, σ26) =>
    jn (fun (z27 : Int32) (σ : Mm) => (
    FX8_lost_9 h0 n (v1 ||| z27) (v2 + 1) σ kx43)) fun J35 =>
    (if x25 = 0 then (
    J35 0 σ26) else (
    J35 (1 <<< (v2 &&& 31)) σ26))))
def FX8_lost (h0 : Nat) (σ : Mm) : Option (Int32 × Mm) :=
(pI 8 0 (some h0) 0 σ).bind fun σ21 =>
FX8_lost_9 h0 fu 0 0 σ21 (fun (x30 : Int32) (σ : Mm) => (
some (x30, σ)))
def FX8_unclaimed_9 (h0 : Nat) : Nat → Int32 → Int32 → Mm → (Int32 → Mm → Option (Int32 × Mm)) → Option (Int32 × Mm)
  | 0, _, _, _, _ => none
  | n+1, v1, v2, σ, kx66 =>
    (gR 8 1 (some h0) σ).bind fun x22 =>
    (aI 100 x22 4 σ).bind fun x23 =>
    (if x23 ≤ v2 then (
    kx66 v1 σ) else (
    (gR 8 1 (some h0) σ).bind fun x24 =>
    (aI 100 x24 (272 + v2) σ).bind fun x25 =>
    jn (fun (z26 : Int32) (σ : Mm) => (
    FX8_unclaimed_9 h0 n (v1 ||| z26) (v2 + 1) σ kx66)) fun J58 =>
    (if x25 = (-1) then (
    J58 0 σ) else (
    ck 8 h0 σ <|
    (FX8_hasTicketOf h0 v2 σ).bind fun (x28, σ29) =>
    (if x28 = 0 then (
    (gR 8 1 (some h0) σ29).bind fun x30 =>
    (aI 100 x30 (272 + v2) σ29).bind fun x31 =>
    J58 (1 <<< (x31 &&& 31)) σ29) else (
    J58 0 σ29))))))
def FX8_unclaimed (h0 : Nat) (σ : Mm) : Option (Int32 × Mm) :=
(pI 8 0 (some h0) 0 σ).bind fun σ21 =>
FX8_unclaimed_9 h0 fu 0 0 σ21 (fun (x35 : Int32) (σ : Mm) => (
some (x35, σ)))
def FX8_comesRound_6 (h0 : Nat) (y1 : Int32) : Nat → Int32 → Mm → (Int32 → Mm → Option (Int32 × Mm)) → Option (Int32 × Mm)
  | 0, _, _, _ => none
  | n+1, v2, σ, kx25 =>
    (if v2 = (-1) then (
    kx25 v2 σ) else (
    (if v2 = y1 then (
    kx25 v2 σ) else (
    ck 8 h0 σ <|
    (FX8_wearer h0 v2 σ).bind fun (x25, σ26) =>
    FX8_comesRound_6 h0 y1 n x25 σ26 kx25))))
def FX8_comesRound (h0 : Nat) (x1 : Int32) (σ : Mm) : Option (Int32 × Mm) :=
ck 8 h0 σ <|
(FX8_wearer h0 x1 σ).bind fun (x22, σ23) =>
FX8_comesRound_6 h0 x1 fu x22 σ23 (fun (x29 : Int32) (σ : Mm) => (
(if x29 = x1 then (
rZ 1 σ) else (
rZ 0 σ))))
def FX8_swaps_9 (h0 : Nat) : Nat → Int32 → Int32 → Mm → (Int32 → Mm → Option (Int32 × Mm)) → Option (Int32 × Mm)
  | 0, _, _, _, _ => none
  | n+1, v1, v2, σ, kx75 =>
    (gR 8 1 (some h0) σ).bind fun x22 =>
    (aI 100 x22 3 σ).bind fun x23 =>
    (if x23 ≤ v2 then (
    kx75 v1 σ) else (
    ck 8 h0 σ <|
    (FX8_isLost h0 v2 σ).bind fun (x25, σ26) =>
    (if x25 = 0 then (
    ck 8 h0 σ26 <|
    (FX8_wearer h0 v2 σ26).bind fun (x28, σ29) =>
    (if x28 = v2 then (
    FX8_swaps_9 h0 n v1 (v2 + 1) σ29 kx75) else (
    ck 8 h0 σ29 <|
    (FX8_ring h0 v2 σ29).bind fun (x31, σ32) =>
    ck 8 h0 σ32 <|
    (FX8_comesRound h0 v2 σ32).bind fun (x34, σ35) =>
    (if x34 = 0 then (
    FX8_swaps_9 h0 n (v1 + 1) (v2 + 1) σ35 kx75) else (
    (if (x31 &&& ((1 <<< (v2 &&& 31)) - 1)) = 0 then (
    FX8_swaps_9 h0 n ((v1 + 1) + (-1)) (v2 + 1) σ35 kx75) else (
    FX8_swaps_9 h0 n (v1 + 1) (v2 + 1) σ35 kx75))))))) else (
    FX8_swaps_9 h0 n v1 (v2 + 1) σ26 kx75))))
def FX8_swaps (h0 : Nat) (σ : Mm) : Option (Int32 × Mm) :=
(pI 8 0 (some h0) 0 σ).bind fun σ21 =>
FX8_swaps_9 h0 fu 0 0 σ21 (fun (x41 : Int32) (σ : Mm) => (
some (x41, σ)))
def FX8_saved_9 (h0 : Nat) : Nat → Int32 → Int32 → Mm → (Int32 → Mm → Option (Int32 × Mm)) → Option (Int32 × Mm)
  | 0, _, _, _, _ => none
  | n+1, v1, v2, σ, kx67 =>
    (gR 8 1 (some h0) σ).bind fun x22 =>
    (aI 100 x22 3 σ).bind fun x23 =>
    (if x23 ≤ v2 then (
    kx67 v1 σ) else (
    ck 8 h0 σ <|
    (FX8_of h0 v2 4 σ).bind fun (x25, σ26) =>
    jn (fun (z27 : Int32) (σ : Mm) => (
    FX8_saved_9 h0 n (v1 ||| z27) (v2 + 1) σ kx67)) fun J59 =>
    (if x25 = (-1) then (
    J59 0 σ26) else (
    ck 8 h0 σ26 <|
    (FX8_of h0 v2 2 σ26).bind fun (x29, σ30) =>
    (if x29 = x25 then (
    ck 8 h0 σ30 <|
    (FX8_of h0 x25 2 σ30).bind fun (x32, σ33) =>
    (if x32 = v2 then (
    J59 (1 <<< (v2 &&& 31)) σ33) else (
    J59 0 σ33))) else (
    J59 0 σ30))))))
def FX8_saved (h0 : Nat) (σ : Mm) : Option (Int32 × Mm) :=
(pI 8 0 (some h0) 0 σ).bind fun σ21 =>
FX8_saved_9 h0 fu 0 0 σ21 (fun (x38 : Int32) (σ : Mm) => (
some (x38, σ)))
def FX8_areUnlike_14 (h0 : Nat) (y1 : Int32) (y2 : Int32) : Nat → Int32 → Mm → (Mm → Option (Int32 × Mm)) → (Mm → Option (Int32 × Mm)) → Option (Int32 × Mm)
  | 0, _, _, _, _ => none
  | n+1, v3, σ, kx46, kx38 =>
    (if y2 ≤ v3 then (
    kx46 σ) else (
    ck 8 h0 σ <|
    (FX8_of h0 y2 0 σ).bind fun (x24, σ25) =>
    ck 8 h0 σ25 <|
    (FX8_of h0 v3 0 σ25).bind fun (x27, σ28) =>
    (if (x24 &&& y1) = (x27 &&& y1) then (
    kx38 σ28) else (
    FX8_areUnlike_14 h0 y1 y2 n (v3 + 1) σ28 kx46 kx38))))
def FX8_areUnlike_2 (h0 : Nat) (y1 : Int32) : Nat → Int32 → Mm → (Mm → Option (Int32 × Mm)) → (Mm → Option (Int32 × Mm)) → Option (Int32 × Mm)
  | 0, _, _, _, _ => none
  | n+1, v2, σ, kx52, kx38 =>
    (gR 8 1 (some h0) σ).bind fun x21 =>
    (aI 100 x21 3 σ).bind fun x22 =>
    (if x22 ≤ v2 then (
    kx52 σ) else (
    FX8_areUnlike_14 h0 y1 v2 fu 0 σ (fun  (σ : Mm) => (
    FX8_areUnlike_2 h0 y1 n (v2 + 1) σ kx52 kx38)) (fun  (σ : Mm) => (
    kx38 σ))))
def FX8_areUnlike (h0 : Nat) (x1 : Int32) (σ : Mm) : Option (Int32 × Mm) :=
FX8_areUnlike_2 h0 x1 fu 0 σ (fun  (σ : Mm) => (
rZ 1 σ)) (fun  (σ : Mm) => (
rZ 0 σ))
def FX8_marks_9 (h0 : Nat) : Nat → Int32 → Int32 → Mm → (Int32 → Mm → Option (Int32 × Mm)) → Option (Int32 × Mm)
  | 0, _, _, _, _ => none
  | n+1, v1, v2, σ, kx48 =>
    (if 256 ≤ v2 then (
    kx48 v1 σ) else (
    jn (fun  (σ : Mm) => (
    ck 8 h0 σ <|
    (FX8_areUnlike h0 v2 σ).bind fun (x23, σ24) =>
    (if x23 = 0 then (
    FX8_marks_9 h0 n v1 (v2 + 1) σ24 kx48) else (
    FX8_marks_9 h0 n v2 (v2 + 1) σ24 kx48)))) fun J32 =>
    (if v1 = (-1) then (
    J32 σ) else (
    (FX8_bits v2 σ).bind fun (x26, σ27) =>
    (FX8_bits v1 σ27).bind fun (x28, σ29) =>
    (if x28 ≤ x26 then (
    FX8_marks_9 h0 n v1 (v2 + 1) σ29 kx48) else (
    J32 σ29))))))
def FX8_marks (h0 : Nat) (σ : Mm) : Option (Int32 × Mm) :=
(pI 8 0 (some h0) 0 σ).bind fun σ21 =>
FX8_marks_9 h0 fu (-1) 0 σ21 (fun (x33 : Int32) (σ : Mm) => (
some (x33, σ)))
def FX8_unknown_21 (h0 : Nat) (y2 : Int32) : Nat → Int32 → Int32 → Mm → (Int32 → Mm → Option (Int32 × Mm)) → Option (Int32 × Mm)
  | 0, _, _, _, _ => none
  | n+1, v1, v3, σ, kx67 =>
    (gR 8 1 (some h0) σ).bind fun x24 =>
    (aI 100 x24 3 σ).bind fun x25 =>
    (if x25 ≤ v3 then (
    kx67 v1 σ) else (
    jn (fun (z26 : Int32) (σ : Mm) => (
    FX8_unknown_21 h0 y2 n (v1 ||| z26) (v3 + 1) σ kx67)) fun J59 =>
    (if v3 = y2 then (
    J59 0 σ) else (
    ck 8 h0 σ <|
    (FX8_of h0 v3 1 σ).bind fun (x28, σ29) =>
    ck 8 h0 σ29 <|
    (FX8_of h0 y2 1 σ29).bind fun (x31, σ32) =>
    (if x28 = x31 then (
    J59 (1 <<< (y2 &&& 31)) σ32) else (
    J59 0 σ32))))))
def FX8_unknown_9 (h0 : Nat) : Nat → Int32 → Int32 → Mm → (Int32 → Mm → Option (Int32 × Mm)) → Option (Int32 × Mm)
  | 0, _, _, _, _ => none
  | n+1, v1, v2, σ, kx73 =>
    (gR 8 1 (some h0) σ).bind fun x22 =>
    (aI 100 x22 3 σ).bind fun x23 =>
    (if x23 ≤ v2 then (
    kx73 v1 σ) else (
    FX8_unknown_21 h0 v2 fu v1 0 σ (fun (x36 : Int32) (σ : Mm) => (
    FX8_unknown_9 h0 n x36 (v2 + 1) σ kx73))))
def FX8_unknown (h0 : Nat) (σ : Mm) : Option (Int32 × Mm) :=
(pI 8 0 (some h0) 0 σ).bind fun σ21 =>
FX8_unknown_9 h0 fu 0 0 σ21 (fun (x38 : Int32) (σ : Mm) => (
some (x38, σ)))
def FX8_passes_44 (h0 : Nat) (y1 : Int32) (y2 : Int32) : Nat → Int32 → Int32 → Mm → (Int32 → Mm → Option (Int32 × Mm)) → Option (Int32 × Mm)
  | 0, _, _, _, _ => none
  | n+1, v3, v4, σ, kx88 =>
    (gR 8 1 (some h0) σ).bind fun x26 =>
    (aI 100 x26 3 σ).bind fun x27 =>
    (if x27 ≤ v4 then (
    kx88 v3 σ) else (
    ck 8 h0 σ <|
    (FX8_of h0 v4 0 σ).bind fun (x29, σ30) =>
    (FX8_bits (x29 ^^^ y1) σ30).bind fun (x31, σ32) =>
    jn (fun (z33 : Int32) (σ : Mm) => (
    FX8_passes_44 h0 y1 y2 n (v3 ||| z33) (v4 + 1) σ kx88)) fun J80 =>
    (if y2 < x31 then (
    J80 0 σ32) else (
    J80 (1 <<< (v4 &&& 31)) σ32))))
def FX8_passes (h0 : Nat) (x1 : Int32) (x2 : Int32) (σ : Mm) : Option (Int32 × Mm) :=
(FX8_isIn x1 0 255 σ).bind fun (x21, σ22) =>
jn (fun (z23 : Int32) (σ : Mm) => (
(pI 8 0 (some h0) z23 σ).bind fun σ24 =>
(gI 8 0 (some h0) σ24).bind fun x25 =>
(if x25 ≤ 0 then (
FX8_passes_44 h0 x1 x2 fu 0 0 σ24 (fun (x36 : Int32) (σ : Mm) => (
some (x36, σ)))) else (
some (0, σ24))))) fun J27 =>
(if x21 = 0 then (
J27 1 σ22) else (
(FX8_isIn x2 0 8 σ22).bind fun (x38, σ39) =>
(if x38 = 0 then (
J27 1 σ39) else (
J27 0 σ39))))
def FX8_dear_2 (h0 : Nat) (y1 : Int32) (y2 : Int32) : Nat → Int32 → Mm → (Int32 → Mm → Option (Int32 × Mm)) → Option (Int32 × Mm)
  | 0, _, _, _ => none
  | n+1, v3, σ, kx26 =>
    (gR 8 1 (some h0) σ).bind fun x21 =>
    (aI 100 x21 ((72 + (10 * y1)) + v3) σ).bind fun x22 =>
    (if x22 = y2 then (
    kx26 v3 σ) else (
    FX8_dear_2 h0 y1 y2 n (v3 + 1) σ kx26))
def FX8_dear (h0 : Nat) (x1 : Int32) (x2 : Int32) (σ : Mm) : Option (Int32 × Mm) :=
FX8_dear_2 h0 x1 x2 fu 0 σ (fun (x24 : Int32) (σ : Mm) => (
some (x24, σ)))
def FX8_pointsTo_5 (h0 : Nat) (y1 : Int32) (y2 : Int32) : Nat → Int32 → Int32 → Mm → (Int32 → Mm → Option (Int32 × Mm)) → Option (Int32 × Mm)
  | 0, _, _, _, _ => none
  | n+1, v3, v4, σ, kx65 =>
    (gR 8 1 (some h0) σ).bind fun x21 =>
    (aI 100 x21 3 σ).bind fun x22 =>
    (if x22 ≤ v4 then (
    kx65 v3 σ) else (
    (FX8_isOf y2 v4 σ).bind fun (x23, σ24) =>
    (if x23 = 0 then (
    FX8_pointsTo_5 h0 y1 y2 n v3 (v4 + 1) σ24 kx65) else (
    jn (fun  (σ : Mm) => (
    FX8_pointsTo_5 h0 y1 y2 n v4 (v4 + 1) σ kx65)) fun J56 =>
    (if v3 = (-1) then (
    J56 σ24) else (
    ck 8 h0 σ24 <|
    (FX8_of h0 v4 2 σ24).bind fun (x26, σ27) =>
    ck 8 h0 σ27 <|
    (FX8_dear h0 y1 x26 σ27).bind fun (x29, σ30) =>
    ck 8 h0 σ30 <|
    (FX8_of h0 v3 2 σ30).bind fun (x32, σ33) =>
    ck 8 h0 σ33 <|
    (FX8_dear h0 y1 x32 σ33).bind fun (x35, σ36) =>
    (if x35 ≤ x29 then (
    FX8_pointsTo_5 h0 y1 y2 n v3 (v4 + 1) σ36 kx65) else (
    J56 σ36))))))))
def FX8_pointsTo (h0 : Nat) (x1 : Int32) (x2 : Int32) (σ : Mm) : Option (Int32 × Mm) :=
FX8_pointsTo_5 h0 x1 x2 fu (-1) 0 σ (fun (x41 : Int32) (σ : Mm) => (
some (x41, σ)))
def FX8_trades_4 (h0 : Nat) : Nat → Int32 → Int32 → Mm → (Int32 → Mm → Option (Mm)) → Option (Mm)
  | 0, _, _, _, _ => none
  | n+1, v1, v2, σ, kx47 =>
    (gR 8 1 (some h0) σ).bind fun x21 =>
    (aI 100 x21 3 σ).bind fun x22 =>
    (if x22 ≤ v2 then (
    kx47 v1 σ) else (
    (gR 8 23 (some h0) σ).bind fun x23 =>
    (sI x23 v2 (-1) σ).bind fun σ24 =>
    ck 8 h0 σ24 <|
    (FX8_of h0 v2 2 σ24).bind fun (x26, σ27) =>
    jn (fun (z28 : Int32) (σ : Mm) => (
    FX8_trades_4 h0 n (v1 ||| z28) (v2 + 1) σ kx47)) fun J39 =>
    (if x26 = (-1) then (
    J39 0 σ27) else (
    J39 (1 <<< (v2 &&& 31)) σ27))))
def FX8_trades_53 (h0 : Nat) (y1 : Int32) : Nat → Int32 → Mm → (Int32 → Mm → Option (Mm)) → Option (Mm)
  | 0, _, _, _ => none
  | n+1, v2, σ, kx67 =>
    (FX8_isOf y1 v2 σ).bind fun (x32, σ33) =>
    (if x32 = 0 then (
    FX8_trades_53 h0 y1 n (v2 + 1) σ33 kx67) else (
    kx67 v2 σ33))
def FX8_trades_69 (h0 : Nat) (y1 : Int32) : Nat → Int32 → Int32 → Mm → (Int32 → Mm → Option (Mm)) → Option (Mm)
  | 0, _, _, _, _ => none
  | n+1, v2, v3, σ, kx88 =>
    (if 10 ≤ v3 then (
    kx88 v2 σ) else (
    ck 8 h0 σ <|
    (FX8_pointsTo h0 v2 y1 σ).bind fun (x37, σ38) =>
    FX8_trades_69 h0 y1 n x37 (v3 + 1) σ38 kx88))
def FX8_trades_93 (h0 : Nat) (y1 : Int32) : Nat → Int32 → Int32 → Mm → (Int32 → Mm → Option (Mm)) → Option (Mm)
  | 0, _, _, _, _ => none
  | n+1, v2, v4, σ, kx137 =>
    (FX8_isOf v4 v2 σ).bind fun (x41, σ42) =>
    (if x41 = 0 then (
    (gR 8 23 (some h0) σ42).bind fun x43 =>
    ck 8 h0 σ42 <|
    (FX8_pointsTo h0 v2 y1 σ42).bind fun (x45, σ46) =>
    ck 8 h0 σ46 <|
    (FX8_of h0 x45 2 σ46).bind fun (x48, σ49) =>
    (sI x43 v2 x48 σ49).bind fun σ50 =>
    ck 8 h0 σ50 <|
    (FX8_pointsTo h0 v2 y1 σ50).bind fun (x52, σ53) =>
    FX8_trades_93 h0 y1 n x52 (v4 ||| (1 <<< (v2 &&& 31))) σ53 kx137) else (
    kx137 v4 σ42))
def FX8_trades_47 (h0 : Nat) : Nat → Int32 → Mm → (Mm → Option (Mm)) → Option (Mm)
  | 0, _, _, _ => none
  | n+1, v1, σ, kx147 =>
    (if v1 = 0 then (
    kx147 σ) else (
    FX8_trades_53 h0 v1 fu 0 σ (fun (x35 : Int32) (σ : Mm) => (
    FX8_trades_69 h0 v1 fu x35 0 σ (fun (x40 : Int32) (σ : Mm) => (
    FX8_trades_93 h0 v1 fu x40 0 σ (fun (x55 : Int32) (σ : Mm) => (
    FX8_trades_47 h0 n (v1 &&& (x55 ^^^ (-1))) σ kx147))))))))
def FX8_trades (h0 : Nat) (σ : Mm) : Option (Mm) :=
FX8_trades_4 h0 fu 0 0 σ (fun (x31 : Int32) (σ : Mm) => (
FX8_trades_47 h0 fu x31 σ (fun  (σ : Mm) => (
some σ))))
def FX8_core (h0 : Nat) (x1 : Int32) (σ : Mm) : Option (Int32 × Mm) :=
ck 8 h0 σ <|
(FX8_isPerson h0 x1 σ).bind fun (x22, σ23) =>
jn (fun (z24 : Int32) (σ : Mm) => (
(pI 8 0 (some h0) z24 σ).bind fun σ25 =>
(gI 8 0 (some h0) σ25).bind fun x26 =>
(if x26 ≤ 0 then (
ck 8 h0 σ25 <|
(FX8_trades h0 σ25).bind fun σ28 =>
(gR 8 23 (some h0) σ28).bind fun x29 =>
(aI 100 x29 x1 σ28).bind fun x30 =>
some (x30, σ28)) else (
some (0, σ25))))) fun J14 =>
(if x22 = 0 then (
J14 1 σ23) else (
J14 0 σ23))
def FX8_gains_13 (h0 : Nat) : Nat → Int32 → Int32 → Mm → (Int32 → Mm → Option (Int32 × Mm)) → Option (Int32 × Mm)
  | 0, _, _, _, _ => none
  | n+1, v1, v2, σ, kx52 =>
    (gR 8 1 (some h0) σ).bind fun x24 =>
    (aI 100 x24 3 σ).bind fun x25 =>
    (if x25 ≤ v2 then (
    kx52 v1 σ) else (
    (gR 8 23 (some h0) σ).bind fun x26 =>
    (aI 100 x26 v2 σ).bind fun x27 =>
    ck 8 h0 σ <|
    (FX8_of h0 v2 2 σ).bind fun (x29, σ30) =>
    jn (fun (z31 : Int32) (σ : Mm) => (
    FX8_gains_13 h0 n (v1 + z31) (v2 + 1) σ kx52)) fun J44 =>
    (if x27 = x29 then (
    J44 0 σ30) else (
    J44 1 σ30))))
def FX8_gains (h0 : Nat) (σ : Mm) : Option (Int32 × Mm) :=
(pI 8 0 (some h0) 0 σ).bind fun σ21 =>
ck 8 h0 σ21 <|
(FX8_trades h0 σ21).bind fun σ23 =>
FX8_gains_13 h0 fu 0 0 σ23 (fun (x34 : Int32) (σ : Mm) => (
some (x34, σ)))
def FX8_hasDearer_2 (h0 : Nat) (y1 : Int32) (y2 : Int32) : Nat → Int32 → Mm → (Mm → Option (Int32 × Mm)) → (Mm → Option (Int32 × Mm)) → Option (Int32 × Mm)
  | 0, _, _, _, _ => none
  | n+1, v3, σ, kx53, kx45 =>
    (gR 8 1 (some h0) σ).bind fun x21 =>
    (aI 100 x21 3 σ).bind fun x22 =>
    (if x22 ≤ v3 then (
    kx53 σ) else (
    (FX8_isOf y2 v3 σ).bind fun (x23, σ24) =>
    (if x23 = 0 then (
    FX8_hasDearer_2 h0 y1 y2 n (v3 + 1) σ24 kx53 kx45) else (
    ck 8 h0 σ24 <|
    (FX8_of h0 v3 2 σ24).bind fun (x26, σ27) =>
    ck 8 h0 σ27 <|
    (FX8_dear h0 y1 x26 σ27).bind fun (x29, σ30) =>
    ck 8 h0 σ30 <|
    (FX8_of h0 y1 2 σ30).bind fun (x32, σ33) =>
    ck 8 h0 σ33 <|
    (FX8_dear h0 y1 x32 σ33).bind fun (x35, σ36) =>
    (if x35 ≤ x29 then (
    FX8_hasDearer_2 h0 y1 y2 n (v3 + 1) σ36 kx53 kx45) else (
    kx45 σ36))))))
def FX8_hasDearer (h0 : Nat) (x1 : Int32) (x2 : Int32) (σ : Mm) : Option (Int32 × Mm) :=
FX8_hasDearer_2 h0 x1 x2 fu 0 σ (fun  (σ : Mm) => (
rZ 0 σ)) (fun  (σ : Mm) => (
rZ 1 σ))
def FX8_block_18 (h0 : Nat) (y2 : Int32) : Nat → Int32 → Int32 → Mm → (Int32 → Mm → Option (Int32 × Mm)) → Option (Int32 × Mm)
  | 0, _, _, _, _ => none
  | n+1, v3, v4, σ, kx65 =>
    (gR 8 1 (some h0) σ).bind fun x23 =>
    (aI 100 x23 3 σ).bind fun x24 =>
    (if x24 ≤ v4 then (
    kx65 v3 σ) else (
    jn (fun (z25 : Int32) (σ : Mm) => (
    FX8_block_18 h0 y2 n z25 (v4 + 1) σ kx65)) fun J58 =>
    (if v3 = 0 then (
    J58 0 σ) else (
    (FX8_isOf y2 v4 σ).bind fun (x26, σ27) =>
    (if x26 = 0 then (
    J58 1 σ27) else (
    ck 8 h0 σ27 <|
    (FX8_of h0 v4 2 σ27).bind fun (x29, σ30) =>
    (if x29 = (-1) then (
    J58 0 σ30) else (
    J58 1 σ30))))))))
def FX8_block_101 (h0 : Nat) : Nat → Int32 → Int32 → Int32 → Mm → (Int32 → Int32 → Mm → Option (Int32 × Mm)) → Option (Int32 × Mm)
  | 0, _, _, _, _, _ => none
  | n+1, v2, v4, v5, σ, kx152 =>
    (gR 8 1 (some h0) σ).bind fun x39 =>
    (aI 100 x39 3 σ).bind fun x40 =>
    (if x40 ≤ v5 then (
    kx152 v2 v4 σ) else (
    (FX8_isOf v2 v5 σ).bind fun (x41, σ42) =>
    (if x41 = 0 then (
    FX8_block_101 h0 n v2 v4 (v5 + 1) σ42 kx152) else (
    ck 8 h0 σ42 <|
    (FX8_hasDearer h0 v5 v2 σ42).bind fun (x44, σ45) =>
    (if x44 = 0 then (
    FX8_block_101 h0 n (v2 &&& ((1 <<< (v5 &&& 31)) ^^^ (-1))) 1 (v5 + 1) σ45 kx152) else (
    FX8_block_101 h0 n v2 v4 (v5 + 1) σ45 kx152))))))
def FX8_block_90 (h0 : Nat) : Nat → Int32 → Int32 → Mm → (Int32 → Mm → Option (Int32 × Mm)) → Option (Int32 × Mm)
  | 0, _, _, _, _ => none
  | n+1, v2, v4, σ, kx155 =>
    (if v4 = 0 then (
    kx155 v2 σ) else (
    FX8_block_101 h0 fu v2 0 0 σ (fun (x49 : Int32) (x50 : Int32) (σ : Mm) => (
    FX8_block_90 h0 n x49 x50 σ kx155))))
def FX8_block (h0 : Nat) (x1 : Int32) (σ : Mm) : Option (Int32 × Mm) :=
(gR 8 1 (some h0) σ).bind fun x21 =>
(aI 100 x21 3 σ).bind fun x22 =>
FX8_block_18 h0 (x1 &&& ((1 <<< (x22 &&& 31)) - 1)) fu 1 0 σ (fun (x35 : Int32) (σ : Mm) => (
jn (fun (z36 : Int32) (σ : Mm) => (
(pI 8 0 (some h0) z36 σ).bind fun σ37 =>
(gI 8 0 (some h0) σ37).bind fun x38 =>
(if x38 ≤ 0 then (
FX8_block_90 h0 fu (x1 &&& ((1 <<< (x22 &&& 31)) - 1)) 1 σ37 (fun (x52 : Int32) (σ : Mm) => (
(if x52 = 0 then (
rZ 0 σ) else (
rZ 1 σ))))) else (
rZ 0 σ37)))) fun J75 =>
(if x35 = 0 then (
J75 1 σ) else (
J75 0 σ))))
def FX8_hears_30 (h0 : Nat) (y1 : Int32) : Nat → Int32 → Int32 → Mm → (Int32 → Mm → Option (Int32 × Mm)) → Option (Int32 × Mm)
  | 0, _, _, _, _ => none
  | n+1, v2, v3, σ, kx91 =>
    (if y1 ≤ v3 then (
    kx91 v2 σ) else (
    (if v2 = 0 then (
    kx91 v2 σ) else (
    (rm_ v3 3).bind fun x25 =>
    jn (fun (z26 : Int32) (σ : Mm) => (
    FX8_hears_30 h0 y1 n z26 (v3 + 1) σ kx91)) fun J84 =>
    (if 2 ≤ x25 then (
    (gR 8 7 (some h0) σ).bind fun x27 =>
    (aI 100 x27 v3 σ).bind fun x28 =>
    (if 2 ≤ x28 then (
    J84 0 σ) else (
    J84 1 σ))) else (
    (gR 8 7 (some h0) σ).bind fun x30 =>
    (aI 100 x30 v3 σ).bind fun x31 =>
    (gR 8 1 (some h0) σ).bind fun x32 =>
    (aI 100 x32 3 σ).bind fun x33 =>
    (if x33 ≤ x31 then (
    J84 0 σ) else (
    J84 1 σ))))))))
def FX8_hears_93 (h0 : Nat) (y1 : Int32) (y2 : Int32) : Nat → Int32 → Mm → (Mm → Option (Int32 × Mm)) → Option (Int32 × Mm)
  | 0, _, _, _ => none
  | n+1, v3, σ, kx120 =>
    (if y1 ≤ v3 then (
    kx120 σ) else (
    (if y2 = 0 then (
    kx120 σ) else (
    (gR 8 19 (some h0) σ).bind fun x39 =>
    (gR 8 7 (some h0) σ).bind fun x40 =>
    (aI 100 x40 v3 σ).bind fun x41 =>
    (sI x39 v3 x41 σ).bind fun σ42 =>
    FX8_hears_93 h0 y1 y2 n (v3 + 1) σ42 kx120))))
def FX8_hears (h0 : Nat) (σ : Mm) : Option (Int32 × Mm) :=
(gI 8 8 (some h0) σ).bind fun x21 =>
(pI 8 8 (some h0) 0 σ).bind fun σ22 =>
(rm_ x21 3).bind fun x23 =>
jn (fun (z24 : Int32) (σ : Mm) => (
FX8_hears_30 h0 x21 fu z24 0 σ (fun (x38 : Int32) (σ : Mm) => (
FX8_hears_93 h0 x21 x38 fu 0 σ (fun  (σ : Mm) => (
(dv x21 3).bind fun x45 =>
(pI 8 20 (some h0) x45 σ).bind fun σ46 =>
rZ x38 σ46)))))) fun J27 =>
(if x23 = 0 then (
(if 36 < x21 then (
J27 0 σ22) else (
J27 1 σ22))) else (
J27 0 σ22))
def FX8_counts_36 (h0 : Nat) (y1 : Int32) (y2 : Int32) (y3 : Int32) : Nat → Int32 → Int32 → Mm → (Int32 → Mm → Option (Int32 × Mm)) → Option (Int32 × Mm)
  | 0, _, _, _, _ => none
  | n+1, v4, v5, σ, kx89 =>
    (if y1 ≤ v5 then (
    kx89 v4 σ) else (
    (FX8_isOf y2 v5 σ).bind fun (x27, σ28) =>
    (if x27 = 0 then (
    FX8_counts_36 h0 y1 y2 y3 n v4 (v5 + 1) σ28 kx89) else (
    (gR 8 21 (some h0) σ28).bind fun x29 =>
    (aI 100 x29 y3 σ28).bind fun x30 =>
    (FX8_isOf x30 v5 σ28).bind fun (x31, σ32) =>
    (if x31 = 0 then (
    FX8_counts_36 h0 y1 y2 y3 n v4 (v5 + 1) σ32 kx89) else (
    (gR 8 22 (some h0) σ32).bind fun x33 =>
    (aI 100 x33 (y2 &&& ((1 <<< (v5 &&& 31)) ^^^ (-1))) σ32).bind fun x34 =>
    FX8_counts_36 h0 y1 y2 y3 n (v4 + x34) (v5 + 1) σ32 kx89))))))
def FX8_counts_16 (h0 : Nat) (y1 : Int32) : Nat → Int32 → Mm → (Mm → Option (Int32 × Mm)) → Option (Int32 × Mm)
  | 0, _, _, _ => none
  | n+1, v2, σ, kx103 =>
    (if (1 <<< (y1 &&& 31)) ≤ v2 then (
    kx103 σ) else (
    (FX8_bits v2 σ).bind fun (x25, σ26) =>
    FX8_counts_36 h0 y1 v2 (x25 - 1) fu 0 0 σ26 (fun (x38 : Int32) (σ : Mm) => (
    (gR 8 22 (some h0) σ).bind fun x39 =>
    (sI x39 v2 x38 σ).bind fun σ40 =>
    FX8_counts_16 h0 y1 n (v2 + 1) σ40 kx103))))
def FX8_counts (h0 : Nat) (σ : Mm) : Option (Int32 × Mm) :=
(gR 8 1 (some h0) σ).bind fun x21 =>
(aI 100 x21 3 σ).bind fun x22 =>
(gR 8 22 (some h0) σ).bind fun x23 =>
(sI x23 0 1 σ).bind fun σ24 =>
FX8_counts_16 h0 x22 fu 1 σ24 (fun  (σ : Mm) => (
(gR 8 22 (some h0) σ).bind fun x42 =>
(aI 100 x42 ((1 <<< (x22 &&& 31)) - 1) σ).bind fun x43 =>
some (x43, σ)))
def FX8_owned_9 (h0 : Nat) (y1 : Int32) (y2 : Int32) : Nat → Int32 → Mm → (Mm → Option (Int32 × Mm)) → Option (Int32 × Mm)
  | 0, _, _, _ => none
  | n+1, v3, σ, kx31 =>
    (if y2 ≤ v3 then (
    kx31 σ) else (
    (gR 8 21 (some h0) σ).bind fun x23 =>
    (sI x23 v3 ((1 <<< (y2 &&& 31)) - 1) σ).bind fun σ24 =>
    FX8_owned_9 h0 y1 y2 n (v3 + 1) σ24 kx31))
def FX8_owned_33 (h0 : Nat) (y1 : Int32) : Nat → Int32 → Mm → (Mm → Option (Int32 × Mm)) → Option (Int32 × Mm)
  | 0, _, _, _ => none
  | n+1, v3, σ, kx111 =>
    (gI 8 20 (some h0) σ).bind fun x26 =>
    (if x26 ≤ v3 then (
    kx111 σ) else (
    (FX8_isOf y1 v3 σ).bind fun (x27, σ28) =>
    (if x27 = 0 then (
    FX8_owned_33 h0 y1 n (v3 + 1) σ28 kx111) else (
    (gR 8 19 (some h0) σ28).bind fun x29 =>
    (aI 100 x29 ((3 * v3) + 1) σ28).bind fun x30 =>
    (gR 8 21 (some h0) σ28).bind fun x31 =>
    (gR 8 19 (some h0) σ28).bind fun x32 =>
    (aI 100 x32 (3 * v3) σ28).bind fun x33 =>
    (aI 100 x31 x33 σ28).bind fun x34 =>
    (gR 8 19 (some h0) σ28).bind fun x35 =>
    (aI 100 x35 ((3 * v3) + 2) σ28).bind fun x36 =>
    jn (fun (z37 : Int32) (σ : Mm) => (
    (sI x31 x33 (x34 &&& z37) σ).bind fun σ38 =>
    FX8_owned_33 h0 y1 n (v3 + 1) σ38 kx111)) fun J103 =>
    (if x36 = 1 then (
    J103 (1 <<< (x30 &&& 31)) σ28) else (
    J103 ((1 <<< (x30 &&& 31)) ^^^ (-1)) σ28))))))
def FX8_owned (h0 : Nat) (x1 : Int32) (σ : Mm) : Option (Int32 × Mm) :=
(gR 8 1 (some h0) σ).bind fun x21 =>
(aI 100 x21 3 σ).bind fun x22 =>
FX8_owned_9 h0 x1 x22 fu 0 σ (fun  (σ : Mm) => (
FX8_owned_33 h0 x1 fu 0 σ (fun  (σ : Mm) => (
ck 8 h0 σ <|
(FX8_counts h0 σ).bind fun (x43, σ44) =>
some (x43, σ44)))))
def FX8_waysOf (h0 : Nat) (x1 : Int32) (x2 : Int32) (σ : Mm) : Option (Int32 × Mm) :=
ck 8 h0 σ <|
(FX8_owned h0 4095 σ).bind fun (x22, σ23) =>
(gR 8 21 (some h0) σ23).bind fun x24 =>
(aI 100 x24 x1 σ23).bind fun x25 =>
(FX8_isOf x25 x2 σ23).bind fun (x26, σ27) =>
(if x26 = 0 then (
some (0, σ27)) else (
(gR 8 21 (some h0) σ27).bind fun x28 =>
(sI x28 x1 (1 <<< (x2 &&& 31)) σ27).bind fun σ29 =>
ck 8 h0 σ29 <|
(FX8_counts h0 σ29).bind fun (x31, σ32) =>
some (x31, σ32)))
def FX8_fits_62 (h0 : Nat) (y1 : Int32) (y3 : Int32) : Nat → Int32 → Mm → (Mm → Option (Int32 × Mm)) → (Int32 → Mm → Option (Int32 × Mm)) → Option (Int32 × Mm)
  | 0, _, _, _, _ => none
  | n+1, v4, σ, kx97, kx88 =>
    (gR 8 1 (some h0) σ).bind fun x30 =>
    (aI 100 x30 3 σ).bind fun x31 =>
    (if x31 ≤ v4 then (
    kx97 σ) else (
    (if y3 ≤ 0 then (
    kx97 σ) else (
    ck 8 h0 σ <|
    (FX8_waysOf h0 y1 v4 σ).bind fun (x33, σ34) =>
    (if x33 = y3 then (
    kx88 v4 σ34) else (
    FX8_fits_62 h0 y1 y3 n (v4 + 1) σ34 kx97 kx88))))))
def FX8_fits (h0 : Nat) (x1 : Int32) (σ : Mm) : Option (Int32 × Mm) :=
ck 8 h0 σ <|
(FX8_hears h0 σ).bind fun (x22, σ23) =>
jn (fun (z24 : Int32) (σ : Mm) => (
(pI 8 0 (some h0) z24 σ).bind fun σ25 =>
(gI 8 0 (some h0) σ25).bind fun x26 =>
(if x26 ≤ 0 then (
ck 8 h0 σ25 <|
(FX8_owned h0 4095 σ25).bind fun (x28, σ29) =>
(if x1 = (-1) then (
some (x28, σ29)) else (
FX8_fits_62 h0 x1 x28 fu 0 σ29 (fun  (σ : Mm) => (
some ((-1), σ))) (fun (x38 : Int32) (σ : Mm) => (
some (x38, σ)))))) else (
some (0, σ25))))) fun J32 =>
jn (fun  (σ : Mm) => (
(if x22 = 0 then (
J32 2 σ) else (
J32 0 σ)))) fun J23 =>
(if x1 = (-1) then (
J23 σ23) else (
ck 8 h0 σ23 <|
(FX8_isPerson h0 x1 σ23).bind fun (x43, σ44) =>
(if x43 = 0 then (
J32 1 σ44) else (
J23 σ44))))
def FX8_ask_58 (h0 : Nat) (y1 : Int32) (y3 : Int32) : Nat → Int32 → Int32 → Int32 → Mm → (Int32 → Mm → Option (Int32 × Mm)) → Option (Int32 × Mm)
  | 0, _, _, _, _, _ => none
  | n+1, v4, v5, v6, σ, kx121 =>
    (gR 8 1 (some h0) σ).bind fun x33 =>
    (aI 100 x33 3 σ).bind fun x34 =>
    (if x34 ≤ v6 then (
    kx121 v4 σ) else (
    (if y3 ≤ 1 then (
    kx121 v4 σ) else (
    ck 8 h0 σ <|
    (FX8_waysOf h0 y1 v6 σ).bind fun (x36, σ37) =>
    (FX8_greater x36 (y3 - x36) σ37).bind fun (x38, σ39) =>
    (if x38 < v5 then (
    (FX8_greater x36 (y3 - x36) σ39).bind fun (x40, σ41) =>
    FX8_ask_58 h0 y1 y3 n v6 x40 (v6 + 1) σ41 kx121) else (
    FX8_ask_58 h0 y1 y3 n v4 v5 (v6 + 1) σ39 kx121))))))
def FX8_ask (h0 : Nat) (x1 : Int32) (σ : Mm) : Option (Int32 × Mm) :=
ck 8 h0 σ <|
(FX8_hears h0 σ).bind fun (x22, σ23) =>
ck 8 h0 σ23 <|
(FX8_isPerson h0 x1 σ23).bind fun (x25, σ26) =>
jn (fun (z27 : Int32) (σ : Mm) => (
(pI 8 0 (some h0) z27 σ).bind fun σ28 =>
(gI 8 0 (some h0) σ28).bind fun x29 =>
(if x29 ≤ 0 then (
ck 8 h0 σ28 <|
(FX8_owned h0 4095 σ28).bind fun (x31, σ32) =>
FX8_ask_58 h0 x1 x31 fu (-1) 2000000000 0 σ32 (fun (x45 : Int32) (σ : Mm) => (
some (x45, σ)))) else (
some (0, σ28))))) fun J27 =>
(if x25 = 0 then (
J27 1 σ26) else (
(if x22 = 0 then (
J27 2 σ26) else (
J27 0 σ26))))
def FX8_clash_41 (h0 : Nat) : Nat → Int32 → Int32 → Mm → (Int32 → Mm → Option (Int32 × Mm)) → Option (Int32 × Mm)
  | 0, _, _, _, _ => none
  | n+1, v2, v3, σ, kx83 =>
    (gI 8 20 (some h0) σ).bind fun x30 =>
    (if (1 <<< (x30 &&& 31)) ≤ v3 then (
    kx83 v2 σ) else (
    jn (fun  (σ : Mm) => (
    ck 8 h0 σ <|
    (FX8_owned h0 v3 σ).bind fun (x32, σ33) =>
    (if x32 = 0 then (
    FX8_clash_41 h0 n v3 (v3 + 1) σ33 kx83) else (
    FX8_clash_41 h0 n v2 (v3 + 1) σ33 kx83)))) fun J67 =>
    (if v2 = (-1) then (
    J67 σ) else (
    (FX8_bits v3 σ).bind fun (x35, σ36) =>
    (FX8_bits v2 σ36).bind fun (x37, σ38) =>
    (if x37 ≤ x35 then (
    FX8_clash_41 h0 n v2 (v3 + 1) σ38 kx83) else (
    J67 σ38))))))
def FX8_clash (h0 : Nat) (σ : Mm) : Option (Int32 × Mm) :=
ck 8 h0 σ <|
(FX8_hears h0 σ).bind fun (x22, σ23) =>
jn (fun (z24 : Int32) (σ : Mm) => (
(pI 8 0 (some h0) z24 σ).bind fun σ25 =>
(gI 8 0 (some h0) σ25).bind fun x26 =>
(if 0 < x26 then (
some (0, σ25)) else (
ck 8 h0 σ25 <|
(FX8_owned h0 4095 σ25).bind fun (x28, σ29) =>
(if x28 ≤ 0 then (
FX8_clash_41 h0 fu (-1) 0 σ29 (fun (x42 : Int32) (σ : Mm) => (
some (x42, σ)))) else (
some (0, σ29))))))) fun J15 =>
(if x22 = 0 then (
J15 1 σ23) else (
J15 0 σ23))
def FX8_step (h0 : Nat) (x1 : Int32) (x2 : Int32) (σ : Mm) : Option (Int32 × Mm) :=
jn (fun (z21 : Int32) (σ : Mm) => (
ck 8 h0 σ <|
(FX8_of h0 x2 3 σ).bind fun (x23, σ24) =>
(if 0 ≤ (x23 - z21) then (
some (((x23 - z21) + 1), σ24)) else (
some (((-(x23 - z21)) + 1), σ24))))) fun J15 =>
(if x1 = (-1) then (
J15 0 σ) else (
ck 8 h0 σ <|
(FX8_of h0 x1 3 σ).bind fun (x27, σ28) =>
J15 x27 σ28))
def FX8_left (h0 : Nat) (x1 : Int32) (x2 : Int32) (σ : Mm) : Option (Int32 × Mm) :=
(gR 8 24 (some h0) σ).bind fun x21 =>
(aI 100 x21 ((10 * x1) + x2) σ).bind fun x22 =>
some (x22, σ)
def FX8_serves_46 (h0 : Nat) (y1 : Int32) (y2 : Int32) (y3 : Int32) : Nat → Int32 → Int32 → Mm → (Int32 → Mm → Option (Mm)) → Option (Mm)
  | 0, _, _, _, _ => none
  | n+1, v4, v5, σ, kx112 =>
    (gR 8 1 (some h0) σ).bind fun x24 =>
    (aI 100 x24 3 σ).bind fun x25 =>
    (if x25 ≤ v5 then (
    kx112 v4 σ) else (
    (FX8_isOf (y1 &&& (y2 ^^^ (-1))) v5 σ).bind fun (x26, σ27) =>
    (if x26 = 0 then (
    FX8_serves_46 h0 y1 y2 y3 n v4 (v5 + 1) σ27 kx112) else (
    ck 8 h0 σ27 <|
    (FX8_step h0 y3 v5 σ27).bind fun (x29, σ30) =>
    (FX8_bits (y1 &&& (y2 ^^^ (-1))) σ30).bind fun (x31, σ32) =>
    ck 8 h0 σ32 <|
    (FX8_left h0 (y2 ||| (1 <<< (v5 &&& 31))) v5 σ32).bind fun (x34, σ35) =>
    (FX8_lesser v4 ((x29 * x31) + x34) σ35).bind fun (x36, σ37) =>
    FX8_serves_46 h0 y1 y2 y3 n x36 (v5 + 1) σ37 kx112))))
def FX8_serves_19 (h0 : Nat) (y1 : Int32) (y2 : Int32) : Nat → Int32 → Mm → (Mm → Option (Mm)) → Option (Mm)
  | 0, _, _, _ => none
  | n+1, v3, σ, kx131 =>
    (gR 8 1 (some h0) σ).bind fun x21 =>
    (aI 100 x21 3 σ).bind fun x22 =>
    (if x22 ≤ v3 then (
    kx131 σ) else (
    jn (fun (z23 : Int32) (σ : Mm) => (
    FX8_serves_46 h0 y1 y2 v3 fu z23 0 σ (fun (x40 : Int32) (σ : Mm) => (
    (gR 8 24 (some h0) σ).bind fun x41 =>
    (sI x41 ((10 * y2) + v3) x40 σ).bind fun σ42 =>
    FX8_serves_19 h0 y1 y2 n (v3 + 1) σ42 kx131)))) fun J41 =>
    (if y2 = y1 then (
    J41 0 σ) else (
    J41 2000000000 σ))))
def FX8_serves_2 (h0 : Nat) (y1 : Int32) : Nat → Int32 → Mm → (Mm → Option (Mm)) → Option (Mm)
  | 0, _, _, _ => none
  | n+1, v2, σ, kx137 =>
    (if v2 ≤ 0 then (
    kx137 σ) else (
    (if (v2 &&& (y1 ^^^ (-1))) = 0 then (
    FX8_serves_19 h0 y1 v2 fu 0 σ (fun  (σ : Mm) => (
    FX8_serves_2 h0 y1 n (v2 + (-1)) σ kx137))) else (
    FX8_serves_2 h0 y1 n (v2 + (-1)) σ kx137))))
def FX8_serves (h0 : Nat) (x1 : Int32) (σ : Mm) : Option (Mm) :=
FX8_serves_2 h0 x1 fu x1 σ (fun  (σ : Mm) => (
some σ))
def FX8_queue_42 (h0 : Nat) (y1 : Int32) (y2 : Int32) (y3 : Int32) (y4 : Int32) (y5 : Int32) (y6 : Int32) : Nat → Int32 → Int32 → Int32 → Mm → (Int32 → Int32 → Mm → Option (Int32 × Mm)) → Option (Int32 × Mm)
  | 0, _, _, _, _, _ => none
  | n+1, v7, v8, v9, σ, kx125 =>
    (gR 8 1 (some h0) σ).bind fun x27 =>
    (aI 100 x27 3 σ).bind fun x28 =>
    (if x28 ≤ v9 then (
    kx125 v7 v8 σ) else (
    (FX8_isOf (y2 &&& (y3 ^^^ (-1))) v9 σ).bind fun (x29, σ30) =>
    (if x29 = 0 then (
    FX8_queue_42 h0 y1 y2 y3 y4 y5 y6 n v7 v8 (v9 + 1) σ30 kx125) else (
    ck 8 h0 σ30 <|
    (FX8_step h0 y4 v9 σ30).bind fun (x32, σ33) =>
    (FX8_bits (y2 &&& (y3 ^^^ (-1))) σ33).bind fun (x34, σ35) =>
    ck 8 h0 σ35 <|
    (FX8_left h0 (y3 ||| (1 <<< (v9 &&& 31))) v9 σ35).bind fun (x37, σ38) =>
    (if ((x32 * x34) + x37) < v8 then (
    FX8_queue_42 h0 y1 y2 y3 y4 y5 y6 n v9 ((x32 * x34) + x37) (v9 + 1) σ38 kx125) else (
    FX8_queue_42 h0 y1 y2 y3 y4 y5 y6 n v7 v8 (v9 + 1) σ38 kx125))))))
def FX8_queue_26 (h0 : Nat) (y1 : Int32) (y2 : Int32) : Nat → Int32 → Int32 → Int32 → Int32 → Mm → (Int32 → Mm → Option (Int32 × Mm)) → (Int32 → Mm → Option (Int32 × Mm)) → Option (Int32 × Mm)
  | 0, _, _, _, _, _, _, _ => none
  | n+1, v3, v4, v5, v6, σ, kx159, kx139 =>
    (if v3 = y2 then (
    kx159 v6 σ) else (
    FX8_queue_42 h0 y1 y2 v3 v4 v5 v6 fu (-1) 2000000000 0 σ (fun (x42 : Int32) (x43 : Int32) (σ : Mm) => (
    jn (fun (x44 : Int32) (σ : Mm) => (
    (if v5 = y1 then (
    kx139 x42 σ) else (
    FX8_queue_26 h0 y1 y2 n (v3 ||| (1 <<< (x42 &&& 31))) x42 (v5 + 1) x44 σ kx159 kx139)))) fun J133 =>
    (if v3 = 0 then (
    J133 x43 σ) else (
    J133 v6 σ))))))
def FX8_queue (h0 : Nat) (x1 : Int32) (σ : Mm) : Option (Int32 × Mm) :=
(pI 8 0 (some h0) 0 σ).bind fun σ21 =>
ck 8 h0 σ21 <|
(FX8_holders h0 σ21).bind fun (x23, σ24) =>
ck 8 h0 σ24 <|
(FX8_serves h0 x23 σ24).bind fun σ26 =>
FX8_queue_26 h0 x1 x23 fu 0 (-1) 0 0 σ26 (fun (x48 : Int32) (σ : Mm) => (
(if x1 = (-1) then (
some (x48, σ)) else (
some ((-1), σ))))) (fun (x50 : Int32) (σ : Mm) => (
some (x50, σ)))
def FX8_marksOf_4 (h0 : Nat) (y1 : Int32) : Nat → Int32 → Int32 → Mm → (Int32 → Mm → Option (Int32 × Mm)) → Option (Int32 × Mm)
  | 0, _, _, _, _ => none
  | n+1, v2, v3, σ, kx41 =>
    (gR 8 1 (some h0) σ).bind fun x21 =>
    (aI 100 x21 3 σ).bind fun x22 =>
    (if x22 ≤ v3 then (
    kx41 v2 σ) else (
    (FX8_isOf y1 v3 σ).bind fun (x23, σ24) =>
    jn (fun (z25 : Int32) (σ : Mm) => (
    FX8_marksOf_4 h0 y1 n (v2 ||| z25) (v3 + 1) σ kx41)) fun J33 =>
    (if x23 = 0 then (
    J33 0 σ24) else (
    ck 8 h0 σ24 <|
    (FX8_of h0 v3 0 σ24).bind fun (x27, σ28) =>
    J33 x27 σ28))))
def FX8_marksOf (h0 : Nat) (x1 : Int32) (σ : Mm) : Option (Int32 × Mm) :=
FX8_marksOf_4 h0 x1 fu 0 0 σ (fun (x31 : Int32) (σ : Mm) => (
some (x31, σ)))
def FX8_forged_33 (h0 : Nat) (y1 : Int32) : Nat → Int32 → Int32 → Mm → (Int32 → Mm → Option (Int32 × Mm)) → Option (Int32 × Mm)
  | 0, _, _, _, _ => none
  | n+1, v2, v3, σ, kx82 =>
    (gR 8 1 (some h0) σ).bind fun x26 =>
    (aI 100 x26 4 σ).bind fun x27 =>
    (if x27 ≤ v3 then (
    kx82 v2 σ) else (
    (gR 8 1 (some h0) σ).bind fun x28 =>
    (aI 100 x28 (272 + v3) σ).bind fun x29 =>
    jn (fun (z30 : Int32) (σ : Mm) => (
    FX8_forged_33 h0 y1 n (v2 ||| z30) (v3 + 1) σ kx82)) fun J74 =>
    (if x29 = (-1) then (
    J74 0 σ) else (
    (gR 8 1 (some h0) σ).bind fun x31 =>
    (aI 100 x31 (272 + v3) σ).bind fun x32 =>
    J74 (1 <<< (x32 &&& 31)) σ))))
def FX8_forged_87 (h0 : Nat) (y1 : Int32) (y2 : Int32) : Nat → Int32 → Int32 → Mm → (Int32 → Mm → Option (Int32 × Mm)) → Option (Int32 × Mm)
  | 0, _, _, _, _ => none
  | n+1, v3, v4, σ, kx144 =>
    (if y2 < v4 then (
    kx144 v3 σ) else (
    (if (v4 &&& (y2 ^^^ (-1))) = 0 then (
    jn (fun  (σ : Mm) => (
    ck 8 h0 σ <|
    (FX8_marksOf h0 v4 σ).bind fun (x37, σ38) =>
    (if (y1 &&& (x37 ^^^ (-1))) = 0 then (
    FX8_forged_87 h0 y1 y2 n v4 (v4 + 1) σ38 kx144) else (
    FX8_forged_87 h0 y1 y2 n v3 (v4 + 1) σ38 kx144)))) fun J122 =>
    (if v3 = (-1) then (
    J122 σ) else (
    (FX8_bits v4 σ).bind fun (x40, σ41) =>
    (FX8_bits v3 σ41).bind fun (x42, σ43) =>
    (if x40 < x42 then (
    J122 σ43) else (
    FX8_forged_87 h0 y1 y2 n v3 (v4 + 1) σ43 kx144))))) else (
    FX8_forged_87 h0 y1 y2 n v3 (v4 + 1) σ kx144))))
def FX8_forged (h0 : Nat) (x1 : Int32) (σ : Mm) : Option (Int32 × Mm) :=
(FX8_isIn x1 0 255 σ).bind fun (x21, σ22) =>
jn (fun (z23 : Int32) (σ : Mm) => (
(pI 8 0 (some h0) z23 σ).bind fun σ24 =>
(gI 8 0 (some h0) σ24).bind fun x25 =>
(if x25 ≤ 0 then (
FX8_forged_33 h0 x1 fu 0 0 σ24 (fun (x35 : Int32) (σ : Mm) => (
FX8_forged_87 h0 x1 x35 fu (-1) 0 σ (fun (x48 : Int32) (σ : Mm) => (
some (x48, σ)))))) else (
some (0, σ24))))) fun J17 =>
(if x21 = 0 then (
J17 1 σ22) else (
J17 0 σ22))
def FX8_none_12 (y0 : Int32) : Nat → Int32 → Int32 → Int32 → Mm → (Int32 → Mm → Option (Int32 × Mm)) → Option (Int32 × Mm)
  | 0, _, _, _, _, _ => none
  | n+1, v1, v2, v3, σ, kx37 =>
    (if y0 < v3 then (
    kx37 v2 σ) else (
    FX8_none_12 y0 n v2 ((v3 - 1) * (v1 + v2)) (v3 + 1) σ kx37))
def FX8_none (x0 : Int32) (σ : Mm) : Option (Int32 × Mm) :=
(if x0 = 0 then (
some (1, σ)) else (
FX8_none_12 x0 fu 1 0 2 σ (fun (x22 : Int32) (σ : Mm) => (
some (x22, σ)))))
def FX8_ways_46 (y1 : Int32) (y2 : Int32) : Nat → Int32 → Int32 → Mm → (Int32 → Mm → Option (Int32 × Mm)) → Option (Int32 × Mm)
  | 0, _, _, _, _ => none
  | n+1, v3, v4, σ, kx70 =>
    (if y1 ≤ v4 then (
    kx70 v3 σ) else (
    (dv (v3 * (y2 - v4)) (v4 + 1)).bind fun x31 =>
    FX8_ways_46 y1 y2 n x31 (v4 + 1) σ kx70))
def FX8_ways (h0 : Nat) (x1 : Int32) (σ : Mm) : Option (Int32 × Mm) :=
(FX8_isIn x1 0 10 σ).bind fun (x21, σ22) =>
jn (fun (z23 : Int32) (σ : Mm) => (
(pI 8 0 (some h0) z23 σ).bind fun σ24 =>
ck 8 h0 σ24 <|
(FX8_holders h0 σ24).bind fun (x26, σ27) =>
(FX8_bits x26 σ27).bind fun (x28, σ29) =>
(gI 8 0 (some h0) σ29).bind fun x30 =>
(if 0 < x30 then (
some (0, σ29)) else (
(if x1 ≤ x28 then (
FX8_ways_46 x1 x28 fu 1 0 σ29 (fun (x33 : Int32) (σ : Mm) => (
(FX8_none (x28 - x1) σ).bind fun (x34, σ35) =>
some ((x33 * x34), σ35)))) else (
some (0, σ29))))))) fun J16 =>
(if x21 = 0 then (
J16 1 σ22) else (
J16 0 σ22))
def FX8_rowFrom_2 (h0 : Nat) (y1 : Int32) : Nat → Int32 → Mm → (Int32 → Mm → Option (Int32 × Mm)) → Option (Int32 × Mm)
  | 0, _, _, _ => none
  | n+1, v2, σ, kx36 =>
    (gR 8 1 (some h0) σ).bind fun x21 =>
    (aI 100 x21 4 σ).bind fun x22 =>
    (if x22 ≤ (y1 + v2) then (
    kx36 v2 σ) else (
    (gR 8 1 (some h0) σ).bind fun x23 =>
    (aI 100 x23 ((272 + y1) + v2) σ).bind fun x24 =>
    (if x24 = (-1) then (
    kx36 v2 σ) else (
    FX8_rowFrom_2 h0 y1 n (v2 + 1) σ kx36))))
def FX8_rowFrom (h0 : Nat) (x1 : Int32) (σ : Mm) : Option (Int32 × Mm) :=
FX8_rowFrom_2 h0 x1 fu 0 σ (fun (x27 : Int32) (σ : Mm) => (
some (x27, σ)))
def FX8_talk_42 (h0 : Nat) : Nat → Int32 → Mm → (Int32 → Mm → Option (Int32 × Mm)) → Option (Int32 × Mm)
  | 0, _, _, _ => none
  | n+1, v2, σ, kx68 =>
    (if v2 ≤ 0 then (
    kx68 v2 σ) else (
    (gR 8 1 (some h0) σ).bind fun x29 =>
    (aI 100 x29 ((272 + v2) - 1) σ).bind fun x30 =>
    (if x30 = (-1) then (
    kx68 v2 σ) else (
    FX8_talk_42 h0 n (v2 + (-1)) σ kx68))))
def FX8_talk_73 (h0 : Nat) (y2 : Int32) : Nat → Int32 → Int32 → Mm → (Int32 → Mm → Option (Int32 × Mm)) → Option (Int32 × Mm)
  | 0, _, _, _, _ => none
  | n+1, v3, v4, σ, kx107 =>
    ck 8 h0 σ <|
    (FX8_rowFrom h0 y2 σ).bind fun (x35, σ36) =>
    (if x35 ≤ v4 then (
    kx107 v3 σ36) else (
    (gR 8 1 (some h0) σ36).bind fun x37 =>
    (aI 100 x37 ((272 + y2) + v4) σ36).bind fun x38 =>
    FX8_talk_73 h0 y2 n (v3 ||| (1 <<< (x38 &&& 31))) (v4 + 1) σ36 kx107))
def FX8_talk (h0 : Nat) (x1 : Int32) (σ : Mm) : Option (Int32 × Mm) :=
ck 8 h0 σ <|
(FX8_isHook h0 x1 σ).bind fun (x22, σ23) =>
jn (fun (z24 : Int32) (σ : Mm) => (
(pI 8 0 (some h0) z24 σ).bind fun σ25 =>
(gI 8 0 (some h0) σ25).bind fun x26 =>
(if 0 < x26 then (
some (0, σ25)) else (
(gR 8 1 (some h0) σ25).bind fun x27 =>
(aI 100 x27 (272 + x1) σ25).bind fun x28 =>
(if x28 = (-1) then (
some (0, σ25)) else (
FX8_talk_42 h0 fu x1 σ25 (fun (x33 : Int32) (σ : Mm) => (
FX8_talk_73 h0 x33 fu 0 0 σ (fun (x40 : Int32) (σ : Mm) => (
some (x40, σ))))))))))) fun J14 =>
(if x22 = 0 then (
J14 1 σ23) else (
J14 0 σ23))
def FX8_row_12 (h0 : Nat) (y1 : Int32) : Nat → Int32 → Int32 → Int32 → Mm → (Int32 → Int32 → Mm → Option (Int32 × Mm)) → Option (Int32 × Mm)
  | 0, _, _, _, _, _ => none
  | n+1, v2, v3, v4, σ, kx52 =>
    (gR 8 1 (some h0) σ).bind fun x22 =>
    (aI 100 x22 4 σ).bind fun x23 =>
    (if x23 ≤ v4 then (
    kx52 v2 v3 σ) else (
    ck 8 h0 σ <|
    (FX8_rowFrom h0 v4 σ).bind fun (x25, σ26) =>
    (if v3 < x25 then (
    ck 8 h0 σ26 <|
    (FX8_rowFrom h0 v4 σ26).bind fun (x28, σ29) =>
    FX8_row_12 h0 y1 n v4 x28 (v4 + 1) σ29 kx52) else (
    FX8_row_12 h0 y1 n v2 v3 (v4 + 1) σ26 kx52))))
def FX8_row (h0 : Nat) (x1 : Int32) (σ : Mm) : Option (Int32 × Mm) :=
(pI 8 0 (some h0) 0 σ).bind fun σ21 =>
FX8_row_12 h0 x1 fu (-1) 0 0 σ21 (fun (x32 : Int32) (x33 : Int32) (σ : Mm) => (
(if x1 = 0 then (
some (x33, σ)) else (
some (x32, σ)))))
def FX8_chain_21 (h0 : Nat) (y1 : Int32) (y2 : Int32) : Nat → Int32 → Mm → (Mm → Option (Int32 × Mm)) → Option (Int32 × Mm)
  | 0, _, _, _ => none
  | n+1, v3, σ, kx40 =>
    (if 10 ≤ v3 then (
    kx40 σ) else (
    (gR 8 25 (some h0) σ).bind fun x26 =>
    (sI x26 v3 (-1) σ).bind fun σ27 =>
    FX8_chain_21 h0 y1 y2 n (v3 + 1) σ27 kx40))
def FX8_chain_72 (h0 : Nat) (y2 : Int32) (y3 : Int32) (y4 : Int32) : Nat → Int32 → Mm → (Mm → Option (Int32 × Mm)) → Option (Int32 × Mm)
  | 0, _, _, _ => none
  | n+1, v5, σ, kx136 =>
    (gR 8 1 (some h0) σ).bind fun x33 =>
    (aI 100 x33 3 σ).bind fun x34 =>
    (if x34 ≤ v5 then (
    kx136 σ) else (
    (gR 8 25 (some h0) σ).bind fun x35 =>
    (aI 100 x35 y4 σ).bind fun x36 =>
    (if x36 = y3 then (
    (gR 8 25 (some h0) σ).bind fun x37 =>
    (aI 100 x37 v5 σ).bind fun x38 =>
    (if x38 = (-1) then (
    ck 8 h0 σ <|
    (FX8_of h0 y4 5 σ).bind fun (x40, σ41) =>
    (FX8_isOf x40 v5 σ41).bind fun (x42, σ43) =>
    (if x42 = 0 then (
    FX8_chain_72 h0 y2 y3 y4 n (v5 + 1) σ43 kx136) else (
    (gR 8 25 (some h0) σ43).bind fun x44 =>
    (sI x44 v5 (y3 + 1) σ43).bind fun σ45 =>
    FX8_chain_72 h0 y2 y3 y4 n (v5 + 1) σ45 kx136))) else (
    FX8_chain_72 h0 y2 y3 y4 n (v5 + 1) σ kx136))) else (
    FX8_chain_72 h0 y2 y3 y4 n (v5 + 1) σ kx136))))
def FX8_chain_58 (h0 : Nat) (y2 : Int32) (y3 : Int32) : Nat → Int32 → Mm → (Mm → Option (Int32 × Mm)) → Option (Int32 × Mm)
  | 0, _, _, _ => none
  | n+1, v4, σ, kx142 =>
    (gR 8 1 (some h0) σ).bind fun x31 =>
    (aI 100 x31 3 σ).bind fun x32 =>
    (if x32 ≤ v4 then (
    kx142 σ) else (
    FX8_chain_72 h0 y2 y3 v4 fu 0 σ (fun  (σ : Mm) => (
    FX8_chain_58 h0 y2 y3 n (v4 + 1) σ kx142))))
def FX8_chain_49 (h0 : Nat) (y2 : Int32) : Nat → Int32 → Mm → (Mm → Option (Int32 × Mm)) → Option (Int32 × Mm)
  | 0, _, _, _ => none
  | n+1, v3, σ, kx148 =>
    (if 10 ≤ v3 then (
    kx148 σ) else (
    FX8_chain_58 h0 y2 v3 fu 0 σ (fun  (σ : Mm) => (
    FX8_chain_49 h0 y2 n (v3 + 1) σ kx148))))
def FX8_chain (h0 : Nat) (x1 : Int32) (x2 : Int32) (σ : Mm) : Option (Int32 × Mm) :=
ck 8 h0 σ <|
(FX8_two h0 x1 x2 σ).bind fun (x22, σ23) =>
(pI 8 0 (some h0) x22 σ23).bind fun σ24 =>
(gI 8 0 (some h0) σ24).bind fun x25 =>
(if x25 ≤ 0 then (
FX8_chain_21 h0 x1 x2 fu 0 σ24 (fun  (σ : Mm) => (
(gR 8 25 (some h0) σ).bind fun x29 =>
(sI x29 x1 0 σ).bind fun σ30 =>
FX8_chain_49 h0 x2 fu 0 σ30 (fun  (σ : Mm) => (
(gR 8 25 (some h0) σ).bind fun x52 =>
(aI 100 x52 x2 σ).bind fun x53 =>
some (x53, σ)))))) else (
some (0, σ24)))
def FX8_hears_2_71 (h0 : Nat) (y1 : Int32) (y2 : Int32) (y3 : Int32) (y4 : Int32) : Nat → Int32 → Mm → (Mm → Option (Int32 × Mm)) → Option (Int32 × Mm)
  | 0, _, _, _ => none
  | n+1, v5, σ, kx131 =>
    (gR 8 1 (some h0) σ).bind fun x31 =>
    (aI 100 x31 3 σ).bind fun x32 =>
    (if x32 ≤ v5 then (
    kx131 σ) else (
    ck 8 h0 σ <|
    (FX8_of h0 y4 5 σ).bind fun (x34, σ35) =>
    (FX8_isOf x34 v5 σ35).bind fun (x36, σ37) =>
    (if x36 = 0 then (
    FX8_hears_2_71 h0 y1 y2 y3 y4 n (v5 + 1) σ37 kx131) else (
    ck 8 h0 σ37 <|
    (FX8_of h0 v5 5 σ37).bind fun (x39, σ40) =>
    (FX8_isOf x39 y4 σ40).bind fun (x41, σ42) =>
    (if x41 = 0 then (
    FX8_hears_2_71 h0 y1 y2 y3 y4 n (v5 + 1) σ42 kx131) else (
    ck 8 h0 σ42 <|
    (FX8_meets h0 y4 v5 σ42).bind fun (x44, σ45) =>
    FX8_hears_2_71 h0 y1 y2 y3 y4 n (v5 + 1) σ45 kx131))))))
def FX8_hears_2_54 (h0 : Nat) (y1 : Int32) (y2 : Int32) (y3 : Int32) : Nat → Int32 → Mm → (Mm → Option (Int32 × Mm)) → Option (Int32 × Mm)
  | 0, _, _, _ => none
  | n+1, v4, σ, kx137 =>
    (gR 8 1 (some h0) σ).bind fun x29 =>
    (aI 100 x29 3 σ).bind fun x30 =>
    (if x30 ≤ v4 then (
    kx137 σ) else (
    FX8_hears_2_71 h0 y1 y2 y3 v4 fu (v4 + 1) σ (fun  (σ : Mm) => (
    FX8_hears_2_54 h0 y1 y2 y3 n (v4 + 1) σ kx137))))
def FX8_hears_2_46 (h0 : Nat) (y1 : Int32) (y2 : Int32) : Nat → Int32 → Mm → (Mm → Option (Int32 × Mm)) → Option (Int32 × Mm)
  | 0, _, _, _ => none
  | n+1, v3, σ, kx143 =>
    (if y2 ≤ v3 then (
    kx143 σ) else (
    FX8_hears_2_54 h0 y1 y2 v3 fu 0 σ (fun  (σ : Mm) => (
    FX8_hears_2_46 h0 y1 y2 n (v3 + 1) σ kx143))))
def FX8_hears_2 (h0 : Nat) (x1 : Int32) (x2 : Int32) (σ : Mm) : Option (Int32 × Mm) :=
ck 8 h0 σ <|
(FX8_isPerson h0 x1 σ).bind fun (x22, σ23) =>
jn (fun (z24 : Int32) (σ : Mm) => (
(pI 8 0 (some h0) z24 σ).bind fun σ25 =>
(gI 8 0 (some h0) σ25).bind fun x26 =>
(if x26 ≤ 0 then (
ck 8 h0 σ25 <|
(FX8_putsAside h0 σ25).bind fun σ28 =>
FX8_hears_2_46 h0 x1 x2 fu 0 σ28 (fun  (σ : Mm) => (
ck 8 h0 σ <|
(FX8_of h0 x1 5 σ).bind fun (x52, σ53) =>
ck 8 h0 σ53 <|
(FX8_comesBack h0 σ53).bind fun σ55 =>
some (x52, σ55)))) else (
some (0, σ25))))) fun J28 =>
(if x22 = 0 then (
J28 1 σ23) else (
(FX8_isIn x2 0 20 σ23).bind fun (x57, σ58) =>
(if x57 = 0 then (
J28 2 σ58) else (
J28 0 σ58))))
def FX8_tries (h0 : Nat) (x1 : Int32) (σ : Mm) : Option (Int32 × Mm) :=
ck 8 h0 σ <|
(FX8_goes h0 x1 σ).bind fun (x22, σ23) =>
ck 8 h0 σ23 <|
(FX8_wrongs h0 σ23).bind fun (x25, σ26) =>
(FX8_bits x25 σ26).bind fun (x27, σ28) =>
ck 8 h0 σ28 <|
(FX8_comesBack h0 σ28).bind fun σ30 =>
some (x27, σ30)
def FX8_trial (h0 : Nat) (x1 : Int32) (σ : Mm) : Option (Int32 × Mm) :=
(FX8_isIn x1 0 30 σ).bind fun (x21, σ22) =>
jn (fun (z23 : Int32) (σ : Mm) => (
(pI 8 0 (some h0) z23 σ).bind fun σ24 =>
(gI 8 0 (some h0) σ24).bind fun x25 =>
(if x25 ≤ 0 then (
ck 8 h0 σ24 <|
(FX8_putsAside h0 σ24).bind fun σ27 =>
ck 8 h0 σ27 <|
(FX8_tries h0 x1 σ27).bind fun (x29, σ30) =>
some (x29, σ30)) else (
some (0, σ24))))) fun J16 =>
(if x21 = 0 then (
J16 1 σ22) else (
J16 0 σ22))
def FX8_span_37 (h0 : Nat) (y1 : Int32) (y2 : Int32) : Nat → Int32 → Int32 → Mm → (Int32 → Mm → Option (Int32 × Mm)) → Option (Int32 × Mm)
  | 0, _, _, _, _ => none
  | n+1, v3, v4, σ, kx96 =>
    (if 6 < v4 then (
    kx96 v3 σ) else (
    (gR 8 1 (some h0) σ).bind fun x28 =>
    (sI x28 9 v4 σ).bind fun σ29 =>
    ck 8 h0 σ29 <|
    (FX8_tries h0 y1 σ29).bind fun (x31, σ32) =>
    jn (fun (z33 : Int32) (σ : Mm) => (
    FX8_span_37 h0 y1 y2 n z33 (v4 + 1) σ kx96)) fun J89 =>
    (if v3 = (-1) then (
    J89 x31 σ32) else (
    (if y2 = 0 then (
    (FX8_lesser v3 x31 σ32).bind fun (x34, σ35) =>
    J89 x34 σ35) else (
    (FX8_greater v3 x31 σ32).bind fun (x36, σ37) =>
    J89 x36 σ37))))))
def FX8_span (h0 : Nat) (x1 : Int32) (x2 : Int32) (σ : Mm) : Option (Int32 × Mm) :=
(FX8_isIn x1 0 30 σ).bind fun (x21, σ22) =>
jn (fun (z23 : Int32) (σ : Mm) => (
(pI 8 0 (some h0) z23 σ).bind fun σ24 =>
(gI 8 0 (some h0) σ24).bind fun x25 =>
(if x25 ≤ 0 then (
ck 8 h0 σ24 <|
(FX8_putsAside h0 σ24).bind fun σ27 =>
FX8_span_37 h0 x1 x2 fu (-1) 1 σ27 (fun (x41 : Int32) (σ : Mm) => (
some (x41, σ)))) else (
some (0, σ24))))) fun J16 =>
(if x21 = 0 then (
J16 1 σ22) else (
J16 0 σ22))
def FX8_logged (h0 : Nat) (x1 : Int32) (x2 : Int32) (σ : Mm) : Option (Int32 × Mm) :=
(gR 8 1 (some h0) σ).bind fun x21 =>
(aI 100 x21 ((284 + (5 * x1)) + x2) σ).bind fun x22 =>
some (x22, σ)
def FX8_led_42 (h0 : Nat) (y1 : Int32) (y2 : Int32) : Nat → Int32 → Int32 → Int32 → Mm → (Int32 → Int32 → Mm → Option (Int32 × Mm)) → Option (Int32 × Mm)
  | 0, _, _, _, _, _ => none
  | n+1, v3, v4, v5, σ, kx94 =>
    (if v5 < 0 then (
    kx94 v3 v4 σ) else (
    ck 8 h0 σ <|
    (FX8_logged h0 v5 3 σ).bind fun (x30, σ31) =>
    (if x30 = y1 then (
    ck 8 h0 σ31 <|
    (FX8_logged h0 v5 4 σ31).bind fun (x33, σ34) =>
    (FX8_isIn x33 1 2 σ34).bind fun (x35, σ36) =>
    (if x35 = 0 then (
    FX8_led_42 h0 y1 y2 n v3 v4 (v5 + (-1)) σ36 kx94) else (
    ck 8 h0 σ36 <|
    (FX8_logged h0 v5 1 σ36).bind fun (x38, σ39) =>
    FX8_led_42 h0 y1 y2 n (v3 + 1) x38 (v5 + (-1)) σ39 kx94))) else (
    FX8_led_42 h0 y1 y2 n v3 v4 (v5 + (-1)) σ31 kx94))))
def FX8_led (h0 : Nat) (x1 : Int32) (x2 : Int32) (σ : Mm) : Option (Int32 × Mm) :=
ck 8 h0 σ <|
(FX8_isPerson h0 x1 σ).bind fun (x22, σ23) =>
jn (fun (z24 : Int32) (σ : Mm) => (
(pI 8 0 (some h0) z24 σ).bind fun σ25 =>
(gI 8 0 (some h0) σ25).bind fun x26 =>
(if x26 ≤ 0 then (
(gR 8 1 (some h0) σ25).bind fun x27 =>
(aI 100 x27 8 σ25).bind fun x28 =>
FX8_led_42 h0 x1 x2 fu 0 (-1) (x28 - 1) σ25 (fun (x43 : Int32) (x44 : Int32) (σ : Mm) => (
(if x2 = 0 then (
some (x43, σ)) else (
some (x44, σ)))))) else (
some (0, σ25))))) fun J14 =>
(if x22 = 0 then (
J14 1 σ23) else (
J14 0 σ23))
def FX8_log (h0 : Nat) (x1 : Int32) (x2 : Int32) (σ : Mm) : Option (Int32 × Mm) :=
(FX8_isIn x2 0 4 σ).bind fun (x21, σ22) =>
jn (fun (z23 : Int32) (σ : Mm) => (
(pI 8 0 (some h0) z23 σ).bind fun σ24 =>
(gI 8 0 (some h0) σ24).bind fun x25 =>
(if x25 ≤ 0 then (
(gR 8 1 (some h0) σ24).bind fun x26 =>
(aI 100 x26 8 σ24).bind fun x27 =>
(FX8_isIn x1 0 (x27 - 1) σ24).bind fun (x28, σ29) =>
(if x28 = 0 then (
some ((-99), σ29)) else (
ck 8 h0 σ29 <|
(FX8_logged h0 x1 x2 σ29).bind fun (x31, σ32) =>
some (x31, σ32)))) else (
some (0, σ24))))) fun J15 =>
(if x21 = 0 then (
J15 1 σ22) else (
J15 0 σ22))
def FX8_seed (h0 : Nat) (x1 : Int32) (σ : Mm) : Option (Int32 × Mm) :=
(pI 8 0 (some h0) 0 σ).bind fun σ21 =>
(gR 8 1 (some h0) σ21).bind fun x22 =>
(aI 100 x22 9 σ21).bind fun x23 =>
(gR 8 1 (some h0) σ21).bind fun x24 =>
(sI x24 9 x1 σ21).bind fun σ25 =>
some (x23, σ25)
def FX8_undo_26 (h0 : Nat) : Nat → Int32 → Mm → (Mm → Option (Int32 × Mm)) → Option (Int32 × Mm)
  | 0, _, _, _ => none
  | n+1, v1, σ, kx60 =>
    (if 584 ≤ v1 then (
    kx60 σ) else (
    (gR 8 1 (some h0) σ).bind fun x25 =>
    (gR 8 5 (some h0) σ).bind fun x26 =>
    (gI 8 6 (some h0) σ).bind fun x27 =>
    (aI 100 x26 ((584 * x27) + v1) σ).bind fun x28 =>
    (sI x25 v1 x28 σ).bind fun σ29 =>
    FX8_undo_26 h0 n (v1 + 1) σ29 kx60))
def FX8_undo (h0 : Nat) (σ : Mm) : Option (Int32 × Mm) :=
(pI 8 0 (some h0) 0 σ).bind fun σ21 =>
(gI 8 6 (some h0) σ21).bind fun x22 =>
(if x22 = 0 then (
rZ 0 σ21) else (
(gI 8 6 (some h0) σ21).bind fun x23 =>
(pI 8 6 (some h0) (x23 - 1) σ21).bind fun σ24 =>
FX8_undo_26 h0 fu 0 σ24 (fun  (σ : Mm) => (
rZ 1 σ))))
def FX8_image_7 (h0 : Nat) : Nat → Int32 → Mm → (Mm → Option (Mm)) → Option (Mm)
  | 0, _, _, _ => none
  | n+1, v1, σ, kx32 =>
    (if 984 ≤ v1 then (
    kx32 σ) else (
    (gR 8 2 (some h0) σ).bind fun x22 =>
    (gR 8 1 (some h0) σ).bind fun x23 =>
    (aI 100 x23 v1 σ).bind fun x24 =>
    (sI x22 v1 x24 σ).bind fun σ25 =>
    FX8_image_7 h0 n (v1 + 1) σ25 kx32))
def FX8_image (h0 : Nat) (σ : Mm) : Option (Mm) :=
(pI 8 0 (some h0) 0 σ).bind fun σ21 =>
FX8_image_7 h0 fu 0 σ21 (fun  (σ : Mm) => (
(pZ 8 3 (some h0) 1 σ).bind fun σ27 =>
some σ27))
def FX8_back_16 (h0 : Nat) : Nat → Int32 → Mm → (Mm → Option (Int32 × Mm)) → Option (Int32 × Mm)
  | 0, _, _, _ => none
  | n+1, v1, σ, kx41 =>
    (if 984 ≤ v1 then (
    kx41 σ) else (
    (gR 8 1 (some h0) σ).bind fun x23 =>
    (gR 8 2 (some h0) σ).bind fun x24 =>
    (aI 100 x24 v1 σ).bind fun x25 =>
    (sI x23 v1 x25 σ).bind fun σ26 =>
    FX8_back_16 h0 n (v1 + 1) σ26 kx41))
def FX8_back (h0 : Nat) (σ : Mm) : Option (Int32 × Mm) :=
(pI 8 0 (some h0) 0 σ).bind fun σ21 =>
(gI 8 3 (some h0) σ21).bind fun x22 =>
(if x22 = 0 then (
rZ 0 σ21) else (
FX8_back_16 h0 fu 0 σ21 (fun  (σ : Mm) => (
(pI 8 6 (some h0) 0 σ).bind fun σ28 =>
rZ 1 σ28))))
def FX8_marksNow_4 (h0 : Nat) : Nat → Int32 → Int32 → Mm → (Int32 → Mm → Option (Int32 × Mm)) → Option (Int32 × Mm)
  | 0, _, _, _, _ => none
  | n+1, v1, v2, σ, kx32 =>
    (gR 8 1 (some h0) σ).bind fun x21 =>
    (aI 100 x21 3 σ).bind fun x22 =>
    (if x22 ≤ v2 then (
    kx32 v1 σ) else (
    ck 8 h0 σ <|
    (FX8_of h0 v2 0 σ).bind fun (x24, σ25) =>
    (FX8_bits x24 σ25).bind fun (x26, σ27) =>
    FX8_marksNow_4 h0 n (v1 + x26) (v2 + 1) σ27 kx32))
def FX8_marksNow (h0 : Nat) (σ : Mm) : Option (Int32 × Mm) :=
FX8_marksNow_4 h0 fu 0 0 σ (fun (x29 : Int32) (σ : Mm) => (
some (x29, σ)))
def FX8_count (h0 : Nat) (x1 : Int32) (σ : Mm) : Option (Int32 × Mm) :=
(pI 8 0 (some h0) 0 σ).bind fun σ21 =>
(if x1 = 0 then (
(gR 8 1 (some h0) σ21).bind fun x53 =>
(aI 100 x53 3 σ21).bind fun x54 =>
some (x54, σ21)) else (
(if x1 = 1 then (
(gR 8 1 (some h0) σ21).bind fun x50 =>
(aI 100 x50 4 σ21).bind fun x51 =>
some (x51, σ21)) else (
(if x1 = 2 then (
ck 8 h0 σ21 <|
(FX8_hung h0 σ21).bind fun (x47, σ48) =>
some (x47, σ48)) else (
(if x1 = 3 then (
(gR 8 1 (some h0) σ21).bind fun x43 =>
(aI 100 x43 0 σ21).bind fun x44 =>
some (x44, σ21)) else (
(if x1 = 4 then (
(gR 8 1 (some h0) σ21).bind fun x40 =>
(aI 100 x40 1 σ21).bind fun x41 =>
some (x41, σ21)) else (
(FX8_isIn x1 5 7 σ21).bind fun (x22, σ23) =>
(if x22 = 0 then (
(if x1 = 8 then (
ck 8 h0 σ23 <|
(FX8_holders h0 σ23).bind fun (x34, σ35) =>
some (x34, σ35)) else (
(if x1 = 9 then (
ck 8 h0 σ23 <|
(FX8_marksNow h0 σ23).bind fun (x30, σ31) =>
some (x30, σ31)) else (
(if x1 = 10 then (
(gR 8 1 (some h0) σ23).bind fun x26 =>
(aI 100 x26 8 σ23).bind fun x27 =>
some (x27, σ23)) else (
(if x1 = 11 then (
(gI 8 6 (some h0) σ23).bind fun x24 =>
some (x24, σ23)) else (
some ((-1), σ23)))))))))) else (
(gR 8 1 (some h0) σ23).bind fun x37 =>
(aI 100 x37 ((5 + x1) - 5) σ23).bind fun x38 =>
some (x38, σ23)))))))))))))
def FX0_door (x0 : Option Nat) (x1 : Option Nat) (σ : Mm) : DX (Int32 × Mm) :=
(rv 1 x0 σ).bind fun q21 =>
dt (FX1_door q21 σ) (fun (x24, σ23) => (
(sL x1 0 x24 σ23).bind fun σ25 =>
rt (0, σ25))) (fun k26 σ27 =>
(if k26 = 3 then (
rt (1, σ27)) else (if k26 = 6 then (
rt (2, σ27)) else none)))
def FX0_law (x0 : Option Nat) (x1 : Option Nat) (σ : Mm) : DX (Int32 × Mm) :=
(rv 1 x0 σ).bind fun q21 =>
dt (FX1_law q21 σ) (fun (x24, σ23) => (
(sL x1 0 x24 σ23).bind fun σ25 =>
rt (0, σ25))) (fun k26 σ27 =>
(if k26 = 3 then (
rt (1, σ27)) else none))
def FX0_person (x0 : Option Nat) (x1 : Int32) (x2 : Int32) (x3 : Option Nat) (σ : Mm) : DX (Int32 × Mm) :=
(rv 1 x0 σ).bind fun q21 =>
dt (FX1_person q21 x1 x2 σ) (fun (x24, σ23) => (
(sL x3 0 x24 σ23).bind fun σ25 =>
rt (0, σ25))) (fun k26 σ27 =>
(if k26 = 2 then (
rt (1, σ27)) else (if k26 = 5 then (
rt (2, σ27)) else none)))
def FX0_face (x0 : Option Nat) (x1 : Int32) (x2 : Int32) (x3 : Option Nat) (σ : Mm) : DX (Int32 × Mm) :=
(rv 1 x0 σ).bind fun q21 =>
dt (FX1_face q21 x1 x2 σ) (fun (x24, σ23) => (
(sL x3 0 x24 σ23).bind fun σ25 =>
rt (0, σ25))) (fun k26 σ27 =>
(if k26 = 2 then (
rt (1, σ27)) else (if k26 = 5 then (
rt (2, σ27)) else none)))
def FX0_hook (x0 : Option Nat) (x1 : Int32) (x2 : Option Nat) (σ : Mm) : DX (Int32 × Mm) :=
(rv 1 x0 σ).bind fun q21 =>
dt (FX1_hook q21 x1 σ) (fun (x24, σ23) => (
(sL x2 0 x24 σ23).bind fun σ25 =>
rt (0, σ25))) (fun k26 σ27 =>
(if k26 = 2 then (
rt (1, σ27)) else none))
def FX0_wish (x0 : Option Nat) (x1 : Int32) (x2 : Int32) (x3 : Option Nat) (σ : Mm) : DX (Int32 × Mm) :=
(rv 1 x0 σ).bind fun q21 =>
dt (FX1_wish q21 x1 x2 σ) (fun (x24, σ23) => (
(sL x3 0 x24 σ23).bind fun σ25 =>
rt (0, σ25))) (fun k26 σ27 =>
(if k26 = 2 then (
rt (1, σ27)) else none))
def FX0_thinks (x0 : Option Nat) (x1 : Int32) (x2 : Int32) (x3 : Option Nat) (σ : Mm) : DX (Int32 × Mm) :=
(rv 1 x0 σ).bind fun q21 =>
dt (FX1_thinks q21 x1 x2 σ) (fun (x24, σ23) => (
(sL x3 0 x24 σ23).bind fun σ25 =>
rt (0, σ25))) (fun k26 σ27 =>
(if k26 = 2 then (
rt (1, σ27)) else (if k26 = 3 then (
rt (2, σ27)) else none)))
def FX0_hand (x0 : Option Nat) (x1 : Int32) (x2 : Int32) (x3 : Option Nat) (σ : Mm) : DX (Int32 × Mm) :=
(rv 1 x0 σ).bind fun q21 =>
dt (FX1_hand q21 x1 x2 σ) (fun (x24, σ23) => (
(sL x3 0 x24 σ23).bind fun σ25 =>
rt (0, σ25))) (fun k26 σ27 =>
(if k26 = 2 then (
rt (1, σ27)) else (if k26 = 4 then (
rt (2, σ27)) else none)))
def FX0_fetch (x0 : Option Nat) (x1 : Int32) (x2 : Option Nat) (σ : Mm) : DX (Int32 × Mm) :=
(rv 1 x0 σ).bind fun q21 =>
dt (FX1_fetch q21 x1 σ) (fun (x24, σ23) => (
(sL x2 0 x24 σ23).bind fun σ25 =>
rt (0, σ25))) (fun k26 σ27 =>
(if k26 = 2 then (
rt (1, σ27)) else (if k26 = 4 then (
rt (2, σ27)) else none)))
def FX0_mix (x0 : Option Nat) (x1 : Int32) (x2 : Int32) (x3 : Option Nat) (σ : Mm) : DX (Int32 × Mm) :=
(rv 1 x0 σ).bind fun q21 =>
dt (FX1_mix q21 x1 x2 σ) (fun (x24, σ23) => (
(sL x3 0 x24 σ23).bind fun σ25 =>
rt (0, σ25))) (fun k26 σ27 =>
(if k26 = 2 then (
rt (1, σ27)) else (if k26 = 3 then (
rt (2, σ27)) else (if k26 = 4 then (
rt (3, σ27)) else none))))
def FX0_steal (x0 : Option Nat) (x1 : Int32) (x2 : Int32) (x3 : Option Nat) (σ : Mm) : DX (Int32 × Mm) :=
(rv 1 x0 σ).bind fun q21 =>
dt (FX1_steal q21 x1 x2 σ) (fun (x24, σ23) => (
(sL x3 0 x24 σ23).bind fun σ25 =>
rt (0, σ25))) (fun k26 σ27 =>
(if k26 = 2 then (
rt (1, σ27)) else (if k26 = 4 then (
rt (2, σ27)) else none)))
def FX0_change (x0 : Option Nat) (x1 : Int32) (x2 : Int32) (x3 : Option Nat) (σ : Mm) : DX (Int32 × Mm) :=
(rv 1 x0 σ).bind fun q21 =>
dt (FX1_change q21 x1 x2 σ) (fun (x24, σ23) => (
(sL x3 0 x24 σ23).bind fun σ25 =>
rt (0, σ25))) (fun k26 σ27 =>
(if k26 = 2 then (
rt (1, σ27)) else (if k26 = 3 then (
rt (2, σ27)) else (if k26 = 4 then (
rt (3, σ27)) else none))))
def FX0_shave (x0 : Option Nat) (x1 : Int32) (x2 : Int32) (x3 : Option Nat) (σ : Mm) : DX (Int32 × Mm) :=
(rv 1 x0 σ).bind fun q21 =>
dt (FX1_shave q21 x1 x2 σ) (fun (x24, σ23) => (
(sL x3 0 x24 σ23).bind fun σ25 =>
rt (0, σ25))) (fun k26 σ27 =>
(if k26 = 2 then (
rt (1, σ27)) else (if k26 = 4 then (
rt (2, σ27)) else none)))
def FX0_graft (x0 : Option Nat) (x1 : Int32) (x2 : Int32) (x3 : Int32) (x4 : Option Nat) (σ : Mm) : DX (Int32 × Mm) :=
(rv 1 x0 σ).bind fun q21 =>
dt (FX1_graft q21 x1 x2 x3 σ) (fun (x24, σ23) => (
(sL x4 0 x24 σ23).bind fun σ25 =>
rt (0, σ25))) (fun k26 σ27 =>
(if k26 = 2 then (
rt (1, σ27)) else (if k26 = 3 then (
rt (2, σ27)) else (if k26 = 4 then (
rt (3, σ27)) else none))))
def FX0_meet (x0 : Option Nat) (x1 : Int32) (x2 : Int32) (x3 : Option Nat) (σ : Mm) : DX (Int32 × Mm) :=
(rv 1 x0 σ).bind fun q21 =>
dt (FX1_meet q21 x1 x2 σ) (fun (x24, σ23) => (
(sL x3 0 x24 σ23).bind fun σ25 =>
rt (0, σ25))) (fun k26 σ27 =>
(if k26 = 2 then (
rt (1, σ27)) else (if k26 = 3 then (
rt (2, σ27)) else none)))
def FX0_hours (x0 : Option Nat) (x1 : Int32) (x2 : Option Nat) (σ : Mm) : DX (Int32 × Mm) :=
(rv 1 x0 σ).bind fun q21 =>
dt (FX1_hours q21 x1 σ) (fun (x24, σ23) => (
(sL x2 0 x24 σ23).bind fun σ25 =>
rt (0, σ25))) (fun k26 σ27 =>
(if k26 = 3 then (
rt (1, σ27)) else none))
def FX0_passes (x0 : Option Nat) (x1 : Int32) (x2 : Int32) (x3 : Option Nat) (σ : Mm) : DX (Int32 × Mm) :=
(rv 1 x0 σ).bind fun q21 =>
dt (FX1_passes q21 x1 x2 σ) (fun (x24, σ23) => (
(sL x3 0 x24 σ23).bind fun σ25 =>
rt (0, σ25))) (fun k26 σ27 =>
(if k26 = 3 then (
rt (1, σ27)) else none))
def FX0_core (x0 : Option Nat) (x1 : Int32) (x2 : Option Nat) (σ : Mm) : DX (Int32 × Mm) :=
(rv 1 x0 σ).bind fun q21 =>
dt (FX1_core q21 x1 σ) (fun (x24, σ23) => (
(sL x2 0 x24 σ23).bind fun σ25 =>
rt (0, σ25))) (fun k26 σ27 =>
(if k26 = 2 then (
rt (1, σ27)) else none))
def FX0_block (x0 : Option Nat) (x1 : Int32) (x2 : Option Nat) (σ : Mm) : DX (Int32 × Mm) :=
(rv 1 x0 σ).bind fun q21 =>
dt (FX1_block q21 x1 σ) (fun (x24, σ23) => (
jn (fun (z25 : Int32) (σ : Mm) => (
(sL x2 0 z25 σ).bind fun σ26 =>
rt (0, σ26))) fun J15 =>
(if x24 = 0 then (
J15 0 σ23) else (
J15 1 σ23)))) (fun k28 σ29 =>
(if k28 = 4 then (
rt (1, σ29)) else none))
def FX0_fits (x0 : Option Nat) (x1 : Int32) (x2 : Option Nat) (σ : Mm) : DX (Int32 × Mm) :=
(rv 1 x0 σ).bind fun q21 =>
dt (FX1_fits q21 x1 σ) (fun (x24, σ23) => (
(sL x2 0 x24 σ23).bind fun σ25 =>
rt (0, σ25))) (fun k26 σ27 =>
(if k26 = 2 then (
rt (1, σ27)) else (if k26 = 3 then (
rt (2, σ27)) else none)))
def FX0_ask (x0 : Option Nat) (x1 : Int32) (x2 : Option Nat) (σ : Mm) : DX (Int32 × Mm) :=
(rv 1 x0 σ).bind fun q21 =>
dt (FX1_ask q21 x1 σ) (fun (x24, σ23) => (
(sL x2 0 x24 σ23).bind fun σ25 =>
rt (0, σ25))) (fun k26 σ27 =>
(if k26 = 2 then (
rt (1, σ27)) else (if k26 = 3 then (
rt (2, σ27)) else none)))
def FX0_clash (x0 : Option Nat) (x1 : Option Nat) (σ : Mm) : DX (Int32 × Mm) :=
(rv 1 x0 σ).bind fun q21 =>
dt (FX1_clash q21 σ) (fun (x24, σ23) => (
(sL x1 0 x24 σ23).bind fun σ25 =>
rt (0, σ25))) (fun k26 σ27 =>
(if k26 = 3 then (
rt (1, σ27)) else none))
def FX0_forged (x0 : Option Nat) (x1 : Int32) (x2 : Option Nat) (σ : Mm) : DX (Int32 × Mm) :=
(rv 1 x0 σ).bind fun q21 =>
dt (FX1_forged q21 x1 σ) (fun (x24, σ23) => (
(sL x2 0 x24 σ23).bind fun σ25 =>
rt (0, σ25))) (fun k26 σ27 =>
(if k26 = 3 then (
rt (1, σ27)) else none))
def FX0_ways (x0 : Option Nat) (x1 : Int32) (x2 : Option Nat) (σ : Mm) : DX (Int32 × Mm) :=
(rv 1 x0 σ).bind fun q21 =>
dt (FX1_ways q21 x1 σ) (fun (x24, σ23) => (
(sL x2 0 x24 σ23).bind fun σ25 =>
rt (0, σ25))) (fun k26 σ27 =>
(if k26 = 3 then (
rt (1, σ27)) else none))
def FX0_talk (x0 : Option Nat) (x1 : Int32) (x2 : Option Nat) (σ : Mm) : DX (Int32 × Mm) :=
(rv 1 x0 σ).bind fun q21 =>
dt (FX1_talk q21 x1 σ) (fun (x24, σ23) => (
(sL x2 0 x24 σ23).bind fun σ25 =>
rt (0, σ25))) (fun k26 σ27 =>
(if k26 = 2 then (
rt (1, σ27)) else none))
def FX0_chain (x0 : Option Nat) (x1 : Int32) (x2 : Int32) (x3 : Option Nat) (σ : Mm) : DX (Int32 × Mm) :=
(rv 1 x0 σ).bind fun q21 =>
dt (FX1_chain q21 x1 x2 σ) (fun (x24, σ23) => (
(sL x3 0 x24 σ23).bind fun σ25 =>
rt (0, σ25))) (fun k26 σ27 =>
(if k26 = 2 then (
rt (1, σ27)) else (if k26 = 3 then (
rt (2, σ27)) else none)))
def FX0_hears (x0 : Option Nat) (x1 : Int32) (x2 : Int32) (x3 : Option Nat) (σ : Mm) : DX (Int32 × Mm) :=
(rv 1 x0 σ).bind fun q21 =>
dt (FX1_hears q21 x1 x2 σ) (fun (x24, σ23) => (
(sL x3 0 x24 σ23).bind fun σ25 =>
rt (0, σ25))) (fun k26 σ27 =>
(if k26 = 2 then (
rt (1, σ27)) else (if k26 = 3 then (
rt (2, σ27)) else none)))
def FX0_trial (x0 : Option Nat) (x1 : Int32) (x2 : Option Nat) (σ : Mm) : DX (Int32 × Mm) :=
(rv 1 x0 σ).bind fun q21 =>
dt (FX1_trial q21 x1 σ) (fun (x24, σ23) => (
(sL x2 0 x24 σ23).bind fun σ25 =>
rt (0, σ25))) (fun k26 σ27 =>
(if k26 = 3 then (
rt (1, σ27)) else none))
def FX0_span (x0 : Option Nat) (x1 : Int32) (x2 : Int32) (x3 : Option Nat) (σ : Mm) : DX (Int32 × Mm) :=
(rv 1 x0 σ).bind fun q21 =>
dt (FX1_span q21 x1 x2 σ) (fun (x24, σ23) => (
(sL x3 0 x24 σ23).bind fun σ25 =>
rt (0, σ25))) (fun k26 σ27 =>
(if k26 = 3 then (
rt (1, σ27)) else none))
def FX0_led (x0 : Option Nat) (x1 : Int32) (x2 : Int32) (x3 : Option Nat) (σ : Mm) : DX (Int32 × Mm) :=
(rv 1 x0 σ).bind fun q21 =>
dt (FX1_led q21 x1 x2 σ) (fun (x24, σ23) => (
(sL x3 0 x24 σ23).bind fun σ25 =>
rt (0, σ25))) (fun k26 σ27 =>
(if k26 = 2 then (
rt (1, σ27)) else none))
def FX0_log (x0 : Option Nat) (x1 : Int32) (x2 : Int32) (x3 : Option Nat) (σ : Mm) : DX (Int32 × Mm) :=
(rv 1 x0 σ).bind fun q21 =>
dt (FX1_log q21 x1 x2 σ) (fun (x24, σ23) => (
(sL x3 0 x24 σ23).bind fun σ25 =>
rt (0, σ25))) (fun k26 σ27 =>
(if k26 = 5 then (
rt (1, σ27)) else none))
def FL_law_23 (L : Nat) (xs : Nat → Int32) (y1 : Option Nat) (y2 : Option Nat) (y3 : Option Nat) : Nat → Int32 → Mm → (Mm → DX (Int32 × Mm)) → (Mm → DX (Int32 × Mm)) → (Mm → DX (Int32 × Mm)) → (Mm → DX (Int32 × Mm)) → (Mm → DX (Int32 × Mm)) → (Mm → DX (Int32 × Mm)) → (Mm → DX (Int32 × Mm)) → (Mm → DX (Int32 × Mm)) → (Mm → DX (Int32 × Mm)) → (Mm → DX (Int32 × Mm)) → (Mm → DX (Int32 × Mm)) → (Mm → DX (Int32 × Mm)) → (Mm → DX (Int32 × Mm)) → (Mm → DX (Int32 × Mm)) → (Mm → DX (Int32 × Mm)) → (Mm → DX (Int32 × Mm)) → (Mm → DX (Int32 × Mm)) → (Mm → DX (Int32 × Mm)) → (Mm → DX (Int32 × Mm)) → (Mm → DX (Int32 × Mm)) → (Mm → DX (Int32 × Mm)) → (Mm → DX (Int32 × Mm)) → (Mm → DX (Int32 × Mm)) → (Mm → DX (Int32 × Mm)) → (Mm → DX (Int32 × Mm)) → (Mm → DX (Int32 × Mm)) → (Mm → DX (Int32 × Mm)) → (Mm → DX (Int32 × Mm)) → (Mm → DX (Int32 × Mm)) → (Mm → DX (Int32 × Mm)) → (Mm → DX (Int32 × Mm)) → (Mm → DX (Int32 × Mm)) → (Mm → DX (Int32 × Mm)) → (Mm → DX (Int32 × Mm)) → (Mm → DX (Int32 × Mm)) → (Mm → DX (Int32 × Mm)) → (Mm → DX (Int32 × Mm)) → (Mm → DX (Int32 × Mm)) → (Mm → DX (Int32 × Mm)) → (Mm → DX (Int32 × Mm)) → (Mm → DX (Int32 × Mm)) → (Mm → DX (Int32 × Mm)) → (Mm → DX (Int32 × Mm)) → (Mm → DX (Int32 × Mm)) → (Mm → DX (Int32 × Mm)) → (Mm → DX (Int32 × Mm)) → (Mm → DX (Int32 × Mm)) → (Mm → DX (Int32 × Mm)) → (Mm → DX (Int32 × Mm)) → (Mm → DX (Int32 × Mm)) → (Mm → DX (Int32 × Mm)) → (Mm → DX (Int32 × Mm)) → (Mm → DX (Int32 × Mm)) → (Mm → DX (Int32 × Mm)) → (Mm → DX (Int32 × Mm)) → (Mm → DX (Int32 × Mm)) → (Mm → DX (Int32 × Mm)) → (Mm → DX (Int32 × Mm)) → (Mm → DX (Int32 × Mm)) → (Mm → DX (Int32 × Mm)) → (Mm → DX (Int32 × Mm)) → (Mm → DX (Int32 × Mm)) → (Mm → DX (Int32 × Mm)) → (Mm → DX (Int32 × Mm)) → (Mm → DX (Int32 × Mm)) → (Mm → DX (Int32 × Mm)) → (Mm → DX (Int32 × Mm)) → (Mm → DX (Int32 × Mm)) → (Mm → DX (Int32 × Mm)) → (Mm → DX (Int32 × Mm)) → (Mm → DX (Int32 × Mm)) → (Mm → DX (Int32 × Mm)) → (Mm → DX (Int32 × Mm)) → (Mm → DX (Int32 × Mm)) → (Mm → DX (Int32 × Mm)) → (Mm → DX (Int32 × Mm)) → (Mm → DX (Int32 × Mm)) → (Mm → DX (Int32 × Mm)) → (Mm → DX (Int32 × Mm)) → (Mm → DX (Int32 × Mm)) → DX (Int32 × Mm)
  | 0, _, _, _, _, _, _, _, _, _, _, _, _, _, _, _, _, _, _, _, _, _, _, _, _, _, _, _, _, _, _, _, _, _, _, _, _, _, _, _, _, _, _, _, _, _, _, _, _, _, _, _, _, _, _, _, _, _, _, _, _, _, _, _, _, _, _, _, _, _, _, _, _, _, _, _, _, _, _, _, _, _, _ => none
  | n+1, v4, σ, kx2581, kx323, kx348, kx372, kx389, kx416, kx433, kx449, kx497, kx514, kx565, kx582, kx621, kx638, kx689, kx706, kx757, kx774, kx825, kx842, kx881, kx898, kx949, kx966, kx1017, kx1034, kx1085, kx1102, kx1153, kx1170, kx1233, kx1250, kx1301, kx1318, kx1357, kx1374, kx1390, kx1403, kx1416, kx1429, kx1442, kx1455, kx1468, kx1516, kx1533, kx1572, kx1589, kx1605, kx1641, kx1665, kx1704, kx1721, kx1760, kx1777, kx1804, kx1821, kx1849, kx1885, kx1902, kx1941, kx1958, kx1997, kx2014, kx2058, kx2106, kx2123, kx2174, kx2191, kx2230, kx2247, kx2314, kx2331, kx2398, kx2415, kx2466, kx2483, kx2511, kx2524, kx2548, kx2573 =>
    (if ((Int32.ofNat L) - 6) < v4 then (
    kx2581 σ) else (
    (sX L xs v4).bind fun x33 =>
    (if (x33 &&& 63) = 0 then (
    (sX L xs (v4 + 1)).bind fun x35 =>
    (sX L xs (v4 + 2)).bind fun x36 =>
    (sX L xs (v4 + 3)).bind fun x37 =>
    (sX L xs (v4 + 4)).bind fun x38 =>
    (sX L xs (v4 + 5)).bind fun x39 =>
    (rv 1 y1 σ).bind fun q40 =>
    pay 1 5 <|
    (FX1_feed q40 x35 x36 x37 x38 x39 σ).bind fun (x42, σ43) =>
    (sX L xs (v4 + 1)).bind fun x44 =>
    (sX L xs (v4 + 2)).bind fun x45 =>
    (sX L xs (v4 + 3)).bind fun x46 =>
    (sX L xs (v4 + 4)).bind fun x47 =>
    (sX L xs (v4 + 5)).bind fun x48 =>
    (rv 8 y2 σ43).bind fun q49 =>
    (FX8_feed q49 x44 x45 x46 x47 x48 σ43).bind fun (x51, σ52) =>
    (if x42 = x51 then (
    FL_law_23 L xs y1 y2 y3 n (v4 + 6) σ52 kx2581 kx323 kx348 kx372 kx389 kx416 kx433 kx449 kx497 kx514 kx565 kx582 kx621 kx638 kx689 kx706 kx757 kx774 kx825 kx842 kx881 kx898 kx949 kx966 kx1017 kx1034 kx1085 kx1102 kx1153 kx1170 kx1233 kx1250 kx1301 kx1318 kx1357 kx1374 kx1390 kx1403 kx1416 kx1429 kx1442 kx1455 kx1468 kx1516 kx1533 kx1572 kx1589 kx1605 kx1641 kx1665 kx1704 kx1721 kx1760 kx1777 kx1804 kx1821 kx1849 kx1885 kx1902 kx1941 kx1958 kx1997 kx2014 kx2058 kx2106 kx2123 kx2174 kx2191 kx2230 kx2247 kx2314 kx2331 kx2398 kx2415 kx2466 kx2483 kx2511 kx2524 kx2548 kx2573) else (
    kx323 σ52))) else (
    (if (x33 &&& 63) = 1 then (
    (sX L xs (v4 + 1)).bind fun x55 =>
    (rv 1 y1 σ).bind fun q56 =>
    (FX1_end q56 x55 σ).bind fun (x58, σ59) =>
    (sX L xs (v4 + 1)).bind fun x60 =>
    (rv 8 y2 σ59).bind fun q61 =>
    (FX8_end q61 x60 σ59).bind fun (x63, σ64) =>
    (if x58 = x63 then (
    FL_law_23 L xs y1 y2 y3 n (v4 + 6) σ64 kx2581 kx323 kx348 kx372 kx389 kx416 kx433 kx449 kx497 kx514 kx565 kx582 kx621 kx638 kx689 kx706 kx757 kx774 kx825 kx842 kx881 kx898 kx949 kx966 kx1017 kx1034 kx1085 kx1102 kx1153 kx1170 kx1233 kx1250 kx1301 kx1318 kx1357 kx1374 kx1390 kx1403 kx1416 kx1429 kx1442 kx1455 kx1468 kx1516 kx1533 kx1572 kx1589 kx1605 kx1641 kx1665 kx1704 kx1721 kx1760 kx1777 kx1804 kx1821 kx1849 kx1885 kx1902 kx1941 kx1958 kx1997 kx2014 kx2058 kx2106 kx2123 kx2174 kx2191 kx2230 kx2247 kx2314 kx2331 kx2398 kx2415 kx2466 kx2483 kx2511 kx2524 kx2548 kx2573) else (
    kx348 σ64))) else (
    (if (x33 &&& 63) = 2 then (
    dn (FX0_door y1 y3 σ) fun (x67, σ68) =>
    (rv 8 y2 σ68).bind fun q69 =>
    (FX8_door q69 σ68).bind fun (x71, σ72) =>
    (rv 8 y2 σ72).bind fun q73 =>
    (FX8_thrown q73 σ72).bind fun (x75, σ76) =>
    (if x75 = x67 then (
    (if x67 = 0 then (
    (aI 104 y3 0 σ76).bind fun x77 =>
    (if (lcx x77 x71) = 0 then (
    FL_law_23 L xs y1 y2 y3 n (v4 + 6) σ76 kx2581 kx323 kx348 kx372 kx389 kx416 kx433 kx449 kx497 kx514 kx565 kx582 kx621 kx638 kx689 kx706 kx757 kx774 kx825 kx842 kx881 kx898 kx949 kx966 kx1017 kx1034 kx1085 kx1102 kx1153 kx1170 kx1233 kx1250 kx1301 kx1318 kx1357 kx1374 kx1390 kx1403 kx1416 kx1429 kx1442 kx1455 kx1468 kx1516 kx1533 kx1572 kx1589 kx1605 kx1641 kx1665 kx1704 kx1721 kx1760 kx1777 kx1804 kx1821 kx1849 kx1885 kx1902 kx1941 kx1958 kx1997 kx2014 kx2058 kx2106 kx2123 kx2174 kx2191 kx2230 kx2247 kx2314 kx2331 kx2398 kx2415 kx2466 kx2483 kx2511 kx2524 kx2548 kx2573) else (
    kx389 σ76))) else (
    FL_law_23 L xs y1 y2 y3 n (v4 + 6) σ76 kx2581 kx323 kx348 kx372 kx389 kx416 kx433 kx449 kx497 kx514 kx565 kx582 kx621 kx638 kx689 kx706 kx757 kx774 kx825 kx842 kx881 kx898 kx949 kx966 kx1017 kx1034 kx1085 kx1102 kx1153 kx1170 kx1233 kx1250 kx1301 kx1318 kx1357 kx1374 kx1390 kx1403 kx1416 kx1429 kx1442 kx1455 kx1468 kx1516 kx1533 kx1572 kx1589 kx1605 kx1641 kx1665 kx1704 kx1721 kx1760 kx1777 kx1804 kx1821 kx1849 kx1885 kx1902 kx1941 kx1958 kx1997 kx2014 kx2058 kx2106 kx2123 kx2174 kx2191 kx2230 kx2247 kx2314 kx2331 kx2398 kx2415 kx2466 kx2483 kx2511 kx2524 kx2548 kx2573))) else (
    kx372 σ76))) else (
    (if (x33 &&& 63) = 3 then (
    dn (FX0_law y1 y3 σ) fun (x82, σ83) =>
    (rv 8 y2 σ83).bind fun q84 =>
    (FX8_law q84 σ83).bind fun (x86, σ87) =>
    (rv 8 y2 σ87).bind fun q88 =>
    (FX8_thrown q88 σ87).bind fun (x90, σ91) =>
    (if x90 = x82 then (
    (if x82 = 0 then (
    (aI 104 y3 0 σ91).bind fun x92 =>
    (if (lcx x92 x86) = 0 then (
    FL_law_23 L xs y1 y2 y3 n (v4 + 6) σ91 kx2581 kx323 kx348 kx372 kx389 kx416 kx433 kx449 kx497 kx514 kx565 kx582 kx621 kx638 kx689 kx706 kx757 kx774 kx825 kx842 kx881 kx898 kx949 kx966 kx1017 kx1034 kx1085 kx1102 kx1153 kx1170 kx1233 kx1250 kx1301 kx1318 kx1357 kx1374 kx1390 kx1403 kx1416 kx1429 kx1442 kx1455 kx1468 kx1516 kx1533 kx1572 kx1589 kx1605 kx1641 kx1665 kx1704 kx1721 kx1760 kx1777 kx1804 kx1821 kx1849 kx1885 kx1902 kx1941 kx1958 kx1997 kx2014 kx2058 kx2106 kx2123 kx2174 kx2191 kx2230 kx2247 kx2314 kx2331 kx2398 kx2415 kx2466 kx2483 kx2511 kx2524 kx2548 kx2573) else (
    kx433 σ91))) else (
    FL_law_23 L xs y1 y2 y3 n (v4 + 6) σ91 kx2581 kx323 kx348 kx372 kx389 kx416 kx433 kx449 kx497 kx514 kx565 kx582 kx621 kx638 kx689 kx706 kx757 kx774 kx825 kx842 kx881 kx898 kx949 kx966 kx1017 kx1034 kx1085 kx1102 kx1153 kx1170 kx1233 kx1250 kx1301 kx1318 kx1357 kx1374 kx1390 kx1403 kx1416 kx1429 kx1442 kx1455 kx1468 kx1516 kx1533 kx1572 kx1589 kx1605 kx1641 kx1665 kx1704 kx1721 kx1760 kx1777 kx1804 kx1821 kx1849 kx1885 kx1902 kx1941 kx1958 kx1997 kx2014 kx2058 kx2106 kx2123 kx2174 kx2191 kx2230 kx2247 kx2314 kx2331 kx2398 kx2415 kx2466 kx2483 kx2511 kx2524 kx2548 kx2573))) else (
    kx416 σ91))) else (
    (if (x33 &&& 63) = 4 then (
    (rv 1 y1 σ).bind fun q97 =>
    (FX1_fault q97 σ).bind fun (x99, σ100) =>
    (rv 8 y2 σ100).bind fun q101 =>
    (FX8_fault q101 σ100).bind fun (x103, σ104) =>
    (if x99 = x103 then (
    FL_law_23 L xs y1 y2 y3 n (v4 + 6) σ104 kx2581 kx323 kx348 kx372 kx389 kx416 kx433 kx449 kx497 kx514 kx565 kx582 kx621 kx638 kx689 kx706 kx757 kx774 kx825 kx842 kx881 kx898 kx949 kx966 kx1017 kx1034 kx1085 kx1102 kx1153 kx1170 kx1233 kx1250 kx1301 kx1318 kx1357 kx1374 kx1390 kx1403 kx1416 kx1429 kx1442 kx1455 kx1468 kx1516 kx1533 kx1572 kx1589 kx1605 kx1641 kx1665 kx1704 kx1721 kx1760 kx1777 kx1804 kx1821 kx1849 kx1885 kx1902 kx1941 kx1958 kx1997 kx2014 kx2058 kx2106 kx2123 kx2174 kx2191 kx2230 kx2247 kx2314 kx2331 kx2398 kx2415 kx2466 kx2483 kx2511 kx2524 kx2548 kx2573) else (
    kx449 σ104))) else (
    (if (x33 &&& 63) = 5 then (
    (sX L xs (v4 + 1)).bind fun x107 =>
    (sX L xs (v4 + 2)).bind fun x108 =>
    dn (FX0_person y1 x107 x108 y3 σ) fun (x109, σ110) =>
    (sX L xs (v4 + 1)).bind fun x111 =>
    (sX L xs (v4 + 2)).bind fun x112 =>
    (rv 8 y2 σ110).bind fun q113 =>
    (FX8_person q113 x111 x112 σ110).bind fun (x115, σ116) =>
    (rv 8 y2 σ116).bind fun q117 =>
    (FX8_thrown q117 σ116).bind fun (x119, σ120) =>
    (if x119 = x109 then (
    (if x109 = 0 then (
    (aI 104 y3 0 σ120).bind fun x121 =>
    (if (lcx x121 x115) = 0 then (
    FL_law_23 L xs y1 y2 y3 n (v4 + 6) σ120 kx2581 kx323 kx348 kx372 kx389 kx416 kx433 kx449 kx497 kx514 kx565 kx582 kx621 kx638 kx689 kx706 kx757 kx774 kx825 kx842 kx881 kx898 kx949 kx966 kx1017 kx1034 kx1085 kx1102 kx1153 kx1170 kx1233 kx1250 kx1301 kx1318 kx1357 kx1374 kx1390 kx1403 kx1416 kx1429 kx1442 kx1455 kx1468 kx1516 kx1533 kx1572 kx1589 kx1605 kx1641 kx1665 kx1704 kx1721 kx1760 kx1777 kx1804 kx1821 kx1849 kx1885 kx1902 kx1941 kx1958 kx1997 kx2014 kx2058 kx2106 kx2123 kx2174 kx2191 kx2230 kx2247 kx2314 kx2331 kx2398 kx2415 kx2466 kx2483 kx2511 kx2524 kx2548 kx2573) else (
    kx514 σ120))) else (
    FL_law_23 L xs y1 y2 y3 n (v4 + 6) σ120 kx2581 kx323 kx348 kx372 kx389 kx416 kx433 kx449 kx497 kx514 kx565 kx582 kx621 kx638 kx689 kx706 kx757 kx774 kx825 kx842 kx881 kx898 kx949 kx966 kx1017 kx1034 kx1085 kx1102 kx1153 kx1170 kx1233 kx1250 kx1301 kx1318 kx1357 kx1374 kx1390 kx1403 kx1416 kx1429 kx1442 kx1455 kx1468 kx1516 kx1533 kx1572 kx1589 kx1605 kx1641 kx1665 kx1704 kx1721 kx1760 kx1777 kx1804 kx1821 kx1849 kx1885 kx1902 kx1941 kx1958 kx1997 kx2014 kx2058 kx2106 kx2123 kx2174 kx2191 kx2230 kx2247 kx2314 kx2331 kx2398 kx2415 kx2466 kx2483 kx2511 kx2524 kx2548 kx2573))) else (
    kx497 σ120))) else (
    (if (x33 &&& 63) = 6 then (
    (sX L xs (v4 + 1)).bind fun x126 =>
    (sX L xs (v4 + 2)).bind fun x127 =>
    dn (FX0_face y1 x126 x127 y3 σ) fun (x128, σ129) =>
    (sX L xs (v4 + 1)).bind fun x130 =>
    (sX L xs (v4 + 2)).bind fun x131 =>
    (rv 8 y2 σ129).bind fun q132 =>
    (FX8_face q132 x130 x131 σ129).bind fun (x134, σ135) =>
    (rv 8 y2 σ135).bind fun q136 =>
    (FX8_thrown q136 σ135).bind fun (x138, σ139) =>
    (if x138 = x128 then (
    (if x128 = 0 then (
    (aI 104 y3 0 σ139).bind fun x140 =>
    (if (lcx x140 x134) = 0 then (
    FL_law_23 L xs y1 y2 y3 n (v4 + 6) σ139 kx2581 kx323 kx348 kx372 kx389 kx416 kx433 kx449 kx497 kx514 kx565 kx582 kx621 kx638 kx689 kx706 kx757 kx774 kx825 kx842 kx881 kx898 kx949 kx966 kx1017 kx1034 kx1085 kx1102 kx1153 kx1170 kx1233 kx1250 kx1301 kx1318 kx1357 kx1374 kx1390 kx1403 kx1416 kx1429 kx1442 kx1455 kx1468 kx1516 kx1533 kx1572 kx1589 kx1605 kx1641 kx1665 kx1704 kx1721 kx1760 kx1777 kx1804 kx1821 kx1849 kx1885 kx1902 kx1941 kx1958 kx1997 kx2014 kx2058 kx2106 kx2123 kx2174 kx2191 kx2230 kx2247 kx2314 kx2331 kx2398 kx2415 kx2466 kx2483 kx2511 kx2524 kx2548 kx2573) else (
    kx582 σ139))) else (
    FL_law_23 L xs y1 y2 y3 n (v4 + 6) σ139 kx2581 kx323 kx348 kx372 kx389 kx416 kx433 kx449 kx497 kx514 kx565 kx582 kx621 kx638 kx689 kx706 kx757 kx774 kx825 kx842 kx881 kx898 kx949 kx966 kx1017 kx1034 kx1085 kx1102 kx1153 kx1170 kx1233 kx1250 kx1301 kx1318 kx1357 kx1374 kx1390 kx1403 kx1416 kx1429 kx1442 kx1455 kx1468 kx1516 kx1533 kx1572 kx1589 kx1605 kx1641 kx1665 kx1704 kx1721 kx1760 kx1777 kx1804 kx1821 kx1849 kx1885 kx1902 kx1941 kx1958 kx1997 kx2014 kx2058 kx2106 kx2123 kx2174 kx2191 kx2230 kx2247 kx2314 kx2331 kx2398 kx2415 kx2466 kx2483 kx2511 kx2524 kx2548 kx2573))) else (
    kx565 σ139))) else (
    (if (x33 &&& 63) = 7 then (
    (sX L xs (v4 + 1)).bind fun x145 =>
    dn (FX0_hook y1 x145 y3 σ) fun (x146, σ147) =>
    (sX L xs (v4 + 1)).bind fun x148 =>
    (rv 8 y2 σ147).bind fun q149 =>
    (FX8_hook q149 x148 σ147).bind fun (x151, σ152) =>
    (rv 8 y2 σ152).bind fun q153 =>
    (FX8_thrown q153 σ152).bind fun (x155, σ156) =>
    (if x155 = x146 then (
    (if x146 = 0 then (
    (aI 104 y3 0 σ156).bind fun x157 =>
    (if (lcx x157 x151) = 0 then (
    FL_law_23 L xs y1 y2 y3 n (v4 + 6) σ156 kx2581 kx323 kx348 kx372 kx389 kx416 kx433 kx449 kx497 kx514 kx565 kx582 kx621 kx638 kx689 kx706 kx757 kx774 kx825 kx842 kx881 kx898 kx949 kx966 kx1017 kx1034 kx1085 kx1102 kx1153 kx1170 kx1233 kx1250 kx1301 kx1318 kx1357 kx1374 kx1390 kx1403 kx1416 kx1429 kx1442 kx1455 kx1468 kx1516 kx1533 kx1572 kx1589 kx1605 kx1641 kx1665 kx1704 kx1721 kx1760 kx1777 kx1804 kx1821 kx1849 kx1885 kx1902 kx1941 kx1958 kx1997 kx2014 kx2058 kx2106 kx2123 kx2174 kx2191 kx2230 kx2247 kx2314 kx2331 kx2398 kx2415 kx2466 kx2483 kx2511 kx2524 kx2548 kx2573) else (
    kx638 σ156))) else (
    FL_law_23 L xs y1 y2 y3 n (v4 + 6) σ156 kx2581 kx323 kx348 kx372 kx389 kx416 kx433 kx449 kx497 kx514 kx565 kx582 kx621 kx638 kx689 kx706 kx757 kx774 kx825 kx842 kx881 kx898 kx949 kx966 kx1017 kx1034 kx1085 kx1102 kx1153 kx1170 kx1233 kx1250 kx1301 kx1318 kx1357 kx1374 kx1390 kx1403 kx1416 kx1429 kx1442 kx1455 kx1468 kx1516 kx1533 kx1572 kx1589 kx1605 kx1641 kx1665 kx1704 kx1721 kx1760 kx1777 kx1804 kx1821 kx1849 kx1885 kx1902 kx1941 kx1958 kx1997 kx2014 kx2058 kx2106 kx2123 kx2174 kx2191 kx2230 kx2247 kx2314 kx2331 kx2398 kx2415 kx2466 kx2483 kx2511 kx2524 kx2548 kx2573))) else (
    kx621 σ156))) else (
    (if (x33 &&& 63) = 8 then (
    (sX L xs (v4 + 1)).bind fun x162 =>
    (sX L xs (v4 + 2)).bind fun x163 =>
    dn (FX0_wish y1 x162 x163 y3 σ) fun (x164, σ165) =>
    (sX L xs (v4 + 1)).bind fun x166 =>
    (sX L xs (v4 + 2)).bind fun x167 =>
    (rv 8 y2 σ165).bind fun q168 =>
    (FX8_wish q168 x166 x167 σ165).bind fun (x170, σ171) =>
    (rv 8 y2 σ171).bind fun q172 =>
    (FX8_thrown q172 σ171).bind fun (x174, σ175) =>
    (if x174 = x164 then (
    (if x164 = 0 then (
    (aI 104 y3 0 σ175).bind fun x176 =>
    (if (lcx x176 x170) = 0 then (
    FL_law_23 L xs y1 y2 y3 n (v4 + 6) σ175 kx2581 kx323 kx348 kx372 kx389 kx416 kx433 kx449 kx497 kx514 kx565 kx582 kx621 kx638 kx689 kx706 kx757 kx774 kx825 kx842 kx881 kx898 kx949 kx966 kx1017 kx1034 kx1085 kx1102 kx1153 kx1170 kx1233 kx1250 kx1301 kx1318 kx1357 kx1374 kx1390 kx1403 kx1416 kx1429 kx1442 kx1455 kx1468 kx1516 kx1533 kx1572 kx1589 kx1605 kx1641 kx1665 kx1704 kx1721 kx1760 kx1777 kx1804 kx1821 kx1849 kx1885 kx1902 kx1941 kx1958 kx1997 kx2014 kx2058 kx2106 kx2123 kx2174 kx2191 kx2230 kx2247 kx2314 kx2331 kx2398 kx2415 kx2466 kx2483 kx2511 kx2524 kx2548 kx2573) else (
    kx706 σ175))) else (
    FL_law_23 L xs y1 y2 y3 n (v4 + 6) σ175 kx2581 kx323 kx348 kx372 kx389 kx416 kx433 kx449 kx497 kx514 kx565 kx582 kx621 kx638 kx689 kx706 kx757 kx774 kx825 kx842 kx881 kx898 kx949 kx966 kx1017 kx1034 kx1085 kx1102 kx1153 kx1170 kx1233 kx1250 kx1301 kx1318 kx1357 kx1374 kx1390 kx1403 kx1416 kx1429 kx1442 kx1455 kx1468 kx1516 kx1533 kx1572 kx1589 kx1605 kx1641 kx1665 kx1704 kx1721 kx1760 kx1777 kx1804 kx1821 kx1849 kx1885 kx1902 kx1941 kx1958 kx1997 kx2014 kx2058 kx2106 kx2123 kx2174 kx2191 kx2230 kx2247 kx2314 kx2331 kx2398 kx2415 kx2466 kx2483 kx2511 kx2524 kx2548 kx2573))) else (
    kx689 σ175))) else (
    (if (x33 &&& 63) = 9 then (
    (sX L xs (v4 + 1)).bind fun x181 =>
    (sX L xs (v4 + 2)).bind fun x182 =>
    dn (FX0_thinks y1 x181 x182 y3 σ) fun (x183, σ184) =>
    (sX L xs (v4 + 1)).bind fun x185 =>
    (sX L xs (v4 + 2)).bind fun x186 =>
    (rv 8 y2 σ184).bind fun q187 =>
    (FX8_thinks q187 x185 x186 σ184).bind fun (x189, σ190) =>
    (rv 8 y2 σ190).bind fun q191 =>
    (FX8_thrown q191 σ190).bind fun (x193, σ194) =>
    (if x193 = x183 then (
    (if x183 = 0 then (
    (aI 104 y3 0 σ194).bind fun x195 =>
    (if (lcx x195 x189) = 0 then (
    FL_law_23 L xs y1 y2 y3 n (v4 + 6) σ194 kx2581 kx323 kx348 kx372 kx389 kx416 kx433 kx449 kx497 kx514 kx565 kx582 kx621 kx638 kx689 kx706 kx757 kx774 kx825 kx842 kx881 kx898 kx949 kx966 kx1017 kx1034 kx1085 kx1102 kx1153 kx1170 kx1233 kx1250 kx1301 kx1318 kx1357 kx1374 kx1390 kx1403 kx1416 kx1429 kx1442 kx1455 kx1468 kx1516 kx1533 kx1572 kx1589 kx1605 kx1641 kx1665 kx1704 kx1721 kx1760 kx1777 kx1804 kx1821 kx1849 kx1885 kx1902 kx1941 kx1958 kx1997 kx2014 kx2058 kx2106 kx2123 kx2174 kx2191 kx2230 kx2247 kx2314 kx2331 kx2398 kx2415 kx2466 kx2483 kx2511 kx2524 kx2548 kx2573) else (
    kx774 σ194))) else (
    FL_law_23 L xs y1 y2 y3 n (v4 + 6) σ194 kx2581 kx323 kx348 kx372 kx389 kx416 kx433 kx449 kx497 kx514 kx565 kx582 kx621 kx638 kx689 kx706 kx757 kx774 kx825 kx842 kx881 kx898 kx949 kx966 kx1017 kx1034 kx1085 kx1102 kx1153 kx1170 kx1233 kx1250 kx1301 kx1318 kx1357 kx1374 kx1390 kx1403 kx1416 kx1429 kx1442 kx1455 kx1468 kx1516 kx1533 kx1572 kx1589 kx1605 kx1641 kx1665 kx1704 kx1721 kx1760 kx1777 kx1804 kx1821 kx1849 kx1885 kx1902 kx1941 kx1958 kx1997 kx2014 kx2058 kx2106 kx2123 kx2174 kx2191 kx2230 kx2247 kx2314 kx2331 kx2398 kx2415 kx2466 kx2483 kx2511 kx2524 kx2548 kx2573))) else (
    kx757 σ194))) else (
    (if (x33 &&& 63) = 10 then (
    (sX L xs (v4 + 1)).bind fun x200 =>
    (sX L xs (v4 + 2)).bind fun x201 =>
    dn (FX0_hand y1 x200 x201 y3 σ) fun (x202, σ203) =>
    (sX L xs (v4 + 1)).bind fun x204 =>
    (sX L xs (v4 + 2)).bind fun x205 =>
    (rv 8 y2 σ203).bind fun q206 =>
    (FX8_hand q206 x204 x205 σ203).bind fun (x208, σ209) =>
    (rv 8 y2 σ209).bind fun q210 =>
    (FX8_thrown q210 σ209).bind fun (x212, σ213) =>
    (if x212 = x202 then (
    (if x202 = 0 then (
    (aI 104 y3 0 σ213).bind fun x214 =>
    (if (lcx x214 x208) = 0 then (
    FL_law_23 L xs y1 y2 y3 n (v4 + 6) σ213 kx2581 kx323 kx348 kx372 kx389 kx416 kx433 kx449 kx497 kx514 kx565 kx582 kx621 kx638 kx689 kx706 kx757 kx774 kx825 kx842 kx881 kx898 kx949 kx966 kx1017 kx1034 kx1085 kx1102 kx1153 kx1170 kx1233 kx1250 kx1301 kx1318 kx1357 kx1374 kx1390 kx1403 kx1416 kx1429 kx1442 kx1455 kx1468 kx1516 kx1533 kx1572 kx1589 kx1605 kx1641 kx1665 kx1704 kx1721 kx1760 kx1777 kx1804 kx1821 kx1849 kx1885 kx1902 kx1941 kx1958 kx1997 kx2014 kx2058 kx2106 kx2123 kx2174 kx2191 kx2230 kx2247 kx2314 kx2331 kx2398 kx2415 kx2466 kx2483 kx2511 kx2524 kx2548 kx2573) else (
    kx842 σ213))) else (
    FL_law_23 L xs y1 y2 y3 n (v4 + 6) σ213 kx2581 kx323 kx348 kx372 kx389 kx416 kx433 kx449 kx497 kx514 kx565 kx582 kx621 kx638 kx689 kx706 kx757 kx774 kx825 kx842 kx881 kx898 kx949 kx966 kx1017 kx1034 kx1085 kx1102 kx1153 kx1170 kx1233 kx1250 kx1301 kx1318 kx1357 kx1374 kx1390 kx1403 kx1416 kx1429 kx1442 kx1455 kx1468 kx1516 kx1533 kx1572 kx1589 kx1605 kx1641 kx1665 kx1704 kx1721 kx1760 kx1777 kx1804 kx1821 kx1849 kx1885 kx1902 kx1941 kx1958 kx1997 kx2014 kx2058 kx2106 kx2123 kx2174 kx2191 kx2230 kx2247 kx2314 kx2331 kx2398 kx2415 kx2466 kx2483 kx2511 kx2524 kx2548 kx2573))) else (
    kx825 σ213))) else (
    (if (x33 &&& 63) = 11 then (
    (sX L xs (v4 + 1)).bind fun x219 =>
    dn (FX0_fetch y1 x219 y3 σ) fun (x220, σ221) =>
    (sX L xs (v4 + 1)).bind fun x222 =>
    (rv 8 y2 σ221).bind fun q223 =>
    (FX8_fetch q223 x222 σ221).bind fun (x225, σ226) =>
    (rv 8 y2 σ226).bind fun q227 =>
    (FX8_thrown q227 σ226).bind fun (x229, σ230) =>
    (if x229 = x220 then (
    (if x220 = 0 then (
    (aI 104 y3 0 σ230).bind fun x231 =>
    (if (lcx x231 x225) = 0 then (
    FL_law_23 L xs y1 y2 y3 n (v4 + 6) σ230 kx2581 kx323 kx348 kx372 kx389 kx416 kx433 kx449 kx497 kx514 kx565 kx582 kx621 kx638 kx689 kx706 kx757 kx774 kx825 kx842 kx881 kx898 kx949 kx966 kx1017 kx1034 kx1085 kx1102 kx1153 kx1170 kx1233 kx1250 kx1301 kx1318 kx1357 kx1374 kx1390 kx1403 kx1416 kx1429 kx1442 kx1455 kx1468 kx1516 kx1533 kx1572 kx1589 kx1605 kx1641 kx1665 kx1704 kx1721 kx1760 kx1777 kx1804 kx1821 kx1849 kx1885 kx1902 kx1941 kx1958 kx1997 kx2014 kx2058 kx2106 kx2123 kx2174 kx2191 kx2230 kx2247 kx2314 kx2331 kx2398 kx2415 kx2466 kx2483 kx2511 kx2524 kx2548 kx2573) else (
    kx898 σ230))) else (
    FL_law_23 L xs y1 y2 y3 n (v4 + 6) σ230 kx2581 kx323 kx348 kx372 kx389 kx416 kx433 kx449 kx497 kx514 kx565 kx582 kx621 kx638 kx689 kx706 kx757 kx774 kx825 kx842 kx881 kx898 kx949 kx966 kx1017 kx1034 kx1085 kx1102 kx1153 kx1170 kx1233 kx1250 kx1301 kx1318 kx1357 kx1374 kx1390 kx1403 kx1416 kx1429 kx1442 kx1455 kx1468 kx1516 kx1533 kx1572 kx1589 kx1605 kx1641 kx1665 kx1704 kx1721 kx1760 kx1777 kx1804 kx1821 kx1849 kx1885 kx1902 kx1941 kx1958 kx1997 kx2014 kx2058 kx2106 kx2123 kx2174 kx2191 kx2230 kx2247 kx2314 kx2331 kx2398 kx2415 kx2466 kx2483 kx2511 kx2524 kx2548 kx2573))) else (
    kx881 σ230))) else (
    (if (x33 &&& 63) = 12 then (
    (sX L xs (v4 + 1)).bind fun x236 =>
    (sX L xs (v4 + 2)).bind fun x237 =>
    dn (FX0_mix y1 x236 x237 y3 σ) fun (x238, σ239) =>
    (sX L xs (v4 + 1)).bind fun x240 =>
    (sX L xs (v4 + 2)).bind fun x241 =>
    (rv 8 y2 σ239).bind fun q242 =>
    (FX8_mix q242 x240 x241 σ239).bind fun (x244, σ245) =>
    (rv 8 y2 σ245).bind fun q246 =>
    (FX8_thrown q246 σ245).bind fun (x248, σ249) =>
    (if x248 = x238 then (
    (if x238 = 0 then (
    (aI 104 y3 0 σ249).bind fun x250 =>
    (if (lcx x250 x244) = 0 then (
    FL_law_23 L xs y1 y2 y3 n (v4 + 6) σ249 kx2581 kx323 kx348 kx372 kx389 kx416 kx433 kx449 kx497 kx514 kx565 kx582 kx621 kx638 kx689 kx706 kx757 kx774 kx825 kx842 kx881 kx898 kx949 kx966 kx1017 kx1034 kx1085 kx1102 kx1153 kx1170 kx1233 kx1250 kx1301 kx1318 kx1357 kx1374 kx1390 kx1403 kx1416 kx1429 kx1442 kx1455 kx1468 kx1516 kx1533 kx1572 kx1589 kx1605 kx1641 kx1665 kx1704 kx1721 kx1760 kx1777 kx1804 kx1821 kx1849 kx1885 kx1902 kx1941 kx1958 kx1997 kx2014 kx2058 kx2106 kx2123 kx2174 kx2191 kx2230 kx2247 kx2314 kx2331 kx2398 kx2415 kx2466 kx2483 kx2511 kx2524 kx2548 kx2573) else (
    kx966 σ249))) else (
    FL_law_23 L xs y1 y2 y3 n (v4 + 6) σ249 kx2581 kx323 kx348 kx372 kx389 kx416 kx433 kx449 kx497 kx514 kx565 kx582 kx621 kx638 kx689 kx706 kx757 kx774 kx825 kx842 kx881 kx898 kx949 kx966 kx1017 kx1034 kx1085 kx1102 kx1153 kx1170 kx1233 kx1250 kx1301 kx1318 kx1357 kx1374 kx1390 kx1403 kx1416 kx1429 kx1442 kx1455 kx1468 kx1516 kx1533 kx1572 kx1589 kx1605 kx1641 kx1665 kx1704 kx1721 kx1760 kx1777 kx1804 kx1821 kx1849 kx1885 kx1902 kx1941 kx1958 kx1997 kx2014 kx2058 kx2106 kx2123 kx2174 kx2191 kx2230 kx2247 kx2314 kx2331 kx2398 kx2415 kx2466 kx2483 kx2511 kx2524 kx2548 kx2573))) else (
    kx949 σ249))) else (
    (if (x33 &&& 63) = 13 then (
    (sX L xs (v4 + 1)).bind fun x255 =>
    (sX L xs (v4 + 2)).bind fun x256 =>
    dn (FX0_steal y1 x255 x256 y3 σ) fun (x257, σ258) =>
    (sX L xs (v4 + 1)).bind fun x259 =>
    (sX L xs (v4 + 2)).bind fun x260 =>
    (rv 8 y2 σ258).bind fun q261 =>
    (FX8_steal q261 x259 x260 σ258).bind fun (x263, σ264) =>
    (rv 8 y2 σ264).bind fun q265 =>
    (FX8_thrown q265 σ264).bind fun (x267, σ268) =>
    (if x267 = x257 then (
    (if x257 = 0 then (
    (aI 104 y3 0 σ268).bind fun x269 =>
    (if (lcx x269 x263) = 0 then (
    FL_law_23 L xs y1 y2 y3 n (v4 + 6) σ268 kx2581 kx323 kx348 kx372 kx389 kx416 kx433 kx449 kx497 kx514 kx565 kx582 kx621 kx638 kx689 kx706 kx757 kx774 kx825 kx842 kx881 kx898 kx949 kx966 kx1017 kx1034 kx1085 kx1102 kx1153 kx1170 kx1233 kx1250 kx1301 kx1318 kx1357 kx1374 kx1390 kx1403 kx1416 kx1429 kx1442 kx1455 kx1468 kx1516 kx1533 kx1572 kx1589 kx1605 kx1641 kx1665 kx1704 kx1721 kx1760 kx1777 kx1804 kx1821 kx1849 kx1885 kx1902 kx1941 kx1958 kx1997 kx2014 kx2058 kx2106 kx2123 kx2174 kx2191 kx2230 kx2247 kx2314 kx2331 kx2398 kx2415 kx2466 kx2483 kx2511 kx2524 kx2548 kx2573) else (
    kx1034 σ268))) else (
    FL_law_23 L xs y1 y2 y3 n (v4 + 6) σ268 kx2581 kx323 kx348 kx372 kx389 kx416 kx433 kx449 kx497 kx514 kx565 kx582 kx621 kx638 kx689 kx706 kx757 kx774 kx825 kx842 kx881 kx898 kx949 kx966 kx1017 kx1034 kx1085 kx1102 kx1153 kx1170 kx1233 kx1250 kx1301 kx1318 kx1357 kx1374 kx1390 kx1403 kx1416 kx1429 kx1442 kx1455 kx1468 kx1516 kx1533 kx1572 kx1589 kx1605 kx1641 kx1665 kx1704 kx1721 kx1760 kx1777 kx1804 kx1821 kx1849 kx1885 kx1902 kx1941 kx1958 kx1997 kx2014 kx2058 kx2106 kx2123 kx2174 kx2191 kx2230 kx2247 kx2314 kx2331 kx2398 kx2415 kx2466 kx2483 kx2511 kx2524 kx2548 kx2573))) else (
    kx1017 σ268))) else (
    (if (x33 &&& 63) = 14 then (
    (sX L xs (v4 + 1)).bind fun x274 =>
    (sX L xs (v4 + 2)).bind fun x275 =>
    dn (FX0_change y1 x274 x275 y3 σ) fun (x276, σ277) =>
    (sX L xs (v4 + 1)).bind fun x278 =>
    (sX L xs (v4 + 2)).bind fun x279 =>
    (rv 8 y2 σ277).bind fun q280 =>
    (FX8_change q280 x278 x279 σ277).bind fun (x282, σ283) =>
    (rv 8 y2 σ283).bind fun q284 =>
    (FX8_thrown q284 σ283).bind fun (x286, σ287) =>
    (if x286 = x276 then (
    (if x276 = 0 then (
    (aI 104 y3 0 σ287).bind fun x288 =>
    (if (lcx x288 x282) = 0 then (
    FL_law_23 L xs y1 y2 y3 n (v4 + 6) σ287 kx2581 kx323 kx348 kx372 kx389 kx416 kx433 kx449 kx497 kx514 kx565 kx582 kx621 kx638 kx689 kx706 kx757 kx774 kx825 kx842 kx881 kx898 kx949 kx966 kx1017 kx1034 kx1085 kx1102 kx1153 kx1170 kx1233 kx1250 kx1301 kx1318 kx1357 kx1374 kx1390 kx1403 kx1416 kx1429 kx1442 kx1455 kx1468 kx1516 kx1533 kx1572 kx1589 kx1605 kx1641 kx1665 kx1704 kx1721 kx1760 kx1777 kx1804 kx1821 kx1849 kx1885 kx1902 kx1941 kx1958 kx1997 kx2014 kx2058 kx2106 kx2123 kx2174 kx2191 kx2230 kx2247 kx2314 kx2331 kx2398 kx2415 kx2466 kx2483 kx2511 kx2524 kx2548 kx2573) else (
    kx1102 σ287))) else (
    FL_law_23 L xs y1 y2 y3 n (v4 + 6) σ287 kx2581 kx323 kx348 kx372 kx389 kx416 kx433 kx449 kx497 kx514 kx565 kx582 kx621 kx638 kx689 kx706 kx757 kx774 kx825 kx842 kx881 kx898 kx949 kx966 kx1017 kx1034 kx1085 kx1102 kx1153 kx1170 kx1233 kx1250 kx1301 kx1318 kx1357 kx1374 kx1390 kx1403 kx1416 kx1429 kx1442 kx1455 kx1468 kx1516 kx1533 kx1572 kx1589 kx1605 kx1641 kx1665 kx1704 kx1721 kx1760 kx1777 kx1804 kx1821 kx1849 kx1885 kx1902 kx1941 kx1958 kx1997 kx2014 kx2058 kx2106 kx2123 kx2174 kx2191 kx2230 kx2247 kx2314 kx2331 kx2398 kx2415 kx2466 kx2483 kx2511 kx2524 kx2548 kx2573))) else (
    kx1085 σ287))) else (
    (if (x33 &&& 63) = 15 then (
    (sX L xs (v4 + 1)).bind fun x293 =>
    (sX L xs (v4 + 2)).bind fun x294 =>
    dn (FX0_shave y1 x293 x294 y3 σ) fun (x295, σ296) =>
    (sX L xs (v4 + 1)).bind fun x297 =>
    (sX L xs (v4 + 2)).bind fun x298 =>
    (rv 8 y2 σ296).bind fun q299 =>
    (FX8_shave q299 x297 x298 σ296).bind fun (x301, σ302) =>
    (rv 8 y2 σ302).bind fun q303 =>
    (FX8_thrown q303 σ302).bind fun (x305, σ306) =>
    (if x305 = x295 then (
    (if x295 = 0 then (
    (aI 104 y3 0 σ306).bind fun x307 =>
    (if (lcx x307 x301) = 0 then (
    FL_law_23 L xs y1 y2 y3 n (v4 + 6) σ306 kx2581 kx323 kx348 kx372 kx389 kx416 kx433 kx449 kx497 kx514 kx565 kx582 kx621 kx638 kx689 kx706 kx757 kx774 kx825 kx842 kx881 kx898 kx949 kx966 kx1017 kx1034 kx1085 kx1102 kx1153 kx1170 kx1233 kx1250 kx1301 kx1318 kx1357 kx1374 kx1390 kx1403 kx1416 kx1429 kx1442 kx1455 kx1468 kx1516 kx1533 kx1572 kx1589 kx1605 kx1641 kx1665 kx1704 kx1721 kx1760 kx1777 kx1804 kx1821 kx1849 kx1885 kx1902 kx1941 kx1958 kx1997 kx2014 kx2058 kx2106 kx2123 kx2174 kx2191 kx2230 kx2247 kx2314 kx2331 kx2398 kx2415 kx2466 kx2483 kx2511 kx2524 kx2548 kx2573) else (
    kx1170 σ306))) else (
    FL_law_23 L xs y1 y2 y3 n (v4 + 6) σ306 kx2581 kx323 kx348 kx372 kx389 kx416 kx433 kx449 kx497 kx514 kx565 kx582 kx621 kx638 kx689 kx706 kx757 kx774 kx825 kx842 kx881 kx898 kx949 kx966 kx1017 kx1034 kx1085 kx1102 kx1153 kx1170 kx1233 kx1250 kx1301 kx1318 kx1357 kx1374 kx1390 kx1403 kx1416 kx1429 kx1442 kx1455 kx1468 kx1516 kx1533 kx1572 kx1589 kx1605 kx1641 kx1665 kx1704 kx1721 kx1760 kx1777 kx1804 kx1821 kx1849 kx1885 kx1902 kx1941 kx1958 kx1997 kx2014 kx2058 kx2106 kx2123 kx2174 kx2191 kx2230 kx2247 kx2314 kx2331 kx2398 kx2415 kx2466 kx2483 kx2511 kx2524 kx2548 kx2573))) else (
    kx1153 σ306))) else (
    (if (x33 &&& 63) = 16 then (
    (sX L xs (v4 + 1)).bind fun x312 =>
    (sX L xs (v4 + 2)).bind fun x313 =>
    (sX L xs (v4 + 3)).bind fun x314 =>
    dn (FX0_graft y1 x312 x313 x314 y3 σ) fun (x315, σ316) =>
    (sX L xs (v4 + 1)).bind fun x317 =>
    (sX L xs (v4 + 2)).bind fun x318 =>
    (sX L xs (v4 + 3)).bind fun x319 =>
    (rv 8 y2 σ316).bind fun q320 =>
    (FX8_graft q320 x317 x318 x319 σ316).bind fun (x322, σ323) =>
    (rv 8 y2 σ323).bind fun q324 =>
    (FX8_thrown q324 σ323).bind fun (x326, σ327) =>
    (if x326 = x315 then (
    (if x315 = 0 then (
    (aI 104 y3 0 σ327).bind fun x328 =>
    (if (lcx x328 x322) = 0 then (
    FL_law_23 L xs y1 y2 y3 n (v4 + 6) σ327 kx2581 kx323 kx348 kx372 kx389 kx416 kx433 kx449 kx497 kx514 kx565 kx582 kx621 kx638 kx689 kx706 kx757 kx774 kx825 kx842 kx881 kx898 kx949 kx966 kx1017 kx1034 kx1085 kx1102 kx1153 kx1170 kx1233 kx1250 kx1301 kx1318 kx1357 kx1374 kx1390 kx1403 kx1416 kx1429 kx1442 kx1455 kx1468 kx1516 kx1533 kx1572 kx1589 kx1605 kx1641 kx1665 kx1704 kx1721 kx1760 kx1777 kx1804 kx1821 kx1849 kx1885 kx1902 kx1941 kx1958 kx1997 kx2014 kx2058 kx2106 kx2123 kx2174 kx2191 kx2230 kx2247 kx2314 kx2331 kx2398 kx2415 kx2466 kx2483 kx2511 kx2524 kx2548 kx2573) else (
    kx1250 σ327))) else (
    FL_law_23 L xs y1 y2 y3 n (v4 + 6) σ327 kx2581 kx323 kx348 kx372 kx389 kx416 kx433 kx449 kx497 kx514 kx565 kx582 kx621 kx638 kx689 kx706 kx757 kx774 kx825 kx842 kx881 kx898 kx949 kx966 kx1017 kx1034 kx1085 kx1102 kx1153 kx1170 kx1233 kx1250 kx1301 kx1318 kx1357 kx1374 kx1390 kx1403 kx1416 kx1429 kx1442 kx1455 kx1468 kx1516 kx1533 kx1572 kx1589 kx1605 kx1641 kx1665 kx1704 kx1721 kx1760 kx1777 kx1804 kx1821 kx1849 kx1885 kx1902 kx1941 kx1958 kx1997 kx2014 kx2058 kx2106 kx2123 kx2174 kx2191 kx2230 kx2247 kx2314 kx2331 kx2398 kx2415 kx2466 kx2483 kx2511 kx2524 kx2548 kx2573))) else (
    kx1233 σ327))) else (
    (if (x33 &&& 63) = 17 then (
    (sX L xs (v4 + 1)).bind fun x333 =>
    (sX L xs (v4 + 2)).bind fun x334 =>
    dn (FX0_meet y1 x333 x334 y3 σ) fun (x335, σ336) =>
    (sX L xs (v4 + 1)).bind fun x337 =>
    (sX L xs (v4 + 2)).bind fun x338 =>
    (rv 8 y2 σ336).bind fun q339 =>
    (FX8_meet q339 x337 x338 σ336).bind fun (x341, σ342) =>
    (rv 8 y2 σ342).bind fun q343 =>
    (FX8_thrown q343 σ342).bind fun (x345, σ346) =>
    (if x345 = x335 then (
    (if x335 = 0 then (
    (aI 104 y3 0 σ346).bind fun x347 =>
    (if (lcx x347 x341) = 0 then (
    FL_law_23 L xs y1 y2 y3 n (v4 + 6) σ346 kx2581 kx323 kx348 kx372 kx389 kx416 kx433 kx449 kx497 kx514 kx565 kx582 kx621 kx638 kx689 kx706 kx757 kx774 kx825 kx842 kx881 kx898 kx949 kx966 kx1017 kx1034 kx1085 kx1102 kx1153 kx1170 kx1233 kx1250 kx1301 kx1318 kx1357 kx1374 kx1390 kx1403 kx1416 kx1429 kx1442 kx1455 kx1468 kx1516 kx1533 kx1572 kx1589 kx1605 kx1641 kx1665 kx1704 kx1721 kx1760 kx1777 kx1804 kx1821 kx1849 kx1885 kx1902 kx1941 kx1958 kx1997 kx2014 kx2058 kx2106 kx2123 kx2174 kx2191 kx2230 kx2247 kx2314 kx2331 kx2398 kx2415 kx2466 kx2483 kx2511 kx2524 kx2548 kx2573) else (
    kx1318 σ346))) else (
    FL_law_23 L xs y1 y2 y3 n (v4 + 6) σ346 kx2581 kx323 kx348 kx372 kx389 kx416 kx433 kx449 kx497 kx514 kx565 kx582 kx621 kx638 kx689 kx706 kx757 kx774 kx825 kx842 kx881 kx898 kx949 kx966 kx1017 kx1034 kx1085 kx1102 kx1153 kx1170 kx1233 kx1250 kx1301 kx1318 kx1357 kx1374 kx1390 kx1403 kx1416 kx1429 kx1442 kx1455 kx1468 kx1516 kx1533 kx1572 kx1589 kx1605 kx1641 kx1665 kx1704 kx1721 kx1760 kx1777 kx1804 kx1821 kx1849 kx1885 kx1902 kx1941 kx1958 kx1997 kx2014 kx2058 kx2106 kx2123 kx2174 kx2191 kx2230 kx2247 kx2314 kx2331 kx2398 kx2415 kx2466 kx2483 kx2511 kx2524 kx2548 kx2573))) else (
    kx1301 σ346))) else (
    (if (x33 &&& 63) = 18 then (
    (sX L xs (v4 + 1)).bind fun x352 =>
    dn (FX0_hours y1 x352 y3 σ) fun (x353, σ354) =>
    (sX L xs (v4 + 1)).bind fun x355 =>
    (rv 8 y2 σ354).bind fun q356 =>
    (FX8_hours q356 x355 σ354).bind fun (x358, σ359) =>
    (rv 8 y2 σ359).bind fun q360 =>
    (FX8_thrown q360 σ359).bind fun (x362, σ363) =>
    (if x362 = x353 then (
    (if x353 = 0 then (
    (aI 104 y3 0 σ363).bind fun x364 =>
    (if (lcx x364 x358) = 0 then (
    FL_law_23 L xs y1 y2 y3 n (v4 + 6) σ363 kx2581 kx323 kx348 kx372 kx389 kx416 kx433 kx449 kx497 kx514 kx565 kx582 kx621 kx638 kx689 kx706 kx757 kx774 kx825 kx842 kx881 kx898 kx949 kx966 kx1017 kx1034 kx1085 kx1102 kx1153 kx1170 kx1233 kx1250 kx1301 kx1318 kx1357 kx1374 kx1390 kx1403 kx1416 kx1429 kx1442 kx1455 kx1468 kx1516 kx1533 kx1572 kx1589 kx1605 kx1641 kx1665 kx1704 kx1721 kx1760 kx1777 kx1804 kx1821 kx1849 kx1885 kx1902 kx1941 kx1958 kx1997 kx2014 kx2058 kx2106 kx2123 kx2174 kx2191 kx2230 kx2247 kx2314 kx2331 kx2398 kx2415 kx2466 kx2483 kx2511 kx2524 kx2548 kx2573) else (
    kx1374 σ363))) else (
    FL_law_23 L xs y1 y2 y3 n (v4 + 6) σ363 kx2581 kx323 kx348 kx372 kx389 kx416 kx433 kx449 kx497 kx514 kx565 kx582 kx621 kx638 kx689 kx706 kx757 kx774 kx825 kx842 kx881 kx898 kx949 kx966 kx1017 kx1034 kx1085 kx1102 kx1153 kx1170 kx1233 kx1250 kx1301 kx1318 kx1357 kx1374 kx1390 kx1403 kx1416 kx1429 kx1442 kx1455 kx1468 kx1516 kx1533 kx1572 kx1589 kx1605 kx1641 kx1665 kx1704 kx1721 kx1760 kx1777 kx1804 kx1821 kx1849 kx1885 kx1902 kx1941 kx1958 kx1997 kx2014 kx2058 kx2106 kx2123 kx2174 kx2191 kx2230 kx2247 kx2314 kx2331 kx2398 kx2415 kx2466 kx2483 kx2511 kx2524 kx2548 kx2573))) else (
    kx1357 σ363))) else (
    (if (x33 &&& 63) = 19 then (
    (rv 1 y1 σ).bind fun q369 =>
    (FX1_wrong q369 σ).bind fun (x371, σ372) =>
    (rv 8 y2 σ372).bind fun q373 =>
    (FX8_wrong_2 q373 σ372).bind fun (x375, σ376) =>
    (if x371 = x375 then (
    FL_law_23 L xs y1 y2 y3 n (v4 + 6) σ376 kx2581 kx323 kx348 kx372 kx389 kx416 kx433 kx449 kx497 kx514 kx565 kx582 kx621 kx638 kx689 kx706 kx757 kx774 kx825 kx842 kx881 kx898 kx949 kx966 kx1017 kx1034 kx1085 kx1102 kx1153 kx1170 kx1233 kx1250 kx1301 kx1318 kx1357 kx1374 kx1390 kx1403 kx1416 kx1429 kx1442 kx1455 kx1468 kx1516 kx1533 kx1572 kx1589 kx1605 kx1641 kx1665 kx1704 kx1721 kx1760 kx1777 kx1804 kx1821 kx1849 kx1885 kx1902 kx1941 kx1958 kx1997 kx2014 kx2058 kx2106 kx2123 kx2174 kx2191 kx2230 kx2247 kx2314 kx2331 kx2398 kx2415 kx2466 kx2483 kx2511 kx2524 kx2548 kx2573) else (
    kx1390 σ376))) else (
    (if (x33 &&& 63) = 20 then (
    (rv 1 y1 σ).bind fun q379 =>
    (FX1_lost q379 σ).bind fun (x381, σ382) =>
    (rv 8 y2 σ382).bind fun q383 =>
    (FX8_lost q383 σ382).bind fun (x385, σ386) =>
    (if x381 = x385 then (
    FL_law_23 L xs y1 y2 y3 n (v4 + 6) σ386 kx2581 kx323 kx348 kx372 kx389 kx416 kx433 kx449 kx497 kx514 kx565 kx582 kx621 kx638 kx689 kx706 kx757 kx774 kx825 kx842 kx881 kx898 kx949 kx966 kx1017 kx1034 kx1085 kx1102 kx1153 kx1170 kx1233 kx1250 kx1301 kx1318 kx1357 kx1374 kx1390 kx1403 kx1416 kx1429 kx1442 kx1455 kx1468 kx1516 kx1533 kx1572 kx1589 kx1605 kx1641 kx1665 kx1704 kx1721 kx1760 kx1777 kx1804 kx1821 kx1849 kx1885 kx1902 kx1941 kx1958 kx1997 kx2014 kx2058 kx2106 kx2123 kx2174 kx2191 kx2230 kx2247 kx2314 kx2331 kx2398 kx2415 kx2466 kx2483 kx2511 kx2524 kx2548 kx2573) else (
    kx1403 σ386))) else (
    (if (x33 &&& 63) = 21 then (
    (rv 1 y1 σ).bind fun q389 =>
    (FX1_unclaimed q389 σ).bind fun (x391, σ392) =>
    (rv 8 y2 σ392).bind fun q393 =>
    (FX8_unclaimed q393 σ392).bind fun (x395, σ396) =>
    (if x391 = x395 then (
    FL_law_23 L xs y1 y2 y3 n (v4 + 6) σ396 kx2581 kx323 kx348 kx372 kx389 kx416 kx433 kx449 kx497 kx514 kx565 kx582 kx621 kx638 kx689 kx706 kx757 kx774 kx825 kx842 kx881 kx898 kx949 kx966 kx1017 kx1034 kx1085 kx1102 kx1153 kx1170 kx1233 kx1250 kx1301 kx1318 kx1357 kx1374 kx1390 kx1403 kx1416 kx1429 kx1442 kx1455 kx1468 kx1516 kx1533 kx1572 kx1589 kx1605 kx1641 kx1665 kx1704 kx1721 kx1760 kx1777 kx1804 kx1821 kx1849 kx1885 kx1902 kx1941 kx1958 kx1997 kx2014 kx2058 kx2106 kx2123 kx2174 kx2191 kx2230 kx2247 kx2314 kx2331 kx2398 kx2415 kx2466 kx2483 kx2511 kx2524 kx2548 kx2573) else (
    kx1416 σ396))) else (
    (if (x33 &&& 63) = 22 then (
    (rv 1 y1 σ).bind fun q399 =>
    (FX1_swaps q399 σ).bind fun (x401, σ402) =>
    (rv 8 y2 σ402).bind fun q403 =>
    (FX8_swaps q403 σ402).bind fun (x405, σ406) =>
    (if x401 = x405 then (
    FL_law_23 L xs y1 y2 y3 n (v4 + 6) σ406 kx2581 kx323 kx348 kx372 kx389 kx416 kx433 kx449 kx497 kx514 kx565 kx582 kx621 kx638 kx689 kx706 kx757 kx774 kx825 kx842 kx881 kx898 kx949 kx966 kx1017 kx1034 kx1085 kx1102 kx1153 kx1170 kx1233 kx1250 kx1301 kx1318 kx1357 kx1374 kx1390 kx1403 kx1416 kx1429 kx1442 kx1455 kx1468 kx1516 kx1533 kx1572 kx1589 kx1605 kx1641 kx1665 kx1704 kx1721 kx1760 kx1777 kx1804 kx1821 kx1849 kx1885 kx1902 kx1941 kx1958 kx1997 kx2014 kx2058 kx2106 kx2123 kx2174 kx2191 kx2230 kx2247 kx2314 kx2331 kx2398 kx2415 kx2466 kx2483 kx2511 kx2524 kx2548 kx2573) else (
    kx1429 σ406))) else (
    (if (x33 &&& 63) = 23 then (
    (rv 1 y1 σ).bind fun q409 =>
    (FX1_saved q409 σ).bind fun (x411, σ412) =>
    (rv 8 y2 σ412).bind fun q413 =>
    (FX8_saved q413 σ412).bind fun (x415, σ416) =>
    (if x411 = x415 then (
    FL_law_23 L xs y1 y2 y3 n (v4 + 6) σ416 kx2581 kx323 kx348 kx372 kx389 kx416 kx433 kx449 kx497 kx514 kx565 kx582 kx621 kx638 kx689 kx706 kx757 kx774 kx825 kx842 kx881 kx898 kx949 kx966 kx1017 kx1034 kx1085 kx1102 kx1153 kx1170 kx1233 kx1250 kx1301 kx1318 kx1357 kx1374 kx1390 kx1403 kx1416 kx1429 kx1442 kx1455 kx1468 kx1516 kx1533 kx1572 kx1589 kx1605 kx1641 kx1665 kx1704 kx1721 kx1760 kx1777 kx1804 kx1821 kx1849 kx1885 kx1902 kx1941 kx1958 kx1997 kx2014 kx2058 kx2106 kx2123 kx2174 kx2191 kx2230 kx2247 kx2314 kx2331 kx2398 kx2415 kx2466 kx2483 kx2511 kx2524 kx2548 kx2573) else (
    kx1442 σ416))) else (
    (if (x33 &&& 63) = 24 then (
    (rv 1 y1 σ).bind fun q419 =>
    (FX1_marks q419 σ).bind fun (x421, σ422) =>
    (rv 8 y2 σ422).bind fun q423 =>
    (FX8_marks q423 σ422).bind fun (x425, σ426) =>
    (if x421 = x425 then (
    FL_law_23 L xs y1 y2 y3 n (v4 + 6) σ426 kx2581 kx323 kx348 kx372 kx389 kx416 kx433 kx449 kx497 kx514 kx565 kx582 kx621 kx638 kx689 kx706 kx757 kx774 kx825 kx842 kx881 kx898 kx949 kx966 kx1017 kx1034 kx1085 kx1102 kx1153 kx1170 kx1233 kx1250 kx1301 kx1318 kx1357 kx1374 kx1390 kx1403 kx1416 kx1429 kx1442 kx1455 kx1468 kx1516 kx1533 kx1572 kx1589 kx1605 kx1641 kx1665 kx1704 kx1721 kx1760 kx1777 kx1804 kx1821 kx1849 kx1885 kx1902 kx1941 kx1958 kx1997 kx2014 kx2058 kx2106 kx2123 kx2174 kx2191 kx2230 kx2247 kx2314 kx2331 kx2398 kx2415 kx2466 kx2483 kx2511 kx2524 kx2548 kx2573) else (
    kx1455 σ426))) else (
    (if (x33 &&& 63) = 25 then (
    (rv 1 y1 σ).bind fun q429 =>
    (FX1_unknown q429 σ).bind fun (x431, σ432) =>
    (rv 8 y2 σ432).bind fun q433 =>
    (FX8_unknown q433 σ432).bind fun (x435, σ436) =>
    (if x431 = x435 then (
    FL_law_23 L xs y1 y2 y3 n (v4 + 6) σ436 kx2581 kx323 kx348 kx372 kx389 kx416 kx433 kx449 kx497 kx514 kx565 kx582 kx621 kx638 kx689 kx706 kx757 kx774 kx825 kx842 kx881 kx898 kx949 kx966 kx1017 kx1034 kx1085 kx1102 kx1153 kx1170 kx1233 kx1250 kx1301 kx1318 kx1357 kx1374 kx1390 kx1403 kx1416 kx1429 kx1442 kx1455 kx1468 kx1516 kx1533 kx1572 kx1589 kx1605 kx1641 kx1665 kx1704 kx1721 kx1760 kx1777 kx1804 kx1821 kx1849 kx1885 kx1902 kx1941 kx1958 kx1997 kx2014 kx2058 kx2106 kx2123 kx2174 kx2191 kx2230 kx2247 kx2314 kx2331 kx2398 kx2415 kx2466 kx2483 kx2511 kx2524 kx2548 kx2573) else (
    kx1468 σ436))) else (
    (if (x33 &&& 63) = 26 then (
    (sX L xs (v4 + 1)).bind fun x439 =>
    (sX L xs (v4 + 2)).bind fun x440 =>
    dn (FX0_passes y1 x439 x440 y3 σ) fun (x441, σ442) =>
    (sX L xs (v4 + 1)).bind fun x443 =>
    (sX L xs (v4 + 2)).bind fun x444 =>
    (rv 8 y2 σ442).bind fun q445 =>
    (FX8_passes q445 x443 x444 σ442).bind fun (x447, σ448) =>
    (rv 8 y2 σ448).bind fun q449 =>
    (FX8_thrown q449 σ448).bind fun (x451, σ452) =>
    (if x451 = x441 then (
    (if x441 = 0 then (
    (aI 104 y3 0 σ452).bind fun x453 =>
    (if (lcx x453 x447) = 0 then (
    FL_law_23 L xs y1 y2 y3 n (v4 + 6) σ452 kx2581 kx323 kx348 kx372 kx389 kx416 kx433 kx449 kx497 kx514 kx565 kx582 kx621 kx638 kx689 kx706 kx757 kx774 kx825 kx842 kx881 kx898 kx949 kx966 kx1017 kx1034 kx1085 kx1102 kx1153 kx1170 kx1233 kx1250 kx1301 kx1318 kx1357 kx1374 kx1390 kx1403 kx1416 kx1429 kx1442 kx1455 kx1468 kx1516 kx1533 kx1572 kx1589 kx1605 kx1641 kx1665 kx1704 kx1721 kx1760 kx1777 kx1804 kx1821 kx1849 kx1885 kx1902 kx1941 kx1958 kx1997 kx2014 kx2058 kx2106 kx2123 kx2174 kx2191 kx2230 kx2247 kx2314 kx2331 kx2398 kx2415 kx2466 kx2483 kx2511 kx2524 kx2548 kx2573) else (
    kx1533 σ452))) else (
    FL_law_23 L xs y1 y2 y3 n (v4 + 6) σ452 kx2581 kx323 kx348 kx372 kx389 kx416 kx433 kx449 kx497 kx514 kx565 kx582 kx621 kx638 kx689 kx706 kx757 kx774 kx825 kx842 kx881 kx898 kx949 kx966 kx1017 kx1034 kx1085 kx1102 kx1153 kx1170 kx1233 kx1250 kx1301 kx1318 kx1357 kx1374 kx1390 kx1403 kx1416 kx1429 kx1442 kx1455 kx1468 kx1516 kx1533 kx1572 kx1589 kx1605 kx1641 kx1665 kx1704 kx1721 kx1760 kx1777 kx1804 kx1821 kx1849 kx1885 kx1902 kx1941 kx1958 kx1997 kx2014 kx2058 kx2106 kx2123 kx2174 kx2191 kx2230 kx2247 kx2314 kx2331 kx2398 kx2415 kx2466 kx2483 kx2511 kx2524 kx2548 kx2573))) else (
    kx1516 σ452))) else (
    (if (x33 &&& 63) = 27 then (
    (sX L xs (v4 + 1)).bind fun x458 =>
    dn (FX0_core y1 x458 y3 σ) fun (x459, σ460) =>
    (sX L xs (v4 + 1)).bind fun x461 =>
    (rv 8 y2 σ460).bind fun q462 =>
    (FX8_core q462 x461 σ460).bind fun (x464, σ465) =>
    (rv 8 y2 σ465).bind fun q466 =>
    (FX8_thrown q466 σ465).bind fun (x468, σ469) =>
    (if x468 = x459 then (
    (if x459 = 0 then (
    (aI 104 y3 0 σ469).bind fun x470 =>
    (if (lcx x470 x464) = 0 then (
    FL_law_23 L xs y1 y2 y3 n (v4 + 6) σ469 kx2581 kx323 kx348 kx372 kx389 kx416 kx433 kx449 kx497 kx514 kx565 kx582 kx621 kx638 kx689 kx706 kx757 kx774 kx825 kx842 kx881 kx898 kx949 kx966 kx1017 kx1034 kx1085 kx1102 kx1153 kx1170 kx1233 kx1250 kx1301 kx1318 kx1357 kx1374 kx1390 kx1403 kx1416 kx1429 kx1442 kx1455 kx1468 kx1516 kx1533 kx1572 kx1589 kx1605 kx1641 kx1665 kx1704 kx1721 kx1760 kx1777 kx1804 kx1821 kx1849 kx1885 kx1902 kx1941 kx1958 kx1997 kx2014 kx2058 kx2106 kx2123 kx2174 kx2191 kx2230 kx2247 kx2314 kx2331 kx2398 kx2415 kx2466 kx2483 kx2511 kx2524 kx2548 kx2573) else (
    kx1589 σ469))) else (
    FL_law_23 L xs y1 y2 y3 n (v4 + 6) σ469 kx2581 kx323 kx348 kx372 kx389 kx416 kx433 kx449 kx497 kx514 kx565 kx582 kx621 kx638 kx689 kx706 kx757 kx774 kx825 kx842 kx881 kx898 kx949 kx966 kx1017 kx1034 kx1085 kx1102 kx1153 kx1170 kx1233 kx1250 kx1301 kx1318 kx1357 kx1374 kx1390 kx1403 kx1416 kx1429 kx1442 kx1455 kx1468 kx1516 kx1533 kx1572 kx1589 kx1605 kx1641 kx1665 kx1704 kx1721 kx1760 kx1777 kx1804 kx1821 kx1849 kx1885 kx1902 kx1941 kx1958 kx1997 kx2014 kx2058 kx2106 kx2123 kx2174 kx2191 kx2230 kx2247 kx2314 kx2331 kx2398 kx2415 kx2466 kx2483 kx2511 kx2524 kx2548 kx2573))) else (
    kx1572 σ469))) else (
    (if (x33 &&& 63) = 28 then (
    (rv 1 y1 σ).bind fun q475 =>
    (FX1_gains q475 σ).bind fun (x477, σ478) =>
    (rv 8 y2 σ478).bind fun q479 =>
    (FX8_gains q479 σ478).bind fun (x481, σ482) =>
    (if x477 = x481 then (
    FL_law_23 L xs y1 y2 y3 n (v4 + 6) σ482 kx2581 kx323 kx348 kx372 kx389 kx416 kx433 kx449 kx497 kx514 kx565 kx582 kx621 kx638 kx689 kx706 kx757 kx774 kx825 kx842 kx881 kx898 kx949 kx966 kx1017 kx1034 kx1085 kx1102 kx1153 kx1170 kx1233 kx1250 kx1301 kx1318 kx1357 kx1374 kx1390 kx1403 kx1416 kx1429 kx1442 kx1455 kx1468 kx1516 kx1533 kx1572 kx1589 kx1605 kx1641 kx1665 kx1704 kx1721 kx1760 kx1777 kx1804 kx1821 kx1849 kx1885 kx1902 kx1941 kx1958 kx1997 kx2014 kx2058 kx2106 kx2123 kx2174 kx2191 kx2230 kx2247 kx2314 kx2331 kx2398 kx2415 kx2466 kx2483 kx2511 kx2524 kx2548 kx2573) else (
    kx1605 σ482))) else (
    (if (x33 &&& 63) = 29 then (
    (sX L xs (v4 + 1)).bind fun x485 =>
    dn (FX0_block y1 x485 y3 σ) fun (x486, σ487) =>
    (sX L xs (v4 + 1)).bind fun x488 =>
    (rv 8 y2 σ487).bind fun q489 =>
    (FX8_block q489 x488 σ487).bind fun (x491, σ492) =>
    (rv 8 y2 σ492).bind fun q493 =>
    (FX8_thrown q493 σ492).bind fun (x495, σ496) =>
    (if x495 = x486 then (
    (if x486 = 0 then (
    (aI 104 y3 0 σ496).bind fun x497 =>
    jn (fun (z498 : Int32) (σ : Mm) => (
    (if (lcx x497 z498) = 0 then (
    FL_law_23 L xs y1 y2 y3 n (v4 + 6) σ kx2581 kx323 kx348 kx372 kx389 kx416 kx433 kx449 kx497 kx514 kx565 kx582 kx621 kx638 kx689 kx706 kx757 kx774 kx825 kx842 kx881 kx898 kx949 kx966 kx1017 kx1034 kx1085 kx1102 kx1153 kx1170 kx1233 kx1250 kx1301 kx1318 kx1357 kx1374 kx1390 kx1403 kx1416 kx1429 kx1442 kx1455 kx1468 kx1516 kx1533 kx1572 kx1589 kx1605 kx1641 kx1665 kx1704 kx1721 kx1760 kx1777 kx1804 kx1821 kx1849 kx1885 kx1902 kx1941 kx1958 kx1997 kx2014 kx2058 kx2106 kx2123 kx2174 kx2191 kx2230 kx2247 kx2314 kx2331 kx2398 kx2415 kx2466 kx2483 kx2511 kx2524 kx2548 kx2573) else (
    kx1665 σ)))) fun J1661 =>
    (if x491 = 0 then (
    J1661 0 σ496) else (
    J1661 1 σ496))) else (
    FL_law_23 L xs y1 y2 y3 n (v4 + 6) σ496 kx2581 kx323 kx348 kx372 kx389 kx416 kx433 kx449 kx497 kx514 kx565 kx582 kx621 kx638 kx689 kx706 kx757 kx774 kx825 kx842 kx881 kx898 kx949 kx966 kx1017 kx1034 kx1085 kx1102 kx1153 kx1170 kx1233 kx1250 kx1301 kx1318 kx1357 kx1374 kx1390 kx1403 kx1416 kx1429 kx1442 kx1455 kx1468 kx1516 kx1533 kx1572 kx1589 kx1605 kx1641 kx1665 kx1704 kx1721 kx1760 kx1777 kx1804 kx1821 kx1849 kx1885 kx1902 kx1941 kx1958 kx1997 kx2014 kx2058 kx2106 kx2123 kx2174 kx2191 kx2230 kx2247 kx2314 kx2331 kx2398 kx2415 kx2466 kx2483 kx2511 kx2524 kx2548 kx2573))) else (
    kx1641 σ496))) else (
    (if (x33 &&& 63) = 30 then (
    (sX L xs (v4 + 1)).bind fun x504 =>
    dn (FX0_fits y1 x504 y3 σ) fun (x505, σ506) =>
    (sX L xs (v4 + 1)).bind fun x507 =>
    (rv 8 y2 σ506).bind fun q508 =>
    (FX8_fits q508 x507 σ506).bind fun (x510, σ511) =>
    (rv 8 y2 σ511).bind fun q512 =>
    (FX8_thrown q512 σ511).bind fun (x514, σ515) =>
    (if x514 = x505 then (
    (if x505 = 0 then (
    (aI 104 y3 0 σ515).bind fun x516 =>
    (if (lcx x516 x510) = 0 then (
    FL_law_23 L xs y1 y2 y3 n (v4 + 6) σ515 kx2581 kx323 kx348 kx372 kx389 kx416 kx433 kx449 kx497 kx514 kx565 kx582 kx621 kx638 kx689 kx706 kx757 kx774 kx825 kx842 kx881 kx898 kx949 kx966 kx1017 kx1034 kx1085 kx1102 kx1153 kx1170 kx1233 kx1250 kx1301 kx1318 kx1357 kx1374 kx1390 kx1403 kx1416 kx1429 kx1442 kx1455 kx1468 kx1516 kx1533 kx1572 kx1589 kx1605 kx1641 kx1665 kx1704 kx1721 kx1760 kx1777 kx1804 kx1821 kx1849 kx1885 kx1902 kx1941 kx1958 kx1997 kx2014 kx2058 kx2106 kx2123 kx2174 kx2191 kx2230 kx2247 kx2314 kx2331 kx2398 kx2415 kx2466 kx2483 kx2511 kx2524 kx2548 kx2573) else (
    kx1721 σ515))) else (
    FL_law_23 L xs y1 y2 y3 n (v4 + 6) σ515 kx2581 kx323 kx348 kx372 kx389 kx416 kx433 kx449 kx497 kx514 kx565 kx582 kx621 kx638 kx689 kx706 kx757 kx774 kx825 kx842 kx881 kx898 kx949 kx966 kx1017 kx1034 kx1085 kx1102 kx1153 kx1170 kx1233 kx1250 kx1301 kx1318 kx1357 kx1374 kx1390 kx1403 kx1416 kx1429 kx1442 kx1455 kx1468 kx1516 kx1533 kx1572 kx1589 kx1605 kx1641 kx1665 kx1704 kx1721 kx1760 kx1777 kx1804 kx1821 kx1849 kx1885 kx1902 kx1941 kx1958 kx1997 kx2014 kx2058 kx2106 kx2123 kx2174 kx2191 kx2230 kx2247 kx2314 kx2331 kx2398 kx2415 kx2466 kx2483 kx2511 kx2524 kx2548 kx2573))) else (
    kx1704 σ515))) else (
    (if (x33 &&& 63) = 31 then (
    (sX L xs (v4 + 1)).bind fun x521 =>
    dn (FX0_ask y1 x521 y3 σ) fun (x522, σ523) =>
    (sX L xs (v4 + 1)).bind fun x524 =>
    (rv 8 y2 σ523).bind fun q525 =>
    (FX8_ask q525 x524 σ523).bind fun (x527, σ528) =>
    (rv 8 y2 σ528).bind fun q529 =>
    (FX8_thrown q529 σ528).bind fun (x531, σ532) =>
    (if x531 = x522 then (
    (if x522 = 0 then (
    (aI 104 y3 0 σ532).bind fun x533 =>
    (if (lcx x533 x527) = 0 then (
    FL_law_23 L xs y1 y2 y3 n (v4 + 6) σ532 kx2581 kx323 kx348 kx372 kx389 kx416 kx433 kx449 kx497 kx514 kx565 kx582 kx621 kx638 kx689 kx706 kx757 kx774 kx825 kx842 kx881 kx898 kx949 kx966 kx1017 kx1034 kx1085 kx1102 kx1153 kx1170 kx1233 kx1250 kx1301 kx1318 kx1357 kx1374 kx1390 kx1403 kx1416 kx1429 kx1442 kx1455 kx1468 kx1516 kx1533 kx1572 kx1589 kx1605 kx1641 kx1665 kx1704 kx1721 kx1760 kx1777 kx1804 kx1821 kx1849 kx1885 kx1902 kx1941 kx1958 kx1997 kx2014 kx2058 kx2106 kx2123 kx2174 kx2191 kx2230 kx2247 kx2314 kx2331 kx2398 kx2415 kx2466 kx2483 kx2511 kx2524 kx2548 kx2573) else (
    kx1777 σ532))) else (
    FL_law_23 L xs y1 y2 y3 n (v4 + 6) σ532 kx2581 kx323 kx348 kx372 kx389 kx416 kx433 kx449 kx497 kx514 kx565 kx582 kx621 kx638 kx689 kx706 kx757 kx774 kx825 kx842 kx881 kx898 kx949 kx966 kx1017 kx1034 kx1085 kx1102 kx1153 kx1170 kx1233 kx1250 kx1301 kx1318 kx1357 kx1374 kx1390 kx1403 kx1416 kx1429 kx1442 kx1455 kx1468 kx1516 kx1533 kx1572 kx1589 kx1605 kx1641 kx1665 kx1704 kx1721 kx1760 kx1777 kx1804 kx1821 kx1849 kx1885 kx1902 kx1941 kx1958 kx1997 kx2014 kx2058 kx2106 kx2123 kx2174 kx2191 kx2230 kx2247 kx2314 kx2331 kx2398 kx2415 kx2466 kx2483 kx2511 kx2524 kx2548 kx2573))) else (
    kx1760 σ532))) else (
    (if (x33 &&& 63) = 32 then (
    dn (FX0_clash y1 y3 σ) fun (x538, σ539) =>
    (rv 8 y2 σ539).bind fun q540 =>
    (FX8_clash q540 σ539).bind fun (x542, σ543) =>
    (rv 8 y2 σ543).bind fun q544 =>
    (FX8_thrown q544 σ543).bind fun (x546, σ547) =>
    (if x546 = x538 then (
    (if x538 = 0 then (
    (aI 104 y3 0 σ547).bind fun x548 =>
    (if (lcx x548 x542) = 0 then (
    FL_law_23 L xs y1 y2 y3 n (v4 + 6) σ547 kx2581 kx323 kx348 kx372 kx389 kx416 kx433 kx449 kx497 kx514 kx565 kx582 kx621 kx638 kx689 kx706 kx757 kx774 kx825 kx842 kx881 kx898 kx949 kx966 kx1017 kx1034 kx1085 kx1102 kx1153 kx1170 kx1233 kx1250 kx1301 kx1318 kx1357 kx1374 kx1390 kx1403 kx1416 kx1429 kx1442 kx1455 kx1468 kx1516 kx1533 kx1572 kx1589 kx1605 kx1641 kx1665 kx1704 kx1721 kx1760 kx1777 kx1804 kx1821 kx1849 kx1885 kx1902 kx1941 kx1958 kx1997 kx2014 kx2058 kx2106 kx2123 kx2174 kx2191 kx2230 kx2247 kx2314 kx2331 kx2398 kx2415 kx2466 kx2483 kx2511 kx2524 kx2548 kx2573) else (
    kx1821 σ547))) else (
    FL_law_23 L xs y1 y2 y3 n (v4 + 6) σ547 kx2581 kx323 kx348 kx372 kx389 kx416 kx433 kx449 kx497 kx514 kx565 kx582 kx621 kx638 kx689 kx706 kx757 kx774 kx825 kx842 kx881 kx898 kx949 kx966 kx1017 kx1034 kx1085 kx1102 kx1153 kx1170 kx1233 kx1250 kx1301 kx1318 kx1357 kx1374 kx1390 kx1403 kx1416 kx1429 kx1442 kx1455 kx1468 kx1516 kx1533 kx1572 kx1589 kx1605 kx1641 kx1665 kx1704 kx1721 kx1760 kx1777 kx1804 kx1821 kx1849 kx1885 kx1902 kx1941 kx1958 kx1997 kx2014 kx2058 kx2106 kx2123 kx2174 kx2191 kx2230 kx2247 kx2314 kx2331 kx2398 kx2415 kx2466 kx2483 kx2511 kx2524 kx2548 kx2573))) else (
    kx1804 σ547))) else (
    (if (x33 &&& 63) = 33 then (
    (sX L xs (v4 + 1)).bind fun x553 =>
    (rv 1 y1 σ).bind fun q554 =>
    (FX1_queue q554 x553 σ).bind fun (x556, σ557) =>
    (sX L xs (v4 + 1)).bind fun x558 =>
    (rv 8 y2 σ557).bind fun q559 =>
    (FX8_queue q559 x558 σ557).bind fun (x561, σ562) =>
    (if x556 = x561 then (
    FL_law_23 L xs y1 y2 y3 n (v4 + 6) σ562 kx2581 kx323 kx348 kx372 kx389 kx416 kx433 kx449 kx497 kx514 kx565 kx582 kx621 kx638 kx689 kx706 kx757 kx774 kx825 kx842 kx881 kx898 kx949 kx966 kx1017 kx1034 kx1085 kx1102 kx1153 kx1170 kx1233 kx1250 kx1301 kx1318 kx1357 kx1374 kx1390 kx1403 kx1416 kx1429 kx1442 kx1455 kx1468 kx1516 kx1533 kx1572 kx1589 kx1605 kx1641 kx1665 kx1704 kx1721 kx1760 kx1777 kx1804 kx1821 kx1849 kx1885 kx1902 kx1941 kx1958 kx1997 kx2014 kx2058 kx2106 kx2123 kx2174 kx2191 kx2230 kx2247 kx2314 kx2331 kx2398 kx2415 kx2466 kx2483 kx2511 kx2524 kx2548 kx2573) else (
    kx1849 σ562))) else (
    (if (x33 &&& 63) = 34 then (
    (sX L xs (v4 + 1)).bind fun x565 =>
    dn (FX0_forged y1 x565 y3 σ) fun (x566, σ567) =>
    (sX L xs (v4 + 1)).bind fun x568 =>
    (rv 8 y2 σ567).bind fun q569 =>
    (FX8_forged q569 x568 σ567).bind fun (x571, σ572) =>
    (rv 8 y2 σ572).bind fun q573 =>
    (FX8_thrown q573 σ572).bind fun (x575, σ576) =>
    (if x575 = x566 then (
    (if x566 = 0 then (
    (aI 104 y3 0 σ576).bind fun x577 =>
    (if (lcx x577 x571) = 0 then (
    FL_law_23 L xs y1 y2 y3 n (v4 + 6) σ576 kx2581 kx323 kx348 kx372 kx389 kx416 kx433 kx449 kx497 kx514 kx565 kx582 kx621 kx638 kx689 kx706 kx757 kx774 kx825 kx842 kx881 kx898 kx949 kx966 kx1017 kx1034 kx1085 kx1102 kx1153 kx1170 kx1233 kx1250 kx1301 kx1318 kx1357 kx1374 kx1390 kx1403 kx1416 kx1429 kx1442 kx1455 kx1468 kx1516 kx1533 kx1572 kx1589 kx1605 kx1641 kx1665 kx1704 kx1721 kx1760 kx1777 kx1804 kx1821 kx1849 kx1885 kx1902 kx1941 kx1958 kx1997 kx2014 kx2058 kx2106 kx2123 kx2174 kx2191 kx2230 kx2247 kx2314 kx2331 kx2398 kx2415 kx2466 kx2483 kx2511 kx2524 kx2548 kx2573) else (
    kx1902 σ576))) else (
    FL_law_23 L xs y1 y2 y3 n (v4 + 6) σ576 kx2581 kx323 kx348 kx372 kx389 kx416 kx433 kx449 kx497 kx514 kx565 kx582 kx621 kx638 kx689 kx706 kx757 kx774 kx825 kx842 kx881 kx898 kx949 kx966 kx1017 kx1034 kx1085 kx1102 kx1153 kx1170 kx1233 kx1250 kx1301 kx1318 kx1357 kx1374 kx1390 kx1403 kx1416 kx1429 kx1442 kx1455 kx1468 kx1516 kx1533 kx1572 kx1589 kx1605 kx1641 kx1665 kx1704 kx1721 kx1760 kx1777 kx1804 kx1821 kx1849 kx1885 kx1902 kx1941 kx1958 kx1997 kx2014 kx2058 kx2106 kx2123 kx2174 kx2191 kx2230 kx2247 kx2314 kx2331 kx2398 kx2415 kx2466 kx2483 kx2511 kx2524 kx2548 kx2573))) else (
    kx1885 σ576))) else (
    (if (x33 &&& 63) = 35 then (
    (sX L xs (v4 + 1)).bind fun x582 =>
    dn (FX0_ways y1 x582 y3 σ) fun (x583, σ584) =>
    (sX L xs (v4 + 1)).bind fun x585 =>
    (rv 8 y2 σ584).bind fun q586 =>
    (FX8_ways q586 x585 σ584).bind fun (x588, σ589) =>
    (rv 8 y2 σ589).bind fun q590 =>
    (FX8_thrown q590 σ589).bind fun (x592, σ593) =>
    (if x592 = x583 then (
    (if x583 = 0 then (
    (aI 104 y3 0 σ593).bind fun x594 =>
    (if (lcx x594 x588) = 0 then (
    FL_law_23 L xs y1 y2 y3 n (v4 + 6) σ593 kx2581 kx323 kx348 kx372 kx389 kx416 kx433 kx449 kx497 kx514 kx565 kx582 kx621 kx638 kx689 kx706 kx757 kx774 kx825 kx842 kx881 kx898 kx949 kx966 kx1017 kx1034 kx1085 kx1102 kx1153 kx1170 kx1233 kx1250 kx1301 kx1318 kx1357 kx1374 kx1390 kx1403 kx1416 kx1429 kx1442 kx1455 kx1468 kx1516 kx1533 kx1572 kx1589 kx1605 kx1641 kx1665 kx1704 kx1721 kx1760 kx1777 kx1804 kx1821 kx1849 kx1885 kx1902 kx1941 kx1958 kx1997 kx2014 kx2058 kx2106 kx2123 kx2174 kx2191 kx2230 kx2247 kx2314 kx2331 kx2398 kx2415 kx2466 kx2483 kx2511 kx2524 kx2548 kx2573) else (
    kx1958 σ593))) else (
    FL_law_23 L xs y1 y2 y3 n (v4 + 6) σ593 kx2581 kx323 kx348 kx372 kx389 kx416 kx433 kx449 kx497 kx514 kx565 kx582 kx621 kx638 kx689 kx706 kx757 kx774 kx825 kx842 kx881 kx898 kx949 kx966 kx1017 kx1034 kx1085 kx1102 kx1153 kx1170 kx1233 kx1250 kx1301 kx1318 kx1357 kx1374 kx1390 kx1403 kx1416 kx1429 kx1442 kx1455 kx1468 kx1516 kx1533 kx1572 kx1589 kx1605 kx1641 kx1665 kx1704 kx1721 kx1760 kx1777 kx1804 kx1821 kx1849 kx1885 kx1902 kx1941 kx1958 kx1997 kx2014 kx2058 kx2106 kx2123 kx2174 kx2191 kx2230 kx2247 kx2314 kx2331 kx2398 kx2415 kx2466 kx2483 kx2511 kx2524 kx2548 kx2573))) else (
    kx1941 σ593))) else (
    (if (x33 &&& 63) = 36 then (
    (sX L xs (v4 + 1)).bind fun x599 =>
    dn (FX0_talk y1 x599 y3 σ) fun (x600, σ601) =>
    (sX L xs (v4 + 1)).bind fun x602 =>
    (rv 8 y2 σ601).bind fun q603 =>
    (FX8_talk q603 x602 σ601).bind fun (x605, σ606) =>
    (rv 8 y2 σ606).bind fun q607 =>
    (FX8_thrown q607 σ606).bind fun (x609, σ610) =>
    (if x609 = x600 then (
    (if x600 = 0 then (
    (aI 104 y3 0 σ610).bind fun x611 =>
    (if (lcx x611 x605) = 0 then (
    FL_law_23 L xs y1 y2 y3 n (v4 + 6) σ610 kx2581 kx323 kx348 kx372 kx389 kx416 kx433 kx449 kx497 kx514 kx565 kx582 kx621 kx638 kx689 kx706 kx757 kx774 kx825 kx842 kx881 kx898 kx949 kx966 kx1017 kx1034 kx1085 kx1102 kx1153 kx1170 kx1233 kx1250 kx1301 kx1318 kx1357 kx1374 kx1390 kx1403 kx1416 kx1429 kx1442 kx1455 kx1468 kx1516 kx1533 kx1572 kx1589 kx1605 kx1641 kx1665 kx1704 kx1721 kx1760 kx1777 kx1804 kx1821 kx1849 kx1885 kx1902 kx1941 kx1958 kx1997 kx2014 kx2058 kx2106 kx2123 kx2174 kx2191 kx2230 kx2247 kx2314 kx2331 kx2398 kx2415 kx2466 kx2483 kx2511 kx2524 kx2548 kx2573) else (
    kx2014 σ610))) else (
    FL_law_23 L xs y1 y2 y3 n (v4 + 6) σ610 kx2581 kx323 kx348 kx372 kx389 kx416 kx433 kx449 kx497 kx514 kx565 kx582 kx621 kx638 kx689 kx706 kx757 kx774 kx825 kx842 kx881 kx898 kx949 kx966 kx1017 kx1034 kx1085 kx1102 kx1153 kx1170 kx1233 kx1250 kx1301 kx1318 kx1357 kx1374 kx1390 kx1403 kx1416 kx1429 kx1442 kx1455 kx1468 kx1516 kx1533 kx1572 kx1589 kx1605 kx1641 kx1665 kx1704 kx1721 kx1760 kx1777 kx1804 kx1821 kx1849 kx1885 kx1902 kx1941 kx1958 kx1997 kx2014 kx2058 kx2106 kx2123 kx2174 kx2191 kx2230 kx2247 kx2314 kx2331 kx2398 kx2415 kx2466 kx2483 kx2511 kx2524 kx2548 kx2573))) else (
    kx1997 σ610))) else (
    (if (x33 &&& 63) = 37 then (
    (sX L xs (v4 + 1)).bind fun x616 =>
    jn (fun (z617 : Int32) (σ : Mm) => (
    (rv 1 y1 σ).bind fun q618 =>
    (FX1_row q618 z617 σ).bind fun (x620, σ621) =>
    (sX L xs (v4 + 1)).bind fun x622 =>
    jn (fun (z623 : Int32) (σ : Mm) => (
    (rv 8 y2 σ).bind fun q624 =>
    (FX8_row q624 z623 σ).bind fun (x626, σ627) =>
    (if x620 = x626 then (
    FL_law_23 L xs y1 y2 y3 n (v4 + 6) σ627 kx2581 kx323 kx348 kx372 kx389 kx416 kx433 kx449 kx497 kx514 kx565 kx582 kx621 kx638 kx689 kx706 kx757 kx774 kx825 kx842 kx881 kx898 kx949 kx966 kx1017 kx1034 kx1085 kx1102 kx1153 kx1170 kx1233 kx1250 kx1301 kx1318 kx1357 kx1374 kx1390 kx1403 kx1416 kx1429 kx1442 kx1455 kx1468 kx1516 kx1533 kx1572 kx1589 kx1605 kx1641 kx1665 kx1704 kx1721 kx1760 kx1777 kx1804 kx1821 kx1849 kx1885 kx1902 kx1941 kx1958 kx1997 kx2014 kx2058 kx2106 kx2123 kx2174 kx2191 kx2230 kx2247 kx2314 kx2331 kx2398 kx2415 kx2466 kx2483 kx2511 kx2524 kx2548 kx2573) else (
    kx2058 σ627)))) fun J2052 =>
    (if x622 = 0 then (
    J2052 0 σ621) else (
    J2052 1 σ621)))) fun J2034 =>
    (if x616 = 0 then (
    J2034 0 σ) else (
    J2034 1 σ))) else (
    (if (x33 &&& 63) = 38 then (
    (sX L xs (v4 + 1)).bind fun x632 =>
    (sX L xs (v4 + 2)).bind fun x633 =>
    dn (FX0_chain y1 x632 x633 y3 σ) fun (x634, σ635) =>
    (sX L xs (v4 + 1)).bind fun x636 =>
    (sX L xs (v4 + 2)).bind fun x637 =>
    (rv 8 y2 σ635).bind fun q638 =>
    (FX8_chain q638 x636 x637 σ635).bind fun (x640, σ641) =>
    (rv 8 y2 σ641).bind fun q642 =>
    (FX8_thrown q642 σ641).bind fun (x644, σ645) =>
    (if x644 = x634 then (
    (if x634 = 0 then (
    (aI 104 y3 0 σ645).bind fun x646 =>
    (if (lcx x646 x640) = 0 then (
    FL_law_23 L xs y1 y2 y3 n (v4 + 6) σ645 kx2581 kx323 kx348 kx372 kx389 kx416 kx433 kx449 kx497 kx514 kx565 kx582 kx621 kx638 kx689 kx706 kx757 kx774 kx825 kx842 kx881 kx898 kx949 kx966 kx1017 kx1034 kx1085 kx1102 kx1153 kx1170 kx1233 kx1250 kx1301 kx1318 kx1357 kx1374 kx1390 kx1403 kx1416 kx1429 kx1442 kx1455 kx1468 kx1516 kx1533 kx1572 kx1589 kx1605 kx1641 kx1665 kx1704 kx1721 kx1760 kx1777 kx1804 kx1821 kx1849 kx1885 kx1902 kx1941 kx1958 kx1997 kx2014 kx2058 kx2106 kx2123 kx2174 kx2191 kx2230 kx2247 kx2314 kx2331 kx2398 kx2415 kx2466 kx2483 kx2511 kx2524 kx2548 kx2573) else (
    kx2123 σ645))) else (
    FL_law_23 L xs y1 y2 y3 n (v4 + 6) σ645 kx2581 kx323 kx348 kx372 kx389 kx416 kx433 kx449 kx497 kx514 kx565 kx582 kx621 kx638 kx689 kx706 kx757 kx774 kx825 kx842 kx881 kx898 kx949 kx966 kx1017 kx1034 kx1085 kx1102 kx1153 kx1170 kx1233 kx1250 kx1301 kx1318 kx1357 kx1374 kx1390 kx1403 kx1416 kx1429 kx1442 kx1455 kx1468 kx1516 kx1533 kx1572 kx1589 kx1605 kx1641 kx1665 kx1704 kx1721 kx1760 kx1777 kx1804 kx1821 kx1849 kx1885 kx1902 kx1941 kx1958 kx1997 kx2014 kx2058 kx2106 kx2123 kx2174 kx2191 kx2230 kx2247 kx2314 kx2331 kx2398 kx2415 kx2466 kx2483 kx2511 kx2524 kx2548 kx2573))) else (
    kx2106 σ645))) else (
    (if (x33 &&& 63) = 39 then (
    (sX L xs (v4 + 1)).bind fun x651 =>
    (sX L xs (v4 + 2)).bind fun x652 =>
    dn (FX0_hears y1 x651 x652 y3 σ) fun (x653, σ654) =>
    (sX L xs (v4 + 1)).bind fun x655 =>
    (sX L xs (v4 + 2)).bind fun x656 =>
    (rv 8 y2 σ654).bind fun q657 =>
    (FX8_hears_2 q657 x655 x656 σ654).bind fun (x659, σ660) =>
    (rv 8 y2 σ660).bind fun q661 =>
    (FX8_thrown q661 σ660).bind fun (x663, σ664) =>
    (if x663 = x653 then (
    (if x653 = 0 then (
    (aI 104 y3 0 σ664).bind fun x665 =>
    (if (lcx x665 x659) = 0 then (
    FL_law_23 L xs y1 y2 y3 n (v4 + 6) σ664 kx2581 kx323 kx348 kx372 kx389 kx416 kx433 kx449 kx497 kx514 kx565 kx582 kx621 kx638 kx689 kx706 kx757 kx774 kx825 kx842 kx881 kx898 kx949 kx966 kx1017 kx1034 kx1085 kx1102 kx1153 kx1170 kx1233 kx1250 kx1301 kx1318 kx1357 kx1374 kx1390 kx1403 kx1416 kx1429 kx1442 kx1455 kx1468 kx1516 kx1533 kx1572 kx1589 kx1605 kx1641 kx1665 kx1704 kx1721 kx1760 kx1777 kx1804 kx1821 kx1849 kx1885 kx1902 kx1941 kx1958 kx1997 kx2014 kx2058 kx2106 kx2123 kx2174 kx2191 kx2230 kx2247 kx2314 kx2331 kx2398 kx2415 kx2466 kx2483 kx2511 kx2524 kx2548 kx2573) else (
    kx2191 σ664))) else (
    FL_law_23 L xs y1 y2 y3 n (v4 + 6) σ664 kx2581 kx323 kx348 kx372 kx389 kx416 kx433 kx449 kx497 kx514 kx565 kx582 kx621 kx638 kx689 kx706 kx757 kx774 kx825 kx842 kx881 kx898 kx949 kx966 kx1017 kx1034 kx1085 kx1102 kx1153 kx1170 kx1233 kx1250 kx1301 kx1318 kx1357 kx1374 kx1390 kx1403 kx1416 kx1429 kx1442 kx1455 kx1468 kx1516 kx1533 kx1572 kx1589 kx1605 kx1641 kx1665 kx1704 kx1721 kx1760 kx1777 kx1804 kx1821 kx1849 kx1885 kx1902 kx1941 kx1958 kx1997 kx2014 kx2058 kx2106 kx2123 kx2174 kx2191 kx2230 kx2247 kx2314 kx2331 kx2398 kx2415 kx2466 kx2483 kx2511 kx2524 kx2548 kx2573))) else (
    kx2174 σ664))) else (
    (if (x33 &&& 63) = 40 then (
    (sX L xs (v4 + 1)).bind fun x670 =>
    dn (FX0_trial y1 x670 y3 σ) fun (x671, σ672) =>
    (sX L xs (v4 + 1)).bind fun x673 =>
    (rv 8 y2 σ672).bind fun q674 =>
    (FX8_trial q674 x673 σ672).bind fun (x676, σ677) =>
    (rv 8 y2 σ677).bind fun q678 =>
    (FX8_thrown q678 σ677).bind fun (x680, σ681) =>
    (if x680 = x671 then (
    (if x671 = 0 then (
    (aI 104 y3 0 σ681).bind fun x682 =>
    (if (lcx x682 x676) = 0 then (
    FL_law_23 L xs y1 y2 y3 n (v4 + 6) σ681 kx2581 kx323 kx348 kx372 kx389 kx416 kx433 kx449 kx497 kx514 kx565 kx582 kx621 kx638 kx689 kx706 kx757 kx774 kx825 kx842 kx881 kx898 kx949 kx966 kx1017 kx1034 kx1085 kx1102 kx1153 kx1170 kx1233 kx1250 kx1301 kx1318 kx1357 kx1374 kx1390 kx1403 kx1416 kx1429 kx1442 kx1455 kx1468 kx1516 kx1533 kx1572 kx1589 kx1605 kx1641 kx1665 kx1704 kx1721 kx1760 kx1777 kx1804 kx1821 kx1849 kx1885 kx1902 kx1941 kx1958 kx1997 kx2014 kx2058 kx2106 kx2123 kx2174 kx2191 kx2230 kx2247 kx2314 kx2331 kx2398 kx2415 kx2466 kx2483 kx2511 kx2524 kx2548 kx2573) else (
    kx2247 σ681))) else (
    FL_law_23 L xs y1 y2 y3 n (v4 + 6) σ681 kx2581 kx323 kx348 kx372 kx389 kx416 kx433 kx449 kx497 kx514 kx565 kx582 kx621 kx638 kx689 kx706 kx757 kx774 kx825 kx842 kx881 kx898 kx949 kx966 kx1017 kx1034 kx1085 kx1102 kx1153 kx1170 kx1233 kx1250 kx1301 kx1318 kx1357 kx1374 kx1390 kx1403 kx1416 kx1429 kx1442 kx1455 kx1468 kx1516 kx1533 kx1572 kx1589 kx1605 kx1641 kx1665 kx1704 kx1721 kx1760 kx1777 kx1804 kx1821 kx1849 kx1885 kx1902 kx1941 kx1958 kx1997 kx2014 kx2058 kx2106 kx2123 kx2174 kx2191 kx2230 kx2247 kx2314 kx2331 kx2398 kx2415 kx2466 kx2483 kx2511 kx2524 kx2548 kx2573))) else (
    kx2230 σ681))) else (
    (if (x33 &&& 63) = 41 then (
    (sX L xs (v4 + 1)).bind fun x687 =>
    (sX L xs (v4 + 2)).bind fun x688 =>
    jn (fun (z689 : Int32) (σ : Mm) => (
    dn (FX0_span y1 x687 z689 y3 σ) fun (x690, σ691) =>
    (sX L xs (v4 + 1)).bind fun x692 =>
    (sX L xs (v4 + 2)).bind fun x693 =>
    jn (fun (z694 : Int32) (σ : Mm) => (
    (rv 8 y2 σ).bind fun q695 =>
    (FX8_span q695 x692 z694 σ).bind fun (x697, σ698) =>
    (rv 8 y2 σ698).bind fun q699 =>
    (FX8_thrown q699 σ698).bind fun (x701, σ702) =>
    (if x701 = x690 then (
    (if x690 = 0 then (
    (aI 104 y3 0 σ702).bind fun x703 =>
    (if (lcx x703 x697) = 0 then (
    FL_law_23 L xs y1 y2 y3 n (v4 + 6) σ702 kx2581 kx323 kx348 kx372 kx389 kx416 kx433 kx449 kx497 kx514 kx565 kx582 kx621 kx638 kx689 kx706 kx757 kx774 kx825 kx842 kx881 kx898 kx949 kx966 kx1017 kx1034 kx1085 kx1102 kx1153 kx1170 kx1233 kx1250 kx1301 kx1318 kx1357 kx1374 kx1390 kx1403 kx1416 kx1429 kx1442 kx1455 kx1468 kx1516 kx1533 kx1572 kx1589 kx1605 kx1641 kx1665 kx1704 kx1721 kx1760 kx1777 kx1804 kx1821 kx1849 kx1885 kx1902 kx1941 kx1958 kx1997 kx2014 kx2058 kx2106 kx2123 kx2174 kx2191 kx2230 kx2247 kx2314 kx2331 kx2398 kx2415 kx2466 kx2483 kx2511 kx2524 kx2548 kx2573) else (
    kx2331 σ702))) else (
    FL_law_23 L xs y1 y2 y3 n (v4 + 6) σ702 kx2581 kx323 kx348 kx372 kx389 kx416 kx433 kx449 kx497 kx514 kx565 kx582 kx621 kx638 kx689 kx706 kx757 kx774 kx825 kx842 kx881 kx898 kx949 kx966 kx1017 kx1034 kx1085 kx1102 kx1153 kx1170 kx1233 kx1250 kx1301 kx1318 kx1357 kx1374 kx1390 kx1403 kx1416 kx1429 kx1442 kx1455 kx1468 kx1516 kx1533 kx1572 kx1589 kx1605 kx1641 kx1665 kx1704 kx1721 kx1760 kx1777 kx1804 kx1821 kx1849 kx1885 kx1902 kx1941 kx1958 kx1997 kx2014 kx2058 kx2106 kx2123 kx2174 kx2191 kx2230 kx2247 kx2314 kx2331 kx2398 kx2415 kx2466 kx2483 kx2511 kx2524 kx2548 kx2573))) else (
    kx2314 σ702)))) fun J2300 =>
    (if x693 = 0 then (
    J2300 0 σ691) else (
    J2300 1 σ691)))) fun J2273 =>
    (if x688 = 0 then (
    J2273 0 σ) else (
    J2273 1 σ))) else (
    (if (x33 &&& 63) = 42 then (
    (sX L xs (v4 + 1)).bind fun x710 =>
    (sX L xs (v4 + 2)).bind fun x711 =>
    jn (fun (z712 : Int32) (σ : Mm) => (
    dn (FX0_led y1 x710 z712 y3 σ) fun (x713, σ714) =>
    (sX L xs (v4 + 1)).bind fun x715 =>
    (sX L xs (v4 + 2)).bind fun x716 =>
    jn (fun (z717 : Int32) (σ : Mm) => (
    (rv 8 y2 σ).bind fun q718 =>
    (FX8_led q718 x715 z717 σ).bind fun (x720, σ721) =>
    (rv 8 y2 σ721).bind fun q722 =>
    (FX8_thrown q722 σ721).bind fun (x724, σ725) =>
    (if x724 = x713 then (
    (if x713 = 0 then (
    (aI 104 y3 0 σ725).bind fun x726 =>
    (if (lcx x726 x720) = 0 then (
    FL_law_23 L xs y1 y2 y3 n (v4 + 6) σ725 kx2581 kx323 kx348 kx372 kx389 kx416 kx433 kx449 kx497 kx514 kx565 kx582 kx621 kx638 kx689 kx706 kx757 kx774 kx825 kx842 kx881 kx898 kx949 kx966 kx1017 kx1034 kx1085 kx1102 kx1153 kx1170 kx1233 kx1250 kx1301 kx1318 kx1357 kx1374 kx1390 kx1403 kx1416 kx1429 kx1442 kx1455 kx1468 kx1516 kx1533 kx1572 kx1589 kx1605 kx1641 kx1665 kx1704 kx1721 kx1760 kx1777 kx1804 kx1821 kx1849 kx1885 kx1902 kx1941 kx1958 kx1997 kx2014 kx2058 kx2106 kx2123 kx2174 kx2191 kx2230 kx2247 kx2314 kx2331 kx2398 kx2415 kx2466 kx2483 kx2511 kx2524 kx2548 kx2573) else (
    kx2415 σ725))) else (
    FL_law_23 L xs y1 y2 y3 n (v4 + 6) σ725 kx2581 kx323 kx348 kx372 kx389 kx416 kx433 kx449 kx497 kx514 kx565 kx582 kx621 kx638 kx689 kx706 kx757 kx774 kx825 kx842 kx881 kx898 kx949 kx966 kx1017 kx1034 kx1085 kx1102 kx1153 kx1170 kx1233 kx1250 kx1301 kx1318 kx1357 kx1374 kx1390 kx1403 kx1416 kx1429 kx1442 kx1455 kx1468 kx1516 kx1533 kx1572 kx1589 kx1605 kx1641 kx1665 kx1704 kx1721 kx1760 kx1777 kx1804 kx1821 kx1849 kx1885 kx1902 kx1941 kx1958 kx1997 kx2014 kx2058 kx2106 kx2123 kx2174 kx2191 kx2230 kx2247 kx2314 kx2331 kx2398 kx2415 kx2466 kx2483 kx2511 kx2524 kx2548 kx2573))) else (
    kx2398 σ725)))) fun J2384 =>
    (if x716 = 0 then (
    J2384 0 σ714) else (
    J2384 1 σ714)))) fun J2357 =>
    (if x711 = 0 then (
    J2357 0 σ) else (
    J2357 1 σ))) else (
    (if (x33 &&& 63) = 43 then (
    (sX L xs (v4 + 1)).bind fun x733 =>
    (sX L xs (v4 + 2)).bind fun x734 =>
    dn (FX0_log y1 x733 x734 y3 σ) fun (x735, σ736) =>
    (sX L xs (v4 + 1)).bind fun x737 =>
    (sX L xs (v4 + 2)).bind fun x738 =>
    (rv 8 y2 σ736).bind fun q739 =>
    (FX8_log q739 x737 x738 σ736).bind fun (x741, σ742) =>
    (rv 8 y2 σ742).bind fun q743 =>
    (FX8_thrown q743 σ742).bind fun (x745, σ746) =>
    (if x745 = x735 then (
    (if x735 = 0 then (
    (aI 104 y3 0 σ746).bind fun x747 =>
    (if (lcx x747 x741) = 0 then (
    FL_law_23 L xs y1 y2 y3 n (v4 + 6) σ746 kx2581 kx323 kx348 kx372 kx389 kx416 kx433 kx449 kx497 kx514 kx565 kx582 kx621 kx638 kx689 kx706 kx757 kx774 kx825 kx842 kx881 kx898 kx949 kx966 kx1017 kx1034 kx1085 kx1102 kx1153 kx1170 kx1233 kx1250 kx1301 kx1318 kx1357 kx1374 kx1390 kx1403 kx1416 kx1429 kx1442 kx1455 kx1468 kx1516 kx1533 kx1572 kx1589 kx1605 kx1641 kx1665 kx1704 kx1721 kx1760 kx1777 kx1804 kx1821 kx1849 kx1885 kx1902 kx1941 kx1958 kx1997 kx2014 kx2058 kx2106 kx2123 kx2174 kx2191 kx2230 kx2247 kx2314 kx2331 kx2398 kx2415 kx2466 kx2483 kx2511 kx2524 kx2548 kx2573) else (
    kx2483 σ746))) else (
    FL_law_23 L xs y1 y2 y3 n (v4 + 6) σ746 kx2581 kx323 kx348 kx372 kx389 kx416 kx433 kx449 kx497 kx514 kx565 kx582 kx621 kx638 kx689 kx706 kx757 kx774 kx825 kx842 kx881 kx898 kx949 kx966 kx1017 kx1034 kx1085 kx1102 kx1153 kx1170 kx1233 kx1250 kx1301 kx1318 kx1357 kx1374 kx1390 kx1403 kx1416 kx1429 kx1442 kx1455 kx1468 kx1516 kx1533 kx1572 kx1589 kx1605 kx1641 kx1665 kx1704 kx1721 kx1760 kx1777 kx1804 kx1821 kx1849 kx1885 kx1902 kx1941 kx1958 kx1997 kx2014 kx2058 kx2106 kx2123 kx2174 kx2191 kx2230 kx2247 kx2314 kx2331 kx2398 kx2415 kx2466 kx2483 kx2511 kx2524 kx2548 kx2573))) else (
    kx2466 σ746))) else (
    (if (x33 &&& 63) = 44 then (
    (sX L xs (v4 + 1)).bind fun x752 =>
    (rv 1 y1 σ).bind fun q753 =>
    (FX1_seed q753 x752 σ).bind fun (x755, σ756) =>
    (sX L xs (v4 + 1)).bind fun x757 =>
    (rv 8 y2 σ756).bind fun q758 =>
    (FX8_seed q758 x757 σ756).bind fun (x760, σ761) =>
    (if x755 = x760 then (
    FL_law_23 L xs y1 y2 y3 n (v4 + 6) σ761 kx2581 kx323 kx348 kx372 kx389 kx416 kx433 kx449 kx497 kx514 kx565 kx582 kx621 kx638 kx689 kx706 kx757 kx774 kx825 kx842 kx881 kx898 kx949 kx966 kx1017 kx1034 kx1085 kx1102 kx1153 kx1170 kx1233 kx1250 kx1301 kx1318 kx1357 kx1374 kx1390 kx1403 kx1416 kx1429 kx1442 kx1455 kx1468 kx1516 kx1533 kx1572 kx1589 kx1605 kx1641 kx1665 kx1704 kx1721 kx1760 kx1777 kx1804 kx1821 kx1849 kx1885 kx1902 kx1941 kx1958 kx1997 kx2014 kx2058 kx2106 kx2123 kx2174 kx2191 kx2230 kx2247 kx2314 kx2331 kx2398 kx2415 kx2466 kx2483 kx2511 kx2524 kx2548 kx2573) else (
    kx2511 σ761))) else (
    (if (x33 &&& 63) = 45 then (
    (rv 1 y1 σ).bind fun q764 =>
    (FX1_undo q764 σ).bind fun (x766, σ767) =>
    (rv 8 y2 σ767).bind fun q768 =>
    (FX8_undo q768 σ767).bind fun (x770, σ771) =>
    (if x766 = x770 then (
    FL_law_23 L xs y1 y2 y3 n (v4 + 6) σ771 kx2581 kx323 kx348 kx372 kx389 kx416 kx433 kx449 kx497 kx514 kx565 kx582 kx621 kx638 kx689 kx706 kx757 kx774 kx825 kx842 kx881 kx898 kx949 kx966 kx1017 kx1034 kx1085 kx1102 kx1153 kx1170 kx1233 kx1250 kx1301 kx1318 kx1357 kx1374 kx1390 kx1403 kx1416 kx1429 kx1442 kx1455 kx1468 kx1516 kx1533 kx1572 kx1589 kx1605 kx1641 kx1665 kx1704 kx1721 kx1760 kx1777 kx1804 kx1821 kx1849 kx1885 kx1902 kx1941 kx1958 kx1997 kx2014 kx2058 kx2106 kx2123 kx2174 kx2191 kx2230 kx2247 kx2314 kx2331 kx2398 kx2415 kx2466 kx2483 kx2511 kx2524 kx2548 kx2573) else (
    kx2524 σ771))) else (
    (if (x33 &&& 63) = 46 then (
    (rv 1 y1 σ).bind fun q774 =>
    (FX1_image q774 σ).bind fun σ776 =>
    (rv 8 y2 σ776).bind fun q777 =>
    (FX8_image q777 σ776).bind fun σ779 =>
    FL_law_23 L xs y1 y2 y3 n (v4 + 6) σ779 kx2581 kx323 kx348 kx372 kx389 kx416 kx433 kx449 kx497 kx514 kx565 kx582 kx621 kx638 kx689 kx706 kx757 kx774 kx825 kx842 kx881 kx898 kx949 kx966 kx1017 kx1034 kx1085 kx1102 kx1153 kx1170 kx1233 kx1250 kx1301 kx1318 kx1357 kx1374 kx1390 kx1403 kx1416 kx1429 kx1442 kx1455 kx1468 kx1516 kx1533 kx1572 kx1589 kx1605 kx1641 kx1665 kx1704 kx1721 kx1760 kx1777 kx1804 kx1821 kx1849 kx1885 kx1902 kx1941 kx1958 kx1997 kx2014 kx2058 kx2106 kx2123 kx2174 kx2191 kx2230 kx2247 kx2314 kx2331 kx2398 kx2415 kx2466 kx2483 kx2511 kx2524 kx2548 kx2573) else (
    (if (x33 &&& 63) = 47 then (
    (rv 1 y1 σ).bind fun q781 =>
    (FX1_back q781 σ).bind fun (x783, σ784) =>
    (rv 8 y2 σ784).bind fun q785 =>
    (FX8_back q785 σ784).bind fun (x787, σ788) =>
    (if x783 = x787 then (
    FL_law_23 L xs y1 y2 y3 n (v4 + 6) σ788 kx2581 kx323 kx348 kx372 kx389 kx416 kx433 kx449 kx497 kx514 kx565 kx582 kx621 kx638 kx689 kx706 kx757 kx774 kx825 kx842 kx881 kx898 kx949 kx966 kx1017 kx1034 kx1085 kx1102 kx1153 kx1170 kx1233 kx1250 kx1301 kx1318 kx1357 kx1374 kx1390 kx1403 kx1416 kx1429 kx1442 kx1455 kx1468 kx1516 kx1533 kx1572 kx1589 kx1605 kx1641 kx1665 kx1704 kx1721 kx1760 kx1777 kx1804 kx1821 kx1849 kx1885 kx1902 kx1941 kx1958 kx1997 kx2014 kx2058 kx2106 kx2123 kx2174 kx2191 kx2230 kx2247 kx2314 kx2331 kx2398 kx2415 kx2466 kx2483 kx2511 kx2524 kx2548 kx2573) else (
    kx2548 σ788))) else (
    (if (x33 &&& 63) = 48 then (
    (sX L xs (v4 + 1)).bind fun x791 =>
    (rv 1 y1 σ).bind fun q792 =>
    (FX1_count q792 x791 σ).bind fun (x794, σ795) =>
    (sX L xs (v4 + 1)).bind fun x796 =>
    (rv 8 y2 σ795).bind fun q797 =>
    (FX8_count q797 x796 σ795).bind fun (x799, σ800) =>
    (if x794 = x799 then (
    FL_law_23 L xs y1 y2 y3 n (v4 + 6) σ800 kx2581 kx323 kx348 kx372 kx389 kx416 kx433 kx449 kx497 kx514 kx565 kx582 kx621 kx638 kx689 kx706 kx757 kx774 kx825 kx842 kx881 kx898 kx949 kx966 kx1017 kx1034 kx1085 kx1102 kx1153 kx1170 kx1233 kx1250 kx1301 kx1318 kx1357 kx1374 kx1390 kx1403 kx1416 kx1429 kx1442 kx1455 kx1468 kx1516 kx1533 kx1572 kx1589 kx1605 kx1641 kx1665 kx1704 kx1721 kx1760 kx1777 kx1804 kx1821 kx1849 kx1885 kx1902 kx1941 kx1958 kx1997 kx2014 kx2058 kx2106 kx2123 kx2174 kx2191 kx2230 kx2247 kx2314 kx2331 kx2398 kx2415 kx2466 kx2483 kx2511 kx2524 kx2548 kx2573) else (
    kx2573 σ800))) else (
    FL_law_23 L xs y1 y2 y3 n (v4 + 6) σ kx2581 kx323 kx348 kx372 kx389 kx416 kx433 kx449 kx497 kx514 kx565 kx582 kx621 kx638 kx689 kx706 kx757 kx774 kx825 kx842 kx881 kx898 kx949 kx966 kx1017 kx1034 kx1085 kx1102 kx1153 kx1170 kx1233 kx1250 kx1301 kx1318 kx1357 kx1374 kx1390 kx1403 kx1416 kx1429 kx1442 kx1455 kx1468 kx1516 kx1533 kx1572 kx1589 kx1605 kx1641 kx1665 kx1704 kx1721 kx1760 kx1777 kx1804 kx1821 kx1849 kx1885 kx1902 kx1941 kx1958 kx1997 kx2014 kx2058 kx2106 kx2123 kx2174 kx2191 kx2230 kx2247 kx2314 kx2331 kx2398 kx2415 kx2466 kx2483 kx2511 kx2524 kx2548 kx2573))))))))))))))))))))))))))))))))))))))))))))))))))))))))))))))))))))))))))))))))))))))))))))))))))))
def FL_law (L : Nat) (xs : Nat → Int32)  (σ : Mm) : DX (Int32 × Mm) :=
pay 1 11 <|
(nO 1 σ).bind fun (x21, σ22) =>
(rv 1 x21 σ22).bind fun q23 =>
pay 61 14141 <|
(FX1_init q23 σ22).bind fun σ25 =>
pay 1 26 <|
(nO 8 σ25).bind fun (x26, σ27) =>
(rv 8 x26 σ27).bind fun q28 =>
pay 12 21296 <|
(FX8_init q28 σ27).bind fun σ30 =>
pay 1 ((1 : Int32).toNatClampNeg) <|
(nA 104 1 σ30).bind fun (x31, σ32) =>
FL_law_23 L xs x21 x26 x31 fu 0 σ32 (fun  (σ : Mm) => (
rZd 1 σ)) (fun  (σ : Mm) => (
rZd 0 σ)) (fun  (σ : Mm) => (
rZd 0 σ)) (fun  (σ : Mm) => (
rZd 0 σ)) (fun  (σ : Mm) => (
rZd 0 σ)) (fun  (σ : Mm) => (
rZd 0 σ)) (fun  (σ : Mm) => (
rZd 0 σ)) (fun  (σ : Mm) => (
rZd 0 σ)) (fun  (σ : Mm) => (
rZd 0 σ)) (fun  (σ : Mm) => (
rZd 0 σ)) (fun  (σ : Mm) => (
rZd 0 σ)) (fun  (σ : Mm) => (
rZd 0 σ)) (fun  (σ : Mm) => (
rZd 0 σ)) (fun  (σ : Mm) => (
rZd 0 σ)) (fun  (σ : Mm) => (
rZd 0 σ)) (fun  (σ : Mm) => (
rZd 0 σ)) (fun  (σ : Mm) => (
rZd 0 σ)) (fun  (σ : Mm) => (
rZd 0 σ)) (fun  (σ : Mm) => (
rZd 0 σ)) (fun  (σ : Mm) => (
rZd 0 σ)) (fun  (σ : Mm) => (
rZd 0 σ)) (fun  (σ : Mm) => (
rZd 0 σ)) (fun  (σ : Mm) => (
rZd 0 σ)) (fun  (σ : Mm) => (
rZd 0 σ)) (fun  (σ : Mm) => (
rZd 0 σ)) (fun  (σ : Mm) => (
rZd 0 σ)) (fun  (σ : Mm) => (
rZd 0 σ)) (fun  (σ : Mm) => (
rZd 0 σ)) (fun  (σ : Mm) => (
rZd 0 σ)) (fun  (σ : Mm) => (
rZd 0 σ)) (fun  (σ : Mm) => (
rZd 0 σ)) (fun  (σ : Mm) => (
rZd 0 σ)) (fun  (σ : Mm) => (
rZd 0 σ)) (fun  (σ : Mm) => (
rZd 0 σ)) (fun  (σ : Mm) => (
rZd 0 σ)) (fun  (σ : Mm) => (
rZd 0 σ)) (fun  (σ : Mm) => (
rZd 0 σ)) (fun  (σ : Mm) => (
rZd 0 σ)) (fun  (σ : Mm) => (
rZd 0 σ)) (fun  (σ : Mm) => (
rZd 0 σ)) (fun  (σ : Mm) => (
rZd 0 σ)) (fun  (σ : Mm) => (
rZd 0 σ)) (fun  (σ : Mm) => (
rZd 0 σ)) (fun  (σ : Mm) => (
rZd 0 σ)) (fun  (σ : Mm) => (
rZd 0 σ)) (fun  (σ : Mm) => (
rZd 0 σ)) (fun  (σ : Mm) => (
rZd 0 σ)) (fun  (σ : Mm) => (
rZd 0 σ)) (fun  (σ : Mm) => (
rZd 0 σ)) (fun  (σ : Mm) => (
rZd 0 σ)) (fun  (σ : Mm) => (
rZd 0 σ)) (fun  (σ : Mm) => (
rZd 0 σ)) (fun  (σ : Mm) => (
rZd 0 σ)) (fun  (σ : Mm) => (
rZd 0 σ)) (fun  (σ : Mm) => (
rZd 0 σ)) (fun  (σ : Mm) => (
rZd 0 σ)) (fun  (σ : Mm) => (
rZd 0 σ)) (fun  (σ : Mm) => (
rZd 0 σ)) (fun  (σ : Mm) => (
rZd 0 σ)) (fun  (σ : Mm) => (
rZd 0 σ)) (fun  (σ : Mm) => (
rZd 0 σ)) (fun  (σ : Mm) => (
rZd 0 σ)) (fun  (σ : Mm) => (
rZd 0 σ)) (fun  (σ : Mm) => (
rZd 0 σ)) (fun  (σ : Mm) => (
rZd 0 σ)) (fun  (σ : Mm) => (
rZd 0 σ)) (fun  (σ : Mm) => (
rZd 0 σ)) (fun  (σ : Mm) => (
rZd 0 σ)) (fun  (σ : Mm) => (
rZd 0 σ)) (fun  (σ : Mm) => (
rZd 0 σ)) (fun  (σ : Mm) => (
rZd 0 σ)) (fun  (σ : Mm) => (
rZd 0 σ)) (fun  (σ : Mm) => (
rZd 0 σ)) (fun  (σ : Mm) => (
rZd 0 σ)) (fun  (σ : Mm) => (
rZd 0 σ)) (fun  (σ : Mm) => (
rZd 0 σ)) (fun  (σ : Mm) => (
rZd 0 σ)) (fun  (σ : Mm) => (
rZd 0 σ)) (fun  (σ : Mm) => (
rZd 0 σ)) (fun  (σ : Mm) => (
rZd 0 σ))
