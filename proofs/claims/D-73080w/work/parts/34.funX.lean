/-! LostLanes: functions; printed by gen.py -/
/- LostLanes.<init>()V -/
def fX0_init_b221 (nf : Nat) (kk190 : xT → xT → Nat → Nat → xI → xR → Nat → Int32 → Option (xT × xT × Nat × Nat × xI × xR)) (U : (Nat → Option Nat)) (T : xT) (N : xT) (Z : Nat) (S : Nat) (I : xI) (R : xR) (x0 : Nat) (x1 : Int32) (z0 : Nat) (z1 : Int32) (z2 : Nat) : Option (xT × xT × Nat × Nat × xI × xR) :=
  rA T N 106 z0 z1 fun j1 =>
  tg T 3 z2 <|
  nm (uR R z0 j1 (some z2)) fun R3 =>
  nm (x1 + (ii 1)) fun u4 =>
  kk190 T N Z S I R3 x0 u4
def fX0_init_b217 (nf : Nat) (kk190 : xT → xT → Nat → Nat → xI → xR → Nat → Int32 → Option (xT × xT × Nat × Nat × xI × xR)) (U : (Nat → Option Nat)) (T : xT) (N : xT) (Z : Nat) (S : Nat) (I : xI) (R : xR) (x0 : Nat) (x1 : Int32) (z0 : Nat) (z1 : Int32) (z2 : Nat) : Option (xT × xT × Nat × Nat × xI × xR) :=
  b5 (fX2_init T N Z S R z2) fun T1 N2 Z3 S4 R5 =>
  fX0_init_b221 nf kk190 U T1 N2 Z3 S4 I R5 x0 x1 z0 z1 z2
def fX0_init_b208 (nf : Nat) (kk190 : xT → xT → Nat → Nat → xI → xR → Nat → Int32 → Option (xT × xT × Nat × Nat × xI × xR)) (U : (Nat → Option Nat)) (T : xT) (N : xT) (Z : Nat) (S : Nat) (I : xI) (R : xR) (x0 : Nat) (x1 : Int32) (z0 : Nat) (z1 : Int32) (z2 : Nat) : Option (xT × xT × Nat × Nat × xI × xR) :=
  rA T N 106 z0 z1 fun j1 =>
  tg T 3 z2 <|
  nm (uR R z0 j1 (some z2)) fun R3 =>
  tg T 1 x0 <|
  (R3 x0 5).bind fun a5 =>
  nm (uT T Z 3) fun T6 =>
  nm (Z + 1) fun Z7 =>
  nm (S + 4) fun S8 =>
  fX0_init_b217 nf kk190 U T6 N Z7 S8 I R3 x0 x1 a5 x1 Z
def fX0_init_b204 (nf : Nat) (kk190 : xT → xT → Nat → Nat → xI → xR → Nat → Int32 → Option (xT × xT × Nat × Nat × xI × xR)) (U : (Nat → Option Nat)) (T : xT) (N : xT) (Z : Nat) (S : Nat) (I : xI) (R : xR) (x0 : Nat) (x1 : Int32) (z0 : Nat) (z1 : Int32) (z2 : Nat) : Option (xT × xT × Nat × Nat × xI × xR) :=
  b5 (fX2_init T N Z S R z2) fun T1 N2 Z3 S4 R5 =>
  fX0_init_b208 nf kk190 U T1 N2 Z3 S4 I R5 x0 x1 z0 z1 z2
def fX0_init_b190 (nf : Nat) (U : (Nat → Option Nat)) : Nat → xT → xT → Nat → Nat → xI → xR → Nat → Int32 → Option (xT × xT × Nat × Nat × xI × xR)
  | 0, _, _, _, _, _, _, _, _ => none
  | k + 1, T, N, Z, S, I, R, x0, x1 =>
    if (ii 16) ≤ x1 then
      some (T, N, Z, S, I, R)
    else
      tg T 1 x0 <|
      (R x0 4).bind fun a3 =>
      nm (uT T Z 3) fun T4 =>
      nm (Z + 1) fun Z5 =>
      nm (S + 4) fun S6 =>
      fX0_init_b204 nf (fX0_init_b190 nf U k) U T4 N Z5 S6 I R x0 x1 a3 x1 Z
def fX0_init_b180 (nf : Nat) (U : (Nat → Option Nat)) (T : xT) (N : xT) (Z : Nat) (S : Nat) (I : xI) (R : xR) (x0 : Nat) (z0 : Nat) (z1 : Nat) : Option (xT × xT × Nat × Nat × xI × xR) :=
  tg T 1 z0 <|
  nm (uR R z0 24 (some z1)) fun R2 =>
  tg T 1 x0 <|
  nm (uI I x0 25 (-1 : Int32)) fun I4 =>
  fX0_init_b190 nf U nf T N Z S I4 R2 x0 (ii 0)
def fX0_init_b176 (nf : Nat) (U : (Nat → Option Nat)) (T : xT) (N : xT) (Z : Nat) (S : Nat) (I : xI) (R : xR) (x0 : Nat) (z0 : Nat) (z1 : Nat) : Option (xT × xT × Nat × Nat × xI × xR) :=
  b5 (fX2_init T N Z S R z1) fun T1 N2 Z3 S4 R5 =>
  fX0_init_b180 nf U T1 N2 Z3 S4 I R5 x0 z0 z1
def fX0_init_b169 (nf : Nat) (U : (Nat → Option Nat)) (T : xT) (N : xT) (Z : Nat) (S : Nat) (I : xI) (R : xR) (x0 : Nat) (z0 : Nat) (z1 : Nat) : Option (xT × xT × Nat × Nat × xI × xR) :=
  tg T 1 z0 <|
  nm (uR R z0 23 (some z1)) fun R2 =>
  nm (uT T Z 3) fun T3 =>
  nm (Z + 1) fun Z4 =>
  nm (S + 4) fun S5 =>
  fX0_init_b176 nf U T3 N Z4 S5 I R2 x0 x0 Z
def fX0_init_b161 (nf : Nat) (U : (Nat → Option Nat)) (T : xT) (N : xT) (Z : Nat) (S : Nat) (I : xI) (R : xR) (x0 : Nat) (z0 : Nat) (z1 : Nat) : Option (xT × xT × Nat × Nat × xI × xR) :=
  tg T 1 z0 <|
  nm (uR R z0 22 (some z1)) fun R2 =>
  nm (uT T Z 103) fun T3 =>
  nm (uT N Z ((ii 21)).toNatClampNeg) fun N4 =>
  nm (Z + 1) fun Z5 =>
  nm (S + ((ii 21)).toNatClampNeg) fun S6 =>
  fX0_init_b169 nf U T3 N4 Z5 S6 I R2 x0 x0 Z
def fX0_init_b153 (nf : Nat) (U : (Nat → Option Nat)) (T : xT) (N : xT) (Z : Nat) (S : Nat) (I : xI) (R : xR) (x0 : Nat) (z0 : Nat) (z1 : Nat) : Option (xT × xT × Nat × Nat × xI × xR) :=
  tg T 1 z0 <|
  nm (uR R z0 21 (some z1)) fun R2 =>
  nm (uT T Z 100) fun T3 =>
  nm (uT N Z ((ii 10)).toNatClampNeg) fun N4 =>
  nm (Z + 1) fun Z5 =>
  nm (S + ((ii 10)).toNatClampNeg) fun S6 =>
  fX0_init_b161 nf U T3 N4 Z5 S6 I R2 x0 x0 Z
def fX0_init_b145 (nf : Nat) (U : (Nat → Option Nat)) (T : xT) (N : xT) (Z : Nat) (S : Nat) (I : xI) (R : xR) (x0 : Nat) (z0 : Nat) (z1 : Nat) : Option (xT × xT × Nat × Nat × xI × xR) :=
  tg T 1 z0 <|
  nm (uR R z0 20 (some z1)) fun R2 =>
  nm (uT T Z 100) fun T3 =>
  nm (uT N Z ((ii 8)).toNatClampNeg) fun N4 =>
  nm (Z + 1) fun Z5 =>
  nm (S + ((ii 8)).toNatClampNeg) fun S6 =>
  fX0_init_b153 nf U T3 N4 Z5 S6 I R2 x0 x0 Z
def fX0_init_b137 (nf : Nat) (U : (Nat → Option Nat)) (T : xT) (N : xT) (Z : Nat) (S : Nat) (I : xI) (R : xR) (x0 : Nat) (z0 : Nat) (z1 : Nat) : Option (xT × xT × Nat × Nat × xI × xR) :=
  tg T 1 z0 <|
  nm (uR R z0 19 (some z1)) fun R2 =>
  nm (uT T Z 100) fun T3 =>
  nm (uT N Z ((ii 8)).toNatClampNeg) fun N4 =>
  nm (Z + 1) fun Z5 =>
  nm (S + ((ii 8)).toNatClampNeg) fun S6 =>
  fX0_init_b145 nf U T3 N4 Z5 S6 I R2 x0 x0 Z
def fX0_init_b129 (nf : Nat) (U : (Nat → Option Nat)) (T : xT) (N : xT) (Z : Nat) (S : Nat) (I : xI) (R : xR) (x0 : Nat) (z0 : Nat) (z1 : Nat) : Option (xT × xT × Nat × Nat × xI × xR) :=
  tg T 1 z0 <|
  nm (uR R z0 18 (some z1)) fun R2 =>
  nm (uT T Z 100) fun T3 =>
  nm (uT N Z ((ii 64)).toNatClampNeg) fun N4 =>
  nm (Z + 1) fun Z5 =>
  nm (S + ((ii 64)).toNatClampNeg) fun S6 =>
  fX0_init_b137 nf U T3 N4 Z5 S6 I R2 x0 x0 Z
def fX0_init_b122 (nf : Nat) (U : (Nat → Option Nat)) (T : xT) (N : xT) (Z : Nat) (S : Nat) (I : xI) (R : xR) (x0 : Nat) (z0 : Nat) (z1 : Nat) : Option (xT × xT × Nat × Nat × xI × xR) :=
  tg T 1 z0 <|
  nm (uR R z0 17 (some z1)) fun R2 =>
  nm (uT T Z 100) fun T3 =>
  nm (uT N Z ((ii 4)).toNatClampNeg) fun N4 =>
  nm (Z + 1) fun Z5 =>
  nm (S + ((ii 4)).toNatClampNeg) fun S6 =>
  fX0_init_b129 nf U T3 N4 Z5 S6 I R2 x0 x0 Z
def fX0_init_b114 (nf : Nat) (U : (Nat → Option Nat)) (T : xT) (N : xT) (Z : Nat) (S : Nat) (I : xI) (R : xR) (x0 : Nat) (z0 : Nat) (z1 : Nat) : Option (xT × xT × Nat × Nat × xI × xR) :=
  tg T 1 z0 <|
  nm (uR R z0 16 (some z1)) fun R2 =>
  nm (uT T Z 100) fun T3 =>
  nm (uT N Z ((ii 10)).toNatClampNeg) fun N4 =>
  nm (Z + 1) fun Z5 =>
  nm (S + ((ii 10)).toNatClampNeg) fun S6 =>
  fX0_init_b122 nf U T3 N4 Z5 S6 I R2 x0 x0 Z
def fX0_init_b110 (nf : Nat) (U : (Nat → Option Nat)) (T : xT) (N : xT) (Z : Nat) (S : Nat) (I : xI) (R : xR) (x0 : Nat) (z0 : Nat) (z1 : Nat) : Option (xT × xT × Nat × Nat × xI × xR) :=
  b5 (fX3_init U T N Z S R z1) fun T1 N2 Z3 S4 R5 =>
  fX0_init_b114 nf U T1 N2 Z3 S4 I R5 x0 z0 z1
def fX0_init_b93 (nf : Nat) (U : (Nat → Option Nat)) (T : xT) (N : xT) (Z : Nat) (S : Nat) (I : xI) (R : xR) (x0 : Nat) (z0 : Nat) (z1 : Nat) : Option (xT × xT × Nat × Nat × xI × xR) :=
  tg T 1 z0 <|
  nm (uR R z0 10 (some z1)) fun R2 =>
  tg T 1 x0 <|
  nm (uI I x0 12 (-1 : Int32)) fun I4 =>
  nm (uI I4 x0 14 (-1 : Int32)) fun I5 =>
  nm (uT T Z 4) fun T6 =>
  nm (Z + 1) fun Z7 =>
  nm (S + 2) fun S8 =>
  fX0_init_b110 nf U T6 N Z7 S8 I5 R2 x0 x0 Z
def fX0_init_b84 (nf : Nat) (U : (Nat → Option Nat)) (T : xT) (N : xT) (Z : Nat) (S : Nat) (I : xI) (R : xR) (x0 : Nat) (z0 : Nat) (z1 : Nat) : Option (xT × xT × Nat × Nat × xI × xR) :=
  tg T 1 z0 <|
  nm (uR R z0 9 (some z1)) fun R2 =>
  nm (uT T Z 101) fun T3 =>
  nm (uT N Z ((ii 400)).toNatClampNeg) fun N4 =>
  nm (Z + 1) fun Z5 =>
  nm (S + ((ii 400)).toNatClampNeg) fun S6 =>
  fX0_init_b93 nf U T3 N4 Z5 S6 I R2 x0 x0 Z
def fX0_init_b80 (nf : Nat) (U : (Nat → Option Nat)) (T : xT) (N : xT) (Z : Nat) (S : Nat) (I : xI) (R : xR) (x0 : Nat) (z0 : Nat) (z1 : Nat) : Option (xT × xT × Nat × Nat × xI × xR) :=
  b5 (fX2_init T N Z S R z1) fun T1 N2 Z3 S4 R5 =>
  fX0_init_b84 nf U T1 N2 Z3 S4 I R5 x0 z0 z1
def fX0_init_b73 (nf : Nat) (U : (Nat → Option Nat)) (T : xT) (N : xT) (Z : Nat) (S : Nat) (I : xI) (R : xR) (x0 : Nat) (z0 : Nat) (z1 : Nat) : Option (xT × xT × Nat × Nat × xI × xR) :=
  tg T 1 z0 <|
  nm (uR R z0 8 (some z1)) fun R2 =>
  nm (uT T Z 3) fun T3 =>
  nm (Z + 1) fun Z4 =>
  nm (S + 4) fun S5 =>
  fX0_init_b80 nf U T3 N Z4 S5 I R2 x0 x0 Z
def fX0_init_b69 (nf : Nat) (U : (Nat → Option Nat)) (T : xT) (N : xT) (Z : Nat) (S : Nat) (I : xI) (R : xR) (x0 : Nat) (z0 : Nat) (z1 : Nat) : Option (xT × xT × Nat × Nat × xI × xR) :=
  b5 (fX2_init T N Z S R z1) fun T1 N2 Z3 S4 R5 =>
  fX0_init_b73 nf U T1 N2 Z3 S4 I R5 x0 z0 z1
def fX0_init_b62 (nf : Nat) (U : (Nat → Option Nat)) (T : xT) (N : xT) (Z : Nat) (S : Nat) (I : xI) (R : xR) (x0 : Nat) (z0 : Nat) (z1 : Nat) : Option (xT × xT × Nat × Nat × xI × xR) :=
  tg T 1 z0 <|
  nm (uR R z0 7 (some z1)) fun R2 =>
  nm (uT T Z 3) fun T3 =>
  nm (Z + 1) fun Z4 =>
  nm (S + 4) fun S5 =>
  fX0_init_b69 nf U T3 N Z4 S5 I R2 x0 x0 Z
def fX0_init_b54 (nf : Nat) (U : (Nat → Option Nat)) (T : xT) (N : xT) (Z : Nat) (S : Nat) (I : xI) (R : xR) (x0 : Nat) (z0 : Nat) (z1 : Nat) : Option (xT × xT × Nat × Nat × xI × xR) :=
  tg T 1 z0 <|
  nm (uR R z0 6 (some z1)) fun R2 =>
  nm (uT T Z 100) fun T3 =>
  nm (uT N Z ((ii 16)).toNatClampNeg) fun N4 =>
  nm (Z + 1) fun Z5 =>
  nm (S + ((ii 16)).toNatClampNeg) fun S6 =>
  fX0_init_b62 nf U T3 N4 Z5 S6 I R2 x0 x0 Z
def fX0_init_b46 (nf : Nat) (U : (Nat → Option Nat)) (T : xT) (N : xT) (Z : Nat) (S : Nat) (I : xI) (R : xR) (x0 : Nat) (z0 : Nat) (z1 : Nat) : Option (xT × xT × Nat × Nat × xI × xR) :=
  tg T 1 z0 <|
  nm (uR R z0 5 (some z1)) fun R2 =>
  nm (uT T Z 100) fun T3 =>
  nm (uT N Z ((ii 16)).toNatClampNeg) fun N4 =>
  nm (Z + 1) fun Z5 =>
  nm (S + ((ii 16)).toNatClampNeg) fun S6 =>
  fX0_init_b54 nf U T3 N4 Z5 S6 I R2 x0 x0 Z
def fX0_init_b37 (nf : Nat) (U : (Nat → Option Nat)) (T : xT) (N : xT) (Z : Nat) (S : Nat) (I : xI) (R : xR) (x0 : Nat) (z0 : Nat) (z1 : Nat) : Option (xT × xT × Nat × Nat × xI × xR) :=
  tg T 1 z0 <|
  nm (uR R z0 4 (some z1)) fun R2 =>
  nm (uT T Z 106) fun T3 =>
  nm (uT N Z ((ii 16)).toNatClampNeg) fun N4 =>
  nm (Z + 1) fun Z5 =>
  nm (S + ((ii 16)).toNatClampNeg) fun S6 =>
  fX0_init_b46 nf U T3 N4 Z5 S6 I R2 x0 x0 Z
def fX0_init_b28 (nf : Nat) (U : (Nat → Option Nat)) (T : xT) (N : xT) (Z : Nat) (S : Nat) (I : xI) (R : xR) (x0 : Nat) (z0 : Nat) (z1 : Nat) : Option (xT × xT × Nat × Nat × xI × xR) :=
  tg T 1 z0 <|
  nm (uR R z0 3 (some z1)) fun R2 =>
  nm (uT T Z 106) fun T3 =>
  nm (uT N Z ((ii 16)).toNatClampNeg) fun N4 =>
  nm (Z + 1) fun Z5 =>
  nm (S + ((ii 16)).toNatClampNeg) fun S6 =>
  fX0_init_b37 nf U T3 N4 Z5 S6 I R2 x0 x0 Z
def fX0_init_b20 (nf : Nat) (U : (Nat → Option Nat)) (T : xT) (N : xT) (Z : Nat) (S : Nat) (I : xI) (R : xR) (x0 : Nat) (z0 : Nat) (z1 : Nat) : Option (xT × xT × Nat × Nat × xI × xR) :=
  tg T 1 z0 <|
  nm (uR R z0 2 (some z1)) fun R2 =>
  nm (uT T Z 105) fun T3 =>
  nm (uT N Z ((ii 2)).toNatClampNeg) fun N4 =>
  nm (Z + 1) fun Z5 =>
  nm (S + ((ii 2)).toNatClampNeg) fun S6 =>
  fX0_init_b28 nf U T3 N4 Z5 S6 I R2 x0 x0 Z
def fX0_init_b16 (nf : Nat) (U : (Nat → Option Nat)) (T : xT) (N : xT) (Z : Nat) (S : Nat) (I : xI) (R : xR) (x0 : Nat) (z0 : Nat) (z1 : Nat) : Option (xT × xT × Nat × Nat × xI × xR) :=
  b6 (fX1_init T N Z S I R z1) fun T1 N2 Z3 S4 I5 R6 =>
  fX0_init_b20 nf U T1 N2 Z3 S4 I5 R6 x0 z0 z1
def fX0_init_b9 (nf : Nat) (U : (Nat → Option Nat)) (T : xT) (N : xT) (Z : Nat) (S : Nat) (I : xI) (R : xR) (x0 : Nat) (z0 : Nat) (z1 : Nat) : Option (xT × xT × Nat × Nat × xI × xR) :=
  tg T 1 z0 <|
  nm (uR R z0 1 (some z1)) fun R2 =>
  nm (uT T Z 2) fun T3 =>
  nm (Z + 1) fun Z4 =>
  nm (S + 14) fun S5 =>
  fX0_init_b16 nf U T3 N Z4 S5 I R2 x0 x0 Z
def fX0_init (nf : Nat) (U : (Nat → Option Nat)) (T : xT) (N : xT) (Z : Nat) (S : Nat) (I : xI) (R : xR) (x0 : Nat) : Option (xT × xT × Nat × Nat × xI × xR) :=
  nm (uT T Z 100) fun T1 =>
  nm (uT N Z ((ii 7)).toNatClampNeg) fun N2 =>
  nm (Z + 1) fun Z3 =>
  nm (S + ((ii 7)).toNatClampNeg) fun S4 =>
  fX0_init_b9 nf U T1 N2 Z3 S4 I R x0 x0 Z
/- LostLanes.in(III)Z -/
def fX0_in (x0 : Int32) (x1 : Int32) (x2 : Int32) : Option (Int32) :=
  if x0 < x1 then
    some (ii 0)
  else
    if x2 < x0 then
      some (ii 0)
    else
      some (ii 1)
/- LostLanes.refuse(I)I -/
def fX0_refuse (T : xT) (N : xT) (I : xI) (R : xR) (x0 : Nat) (x1 : Int32) : Option (Int32 × xI) :=
  tg T 1 x0 <|
  nm (uI I x0 0 x1) fun I2 =>
  (R x0 1).bind fun a3 =>
  rA T N 100 a3 (-x1) fun j4 =>
  nm (uI I2 a3 j4 ((I2 a3 j4) + (ii 1))) fun I5 =>
  some (x1, I5)
/- LostLanes.done(I)I -/
def fX0_done (T : xT) (I : xI) (x0 : Nat) (x1 : Int32) : Option (Int32 × xI) :=
  tg T 1 x0 <|
  nm (uI I x0 0 (ii 0)) fun I2 =>
  some (x1, I2)
/- LostLanes.image(I)I -/
def fX0_image_b50 (nf : Nat) (T : xT) (N : xT) (Z : Nat) (S : Nat) (I : xI) (R : xR) (x0 : Nat) : Option (Int32 × xT × xT × Nat × Nat × xI × xR) :=
  tg T 1 x0 <|
  b2 (fX0_done T I x0 (ii 0)) fun r1 I2 =>
  some (r1, T, N, Z, S, I2, R)
def fX0_image_b37 (nf : Nat) (T : xT) (N : xT) (Z : Nat) (S : Nat) (I : xI) (R : xR) (x0 : Nat) (x1 : Int32) : Option (Int32 × xT × xT × Nat × Nat × xI × xR) :=
  tg T 1 x0 <|
  (R x0 3).bind fun a2 =>
  rA T N 105 a2 x1 fun j3 =>
  (R a2 j3).bind fun a4 =>
  (R x0 2).bind fun a5 =>
  tg T 2 a4 <|
  b6 (fX1_takes nf T N Z S I R a4 a5) fun T6 N7 Z8 S9 I10 R11 =>
  fX0_image_b50 nf T6 N7 Z8 S9 I10 R11 x0
def fX0_image_b36 (nf : Nat) (T : xT) (N : xT) (Z : Nat) (S : Nat) (I : xI) (R : xR) (x0 : Nat) (x1 : Int32) (z0 : Nat) (z1 : Int32) (z2 : Nat) : Option (Int32 × xT × xT × Nat × Nat × xI × xR) :=
  rA T N 105 z0 z1 fun j1 =>
  tg T 2 z2 <|
  nm (uR R z0 j1 (some z2)) fun R3 =>
  fX0_image_b37 nf T N Z S I R3 x0 x1
def fX0_image_b32 (nf : Nat) (T : xT) (N : xT) (Z : Nat) (S : Nat) (I : xI) (R : xR) (x0 : Nat) (x1 : Int32) (z0 : Nat) (z1 : Int32) (z2 : Nat) : Option (Int32 × xT × xT × Nat × Nat × xI × xR) :=
  b6 (fX1_init T N Z S I R z2) fun T1 N2 Z3 S4 I5 R6 =>
  fX0_image_b36 nf T1 N2 Z3 S4 I5 R6 x0 x1 z0 z1 z2
def fX0_image (nf : Nat) (T : xT) (N : xT) (Z : Nat) (S : Nat) (I : xI) (R : xR) (x0 : Nat) (x1 : Int32) : Option (Int32 × xT × xT × Nat × Nat × xI × xR) :=
  (fX0_in x1 (ii 0) (ii 1)).bind fun r1 =>
  if r1 = (ii 0) then
    tg T 1 x0 <|
    b2 (fX0_refuse T N I R x0 (-1 : Int32)) fun r11 I12 =>
    some (r11, T, N, Z, S, I12, R)
  else
    tg T 1 x0 <|
    (R x0 3).bind fun a5 =>
    rA T N 105 a5 x1 fun j6 =>
    oc (R a5 j6) (
      nm (uT T Z 2) fun T8 =>
      nm (Z + 1) fun Z9 =>
      nm (S + 14) fun S10 =>
      fX0_image_b32 nf T8 N Z9 S10 I R x0 x1 a5 x1 Z
    ) fun a7 =>
      fX0_image_b37 nf T N Z S I R x0 x1
/- LostLanes.settled(I)I -/
def fX0_settled (T : xT) (I : xI) (x0 : Nat) (x1 : Int32) : Option (Int32 × xI) :=
  tg T 1 x0 <|
  nm (uI I x0 15 (ii 0)) fun I2 =>
  b2 (fX0_done T I2 x0 x1) fun r3 I4 =>
  some (r3, I4)
/- LostLanes.back(I)I -/
def fX0_back_b44 (nf : Nat) (T : xT) (N : xT) (Z : Nat) (S : Nat) (I : xI) (R : xR) (x0 : Nat) : Option (Int32 × xT × xT × Nat × Nat × xI × xR) :=
  tg T 1 x0 <|
  b2 (fX0_settled T I x0 (ii 0)) fun r1 I2 =>
  some (r1, T, N, Z, S, I2, R)
def fX0_back (nf : Nat) (T : xT) (N : xT) (Z : Nat) (S : Nat) (I : xI) (R : xR) (x0 : Nat) (x1 : Int32) : Option (Int32 × xT × xT × Nat × Nat × xI × xR) :=
  (fX0_in x1 (ii 0) (ii 1)).bind fun r1 =>
  if r1 = (ii 0) then
    tg T 1 x0 <|
    b2 (fX0_refuse T N I R x0 (-1 : Int32)) fun r20 I21 =>
    some (r20, T, N, Z, S, I21, R)
  else
    tg T 1 x0 <|
    (R x0 3).bind fun a5 =>
    rA T N 105 a5 x1 fun j6 =>
    oc (R a5 j6) (
      b2 (fX0_refuse T N I R x0 (-2 : Int32)) fun r8 I9 =>
      some (r8, T, N, Z, S, I9, R)
    ) fun a7 =>
      (R x0 2).bind fun a11 =>
      tg T 2 a11 <|
      b6 (fX1_takes nf T N Z S I R a11 a7) fun T12 N13 Z14 S15 I16 R17 =>
      fX0_back_b44 nf T12 N13 Z14 S15 I16 R17 x0
/- LostLanes.isCorner(I)Z -/
def fX0_isCorner (x0 : Int32) : Option (Int32) :=
  (fX0_in x0 (ii 0) (ii 7)).bind fun r1 =>
  chk (zb r1) <|
  some r1
/- LostLanes.canLane(IIII)Z -/
def fX0_canLane (x0 : Int32) (x1 : Int32) (x2 : Int32) (x3 : Int32) : Option (Int32) :=
  (fX0_isCorner x0).bind fun r1 =>
  if r1 = (ii 0) then
    some (ii 0)
  else
    (fX0_isCorner x1).bind fun r4 =>
    if r4 = (ii 0) then
      some (ii 0)
    else
      if x0 = x1 then
        some (ii 0)
      else
        (fX0_in x2 (ii 1) (ii 9)).bind fun r8 =>
        if r8 = (ii 0) then
          some (ii 0)
        else
          (fX0_in x3 (ii 0) (ii 4)).bind fun r11 =>
          if r11 = (ii 0) then
            some (ii 0)
          else
            some (ii 1)
/- LostLanes.table()LLostLanes$Table; -/
def fX0_table (T : xT) (R : xR) (x0 : Nat) : Option (Nat) :=
  tg T 1 x0 <|
  (R x0 2).bind fun a2 =>
  tg T 2 a2 <|
  (R a2 0).bind fun a4 =>
  some a4
/- LostLanes.adds(IIII)I -/
def fX0_adds (T : xT) (N : xT) (I : xI) (R : xR) (x0 : Nat) (x1 : Int32) (x2 : Int32) (x3 : Int32) (x4 : Int32) : Option (Int32 × xI) :=
  tg T 1 x0 <|
  (R x0 2).bind fun a2 =>
  tg T 2 a2 <|
  nm (I a2 8) fun u4 =>
  (R a2 1).bind fun a5 =>
  rA T N 100 a5 u4 fun j6 =>
  nm (uI I a5 j6 x1) fun I7 =>
  (R a2 2).bind fun a8 =>
  rA T N 100 a8 u4 fun j9 =>
  nm (uI I7 a8 j9 x2) fun I10 =>
  (R a2 3).bind fun a11 =>
  rA T N 100 a11 u4 fun j12 =>
  nm (uI I10 a11 j12 x3) fun I13 =>
  (R a2 4).bind fun a14 =>
  rA T N 100 a14 u4 fun j15 =>
  nm (uI I13 a14 j15 x4) fun I16 =>
  (fX0_table T R x0).bind fun r17 =>
  tg T 3 r17 <|
  (R r17 2).bind fun a20 =>
  rA T N 100 a20 u4 fun j21 =>
  nm (uI I16 a20 j21 (-1 : Int32)) fun I22 =>
  nm (uI I22 a2 8 ((I22 a2 8) + (ii 1))) fun I23 =>
  some (u4, I23)
/- LostLanes.lane(IIII)I -/
def fX0_lane (T : xT) (N : xT) (I : xI) (R : xR) (x0 : Nat) (x1 : Int32) (x2 : Int32) (x3 : Int32) (x4 : Int32) : Option (Int32 × xI) :=
  (fX0_canLane x1 x2 x3 x4).bind fun r1 =>
  if r1 = (ii 0) then
    tg T 1 x0 <|
    b2 (fX0_refuse T N I R x0 (-1 : Int32)) fun r17 I18 =>
    some (r17, I18)
  else
    tg T 1 x0 <|
    (R x0 2).bind fun a5 =>
    tg T 2 a5 <|
    if (I a5 8) = (ii 10) then
      b2 (fX0_refuse T N I R x0 (-5 : Int32)) fun r14 I15 =>
      some (r14, I15)
    else
      b2 (fX0_adds T N I R x0 x1 x2 x3 x4) fun r8 I9 =>
      b2 (fX0_settled T I9 x0 r8) fun r11 I12 =>
      some (r11, I12)
/- LostLanes.isLane(I)Z -/
def fX0_isLane (T : xT) (I : xI) (R : xR) (x0 : Nat) (x1 : Int32) : Option (Int32) :=
  tg T 1 x0 <|
  (R x0 2).bind fun a2 =>
  tg T 2 a2 <|
  (fX0_in x1 (ii 0) ((I a2 8) - (ii 1))).bind fun r4 =>
  chk (zb r4) <|
  some r4
/- LostLanes.at(II)I -/
def fX0_at (T : xT) (N : xT) (I : xI) (R : xR) (x0 : Nat) (x1 : Int32) (x2 : Int32) : Option (Int32) :=
  tg T 1 x0 <|
  (fX0_isLane T I R x0 x1).bind fun r1 =>
  if r1 = (ii 0) then
    some (-1 : Int32)
  else
    if x2 = (ii 0) then
      (R x0 2).bind fun a6 =>
      tg T 2 a6 <|
      (R a6 1).bind fun a8 =>
      rA T N 100 a8 x1 fun j9 =>
      some (I a8 j9)
    else
    if x2 = (ii 1) then
      (R x0 2).bind fun a11 =>
      tg T 2 a11 <|
      (R a11 2).bind fun a13 =>
      rA T N 100 a13 x1 fun j14 =>
      some (I a13 j14)
    else
    if x2 = (ii 2) then
      (R x0 2).bind fun a16 =>
      tg T 2 a16 <|
      (R a16 3).bind fun a18 =>
      rA T N 100 a18 x1 fun j19 =>
      some (I a18 j19)
    else
    if x2 = (ii 3) then
      (R x0 2).bind fun a21 =>
      tg T 2 a21 <|
      (R a21 4).bind fun a23 =>
      rA T N 100 a23 x1 fun j24 =>
      some (I a23 j24)
    else
    if x2 = (ii 4) then
      (fX0_table T R x0).bind fun r26 =>
      tg T 3 r26 <|
      (R r26 2).bind fun a29 =>
      rA T N 100 a29 x1 fun j30 =>
      some (I a29 j30)
    else
    some (-1 : Int32)
/- LostLanes.child(II)I -/
def fX0_child (T : xT) (N : xT) (I : xI) (R : xR) (x0 : Nat) (x1 : Int32) (x2 : Int32) : Option (Int32 × xI) :=
  (fX0_in x1 (ii 1) (ii 9)).bind fun r1 =>
  if r1 = (ii 0) then
    tg T 1 x0 <|
    b2 (fX0_refuse T N I R x0 (-1 : Int32)) fun r4 I5 =>
    some (r4, I5)
  else
    (fX0_isCorner x2).bind fun r8 =>
    if r8 = (ii 0) then
      tg T 1 x0 <|
      b2 (fX0_refuse T N I R x0 (-1 : Int32)) fun r38 I39 =>
      some (r38, I39)
    else
      tg T 1 x0 <|
      (R x0 2).bind fun a12 =>
      tg T 2 a12 <|
      nm (I a12 9) fun u14 =>
      if u14 = (ii 4) then
        b2 (fX0_refuse T N I R x0 (-5 : Int32)) fun r35 I36 =>
        some (r35, I36)
      else
        (R a12 5).bind fun a16 =>
        rA T N 100 a16 u14 fun j17 =>
        nm (uI I a16 j17 x1) fun I18 =>
        (fX0_table T R x0).bind fun r19 =>
        tg T 3 r19 <|
        (R r19 0).bind fun a22 =>
        rA T N 100 a22 u14 fun j23 =>
        nm (uI I18 a22 j23 x2) fun I24 =>
        (fX0_table T R x0).bind fun r25 =>
        tg T 3 r25 <|
        (R r25 1).bind fun a28 =>
        rA T N 100 a28 u14 fun j29 =>
        nm (uI I24 a28 j29 (-1 : Int32)) fun I30 =>
        nm (uI I30 a12 9 ((I30 a12 9) + (ii 1))) fun I31 =>
        b2 (fX0_settled T I31 x0 u14) fun r32 I33 =>
        some (r32, I33)
/- LostLanes.isChild(I)Z -/
def fX0_isChild (T : xT) (I : xI) (R : xR) (x0 : Nat) (x1 : Int32) : Option (Int32) :=
  tg T 1 x0 <|
  (R x0 2).bind fun a2 =>
  tg T 2 a2 <|
  (fX0_in x1 (ii 0) ((I a2 9) - (ii 1))).bind fun r4 =>
  chk (zb r4) <|
  some r4
/- LostLanes.told(ILLostLanes$Table;II)J -/
def fX0_told_b104 (nf : Nat) (T : xT) (N : xT) (I : xI) (L : xL) (R : xR) (x0 : Nat) (x1 : Int32) (x2 : Nat) (x3 : Int32) (x5 : Nat) (z0 : Nat) (z1 : Int32) (z2 : Int64) : Option (Int64 × xL) :=
  rA T N 103 z0 z1 fun j1 =>
  nm (uL L z0 j1 z2) fun L2 =>
  tg T 3 x2 <|
  (R x2 0).bind fun a4 =>
  rA T N 100 a4 x3 fun j5 =>
  rA T N 103 x5 (ii 5) fun j6 =>
  nm (uL L2 x5 j6 (((I a4 j5)).toInt64)) fun L7 =>
  (R x2 1).bind fun a8 =>
  rA T N 100 a8 x3 fun j9 =>
  rA T N 103 x5 (ii 6) fun j10 =>
  nm (uL L7 x5 j10 (((I a8 j9)).toInt64)) fun L11 =>
  rA T N 103 x5 (ii 7) fun j12 =>
  nm (uL L11 x5 j12 (((I x2 3)).toInt64)) fun L13 =>
  tg T 1 x0 <|
  (R x0 2).bind fun a15 =>
  tg T 2 a15 <|
  rA T N 103 x5 (ii 8) fun j17 =>
  nm (uL L13 x5 j17 (((I a15 12)).toInt64)) fun L18 =>
  (R a15 7).bind fun a19 =>
  tg T 19 a19 <|
  (fJ2_get T N I R a19 (I a15 13)).bind fun r20 =>
  tg T 17 r20 <|
  (R x0 16).bind fun a24 =>
  (fX19_told nf T N I L18 R r20 x1 a24).bind fun r25 =>
  some (r25, L18)
def fX0_told_b77 (nf : Nat) (T : xT) (N : xT) (I : xI) (L : xL) (R : xR) (x0 : Nat) (x1 : Int32) (x2 : Nat) (x3 : Int32) (x4 : Int32) (x5 : Nat) (z0 : Nat) (z1 : Int32) (z2 : Int64) : Option (Int64 × xL) :=
  rA T N 103 z0 z1 fun j1 =>
  nm (uL L z0 j1 z2) fun L2 =>
  if x4 = (-1 : Int32) then
    fX0_told_b104 nf T N I L2 R x0 x1 x2 x3 x5 x5 (ii 4) (-1 : Int64)
  else
    tg T 1 x0 <|
    (R x0 2).bind fun a5 =>
    tg T 2 a5 <|
    (R a5 4).bind fun a7 =>
    rA T N 100 a7 x4 fun j8 =>
    fX0_told_b104 nf T N I L2 R x0 x1 x2 x3 x5 x5 (ii 4) (((I a7 j8)).toInt64)
def fX0_told (nf : Nat) (T : xT) (N : xT) (I : xI) (L : xL) (R : xR) (x0 : Nat) (x1 : Int32) (x2 : Nat) (x3 : Int32) (x4 : Int32) : Option (Int64 × xL) :=
  tg T 1 x0 <|
  (R x0 2).bind fun a2 =>
  tg T 2 a2 <|
  if (I a2 13) = (-1 : Int32) then
    some ((-4000000000 : Int64), L)
  else
    (R x0 16).bind fun a5 =>
    tg T 4 a5 <|
    (R a5 1).bind fun a7 =>
    rA T N 103 a7 (ii 0) fun j8 =>
    nm (uL L a7 j8 ((x3).toInt64)) fun L9 =>
    (R a2 5).bind fun a10 =>
    rA T N 100 a10 x3 fun j11 =>
    rA T N 103 a7 (ii 1) fun j12 =>
    nm (uL L9 a7 j12 (((I a10 j11)).toInt64)) fun L13 =>
    rA T N 103 a7 (ii 2) fun j14 =>
    nm (uL L13 a7 j14 ((x4).toInt64)) fun L15 =>
    if x4 = (-1 : Int32) then
      fX0_told_b77 nf T N I L15 R x0 x1 x2 x3 x4 a7 a7 (ii 3) (-1 : Int64)
    else
      (R a2 3).bind fun a17 =>
      rA T N 100 a17 x4 fun j18 =>
      fX0_told_b77 nf T N I L15 R x0 x1 x2 x3 x4 a7 a7 (ii 3) (((I a17 j18)).toInt64)
/- LostLanes.near(JII)I -/
def fX0_near (x0 : Int64) (x2 : Int32) (x3 : Int32) : Option (Int32) :=
  some (((if (if x0 < ((x3).toInt64) then x0 else ((x3).toInt64)) < ((x2).toInt64) then ((x2).toInt64) else (if x0 < ((x3).toInt64) then x0 else ((x3).toInt64)))).toInt32)
/- LostLanes.or(JII)I -/
def fX0_or (x0 : Int64) (x2 : Int32) (x3 : Int32) : Option (Int32) :=
  if x0 = (-4000000000 : Int64) then
    some x3
  else
    (fX0_near x0 (ii 0) x2).bind fun r2 =>
    some r2
/- LostLanes.turns(LLostLanes$Table;I)I -/
def fX0_turns (nf : Nat) (T : xT) (N : xT) (I : xI) (L : xL) (R : xR) (x0 : Nat) (x1 : Nat) (x2 : Int32) : Option (Int32 × xL) :=
  tg T 1 x0 <|
  b2 (fX0_told nf T N I L R x0 (ii 0) x1 x2 (-1 : Int32)) fun r1 L2 =>
  (fX0_or r1 (ii 99) (ii 0)).bind fun r5 =>
  some (r5, L2)
/- LostLanes.isBarred(LLostLanes$Table;II)Z -/
def fX0_isBarred (nf : Nat) (T : xT) (N : xT) (I : xI) (L : xL) (R : xR) (x0 : Nat) (x1 : Nat) (x2 : Int32) (x3 : Int32) : Option (Int32 × xL) :=
  tg T 1 x0 <|
  b2 (fX0_told nf T N I L R x0 (ii 2) x1 x2 x3) fun r1 L2 =>
  if r1 = (-4000000000 : Int64) then
    some ((ii 0), L2)
  else
    some ((ii 1), L2)
/- LostLanes.laneNext(LLostLanes$Table;I)I -/
def fX0_laneNext_b5 (nf : Nat) (T : xT) (N : xT) (R : xR) : Nat → xI → xL → Nat → Nat → Int32 → Int32 → Int32 → Option (Int32 × xI × xL)
  | 0, _, _, _, _, _, _, _ => none
  | k + 1, I, L, x0, x1, x2, x3, x4 =>
    tg T 1 x0 <|
    (R x0 2).bind fun a2 =>
    tg T 2 a2 <|
    if (I a2 8) ≤ x4 then
      if x3 = (ii 0) then
        some ((-1 : Int32), I, L)
      else
        (R x0 17).bind fun a6 =>
        b2 (fX0_turns nf T N I L R x0 x1 x2) fun r7 L8 =>
        chk (decide (¬ x3 = (ii 0))) <|
        rA T N 100 a6 (r7 - r7 / x3 * x3) fun j11 =>
        some ((I a6 j11), I, L8)
    else
      tg T 3 x1 <|
      (R x1 0).bind fun a13 =>
      rA T N 100 a13 x2 fun j14 =>
      (fX1_isAt T N I R a2 x4 (I a13 j14)).bind fun r15 =>
      if r15 = (ii 0) then
        nm (x4 + (ii 1)) fun u18 =>
        fX0_laneNext_b5 nf T N R k I L x0 x1 x2 x3 u18
      else
        b2 (fX0_isBarred nf T N I L R x0 x1 x2 x4) fun r19 L20 =>
        if r19 = (ii 0) then
          (R x0 17).bind fun a23 =>
          rA T N 100 a23 x3 fun j24 =>
          nm (uI I a23 j24 x4) fun I25 =>
          nm (x3 + (ii 1)) fun u26 =>
          nm (x4 + (ii 1)) fun u27 =>
          fX0_laneNext_b5 nf T N R k I25 L20 x0 x1 x2 u26 u27
        else
          nm (x4 + (ii 1)) fun u28 =>
          fX0_laneNext_b5 nf T N R k I L20 x0 x1 x2 x3 u28
def fX0_laneNext (nf : Nat) (T : xT) (N : xT) (I : xI) (L : xL) (R : xR) (x0 : Nat) (x1 : Nat) (x2 : Int32) : Option (Int32 × xI × xL) :=
  fX0_laneNext_b5 nf T N R nf I L x0 x1 x2 (ii 0) (ii 0)
/- LostLanes.of(II)I -/
def fX0_of (nf : Nat) (T : xT) (N : xT) (I : xI) (L : xL) (R : xR) (x0 : Nat) (x1 : Int32) (x2 : Int32) : Option (Int32 × xI × xL) :=
  tg T 1 x0 <|
  (fX0_isChild T I R x0 x1).bind fun r1 =>
  if r1 = (ii 0) then
    some ((-1 : Int32), I, L)
  else
    (fX0_table T R x0).bind fun r5 =>
    if x2 = (ii 0) then
      (R x0 2).bind fun a8 =>
      tg T 2 a8 <|
      (R a8 5).bind fun a10 =>
      rA T N 100 a10 x1 fun j11 =>
      some ((I a10 j11), I, L)
    else
    if x2 = (ii 1) then
      tg T 3 r5 <|
      (R r5 0).bind fun a14 =>
      rA T N 100 a14 x1 fun j15 =>
      some ((I a14 j15), I, L)
    else
    if x2 = (ii 2) then
      tg T 3 r5 <|
      (R r5 1).bind fun a18 =>
      rA T N 100 a18 x1 fun j19 =>
      some ((I a18 j19), I, L)
    else
    if x2 = (ii 3) then
      b2 (fX0_turns nf T N I L R x0 r5 x1) fun r21 L22 =>
      some (r21, I, L22)
    else
    if x2 = (ii 4) then
      b3 (fX0_laneNext nf T N I L R x0 r5 x1) fun r25 I26 L27 =>
      some (r25, I26, L27)
    else
    some ((-1 : Int32), I, L)
/- LostLanes.says(LLostLanes$Table;II)I -/
def fX0_says (nf : Nat) (T : xT) (N : xT) (I : xI) (L : xL) (R : xR) (x0 : Nat) (x1 : Nat) (x2 : Int32) (x3 : Int32) : Option (Int32 × xL) :=
  tg T 1 x0 <|
  b2 (fX0_told nf T N I L R x0 (ii 1) x1 x2 x3) fun r1 L2 =>
  (R x0 2).bind fun a5 =>
  tg T 2 a5 <|
  (R a5 4).bind fun a7 =>
  rA T N 100 a7 x3 fun j8 =>
  (fX0_or r1 (ii 19) (I a7 j8)).bind fun r9 =>
  some (r9, L2)
/- LostLanes.asks(III)I -/
def fX0_asks (nf : Nat) (T : xT) (N : xT) (I : xI) (L : xL) (R : xR) (x0 : Nat) (x1 : Int32) (x2 : Int32) (x3 : Int32) : Option (Int32 × xL) :=
  tg T 1 x0 <|
  (fX0_isChild T I R x0 x1).bind fun r1 =>
  if r1 = (ii 0) then
    some ((-1 : Int32), L)
  else
    (fX0_isLane T I R x0 x2).bind fun r5 =>
    if r5 = (ii 0) then
      some ((-1 : Int32), L)
    else
      (fX0_in x3 (ii 0) (ii 1)).bind fun r8 =>
      if r8 = (ii 0) then
        some ((-1 : Int32), L)
      else
        if x3 = (ii 0) then
          (fX0_table T R x0).bind fun r18 =>
          b2 (fX0_says nf T N I L R x0 r18 x1 x2) fun r20 L21 =>
          some (r20, L21)
        else
          (fX0_table T R x0).bind fun r12 =>
          b2 (fX0_isBarred nf T N I L R x0 r12 x1 x2) fun r14 L15 =>
          if r14 = (ii 0) then
            some ((ii 0), L15)
          else
            some ((ii 1), L15)
/- LostLanes.terms(II)I -/
def fX0_terms_b81 (T : xT) (N : xT) (I : xI) (R : xR) (x0 : Nat) (x1 : Int32) (x2 : Int32) (z0 : Int32) : Option (Int32 × xI) :=
  if x1 = (ii 0) then
    tg T 1 x0 <|
    (fX0_table T R x0).bind fun r17 =>
    tg T 3 r17 <|
    nm (uI I r17 3 x2) fun I21 =>
    b2 (fX0_settled T I21 x0 z0) fun r22 I23 =>
    some (r22, I23)
  else
    if x1 = (ii 1) then
      tg T 1 x0 <|
      (R x0 2).bind fun a11 =>
      tg T 2 a11 <|
      nm (uI I a11 11 x2) fun I13 =>
      b2 (fX0_settled T I13 x0 z0) fun r14 I15 =>
      some (r14, I15)
    else
      tg T 1 x0 <|
      (R x0 2).bind fun a4 =>
      tg T 2 a4 <|
      nm (uI I a4 12 x2) fun I6 =>
      b2 (fX0_settled T I6 x0 z0) fun r7 I8 =>
      some (r7, I8)
def fX0_terms_b33 (T : xT) (N : xT) (I : xI) (R : xR) (x0 : Nat) (x1 : Int32) (x2 : Int32) (z0 : Int32) (z1 : Int32) (z2 : Int32) : Option (Int32 × xI) :=
  (fX0_in z0 z1 z2).bind fun r1 =>
  if r1 = (ii 0) then
    tg T 1 x0 <|
    b2 (fX0_refuse T N I R x0 (-1 : Int32)) fun r16 I17 =>
    some (r16, I17)
  else
    if x1 = (ii 0) then
      tg T 1 x0 <|
      (fX0_table T R x0).bind fun r12 =>
      tg T 3 r12 <|
      fX0_terms_b81 T N I R x0 x1 x2 (I r12 3)
    else
      if x1 = (ii 1) then
        tg T 1 x0 <|
        (R x0 2).bind fun a10 =>
        tg T 2 a10 <|
        fX0_terms_b81 T N I R x0 x1 x2 (I a10 11)
      else
        tg T 1 x0 <|
        (R x0 2).bind fun a7 =>
        tg T 2 a7 <|
        fX0_terms_b81 T N I R x0 x1 x2 (I a7 12)
def fX0_terms (T : xT) (N : xT) (I : xI) (R : xR) (x0 : Nat) (x1 : Int32) (x2 : Int32) : Option (Int32 × xI) :=
  (fX0_in x1 (ii 0) (ii 2)).bind fun r1 =>
  if r1 = (ii 0) then
    tg T 1 x0 <|
    b2 (fX0_refuse T N I R x0 (-1 : Int32)) fun r4 I5 =>
    some (r4, I5)
  else
    if x1 = (ii 0) then
      fX0_terms_b33 T N I R x0 x1 x2 x2 (ii 0) (ii 999)
    else
      if x1 = (ii 1) then
        fX0_terms_b33 T N I R x0 x1 x2 x2 (ii 0) (ii 10)
      else
        fX0_terms_b33 T N I R x0 x1 x2 x2 (ii 0) (ii 9)
/- LostLanes.four(I)V -/
def fX0_four_b3 (nf : Nat) (T : xT) (N : xT) (R : xR) : Nat → xI → Nat → Int32 → Int32 → Option (xI)
  | 0, _, _, _, _ => none
  | k + 1, I, x0, x1, x2 =>
    if x2 < (ii 0) then
      some I
    else
      tg T 1 x0 <|
      (R x0 10).bind fun a3 =>
      rA T N 101 a3 (I x0 11) fun j4 =>
      nm (uI I a3 j4 (((((x1 >>> (x2 &&& ii 31))).toInt8.toInt32)).toInt8.toInt32)) fun I5 =>
      nm (uI I5 x0 11 ((I5 x0 11) + (ii 1))) fun I6 =>
      nm (x2 + (-8 : Int32)) fun u7 =>
      fX0_four_b3 nf T N R k I6 x0 x1 u7
def fX0_four (nf : Nat) (T : xT) (N : xT) (I : xI) (R : xR) (x0 : Nat) (x1 : Int32) : Option (xI) :=
  fX0_four_b3 nf T N R nf I x0 x1 (ii 24)
/- LostLanes.feed(IIIII)I -/
def fX0_feed (nf : Nat) (T : xT) (N : xT) (I : xI) (R : xR) (x0 : Nat) (x1 : Int32) (x2 : Int32) (x3 : Int32) (x4 : Int32) (x5 : Int32) : Option (Int32 × xI) :=
  tg T 1 x0 <|
  if ((I x0 11) + (ii 20)) ≤ (ii 400) then
    (fX0_four nf T N I R x0 x1).bind fun I3 =>
    (fX0_four nf T N I3 R x0 x2).bind fun I5 =>
    (fX0_four nf T N I5 R x0 x3).bind fun I7 =>
    (fX0_four nf T N I7 R x0 x4).bind fun I9 =>
    (fX0_four nf T N I9 R x0 x5).bind fun I11 =>
    some ((I11 x0 11), I11)
  else
    some ((-1 : Int32), I)
/- LostLanes.end(I)I -/
def fX0_end (T : xT) (I : xI) (x0 : Nat) (x1 : Int32) : Option (Int32 × xI) :=
  if x1 < (ii 0) then
    some ((-1 : Int32), I)
  else
    tg T 1 x0 <|
    if x1 ≤ (I x0 11) then
      nm (uI I x0 11 x1) fun I4 =>
      some (x1, I4)
    else
      some ((-1 : Int32), I)
/- LostLanes.row()I -/
def fX0_row_b153 (nf : Nat) (kk40 : xI → Nat → Int32 → Int32 → Int32 → Option (Int32 × xI)) (T : xT) (N : xT) (I : xI) (R : xR) (x0 : Nat) (x1 : Int32) (x3 : Int32) (x4 : Int32) (z0 : Int32) (z1 : Int32) : Option (Int32 × xI) :=
  nm (z0 + z1) fun u1 =>
  tg T 1 x0 <|
  if x4 = (ii 0) then
    nm (uI I x0 13 ((I x0 13) + (ii 1))) fun I4 =>
    nm (x3 + (ii 4)) fun u5 =>
    kk40 I4 x0 x1 u1 u5
  else
    nm (uI I x0 13 ((I x0 13) + (ii 0))) fun I6 =>
    nm (x3 + (ii 4)) fun u7 =>
    kk40 I6 x0 x1 u1 u7
def fX0_row_b142 (nf : Nat) (kk40 : xI → Nat → Int32 → Int32 → Int32 → Option (Int32 × xI)) (T : xT) (N : xT) (I : xI) (R : xR) (x0 : Nat) (x1 : Int32) (x2 : Int32) (x3 : Int32) (x4 : Int32) : Option (Int32 × xI) :=
  if x4 = (ii 0) then
    fX0_row_b153 nf kk40 T N I R x0 x1 x3 x4 x2 (ii 0)
  else
    fX0_row_b153 nf kk40 T N I R x0 x1 x3 x4 x2 (ii 1)
def fX0_row_b100 (nf : Nat) (kk40 : xI → Nat → Int32 → Int32 → Int32 → Option (Int32 × xI)) (T : xT) (N : xT) (I : xI) (R : xR) (x0 : Nat) (x1 : Int32) (x2 : Int32) (x3 : Int32) (z0 : Int32) : Option (Int32 × xI) :=
  if z0 = (ii 0) then
    fX0_row_b142 nf kk40 T N I R x0 x1 x2 x3 z0
  else
    tg T 1 x0 <|
    (R x0 10).bind fun a3 =>
    rA T N 101 a3 x3 fun j4 =>
    rA T N 101 a3 (x3 + (ii 1)) fun j5 =>
    rA T N 101 a3 (x3 + (ii 2)) fun j6 =>
    rA T N 101 a3 (x3 + (ii 3)) fun j7 =>
    b2 (fX0_adds T N I R x0 (I a3 j4) (I a3 j5) (I a3 j6) (I a3 j7)) fun r8 I9 =>
    fX0_row_b142 nf kk40 T N I9 R x0 x1 x2 x3 z0
def fX0_row_b40 (nf : Nat) (T : xT) (N : xT) (R : xR) : Nat → xI → Nat → Int32 → Int32 → Int32 → Option (Int32 × xI)
  | 0, _, _, _, _, _ => none
  | k + 1, I, x0, x1, x2, x3 =>
    if x1 < (x3 + (ii 4)) then
      tg T 1 x0 <|
      b2 (fX0_settled T I x0 x2) fun r2 I3 =>
      some (r2, I3)
    else
      tg T 1 x0 <|
      (R x0 2).bind fun a7 =>
      tg T 2 a7 <|
      if (ii 10) ≤ (I a7 8) then
        fX0_row_b100 nf (fX0_row_b40 nf T N R k) T N I R x0 x1 x2 x3 (ii 0)
      else
        (R x0 10).bind fun a10 =>
        rA T N 101 a10 x3 fun j11 =>
        rA T N 101 a10 (x3 + (ii 1)) fun j12 =>
        rA T N 101 a10 (x3 + (ii 2)) fun j13 =>
        rA T N 101 a10 (x3 + (ii 3)) fun j14 =>
        (fX0_canLane (I a10 j11) (I a10 j12) (I a10 j13) (I a10 j14)).bind fun r15 =>
        if r15 = (ii 0) then
          fX0_row_b100 nf (fX0_row_b40 nf T N R k) T N I R x0 x1 x2 x3 (ii 0)
        else
          fX0_row_b100 nf (fX0_row_b40 nf T N R k) T N I R x0 x1 x2 x3 (ii 1)
def fX0_row (nf : Nat) (T : xT) (N : xT) (I : xI) (R : xR) (x0 : Nat) : Option (Int32 × xI) :=
  tg T 1 x0 <|
  nm (I x0 11) fun u2 =>
  nm (uI I x0 11 (ii 0)) fun I3 =>
  if u2 = (ii 0) then
    b2 (fX0_refuse T N I3 R x0 (-6 : Int32)) fun r8 I9 =>
    some (r8, I9)
  else
    if (u2 - u2 / (ii 4) * (ii 4)) = (ii 0) then
      nm (uI I3 x0 13 (ii 0)) fun I7 =>
      fX0_row_b40 nf T N R nf I7 x0 u2 (ii 0) (ii 0)
    else
      nm (uI I3 x0 13 (ii 1)) fun I6 =>
      fX0_row_b40 nf T N R nf I6 x0 u2 (ii 0) (ii 0)
/- LostLanes.gravel()I -/
def fX0_gravel (T : xT) (I : xI) (x0 : Nat) : Option (Int32) :=
  tg T 1 x0 <|
  some (I x0 13)
/- LostLanes$Reader.read()V -/
def fX6_read_rX7_b38 (nf : Nat) (U : (Nat → Option Nat)) (T : xT) (N : xT) (Z : Nat) (S : Nat) (I : xI) (L : xL) (R : xR) (x0 : Nat) (z0 : Nat) : Option ((Nat ⊕ Unit) × xT × xT × Nat × Nat × xI × xR) :=
  tg T 7 x0 <|
  b2 (fX8_init U T I R z0 (I x0 3)) fun I2 R3 =>
  tg T 8 z0 <|
  some ((.inl z0), T, N, Z, S, I2, R3)
def fX6_read_rX7_b21 (nf : Nat) (kk8 : xT → xT → Nat → Nat → xI → xR → Nat → Option ((Nat ⊕ Unit) × xT × xT × Nat × Nat × xI × xR)) (U : (Nat → Option Nat)) (T : xT) (N : xT) (Z : Nat) (S : Nat) (I : xI) (L : xL) (R : xR) (x0 : Nat) : Option ((Nat ⊕ Unit) × xT × xT × Nat × Nat × xI × xR) :=
  kk8 T N Z S I R x0
def fX6_read_rX7_b8 (nf : Nat) (U : (Nat → Option Nat)) (L : xL) : Nat → xT → xT → Nat → Nat → xI → xR → Nat → Option ((Nat ⊕ Unit) × xT × xT × Nat × Nat × xI × xR)
  | 0, _, _, _, _, _, _, _ => none
  | k + 1, T, N, Z, S, I, R, x0 =>
    (U 142).bind fun a1 =>
    tg T 7 x0 <|
    b2 (fX6_takes_rX7 nf U T N I R x0 a1) fun r2 I3 =>
    if r2 = (ii 0) then
      if (I3 x0 1) ≤ (I3 x0 3) then
        some ((.inr ()), T, N, Z, S, I3, R)
      else
        nm (uT T Z 8) fun T8 =>
        nm (Z + 1) fun Z9 =>
        nm (S + 7) fun S10 =>
        fX6_read_rX7_b38 nf U T8 N Z9 S10 I3 L R x0 Z
    else
      b7 (fX7_clause nf U T N Z S I3 L R x0) fun r11 T12 N13 Z14 S15 I16 R17 =>
      xc r11 (fun a19 =>
        tg T12 8 a19 <|
        some ((.inl a19), T12, N13, Z14, S15, I16, R17)
      ) fun v20 =>
        fX6_read_rX7_b21 nf (fX6_read_rX7_b8 nf U L k) U T12 N13 Z14 S15 I16 L R17 x0
def fX6_read_rX7 (nf : Nat) (U : (Nat → Option Nat)) (T : xT) (N : xT) (Z : Nat) (S : Nat) (I : xI) (L : xL) (R : xR) (x0 : Nat) : Option ((Nat ⊕ Unit) × xT × xT × Nat × Nat × xI × xR) :=
  tg T 7 x0 <|
  (fX6_next_rX7 nf T N I R x0).bind fun I1 =>
  b7 (fX7_clause nf U T N Z S I1 L R x0) fun r4 T5 N6 Z7 S8 I9 R10 =>
  xc r4 (fun a12 =>
    tg T5 8 a12 <|
    some ((.inl a12), T5, N6, Z7, S8, I9, R10)
  ) fun v13 =>
    fX6_read_rX7_b8 nf U L nf T5 N6 Z7 S8 I9 R10 x0
/- LostLanes.reads(LLostLanes$Reader;)Z -/
def fX0_reads_ndX7_b7 (nf : Nat) (U : (Nat → Option Nat)) (T : xT) (N : xT) (Z : Nat) (S : Nat) (I : xI) (L : xL) (R : xR) (x0 : Nat) (z0 : Nat) : Option (Int32 × xT × xT × Nat × Nat × xI × xR) :=
  tg T 8 z0 <|
  tg T 1 x0 <|
  nm (uI I x0 12 (I z0 6)) fun I3 =>
  some ((ii 0), T, N, Z, S, I3, R)
def fX0_reads_ndX7_b4 (nf : Nat) (U : (Nat → Option Nat)) (T : xT) (N : xT) (Z : Nat) (S : Nat) (I : xI) (L : xL) (R : xR) (x0 : Nat) : Option (Int32 × xT × xT × Nat × Nat × xI × xR) :=
  tg T 1 x0 <|
  nm (uI I x0 12 (-1 : Int32)) fun I2 =>
  some ((ii 1), T, N, Z, S, I2, R)
def fX0_reads_ndX7 (nf : Nat) (U : (Nat → Option Nat)) (T : xT) (N : xT) (Z : Nat) (S : Nat) (I : xI) (L : xL) (R : xR) (x0 : Nat) (x1 : Nat) : Option (Int32 × xT × xT × Nat × Nat × xI × xR) :=
  tg T 7 x1 <|
  b7 (fX6_read_rX7 nf U T N Z S I L R x1) fun r1 T2 N3 Z4 S5 I6 R7 =>
  xc r1 (fun a10 =>
    tg T2 8 a10 <|
    fX0_reads_ndX7_b7 nf U T2 N3 Z4 S5 I6 L R7 x0 a10
  ) fun v11 =>
    fX0_reads_ndX7_b4 nf U T2 N3 Z4 S5 I6 L R7 x0
/- LostLanes.law()I -/
def fX0_law_b81 (nf : Nat) (U : (Nat → Option Nat)) (T : xT) (N : xT) (Z : Nat) (S : Nat) (I : xI) (L : xL) (R : xR) (x0 : Nat) (z0 : Int32) : Option (Int32 × xT × xT × Nat × Nat × xI × xR) :=
  tg T 1 x0 <|
  (R x0 2).bind fun a2 =>
  tg T 2 a2 <|
  (R a2 7).bind fun a4 =>
  tg T 19 a4 <|
  (fJ2_size T I a4).bind fun r5 =>
  b2 (fX0_done T I x0 (r5 - (ii 1))) fun r8 I9 =>
  some (r8, T, N, Z, S, I9, R)
def fX0_law_b70 (nf : Nat) (U : (Nat → Option Nat)) (T : xT) (N : xT) (Z : Nat) (S : Nat) (I : xI) (L : xL) (R : xR) (x0 : Nat) (x2 : Nat) (z0 : Nat) (z1 : Nat) : Option (Int32 × xT × xT × Nat × Nat × xI × xR) :=
  tg T 7 x2 <|
  (R x2 7).bind fun a2 =>
  (fX19_init T R z1 a2).bind fun R3 =>
  tg T 19 z0 <|
  b7 (fJ2_add T N Z S I R3 z0 z1) fun r5 T6 N7 Z8 S9 I10 R11 =>
  fX0_law_b81 nf U T6 N7 Z8 S9 I10 L R11 x0 r5
def fX0_law_b50 (nf : Nat) (U : (Nat → Option Nat)) (T : xT) (N : xT) (Z : Nat) (S : Nat) (I : xI) (L : xL) (R : xR) (x0 : Nat) (x2 : Nat) (z0 : Int32) : Option (Int32 × xT × xT × Nat × Nat × xI × xR) :=
  if z0 = (ii 0) then
    tg T 1 x0 <|
    b2 (fX0_refuse T N I R x0 (-6 : Int32)) fun r9 I10 =>
    some (r9, T, N, Z, S, I10, R)
  else
    tg T 1 x0 <|
    (R x0 2).bind fun a3 =>
    tg T 2 a3 <|
    (R a3 7).bind fun a5 =>
    nm (uT T Z 17) fun T6 =>
    nm (Z + 1) fun Z7 =>
    nm (S + 1) fun S8 =>
    fX0_law_b70 nf U T6 N Z7 S8 I L R x0 x2 a5 Z
def fX0_law_b44 (nf : Nat) (U : (Nat → Option Nat)) (T : xT) (N : xT) (Z : Nat) (S : Nat) (I : xI) (L : xL) (R : xR) (x0 : Nat) (z0 : Nat) : Option (Int32 × xT × xT × Nat × Nat × xI × xR) :=
  tg T 1 x0 <|
  b7 (fX0_reads_ndX7 nf U T N Z S I L R x0 z0) fun r1 T2 N3 Z4 S5 I6 R7 =>
  fX0_law_b50 nf U T2 N3 Z4 S5 I6 L R7 x0 z0 r1
def fX0_law_b35 (nf : Nat) (U : (Nat → Option Nat)) (T : xT) (N : xT) (Z : Nat) (S : Nat) (I : xI) (L : xL) (R : xR) (x0 : Nat) (x1 : Int32) (z0 : Nat) : Option (Int32 × xT × xT × Nat × Nat × xI × xR) :=
  tg T 1 x0 <|
  (R x0 10).bind fun a2 =>
  b6 (fX7_init T N Z S I R z0 a2 x1) fun T3 N4 Z5 S6 I7 R8 =>
  fX0_law_b44 nf U T3 N4 Z5 S6 I7 L R8 x0 z0
def fX0_law (nf : Nat) (U : (Nat → Option Nat)) (T : xT) (N : xT) (Z : Nat) (S : Nat) (I : xI) (L : xL) (R : xR) (x0 : Nat) : Option (Int32 × xT × xT × Nat × Nat × xI × xR) :=
  tg T 1 x0 <|
  nm (I x0 11) fun u2 =>
  nm (uI I x0 11 (ii 0)) fun I3 =>
  (R x0 2).bind fun a4 =>
  tg T 2 a4 <|
  (R a4 7).bind fun a6 =>
  tg T 19 a6 <|
  (fJ2_size T I3 a6).bind fun r7 =>
  if r7 = (ii 6) then
    b2 (fX0_refuse T N I3 R x0 (-5 : Int32)) fun r14 I15 =>
    some (r14, T, N, Z, S, I15, R)
  else
    nm (uT T Z 7) fun T11 =>
    nm (Z + 1) fun Z12 =>
    nm (S + 8) fun S13 =>
    fX0_law_b35 nf U T11 N Z12 S13 I3 L R x0 u2 Z
/- LostLanes.fault()I -/
def fX0_fault (T : xT) (I : xI) (x0 : Nat) : Option (Int32) :=
  tg T 1 x0 <|
  some (I x0 12)
/- LostLanes.stopped()I -/
def fX0_stopped (T : xT) (I : xI) (x0 : Nat) : Option (Int32) :=
  tg T 1 x0 <|
  some (I x0 14)
/- LostLanes.isLaw(I)Z -/
def fX0_isLaw (T : xT) (I : xI) (R : xR) (x0 : Nat) (x1 : Int32) : Option (Int32) :=
  tg T 1 x0 <|
  (R x0 2).bind fun a2 =>
  tg T 2 a2 <|
  (R a2 7).bind fun a4 =>
  tg T 19 a4 <|
  (fJ2_size T I a4).bind fun r5 =>
  (fX0_in x1 (-1 : Int32) (r5 - (ii 1))).bind fun r8 =>
  chk (zb r8) <|
  some r8
/- LostLanes.force(I)I -/
def fX0_force (T : xT) (N : xT) (I : xI) (R : xR) (x0 : Nat) (x1 : Int32) : Option (Int32 × xI) :=
  tg T 1 x0 <|
  (fX0_isLaw T I R x0 x1).bind fun r1 =>
  if r1 = (ii 0) then
    b2 (fX0_refuse T N I R x0 (-2 : Int32)) fun r12 I13 =>
    some (r12, I13)
  else
    (R x0 2).bind fun a5 =>
    tg T 2 a5 <|
    nm (I a5 13) fun u7 =>
    nm (uI I a5 13 x1) fun I8 =>
    b2 (fX0_done T I8 x0 u7) fun r9 I10 =>
    some (r9, I10)
/- LostLanes.keeps(I)V -/
def fX0_keeps_b76 (nf : Nat) (T : xT) (N : xT) (I : xI) (R : xR) (x0 : Nat) (x1 : Int32) : Option (xI × xR) :=
  tg T 1 x0 <|
  (R x0 4).bind fun a2 =>
  rA T N 106 a2 (I x0 15) fun j3 =>
  (R a2 j3).bind fun a4 =>
  (fX0_table T R x0).bind fun r5 =>
  tg T 3 a4 <|
  (fX2_takes T N I R a4 r5).bind fun I7 =>
  (R x0 6).bind fun a10 =>
  rA T N 100 a10 (I7 x0 15) fun j11 =>
  nm (uI I7 a10 j11 x1) fun I12 =>
  nm (uI I12 x0 15 ((I12 x0 15) + (ii 1))) fun I13 =>
  some (I13, R)
def fX0_keeps_b18 (nf : Nat) (T : xT) (N : xT) : Nat → xI → xR → Nat → Int32 → Nat → Int32 → Option (xI × xR)
  | 0, _, _, _, _, _, _ => none
  | k + 1, I, R, x0, x1, x2, x3 =>
    if (ii 16) ≤ x3 then
      tg T 1 x0 <|
      (R x0 4).bind fun a3 =>
      rA T N 106 a3 (ii 15) fun j4 =>
      tg T 3 x2 <|
      nm (uR R a3 j4 (some x2)) fun R6 =>
      nm (uI I x0 15 ((I x0 15) - (ii 1))) fun I7 =>
      fX0_keeps_b76 nf T N I7 R6 x0 x1
    else
      tg T 1 x0 <|
      (R x0 4).bind fun a9 =>
      rA T N 106 a9 x3 fun j10 =>
      (R a9 j10).bind fun a11 =>
      rA T N 106 a9 (x3 - (ii 1)) fun j12 =>
      tg T 3 a11 <|
      nm (uR R a9 j12 (some a11)) fun R14 =>
      (R14 x0 6).bind fun a15 =>
      rA T N 100 a15 x3 fun j16 =>
      rA T N 100 a15 (x3 - (ii 1)) fun j17 =>
      nm (uI I a15 j17 (I a15 j16)) fun I18 =>
      nm (x3 + (ii 1)) fun u19 =>
      fX0_keeps_b18 nf T N k I18 R14 x0 x1 x2 u19
def fX0_keeps (nf : Nat) (T : xT) (N : xT) (I : xI) (R : xR) (x0 : Nat) (x1 : Int32) : Option (xI × xR) :=
  tg T 1 x0 <|
  if (I x0 15) = (ii 16) then
    (R x0 4).bind fun a3 =>
    rA T N 106 a3 (ii 0) fun j4 =>
    (R a3 j4).bind fun a5 =>
    fX0_keeps_b18 nf T N nf I R x0 x1 a5 (ii 1)
  else
    fX0_keeps_b76 nf T N I R x0 x1
/- LostLanes.goes(LLostLanes$Table;II)V -/
def fX0_goes (T : xT) (N : xT) (I : xI) (R : xR) (x0 : Nat) (x1 : Nat) (x2 : Int32) (x3 : Int32) : Option (xI) :=
  tg T 3 x1 <|
  (R x1 0).bind fun a2 =>
  tg T 1 x0 <|
  (R x0 2).bind fun a4 =>
  rA T N 100 a2 x2 fun j5 =>
  tg T 2 a4 <|
  (fX1_otherEnd T N I R a4 x3 (I a2 j5)).bind fun r6 =>
  nm (uI I a2 j5 r6) fun I9 =>
  (R x1 1).bind fun a10 =>
  rA T N 100 a10 x2 fun j11 =>
  nm (uI I9 a10 j11 x3) fun I12 =>
  some I12
/- LostLanes.wandersKept(I)I -/
def fX0_wandersKept (nf : Nat) (T : xT) (N : xT) (I : xI) (L : xL) (R : xR) (x0 : Nat) (x1 : Int32) : Option (Int32 × xI × xL × xR) :=
  tg T 1 x0 <|
  (fX0_isChild T I R x0 x1).bind fun r1 =>
  if r1 = (ii 0) then
    some ((-2 : Int32), I, L, R)
  else
    (fX0_table T R x0).bind fun r5 =>
    b3 (fX0_laneNext nf T N I L R x0 r5 x1) fun r7 I8 L9 =>
    if r7 = (-1 : Int32) then
      some ((-3 : Int32), I8, L9, R)
    else
      b2 (fX0_keeps nf T N I8 R x0 (ii 0)) fun I12 R13 =>
      (fX0_table T R13 x0).bind fun r15 =>
      (fX0_goes T N I12 R13 x0 r15 x1 r7).bind fun I17 =>
      (fX0_table T R13 x0).bind fun r19 =>
      tg T 3 r19 <|
      (R13 r19 0).bind fun a22 =>
      rA T N 100 a22 x1 fun j23 =>
      some ((I17 a22 j23), I17, L9, R13)
/- LostLanes.doneOr(I)I -/
def fX0_doneOr (T : xT) (N : xT) (I : xI) (R : xR) (x0 : Nat) (x1 : Int32) : Option (Int32 × xI) :=
  if (ii 0) ≤ x1 then
    tg T 1 x0 <|
    b2 (fX0_done T I x0 x1) fun r2 I3 =>
    some (r2, I3)
  else
    tg T 1 x0 <|
    b2 (fX0_refuse T N I R x0 x1) fun r6 I7 =>
    some (r6, I7)
/- LostLanes.wander(I)I -/
def fX0_wander (nf : Nat) (T : xT) (N : xT) (I : xI) (L : xL) (R : xR) (x0 : Nat) (x1 : Int32) : Option (Int32 × xI × xL × xR) :=
  tg T 1 x0 <|
  b4 (fX0_wandersKept nf T N I L R x0 x1) fun r1 I2 L3 R4 =>
  b2 (fX0_doneOr T N I2 R4 x0 r1) fun r7 I8 =>
  some (r7, I8, L3, R4)
/- LostLanes.criesOut(LLostLanes$Table;I)V -/
def fX0_criesOut (nf : Nat) (T : xT) (N : xT) (I : xI) (L : xL) (R : xR) (x0 : Nat) (x1 : Nat) (x2 : Int32) : Option (xI × xL) :=
  tg T 3 x1 <|
  (R x1 2).bind fun a2 =>
  (R x1 1).bind fun a3 =>
  rA T N 100 a3 x2 fun j4 =>
  tg T 1 x0 <|
  b2 (fX0_says nf T N I L R x0 x1 x2 (I a3 j4)) fun r5 L6 =>
  rA T N 100 a2 (I a3 j4) fun j9 =>
  nm (uI I a2 j9 r5) fun I10 =>
  some (I10, L6)
/- LostLanes.criesKept(I)I -/
def fX0_criesKept (nf : Nat) (T : xT) (N : xT) (I : xI) (L : xL) (R : xR) (x0 : Nat) (x1 : Int32) : Option (Int32 × xI × xL × xR) :=
  tg T 1 x0 <|
  (fX0_isChild T I R x0 x1).bind fun r1 =>
  if r1 = (ii 0) then
    some ((-2 : Int32), I, L, R)
  else
    (fX0_table T R x0).bind fun r5 =>
    tg T 3 r5 <|
    (R r5 1).bind fun a8 =>
    rA T N 100 a8 x1 fun j9 =>
    if (I a8 j9) = (-1 : Int32) then
      some ((-3 : Int32), I, L, R)
    else
      b2 (fX0_keeps nf T N I R x0 (ii 1)) fun I11 R12 =>
      (fX0_table T R12 x0).bind fun r14 =>
      b2 (fX0_criesOut nf T N I11 L R12 x0 r14 x1) fun I16 L17 =>
      (fX0_table T R12 x0).bind fun r19 =>
      tg T 3 r19 <|
      (R12 r19 2).bind fun a22 =>
      (fX0_table T R12 x0).bind fun r23 =>
      tg T 3 r23 <|
      (R12 r23 1).bind fun a26 =>
      rA T N 100 a26 x1 fun j27 =>
      rA T N 100 a22 (I16 a26 j27) fun j28 =>
      some ((I16 a22 j28), I16, L17, R12)
/- LostLanes.cry(I)I -/
def fX0_cry (nf : Nat) (T : xT) (N : xT) (I : xI) (L : xL) (R : xR) (x0 : Nat) (x1 : Int32) : Option (Int32 × xI × xL × xR) :=
  tg T 1 x0 <|
  b4 (fX0_criesKept nf T N I L R x0 x1) fun r1 I2 L3 R4 =>
  b2 (fX0_doneOr T N I2 R4 x0 r1) fun r7 I8 =>
  some (r7, I8, L3, R4)
/- LostLanes.leadsKept(II)I -/
def fX0_leadsKept (nf : Nat) (T : xT) (N : xT) (I : xI) (R : xR) (x0 : Nat) (x1 : Int32) (x2 : Int32) : Option (Int32 × xI × xR) :=
  (fX0_isCorner x2).bind fun r1 =>
  if r1 = (ii 0) then
    some ((-1 : Int32), I, R)
  else
    tg T 1 x0 <|
    (fX0_isChild T I R x0 x1).bind fun r4 =>
    if r4 = (ii 0) then
      some ((-2 : Int32), I, R)
    else
      (fX0_table T R x0).bind fun r8 =>
      tg T 3 r8 <|
      (R r8 0).bind fun a11 =>
      rA T N 100 a11 x1 fun j12 =>
      nm (I a11 j12) fun u13 =>
      if u13 = x2 then
        some ((-3 : Int32), I, R)
      else
        b2 (fX0_keeps nf T N I R x0 (ii 2)) fun I15 R16 =>
        (fX0_table T R16 x0).bind fun r18 =>
        tg T 3 r18 <|
        (R16 r18 0).bind fun a21 =>
        rA T N 100 a21 x1 fun j22 =>
        nm (uI I15 a21 j22 x2) fun I23 =>
        some (u13, I23, R16)
/- LostLanes.lead(II)I -/
def fX0_lead (nf : Nat) (T : xT) (N : xT) (I : xI) (R : xR) (x0 : Nat) (x1 : Int32) (x2 : Int32) : Option (Int32 × xI × xR) :=
  tg T 1 x0 <|
  b3 (fX0_leadsKept nf T N I R x0 x1 x2) fun r1 I2 R3 =>
  b2 (fX0_doneOr T N I2 R3 x0 r1) fun r6 I7 =>
  some (r6, I7, R3)
/- LostLanes.passes(LLostLanes$Table;)I -/
def fX0_passes_b35 (nf : Nat) (T : xT) (N : xT) (R : xR) : Nat → xI → xL → Nat → Nat → Int32 → Int32 → Option (Int32 × xI × xL)
  | 0, _, _, _, _, _, _ => none
  | k + 1, I, L, x0, x1, x2, x3 =>
    tg T 1 x0 <|
    (R x0 2).bind fun a2 =>
    tg T 2 a2 <|
    if (I a2 9) ≤ x3 then
      tg T 3 x1 <|
      nm (uI I x1 3 ((I x1 3) + (ii 1))) fun I6 =>
      some (x2, I6, L)
    else
      (R x0 18).bind fun a7 =>
      rA T N 100 a7 x3 fun j8 =>
      if (I a7 j8) = (-1 : Int32) then
        nm (x3 + (ii 1)) fun u14 =>
        fX0_passes_b35 nf T N R k I L x0 x1 x2 u14
      else
        (fX0_goes T N I R x0 x1 x3 (I a7 j8)).bind fun I10 =>
        nm (x2 + (ii 1)) fun u12 =>
        nm (x3 + (ii 1)) fun u13 =>
        fX0_passes_b35 nf T N R k I10 L x0 x1 u12 u13
def fX0_passes_b4 (nf : Nat) (T : xT) (N : xT) (R : xR) : Nat → xI → xL → Nat → Nat → Int32 → Int32 → Option (Int32 × xI × xL)
  | 0, _, _, _, _, _, _ => none
  | k + 1, I, L, x0, x1, x2, x3 =>
    tg T 1 x0 <|
    (R x0 2).bind fun a2 =>
    tg T 2 a2 <|
    if (I a2 9) ≤ x3 then
      fX0_passes_b35 nf T N R nf I L x0 x1 x2 (ii 0)
    else
      (R x0 18).bind fun a5 =>
      b3 (fX0_laneNext nf T N I L R x0 x1 x3) fun r6 I7 L8 =>
      rA T N 100 a5 x3 fun j10 =>
      nm (uI I7 a5 j10 r6) fun I11 =>
      nm (x3 + (ii 1)) fun u12 =>
      fX0_passes_b4 nf T N R k I11 L8 x0 x1 x2 u12
def fX0_passes (nf : Nat) (T : xT) (N : xT) (I : xI) (L : xL) (R : xR) (x0 : Nat) (x1 : Nat) : Option (Int32 × xI × xL) :=
  fX0_passes_b4 nf T N R nf I L x0 x1 (ii 0) (ii 0)
/- LostLanes.passesKept()I -/
def fX0_passesKept (nf : Nat) (T : xT) (N : xT) (I : xI) (L : xL) (R : xR) (x0 : Nat) : Option (Int32 × xI × xL × xR) :=
  tg T 1 x0 <|
  (fX0_table T R x0).bind fun r1 =>
  tg T 3 r1 <|
  if (I r1 3) = (ii 999) then
    some ((-3 : Int32), I, L, R)
  else
    b2 (fX0_keeps nf T N I R x0 (ii 3)) fun I6 R7 =>
    (fX0_table T R7 x0).bind fun r9 =>
    b3 (fX0_passes nf T N I6 L R7 x0 r9) fun r11 I12 L13 =>
    some (r11, I12, L13, R7)
/- LostLanes.pass()I -/
def fX0_pass (nf : Nat) (T : xT) (N : xT) (I : xI) (L : xL) (R : xR) (x0 : Nat) : Option (Int32 × xI × xL × xR) :=
  tg T 1 x0 <|
  b4 (fX0_passesKept nf T N I L R x0) fun r1 I2 L3 R4 =>
  b2 (fX0_doneOr T N I2 R4 x0 r1) fun r7 I8 =>
  some (r7, I8, L3, R4)
/- LostLanes.undo()I -/
def fX0_undo (T : xT) (N : xT) (I : xI) (R : xR) (x0 : Nat) : Option (Int32 × xI) :=
  tg T 1 x0 <|
  if (I x0 15) = (ii 0) then
    b2 (fX0_refuse T N I R x0 (-3 : Int32)) fun r17 I18 =>
    some (r17, I18)
  else
    nm (uI I x0 15 ((I x0 15) - (ii 1))) fun I3 =>
    (fX0_table T R x0).bind fun r4 =>
    (R x0 4).bind fun a6 =>
    rA T N 106 a6 (I3 x0 15) fun j7 =>
    (R a6 j7).bind fun a8 =>
    tg T 3 r4 <|
    (fX2_takes T N I3 R r4 a8).bind fun I9 =>
    (R x0 6).bind fun a12 =>
    rA T N 100 a12 (I9 x0 15) fun j13 =>
    b2 (fX0_done T I9 x0 (I9 a12 j13)) fun r14 I15 =>
    some (r14, I15)
/- LostLanes.where(II)I -/
def fX0_where_b33 (nf : Nat) (T : xT) (N : xT) (R : xR) : Nat → xI → xL → Nat → Int32 → Int32 → Int32 → Option (Int32 × xI × xL)
  | 0, _, _, _, _, _, _ => none
  | k + 1, I, L, x0, x1, x2, x3 =>
    if x2 ≤ x3 then
      tg T 1 x0 <|
      (R x0 9).bind fun a3 =>
      tg T 3 a3 <|
      (R a3 0).bind fun a5 =>
      rA T N 100 a5 x1 fun j6 =>
      some ((I a5 j6), I, L)
    else
      tg T 1 x0 <|
      (R x0 9).bind fun a8 =>
      b3 (fX0_passes nf T N I L R x0 a8) fun r9 I10 L11 =>
      nm (x3 + (ii 1)) fun u13 =>
      fX0_where_b33 nf T N R k I10 L11 x0 x1 x2 u13
def fX0_where (nf : Nat) (T : xT) (N : xT) (I : xI) (L : xL) (R : xR) (x0 : Nat) (x1 : Int32) (x2 : Int32) : Option (Int32 × xI × xL) :=
  tg T 1 x0 <|
  (fX0_isChild T I R x0 x1).bind fun r1 =>
  if r1 = (ii 0) then
    some ((-1 : Int32), I, L)
  else
    (fX0_in x2 (ii 0) (ii 60)).bind fun r5 =>
    if r5 = (ii 0) then
      some ((-1 : Int32), I, L)
    else
      (R x0 9).bind fun a8 =>
      (fX0_table T R x0).bind fun r9 =>
      tg T 3 a8 <|
      (fX2_takes T N I R a8 r9).bind fun I11 =>
      fX0_where_b33 nf T N R nf I11 L x0 x1 x2 (ii 0)
/- LostLanes.again(I)I -/
def fX0_again_b23 (nf : Nat) (T : xT) (N : xT) (R : xR) : Nat → xI → xL → Nat → Int32 → Int32 → Option (Int32 × xI × xL)
  | 0, _, _, _, _, _ => none
  | k + 1, I, L, x0, x1, x2 =>
    if (ii 60) < x2 then
      some ((-1 : Int32), I, L)
    else
      tg T 1 x0 <|
      (R x0 9).bind fun a3 =>
      b3 (fX0_passes nf T N I L R x0 a3) fun r4 I5 L6 =>
      tg T 3 a3 <|
      (R a3 0).bind fun a9 =>
      rA T N 100 a9 x1 fun j10 =>
      (fX0_table T R x0).bind fun r11 =>
      tg T 3 r11 <|
      (R r11 0).bind fun a14 =>
      rA T N 100 a14 x1 fun j15 =>
      if (I5 a9 j10) = (I5 a14 j15) then
        some (x2, I5, L6)
      else
        nm (x2 + (ii 1)) fun u17 =>
        fX0_again_b23 nf T N R k I5 L6 x0 x1 u17
def fX0_again (nf : Nat) (T : xT) (N : xT) (I : xI) (L : xL) (R : xR) (x0 : Nat) (x1 : Int32) : Option (Int32 × xI × xL) :=
  tg T 1 x0 <|
  (fX0_isChild T I R x0 x1).bind fun r1 =>
  if r1 = (ii 0) then
    some ((-1 : Int32), I, L)
  else
    (R x0 9).bind fun a5 =>
    (fX0_table T R x0).bind fun r6 =>
    tg T 3 a5 <|
    (fX2_takes T N I R a5 r6).bind fun I8 =>
    fX0_again_b23 nf T N R nf I8 L x0 x1 (ii 1)
/- LostLanes.farOf(II)I -/
def fX0_farOf (T : xT) (N : xT) (I : xI) (R : xR) (x0 : Nat) (x1 : Int32) (x2 : Int32) : Option (Int32) :=
  tg T 1 x0 <|
  (R x0 19).bind fun a2 =>
  rA T N 100 a2 (((ii 8) * x1) + x2) fun j3 =>
  some (I a2 j3)
/- LostLanes.laysFar()V -/
def fX0_laysFar_b155 (nf : Nat) (kk139 : xI → Nat → Int32 → Option (xI)) (kk147 : xI → Nat → Int32 → Int32 → Option (xI)) (T : xT) (N : xT) (R : xR) : Nat → xI → Nat → Int32 → Int32 → Int32 → Option (xI)
  | 0, _, _, _, _, _ => none
  | k + 1, I, x0, x1, x2, x3 =>
    if (ii 8) ≤ x3 then
      nm (x2 + (ii 1)) fun u2 =>
      kk147 I x0 x1 u2
    else
      tg T 1 x0 <|
      (R x0 19).bind fun a4 =>
      (fX0_farOf T N I R x0 x2 x3).bind fun r5 =>
      (fX0_farOf T N I R x0 x2 x1).bind fun r7 =>
      (fX0_farOf T N I R x0 x1 x3).bind fun r9 =>
      rA T N 100 a4 (((ii 8) * x2) + x3) fun j11 =>
      nm (uI I a4 j11 (if (r7 + r9) < r5 then (r7 + r9) else r5)) fun I12 =>
      nm (x3 + (ii 1)) fun u13 =>
      fX0_laysFar_b155 nf kk139 kk147 T N R k I12 x0 x1 x2 u13
def fX0_laysFar_b147 (nf : Nat) (kk139 : xI → Nat → Int32 → Option (xI)) (T : xT) (N : xT) (R : xR) : Nat → xI → Nat → Int32 → Int32 → Option (xI)
  | 0, _, _, _, _ => none
  | k + 1, I, x0, x1, x2 =>
    if (ii 8) ≤ x2 then
      nm (x1 + (ii 1)) fun u2 =>
      kk139 I x0 u2
    else
      fX0_laysFar_b155 nf kk139 (fX0_laysFar_b147 nf kk139 T N R k) T N R nf I x0 x1 x2 (ii 0)
def fX0_laysFar_b139 (nf : Nat) (T : xT) (N : xT) (R : xR) : Nat → xI → Nat → Int32 → Option (xI)
  | 0, _, _, _ => none
  | k + 1, I, x0, x1 =>
    if (ii 8) ≤ x1 then
      some I
    else
      fX0_laysFar_b147 nf (fX0_laysFar_b139 nf T N R k) T N R nf I x0 x1 (ii 0)
def fX0_laysFar_b40 (nf : Nat) (T : xT) (N : xT) (R : xR) : Nat → xI → Nat → Int32 → Option (xI)
  | 0, _, _, _ => none
  | k + 1, I, x0, x1 =>
    tg T 1 x0 <|
    (R x0 2).bind fun a2 =>
    tg T 2 a2 <|
    if (I a2 8) ≤ x1 then
      fX0_laysFar_b139 nf T N R nf I x0 (ii 0)
    else
      (R a2 1).bind fun a5 =>
      rA T N 100 a5 x1 fun j6 =>
      (R a2 2).bind fun a7 =>
      rA T N 100 a7 x1 fun j8 =>
      nm (((ii 8) * (I a5 j6)) + (I a7 j8)) fun u9 =>
      (R x0 19).bind fun a10 =>
      rA T N 100 a10 u9 fun j11 =>
      (R a2 3).bind fun a12 =>
      rA T N 100 a12 x1 fun j13 =>
      nm (uI I a10 j11 (if (I a12 j13) < (I a10 j11) then (I a12 j13) else (I a10 j11))) fun I14 =>
      rA T N 100 a10 (((ii 8) * (I14 a7 j8)) + (I14 a5 j6)) fun j15 =>
      nm (uI I14 a10 j15 (I14 a10 j11)) fun I16 =>
      nm (x1 + (ii 1)) fun u17 =>
      fX0_laysFar_b40 nf T N R k I16 x0 u17
def fX0_laysFar_b2 (nf : Nat) (T : xT) (N : xT) (R : xR) : Nat → xI → Nat → Int32 → Option (xI)
  | 0, _, _, _ => none
  | k + 1, I, x0, x1 =>
    if (ii 64) ≤ x1 then
      fX0_laysFar_b40 nf T N R nf I x0 (ii 0)
    else
      tg T 1 x0 <|
      (R x0 19).bind fun a3 =>
      if (x1 / (ii 8)) = (x1 - x1 / (ii 8) * (ii 8)) then
        rA T N 100 a3 x1 fun j8 =>
        nm (uI I a3 j8 (ii 0)) fun I9 =>
        nm (x1 + (ii 1)) fun u10 =>
        fX0_laysFar_b2 nf T N R k I9 x0 u10
      else
        rA T N 100 a3 x1 fun j5 =>
        nm (uI I a3 j5 (ii 1000000)) fun I6 =>
        nm (x1 + (ii 1)) fun u7 =>
        fX0_laysFar_b2 nf T N R k I6 x0 u7
def fX0_laysFar (nf : Nat) (T : xT) (N : xT) (I : xI) (R : xR) (x0 : Nat) : Option (xI) :=
  fX0_laysFar_b2 nf T N R nf I x0 (ii 0)
/- LostLanes.far(II)I -/
def fX0_far (nf : Nat) (T : xT) (N : xT) (I : xI) (R : xR) (x0 : Nat) (x1 : Int32) (x2 : Int32) : Option (Int32 × xI) :=
  (fX0_isCorner x1).bind fun r1 =>
  if r1 = (ii 0) then
    some ((-1 : Int32), I)
  else
    (fX0_isCorner x2).bind fun r4 =>
    if r4 = (ii 0) then
      some ((-1 : Int32), I)
    else
      tg T 1 x0 <|
      (fX0_laysFar nf T N I R x0).bind fun I7 =>
      (fX0_farOf T N I7 R x0 x1 x2).bind fun r10 =>
      if r10 < (ii 1000000) then
        (fX0_farOf T N I7 R x0 x1 x2).bind fun r13 =>
        some (r13, I7)
      else
        some ((-1 : Int32), I7)
/- LostLanes.foundFrom(II)I -/
def fX0_foundFrom_b13 (nf : Nat) (T : xT) (N : xT) (R : xR) : Nat → xI → xL → Nat → Int32 → Int32 → Int32 → Option (Int32 × xI × xL)
  | 0, _, _, _, _, _, _ => none
  | k + 1, I, L, x0, x1, x2, x3 =>
    if (ii 60) < x3 then
      some ((ii 1000000), I, L)
    else
      tg T 1 x0 <|
      (R x0 9).bind fun a3 =>
      tg T 3 a3 <|
      (R a3 0).bind fun a5 =>
      rA T N 100 a5 x2 fun j6 =>
      (fX0_farOf T N I R x0 x1 (I a5 j6)).bind fun r7 =>
      if x3 < r7 then
        b3 (fX0_passes nf T N I L R x0 a3) fun r10 I11 L12 =>
        nm (x3 + (ii 1)) fun u14 =>
        fX0_foundFrom_b13 nf T N R k I11 L12 x0 x1 x2 u14
      else
        some (x3, I, L)
def fX0_foundFrom (nf : Nat) (T : xT) (N : xT) (I : xI) (L : xL) (R : xR) (x0 : Nat) (x1 : Int32) (x2 : Int32) : Option (Int32 × xI × xL) :=
  tg T 1 x0 <|
  (R x0 9).bind fun a2 =>
  (fX0_table T R x0).bind fun r3 =>
  tg T 3 a2 <|
  (fX2_takes T N I R a2 r3).bind fun I5 =>
  fX0_foundFrom_b13 nf T N R nf I5 L x0 x1 x2 (ii 0)
/- LostLanes.found(II)I -/
def fX0_found (nf : Nat) (T : xT) (N : xT) (I : xI) (L : xL) (R : xR) (x0 : Nat) (x1 : Int32) (x2 : Int32) : Option (Int32 × xI × xL) :=
  (fX0_isCorner x1).bind fun r1 =>
  if r1 = (ii 0) then
    some ((-1 : Int32), I, L)
  else
    tg T 1 x0 <|
    (fX0_isChild T I R x0 x2).bind fun r4 =>
    if r4 = (ii 0) then
      some ((-1 : Int32), I, L)
    else
      (fX0_laysFar nf T N I R x0).bind fun I8 =>
      b3 (fX0_foundFrom nf T N I8 L R x0 x1 x2) fun r10 I11 L12 =>
      if r10 = (ii 1000000) then
        some ((-1 : Int32), I11, L12)
      else
        some (r10, I11, L12)
/- LostLanes.post(I)I -/
def fX0_post_b47 (nf : Nat) (kk34 : xI → xL → Nat → Int32 → Int32 → Int32 → Int32 → Option (Int32 × xI × xL)) (T : xT) (N : xT) (R : xR) : Nat → xI → xL → Nat → Int32 → Int32 → Int32 → Int32 → Int32 → Int32 → Option (Int32 × xI × xL)
  | 0, _, _, _, _, _, _, _, _, _ => none
  | k + 1, I, L, x0, x1, x2, x3, x4, x5, x6 =>
    tg T 1 x0 <|
    (R x0 2).bind fun a2 =>
    tg T 2 a2 <|
    if (I a2 9) ≤ x6 then
      if x5 < x2 then
        nm (x4 + (ii 1)) fun u6 =>
        kk34 I L x0 x1 x5 x4 u6
      else
        nm (x4 + (ii 1)) fun u7 =>
        kk34 I L x0 x1 x2 x3 u7
    else
      b3 (fX0_foundFrom nf T N I L R x0 x4 x6) fun r8 I9 L10 =>
      nm (if x5 < r8 then r8 else x5) fun u12 =>
      nm (x6 + (ii 1)) fun u13 =>
      fX0_post_b47 nf kk34 T N R k I9 L10 x0 x1 x2 x3 x4 u12 u13
def fX0_post_b34 (nf : Nat) (T : xT) (N : xT) (R : xR) : Nat → xI → xL → Nat → Int32 → Int32 → Int32 → Int32 → Option (Int32 × xI × xL)
  | 0, _, _, _, _, _, _, _ => none
  | k + 1, I, L, x0, x1, x2, x3, x4 =>
    if (ii 8) ≤ x4 then
      if x3 = (-1 : Int32) then
        some (x3, I, L)
      else
        if x1 = (ii 0) then
          some (x3, I, L)
        else
          some (x2, I, L)
    else
      fX0_post_b47 nf (fX0_post_b34 nf T N R k) T N R nf I L x0 x1 x2 x3 x4 (ii 0) (ii 0)
def fX0_post (nf : Nat) (T : xT) (N : xT) (I : xI) (L : xL) (R : xR) (x0 : Nat) (x1 : Int32) : Option (Int32 × xI × xL) :=
  (fX0_in x1 (ii 0) (ii 1)).bind fun r1 =>
  if r1 = (ii 0) then
    some ((-1 : Int32), I, L)
  else
    tg T 1 x0 <|
    (R x0 2).bind fun a5 =>
    tg T 2 a5 <|
    if (I a5 9) = (ii 0) then
      some ((-1 : Int32), I, L)
    else
      (fX0_laysFar nf T N I R x0).bind fun I8 =>
      fX0_post_b34 nf T N R nf I8 L x0 x1 (ii 1000000) (-1 : Int32) (ii 0)
/- java/lang/Integer.bitCount(I)I -/
def fJ13_bitCount (x0 : Int32) : Option (Int32) :=
  nm (x0 - ((((x0).toUInt32 >>> (((ii 1)).toUInt32 &&& Int32.toUInt32 (ii 31))).toInt32) &&& (ii 1431655765))) fun u1 =>
  nm ((u1 &&& (ii 858993459)) + ((((u1).toUInt32 >>> (((ii 2)).toUInt32 &&& Int32.toUInt32 (ii 31))).toInt32) &&& (ii 858993459))) fun u2 =>
  nm ((u2 + (((u2).toUInt32 >>> (((ii 4)).toUInt32 &&& Int32.toUInt32 (ii 31))).toInt32)) &&& (ii 252645135)) fun u3 =>
  nm (u3 + (((u3).toUInt32 >>> (((ii 8)).toUInt32 &&& Int32.toUInt32 (ii 31))).toInt32)) fun u4 =>
  nm (u4 + (((u4).toUInt32 >>> (((ii 16)).toUInt32 &&& Int32.toUInt32 (ii 31))).toInt32)) fun u5 =>
  some (u5 &&& (ii 63))
/- LostLanes.ones(I)I -/
def fX0_ones (x0 : Int32) : Option (Int32) :=
  (fJ13_bitCount x0).bind fun r1 =>
  some r1
/- LostLanes.ends()I -/
def fX0_ends_b4 (nf : Nat) (T : xT) (N : xT) (I : xI) (R : xR) : Nat → Nat → Int32 → Int32 → Option (Int32)
  | 0, _, _, _ => none
  | k + 1, x0, x1, x2 =>
    tg T 1 x0 <|
    (R x0 2).bind fun a2 =>
    tg T 2 a2 <|
    if (I a2 8) ≤ x2 then
      some x1
    else
      (R a2 1).bind fun a5 =>
      rA T N 100 a5 x2 fun j6 =>
      (R a2 2).bind fun a7 =>
      rA T N 100 a7 x2 fun j8 =>
      nm (x1 ||| (((ii 1) <<< ((I a5 j6) &&& ii 31)) ||| ((ii 1) <<< ((I a7 j8) &&& ii 31)))) fun u9 =>
      nm (x2 + (ii 1)) fun u10 =>
      fX0_ends_b4 nf T N I R k x0 u9 u10
def fX0_ends (nf : Nat) (T : xT) (N : xT) (I : xI) (R : xR) (x0 : Nat) : Option (Int32) :=
  fX0_ends_b4 nf T N I R nf x0 (ii 0) (ii 0)
/- LostLanes.isOf(II)Z -/
def fX0_isOf (x0 : Int32) (x1 : Int32) : Option (Int32) :=
  if ((x0 >>> (x1 &&& ii 31)) &&& (ii 1)) = (ii 1) then
    some (ii 1)
  else
    some (ii 0)
/- LostLanes.areNear(II)Z -/
def fX0_areNear_b34 (nf : Nat) (kk8 : Nat → Int32 → Int32 → Int32 → Int32 → Option (Int32)) (T : xT) (N : xT) (I : xI) (R : xR) : Nat → Nat → Int32 → Int32 → Int32 → Int32 → Int32 → Int32 → Option (Int32)
  | 0, _, _, _, _, _, _, _ => none
  | k + 1, x0, x1, x2, x3, x4, x5, x6 =>
    if (ii 8) ≤ x6 then
      if x5 = (ii 0) then
        some (ii 0)
      else
        nm (x4 + (ii 1)) fun u3 =>
        kk8 x0 x1 x2 x3 u3
    else
      (fX0_isOf x1 x6).bind fun r4 =>
      if r4 = (ii 0) then
        nm (x5 ||| (ii 0)) fun u7 =>
        nm (x6 + (ii 1)) fun u8 =>
        fX0_areNear_b34 nf kk8 T N I R k x0 x1 x2 x3 x4 u7 u8
      else
        tg T 1 x0 <|
        (fX0_farOf T N I R x0 x6 x4).bind fun r9 =>
        if x2 < r9 then
          nm (x5 ||| (ii 0)) fun u13 =>
          nm (x6 + (ii 1)) fun u14 =>
          fX0_areNear_b34 nf kk8 T N I R k x0 x1 x2 x3 x4 u13 u14
        else
          nm (x5 ||| (ii 1)) fun u15 =>
          nm (x6 + (ii 1)) fun u16 =>
          fX0_areNear_b34 nf kk8 T N I R k x0 x1 x2 x3 x4 u15 u16
def fX0_areNear_b8 (nf : Nat) (T : xT) (N : xT) (I : xI) (R : xR) : Nat → Nat → Int32 → Int32 → Int32 → Int32 → Option (Int32)
  | 0, _, _, _, _, _ => none
  | k + 1, x0, x1, x2, x3, x4 =>
    if (ii 8) ≤ x4 then
      some (ii 1)
    else
      (fX0_isOf x3 x4).bind fun r2 =>
      if r2 = (ii 0) then
        fX0_areNear_b34 nf (fX0_areNear_b8 nf T N I R k) T N I R nf x0 x1 x2 x3 x4 (ii 1) (ii 0)
      else
        fX0_areNear_b34 nf (fX0_areNear_b8 nf T N I R k) T N I R nf x0 x1 x2 x3 x4 (ii 0) (ii 0)
def fX0_areNear (nf : Nat) (T : xT) (N : xT) (I : xI) (R : xR) (x0 : Nat) (x1 : Int32) (x2 : Int32) : Option (Int32) :=
  tg T 1 x0 <|
  (fX0_ends nf T N I R x0).bind fun r1 =>
  fX0_areNear_b8 nf T N I R nf x0 x1 x2 r1 (ii 0)
/- LostLanes.posts(II)I -/
def fX0_posts_b32 (nf : Nat) (T : xT) (N : xT) (R : xR) : Nat → xI → Nat → Int32 → Int32 → Int32 → Int32 → Option (Int32 × xI)
  | 0, _, _, _, _, _, _ => none
  | k + 1, I, x0, x1, x2, x3, x4 =>
    if (ii 255) ≤ x4 then
      if x2 = (ii 0) then
        (fX0_ones x3).bind fun r3 =>
        some (r3, I)
      else
        some (x3, I)
    else
      (fX0_ones x4).bind fun r5 =>
      (fX0_ones x3).bind fun r7 =>
      if r7 ≤ r5 then
        nm (x4 + (ii 1)) fun u10 =>
        fX0_posts_b32 nf T N R k I x0 x1 x2 x3 u10
      else
        tg T 1 x0 <|
        (fX0_areNear nf T N I R x0 x4 x1).bind fun r11 =>
        if r11 = (ii 0) then
          nm (x4 + (ii 1)) fun u15 =>
          fX0_posts_b32 nf T N R k I x0 x1 x2 x3 u15
        else
          nm (x4 + (ii 1)) fun u16 =>
          fX0_posts_b32 nf T N R k I x0 x1 x2 x4 u16
def fX0_posts (nf : Nat) (T : xT) (N : xT) (I : xI) (R : xR) (x0 : Nat) (x1 : Int32) (x2 : Int32) : Option (Int32 × xI) :=
  (fX0_in x1 (ii 0) (ii 50)).bind fun r1 =>
  if r1 = (ii 0) then
    some ((-1 : Int32), I)
  else
    (fX0_in x2 (ii 0) (ii 1)).bind fun r4 =>
    if r4 = (ii 0) then
      some ((-1 : Int32), I)
    else
      tg T 1 x0 <|
      (fX0_laysFar nf T N I R x0).bind fun I7 =>
      fX0_posts_b32 nf T N R nf I7 x0 x1 x2 (ii 255) (ii 0)
/- LostLanes.hear(I)I -/
def fX0_hear (T : xT) (N : xT) (I : xI) (R : xR) (x0 : Nat) (x1 : Int32) : Option (Int32 × xI) :=
  (fX0_in x1 (ii 0) (ii 19)).bind fun r1 =>
  if r1 = (ii 0) then
    tg T 1 x0 <|
    b2 (fX0_refuse T N I R x0 (-1 : Int32)) fun r18 I19 =>
    some (r18, I19)
  else
    tg T 1 x0 <|
    (R x0 2).bind fun a5 =>
    tg T 2 a5 <|
    if (I a5 10) = (ii 6) then
      b2 (fX0_refuse T N I R x0 (-5 : Int32)) fun r15 I16 =>
      some (r15, I16)
    else
      (R a5 6).bind fun a8 =>
      rA T N 100 a8 (I a5 10) fun j9 =>
      nm (uI I a8 j9 x1) fun I10 =>
      nm (uI I10 a5 10 ((I10 a5 10) + (ii 1))) fun I11 =>
      b2 (fX0_done T I11 x0 (I11 a5 10)) fun r12 I13 =>
      some (r12, I13)
/- LostLanes.forget()I -/
def fX0_forget (T : xT) (I : xI) (R : xR) (x0 : Nat) : Option (Int32 × xI) :=
  tg T 1 x0 <|
  (R x0 2).bind fun a2 =>
  tg T 2 a2 <|
  nm (I a2 10) fun u4 =>
  nm (uI I a2 10 (ii 0)) fun I5 =>
  some (u4, I5)
/- LostLanes.laysWays(Z)V -/
def fX0_laysWays_b89 (nf : Nat) (kk23 : xI → Nat → Int32 → Int32 → Option (xI)) (T : xT) (N : xT) (R : xR) : Nat → xI → Nat → Int32 → Int32 → Int32 → Int32 → Option (xI)
  | 0, _, _, _, _, _, _ => none
  | k + 1, I, x0, x1, x2, x3, x4 =>
    tg T 1 x0 <|
    (R x0 2).bind fun a2 =>
    tg T 2 a2 <|
    if (I a2 8) ≤ x4 then
      (R x0 21).bind fun a5 =>
      (R x0 20).bind fun a6 =>
      tg T 100 a5 <|
      tg T 100 a6 <|
      chk (cpk N a5 (ii 0) a6 (ii 0) (ii 8)) <|
      nm (cpI I a5 ((ii 0)).toNatClampNeg a6 ((ii 0)).toNatClampNeg ((ii 8)).toNatClampNeg) fun I10 =>
      nm (x2 + (ii 1)) fun u11 =>
      kk23 I10 x0 x1 u11
    else
      (fX0_table T R x0).bind fun r12 =>
      tg T 3 r12 <|
      (R r12 2).bind fun a15 =>
      rA T N 100 a15 x4 fun j16 =>
      if (I a15 j16) = x3 then
        (R x0 21).bind fun a18 =>
        (R a2 2).bind fun a19 =>
        rA T N 100 a19 x4 fun j20 =>
        rA T N 100 a18 (I a19 j20) fun j21 =>
        (R x0 20).bind fun a22 =>
        (R a2 1).bind fun a23 =>
        rA T N 100 a23 x4 fun j24 =>
        rA T N 100 a22 (I a23 j24) fun j25 =>
        nm (uI I a18 j21 ((I a18 j21) + (I a22 j25))) fun I26 =>
        rA T N 100 a18 (I26 a23 j24) fun j27 =>
        rA T N 100 a22 (I26 a19 j20) fun j28 =>
        nm (uI I26 a18 j27 ((I26 a18 j27) + (I26 a22 j28))) fun I29 =>
        nm (x4 + (ii 1)) fun u30 =>
        fX0_laysWays_b89 nf kk23 T N R k I29 x0 x1 x2 x3 u30
      else
        nm (x4 + (ii 1)) fun u31 =>
        fX0_laysWays_b89 nf kk23 T N R k I x0 x1 x2 x3 u31
def fX0_laysWays_b65 (nf : Nat) (kk23 : xI → Nat → Int32 → Int32 → Option (xI)) (T : xT) (N : xT) (R : xR) : Nat → xI → Nat → Int32 → Int32 → Int32 → Int32 → Option (xI)
  | 0, _, _, _, _, _, _ => none
  | k + 1, I, x0, x1, x2, x3, x4 =>
    if (ii 8) ≤ x4 then
      fX0_laysWays_b89 nf kk23 T N R nf I x0 x1 x2 x3 (ii 0)
    else
      tg T 1 x0 <|
      (R x0 21).bind fun a3 =>
      rA T N 100 a3 x4 fun j4 =>
      nm (uI I a3 j4 (ii 0)) fun I5 =>
      nm (x4 + (ii 1)) fun u6 =>
      fX0_laysWays_b65 nf kk23 T N R k I5 x0 x1 x2 x3 u6
def fX0_laysWays_b23 (nf : Nat) (T : xT) (N : xT) (R : xR) : Nat → xI → Nat → Int32 → Int32 → Option (xI)
  | 0, _, _, _, _ => none
  | k + 1, I, x0, x1, x2 =>
    tg T 1 x0 <|
    (R x0 2).bind fun a2 =>
    tg T 2 a2 <|
    if (I a2 10) ≤ x2 then
      some I
    else
      (R a2 6).bind fun a5 =>
      if x1 = (ii 0) then
        rA T N 100 a5 (((I a2 10) - (ii 1)) - x2) fun j7 =>
        nm (I a5 j7) fun u8 =>
        fX0_laysWays_b65 nf (fX0_laysWays_b23 nf T N R k) T N R nf I x0 x1 x2 u8 (ii 0)
      else
        rA T N 100 a5 x2 fun j9 =>
        nm (I a5 j9) fun u10 =>
        fX0_laysWays_b65 nf (fX0_laysWays_b23 nf T N R k) T N R nf I x0 x1 x2 u10 (ii 0)
def fX0_laysWays_b2 (nf : Nat) (T : xT) (N : xT) (R : xR) : Nat → xI → Nat → Int32 → Int32 → Option (xI)
  | 0, _, _, _, _ => none
  | k + 1, I, x0, x1, x2 =>
    if (ii 8) ≤ x2 then
      fX0_laysWays_b23 nf T N R nf I x0 x1 (ii 0)
    else
      tg T 1 x0 <|
      (R x0 20).bind fun a3 =>
      rA T N 100 a3 x2 fun j4 =>
      nm (uI I a3 j4 (ii 1)) fun I5 =>
      nm (x2 + (ii 1)) fun u6 =>
      fX0_laysWays_b2 nf T N R k I5 x0 x1 u6
def fX0_laysWays (nf : Nat) (T : xT) (N : xT) (I : xI) (R : xR) (x0 : Nat) (x1 : Int32) : Option (xI) :=
  fX0_laysWays_b2 nf T N R nf I x0 x1 (ii 0)
/- LostLanes.gone(I)I -/
def fX0_gone_b32 (nf : Nat) (T : xT) (N : xT) (R : xR) : Nat → xI → Nat → Int32 → Int32 → Int32 → Int32 → Option (Int32 × xI)
  | 0, _, _, _, _, _, _ => none
  | k + 1, I, x0, x1, x2, x3, x4 =>
    if (ii 8) ≤ x4 then
      if x1 = (ii 0) then
        some (x2, I)
      else
        some (x3, I)
    else
      tg T 1 x0 <|
      (R x0 20).bind fun a4 =>
      rA T N 100 a4 x4 fun j5 =>
      nm (x2 + (I a4 j5)) fun u6 =>
      if (I a4 j5) ≤ (ii 0) then
        nm (x3 ||| (ii 0)) fun u8 =>
        nm (x4 + (ii 1)) fun u9 =>
        fX0_gone_b32 nf T N R k I x0 x1 u6 u8 u9
      else
        nm (x3 ||| ((ii 1) <<< (x4 &&& ii 31))) fun u10 =>
        nm (x4 + (ii 1)) fun u11 =>
        fX0_gone_b32 nf T N R k I x0 x1 u6 u10 u11
def fX0_gone_b22 (nf : Nat) (T : xT) (N : xT) (I : xI) (R : xR) (x0 : Nat) (x1 : Int32) (z0 : Nat) (z1 : Int32) : Option (Int32 × xI) :=
  tg T 1 z0 <|
  (fX0_laysWays nf T N I R z0 z1).bind fun I1 =>
  fX0_gone_b32 nf T N R nf I1 x0 x1 (ii 0) (ii 0) (ii 0)
def fX0_gone (nf : Nat) (T : xT) (N : xT) (I : xI) (R : xR) (x0 : Nat) (x1 : Int32) : Option (Int32 × xI) :=
  (fX0_in x1 (ii 0) (ii 2)).bind fun r1 =>
  if r1 = (ii 0) then
    some ((-1 : Int32), I)
  else
    if x1 = (ii 1) then
      fX0_gone_b22 nf T N I R x0 x1 x0 (ii 0)
    else
      fX0_gone_b22 nf T N I R x0 x1 x0 (ii 1)
/- LostLanes.named(I)I -/
def fX0_named_b14 (nf : Nat) (T : xT) (N : xT) (I : xI) (R : xR) : Nat → Nat → Int32 → Int32 → Option (Int32)
  | 0, _, _, _ => none
  | k + 1, x0, x1, x2 =>
    tg T 1 x0 <|
    (R x0 2).bind fun a2 =>
    tg T 2 a2 <|
    if (I a2 8) ≤ x2 then
      some (-1 : Int32)
    else
      (fX0_table T R x0).bind fun r5 =>
      tg T 3 r5 <|
      (R r5 2).bind fun a8 =>
      rA T N 100 a8 x2 fun j9 =>
      if (I a8 j9) = x1 then
        some x2
      else
        nm (x2 + (ii 1)) fun u11 =>
        fX0_named_b14 nf T N I R k x0 x1 u11
def fX0_named (nf : Nat) (T : xT) (N : xT) (I : xI) (R : xR) (x0 : Nat) (x1 : Int32) : Option (Int32) :=
  (fX0_in x1 (ii 0) (ii 19)).bind fun r1 =>
  if r1 = (ii 0) then
    some (-1 : Int32)
  else
    fX0_named_b14 nf T N I R nf x0 x1 (ii 0)
/- LostLanes.nearerEnd(II)I -/
def fX0_nearerEnd (T : xT) (N : xT) (I : xI) (R : xR) (x0 : Nat) (x1 : Int32) (x2 : Int32) : Option (Int32) :=
  tg T 1 x0 <|
  (R x0 2).bind fun a2 =>
  tg T 2 a2 <|
  (R a2 1).bind fun a4 =>
  rA T N 100 a4 x2 fun j5 =>
  (R a2 2).bind fun a6 =>
  rA T N 100 a6 x2 fun j7 =>
  nm (if (I a6 j7) < (I a4 j5) then (I a6 j7) else (I a4 j5)) fun u8 =>
  nm (if (I a4 j5) < (I a6 j7) then (I a6 j7) else (I a4 j5)) fun u9 =>
  (fX0_farOf T N I R x0 x1 u9).bind fun r10 =>
  (fX0_farOf T N I R x0 x1 u8).bind fun r12 =>
  if r12 ≤ r10 then
    some u8
  else
    some u9
/- LostLanes.laneFor(II)I -/
def fX0_laneFor_b10 (nf : Nat) (T : xT) (N : xT) (I : xI) (R : xR) : Nat → Nat → Int32 → Int32 → Int32 → Int32 → Int32 → Option (Int32)
  | 0, _, _, _, _, _, _ => none
  | k + 1, x0, x1, x2, x3, x4, x5 =>
    tg T 1 x0 <|
    (R x0 2).bind fun a2 =>
    tg T 2 a2 <|
    if (I a2 8) ≤ x5 then
      some x3
    else
      (fX0_table T R x0).bind fun r5 =>
      tg T 3 r5 <|
      (R r5 2).bind fun a8 =>
      rA T N 100 a8 x5 fun j9 =>
      if (I a8 j9) = x2 then
        (fX0_nearerEnd T N I R x0 x1 x5).bind fun r12 =>
        (fX0_farOf T N I R x0 x1 r12).bind fun r14 =>
        if r14 < x4 then
          (fX0_nearerEnd T N I R x0 x1 x5).bind fun r17 =>
          (fX0_farOf T N I R x0 x1 r17).bind fun r19 =>
          nm (x5 + (ii 1)) fun u21 =>
          fX0_laneFor_b10 nf T N I R k x0 x1 x2 x5 r19 u21
        else
          nm (x5 + (ii 1)) fun u22 =>
          fX0_laneFor_b10 nf T N I R k x0 x1 x2 x3 x4 u22
      else
        nm (x5 + (ii 1)) fun u11 =>
        fX0_laneFor_b10 nf T N I R k x0 x1 x2 x3 x4 u11
def fX0_laneFor (nf : Nat) (T : xT) (N : xT) (I : xI) (R : xR) (x0 : Nat) (x1 : Int32) (x2 : Int32) : Option (Int32) :=
  fX0_laneFor_b10 nf T N I R nf x0 x1 x2 (-1 : Int32) (ii 1000000) (ii 0)
/- LostLanes.laneLong(II)I -/
def fX0_laneLong_b7 (nf : Nat) (T : xT) (N : xT) (I : xI) (R : xR) : Nat → Nat → Int32 → Int32 → Int32 → Int32 → Option (Int32)
  | 0, _, _, _, _, _ => none
  | k + 1, x0, x1, x2, x3, x4 =>
    tg T 1 x0 <|
    (R x0 2).bind fun a2 =>
    tg T 2 a2 <|
    if (I a2 8) ≤ x4 then
      some x3
    else
      (fX1_isAt T N I R a2 x4 x1).bind fun r5 =>
      if r5 = (ii 0) then
        nm (x4 + (ii 1)) fun u8 =>
        fX0_laneLong_b7 nf T N I R k x0 x1 x2 x3 u8
      else
        (fX1_otherEnd T N I R a2 x4 x1).bind fun r9 =>
        if r9 = x2 then
          (R a2 3).bind fun a13 =>
          rA T N 100 a13 x4 fun j14 =>
          nm (if (I a13 j14) < x3 then (I a13 j14) else x3) fun u15 =>
          nm (x4 + (ii 1)) fun u16 =>
          fX0_laneLong_b7 nf T N I R k x0 x1 x2 u15 u16
        else
          nm (x4 + (ii 1)) fun u12 =>
          fX0_laneLong_b7 nf T N I R k x0 x1 x2 x3 u12
def fX0_laneLong (nf : Nat) (T : xT) (N : xT) (I : xI) (R : xR) (x0 : Nat) (x1 : Int32) (x2 : Int32) : Option (Int32) :=
  fX0_laneLong_b7 nf T N I R nf x0 x1 x2 (ii 1000000) (ii 0)
/- LostLanes.letter(III)I -/
def fX0_letter_b98 (nf : Nat) (kk80 : xI → Nat → Int32 → Int32 → Int32 → Int32 → Option (Int32 × xI)) (T : xT) (N : xT) (R : xR) : Nat → xI → Nat → Int32 → Int32 → Int32 → Int32 → Int32 → Option (Int32 × xI)
  | 0, _, _, _, _, _, _, _ => none
  | k + 1, I, x0, x3, x5, x6, x7, x8 =>
    tg T 1 x0 <|
    (fX0_laneLong nf T N I R x0 x6 x8).bind fun r1 =>
    (fX0_farOf T N I R x0 x8 x5).bind fun r4 =>
    (fX0_farOf T N I R x0 x6 x5).bind fun r6 =>
    if (r1 + r4) = r6 then
      nm (x7 + (ii 1)) fun u9 =>
      kk80 I x0 x3 x5 x8 u9
    else
      nm (x8 + (ii 1)) fun u10 =>
      fX0_letter_b98 nf kk80 T N R k I x0 x3 x5 x6 x7 u10
def fX0_letter_b80 (nf : Nat) (T : xT) (N : xT) (R : xR) : Nat → xI → Nat → Int32 → Int32 → Int32 → Int32 → Option (Int32 × xI)
  | 0, _, _, _, _, _, _ => none
  | k + 1, I, x0, x3, x5, x6, x7 =>
    if x3 < x7 then
      some (x6, I)
    else
      if x6 = x5 then
        some ((-1 : Int32), I)
      else
        fX0_letter_b98 nf (fX0_letter_b80 nf T N R k) T N R nf I x0 x3 x5 x6 x7 (ii 0)
def fX0_letter (nf : Nat) (T : xT) (N : xT) (I : xI) (R : xR) (x0 : Nat) (x1 : Int32) (x2 : Int32) (x3 : Int32) : Option (Int32 × xI) :=
  (fX0_isCorner x1).bind fun r1 =>
  if r1 = (ii 0) then
    some ((-1 : Int32), I)
  else
    (fX0_in x2 (ii 0) (ii 19)).bind fun r4 =>
    if r4 = (ii 0) then
      some ((-1 : Int32), I)
    else
      if (-2 : Int32) ≤ x3 then
        tg T 1 x0 <|
        (fX0_laysFar nf T N I R x0).bind fun I8 =>
        (fX0_laneFor nf T N I8 R x0 x1 x2).bind fun r11 =>
        if r11 = (-1 : Int32) then
          some (r11, I8)
        else
          if x3 = (-2 : Int32) then
            some (r11, I8)
          else
            (fX0_nearerEnd T N I8 R x0 x1 r11).bind fun r15 =>
            if x3 = (-1 : Int32) then
              (fX0_farOf T N I8 R x0 x1 r15).bind fun r18 =>
              some (r18, I8)
            else
              fX0_letter_b80 nf T N R nf I8 x0 x3 r15 x1 (ii 0)
      else
        some ((-1 : Int32), I)
/- LostLanes.meet(II)Z -/
def fX0_meet (T : xT) (N : xT) (I : xI) (R : xR) (x0 : Nat) (x1 : Int32) (x2 : Int32) : Option (Int32) :=
  tg T 1 x0 <|
  (R x0 2).bind fun a2 =>
  tg T 2 a2 <|
  (R a2 1).bind fun a4 =>
  rA T N 100 a4 x2 fun j5 =>
  (fX1_isAt T N I R a2 x1 (I a4 j5)).bind fun r6 =>
  if r6 = (ii 0) then
    (R a2 2).bind fun a9 =>
    rA T N 100 a9 x2 fun j10 =>
    (fX1_isAt T N I R a2 x1 (I a9 j10)).bind fun r11 =>
    if r11 = (ii 0) then
      some (ii 0)
    else
      some (ii 1)
  else
    some (ii 1)
/- LostLanes.colours(II)Z -/
def fX0_colours_b26 (nf : Nat) (rc : xT → xT → xI → xR → Nat → Int32 → Int32 → Option (Int32 × xI)) (kk15 : xI → Nat → Int32 → Int32 → Int32 → Option (Int32 × xI)) (T : xT) (N : xT) (R : xR) : Nat → xI → Nat → Int32 → Int32 → Int32 → Int32 → Int32 → Option (Int32 × xI)
  | 0, _, _, _, _, _, _, _ => none
  | k + 1, I, x0, x1, x2, x3, x4, x5 =>
    if x1 ≤ x5 then
      if x4 = (ii 0) then
        nm (x3 + (ii 1)) fun u12 =>
        kk15 I x0 x1 x2 u12
      else
        tg T 1 x0 <|
        (R x0 22).bind fun a4 =>
        rA T N 100 a4 x1 fun j5 =>
        nm (uI I a4 j5 x3) fun I6 =>
        b2 (rc T N I6 R x0 (x1 + (ii 1)) x2) fun r7 I8 =>
        if r7 = (ii 0) then
          nm (x3 + (ii 1)) fun u11 =>
          kk15 I8 x0 x1 x2 u11
        else
          some ((ii 1), I8)
    else
      tg T 1 x0 <|
      (R x0 22).bind fun a14 =>
      rA T N 100 a14 x5 fun j15 =>
      if (I a14 j15) = x3 then
        (fX0_meet T N I R x0 x5 x1).bind fun r19 =>
        if r19 = (ii 0) then
          nm (x4 &&& (ii 1)) fun u24 =>
          nm (x5 + (ii 1)) fun u25 =>
          fX0_colours_b26 nf rc kk15 T N R k I x0 x1 x2 x3 u24 u25
        else
          nm (x4 &&& (ii 0)) fun u22 =>
          nm (x5 + (ii 1)) fun u23 =>
          fX0_colours_b26 nf rc kk15 T N R k I x0 x1 x2 x3 u22 u23
      else
        nm (x4 &&& (ii 1)) fun u17 =>
        nm (x5 + (ii 1)) fun u18 =>
        fX0_colours_b26 nf rc kk15 T N R k I x0 x1 x2 x3 u17 u18
def fX0_colours_b15 (nf : Nat) (rc : xT → xT → xI → xR → Nat → Int32 → Int32 → Option (Int32 × xI)) (T : xT) (N : xT) (R : xR) : Nat → xI → Nat → Int32 → Int32 → Int32 → Option (Int32 × xI)
  | 0, _, _, _, _, _ => none
  | k + 1, I, x0, x1, x2, x3 =>
    if x2 ≤ x3 then
      some ((ii 0), I)
    else
      fX0_colours_b26 nf rc (fX0_colours_b15 nf rc T N R k) T N R nf I x0 x1 x2 x3 (ii 1) (ii 0)
def fX0_colours_E (nf : Nat) (rc : xT → xT → xI → xR → Nat → Int32 → Int32 → Option (Int32 × xI)) (T : xT) (N : xT) (I : xI) (R : xR) (x0 : Nat) (x1 : Int32) (x2 : Int32) : Option (Int32 × xI) :=
  tg T 1 x0 <|
  (R x0 2).bind fun a2 =>
  tg T 2 a2 <|
  if x1 = (I a2 8) then
    some ((ii 1), I)
  else
    fX0_colours_b15 nf rc T N R nf I x0 x1 x2 (ii 0)
def fX0_colours (nf : Nat) : Nat → xT → xT → xI → xR → Nat → Int32 → Int32 → Option (Int32 × xI)
  | 0, _, _, _, _, _, _, _ => none
  | d + 1, T, N, I, R, x0, x1, x2 => fX0_colours_E nf (fX0_colours nf d) T N I R x0 x1 x2
/- LostLanes.apart(I)I -/
def fX0_apart_b19 (nf : Nat) (T : xT) (N : xT) (R : xR) : Nat → xI → Nat → Int32 → Int32 → Option (Int32 × xI)
  | 0, _, _, _, _ => none
  | k + 1, I, x0, x1, x2 =>
    tg T 1 x0 <|
    b2 (fX0_colours nf 12 T N I R x0 (ii 0) x2) fun r1 I2 =>
    if r1 = (ii 0) then
      nm (x2 + (ii 1)) fun u9 =>
      fX0_apart_b19 nf T N R k I2 x0 x1 u9
    else
      if x1 = (ii 0) then
        some (x2, I2)
      else
        (R x0 22).bind fun a7 =>
        rA T N 100 a7 (x1 - (ii 1)) fun j8 =>
        some ((I2 a7 j8), I2)
def fX0_apart (nf : Nat) (T : xT) (N : xT) (I : xI) (R : xR) (x0 : Nat) (x1 : Int32) : Option (Int32 × xI) :=
  tg T 1 x0 <|
  (R x0 2).bind fun a2 =>
  tg T 2 a2 <|
  (fX0_in x1 (ii 0) (I a2 8)).bind fun r4 =>
  if r4 = (ii 0) then
    some ((-1 : Int32), I)
  else
    fX0_apart_b19 nf T N R nf I x0 x1 (ii 0)
/- LostLanes.alike()I -/
def fX0_alike_b19 (nf : Nat) (kk4 : Nat → Int32 → Int32 → Option (Int32)) (T : xT) (N : xT) (I : xI) (R : xR) : Nat → Nat → Int32 → Int32 → Int32 → Option (Int32)
  | 0, _, _, _, _ => none
  | k + 1, x0, x1, x2, x3 =>
    tg T 1 x0 <|
    (R x0 2).bind fun a2 =>
    tg T 2 a2 <|
    if (I a2 8) ≤ x3 then
      nm (x2 + (ii 1)) fun u5 =>
      kk4 x0 x1 u5
    else
      (fX0_table T R x0).bind fun r6 =>
      tg T 3 r6 <|
      (R r6 2).bind fun a9 =>
      rA T N 100 a9 x2 fun j10 =>
      if (I a9 j10) = (-1 : Int32) then
        nm (x1 + (ii 0)) fun u12 =>
        nm (x3 + (ii 1)) fun u13 =>
        fX0_alike_b19 nf kk4 T N I R k x0 u12 x2 u13
      else
        (fX0_table T R x0).bind fun r14 =>
        tg T 3 r14 <|
        (R r14 2).bind fun a17 =>
        rA T N 100 a17 x2 fun j18 =>
        (fX0_table T R x0).bind fun r19 =>
        tg T 3 r19 <|
        (R r19 2).bind fun a22 =>
        rA T N 100 a22 x3 fun j23 =>
        if (I a17 j18) = (I a22 j23) then
          (fX0_meet T N I R x0 x2 x3).bind fun r27 =>
          if r27 = (ii 0) then
            nm (x1 + (ii 0)) fun u30 =>
            nm (x3 + (ii 1)) fun u31 =>
            fX0_alike_b19 nf kk4 T N I R k x0 u30 x2 u31
          else
            nm (x1 + (ii 1)) fun u32 =>
            nm (x3 + (ii 1)) fun u33 =>
            fX0_alike_b19 nf kk4 T N I R k x0 u32 x2 u33
        else
          nm (x1 + (ii 0)) fun u25 =>
          nm (x3 + (ii 1)) fun u26 =>
          fX0_alike_b19 nf kk4 T N I R k x0 u25 x2 u26
def fX0_alike_b4 (nf : Nat) (T : xT) (N : xT) (I : xI) (R : xR) : Nat → Nat → Int32 → Int32 → Option (Int32)
  | 0, _, _, _ => none
  | k + 1, x0, x1, x2 =>
    tg T 1 x0 <|
    (R x0 2).bind fun a2 =>
    tg T 2 a2 <|
    if (I a2 8) ≤ x2 then
      some x1
    else
      nm (x2 + (ii 1)) fun u5 =>
      fX0_alike_b19 nf (fX0_alike_b4 nf T N I R k) T N I R nf x0 x1 x2 u5
def fX0_alike (nf : Nat) (T : xT) (N : xT) (I : xI) (R : xR) (x0 : Nat) : Option (Int32) :=
  fX0_alike_b4 nf T N I R nf x0 (ii 0) (ii 0)
/- LostLanes.lanesAt(I)I -/
def fX0_lanesAt_b4 (nf : Nat) (T : xT) (N : xT) (I : xI) (R : xR) : Nat → Nat → Int32 → Int32 → Int32 → Option (Int32)
  | 0, _, _, _, _ => none
  | k + 1, x0, x1, x2, x3 =>
    tg T 1 x0 <|
    (R x0 2).bind fun a2 =>
    tg T 2 a2 <|
    if (I a2 8) ≤ x3 then
      some x2
    else
      (fX1_isAt T N I R a2 x3 x1).bind fun r5 =>
      if r5 = (ii 0) then
        nm (x2 + (ii 0)) fun u8 =>
        nm (x3 + (ii 1)) fun u9 =>
        fX0_lanesAt_b4 nf T N I R k x0 x1 u8 u9
      else
        nm (x2 + (ii 1)) fun u10 =>
        nm (x3 + (ii 1)) fun u11 =>
        fX0_lanesAt_b4 nf T N I R k x0 x1 u10 u11
def fX0_lanesAt (nf : Nat) (T : xT) (N : xT) (I : xI) (R : xR) (x0 : Nat) (x1 : Int32) : Option (Int32) :=
  fX0_lanesAt_b4 nf T N I R nf x0 x1 (ii 0) (ii 0)
/- java/lang/Integer.numberOfTrailingZeros(I)I -/
def fJ13_numberOfTrailingZeros_b62 (x0 : Int32) (x1 : Int32) : Option (Int32) :=
  if x0 ≤ (ii 4) then
    some (x1 + (((x0).toUInt32 >>> (((ii 1)).toUInt32 &&& Int32.toUInt32 (ii 31))).toInt32))
  else
    nm (x1 + (ii 2)) fun u2 =>
    nm (((x0).toUInt32 >>> (((ii 2)).toUInt32 &&& Int32.toUInt32 (ii 31))).toInt32) fun u3 =>
    some (u2 + (((u3).toUInt32 >>> (((ii 1)).toUInt32 &&& Int32.toUInt32 (ii 31))).toInt32))
def fJ13_numberOfTrailingZeros_b49 (x0 : Int32) (x1 : Int32) : Option (Int32) :=
  if x0 ≤ (ii 16) then
    fJ13_numberOfTrailingZeros_b62 x0 x1
  else
    nm (x1 + (ii 4)) fun u2 =>
    nm (((x0).toUInt32 >>> (((ii 4)).toUInt32 &&& Int32.toUInt32 (ii 31))).toInt32) fun u3 =>
    fJ13_numberOfTrailingZeros_b62 u3 u2
def fJ13_numberOfTrailingZeros_b34 (x0 : Int32) (x1 : Int32) : Option (Int32) :=
  if x0 ≤ (ii 256) then
    fJ13_numberOfTrailingZeros_b49 x0 x1
  else
    nm (x1 + (ii 8)) fun u2 =>
    nm (((x0).toUInt32 >>> (((ii 8)).toUInt32 &&& Int32.toUInt32 (ii 31))).toInt32) fun u3 =>
    fJ13_numberOfTrailingZeros_b49 u3 u2
def fJ13_numberOfTrailingZeros (x0 : Int32) : Option (Int32) :=
  nm ((x0 ^^^ (-1 : Int32)) &&& (x0 - (ii 1))) fun u1 =>
  if (ii 0) < u1 then
    if u1 ≤ (ii 65536) then
      fJ13_numberOfTrailingZeros_b34 u1 (ii 1)
    else
      nm ((ii 1) + (ii 16)) fun u4 =>
      nm (((u1).toUInt32 >>> (((ii 16)).toUInt32 &&& Int32.toUInt32 (ii 31))).toInt32) fun u5 =>
      fJ13_numberOfTrailingZeros_b34 u5 u4
  else
    some (u1 &&& (ii 32))
/- LostLanes.pairsUp(I)I -/
def fX0_pairsUp_b27 (nf : Nat) (rc : xT → xT → xI → xR → Nat → Int32 → Option (Int32)) (T : xT) (N : xT) (I : xI) (R : xR) : Nat → Nat → Int32 → Int32 → Int32 → Int32 → Option (Int32)
  | 0, _, _, _, _, _ => none
  | k + 1, x0, x2, x3, x4, x5 =>
    if (ii 8) ≤ x5 then
      some x4
    else
      (fX0_isOf x3 x5).bind fun r2 =>
      if r2 = (ii 0) then
        nm (x5 + (ii 1)) fun u5 =>
        fX0_pairsUp_b27 nf rc T N I R k x0 x2 x3 x4 u5
      else
        tg T 1 x0 <|
        (fX0_farOf T N I R x0 x2 x5).bind fun r6 =>
        (rc T N I R x0 (x3 &&& (((ii 1) <<< (x5 &&& ii 31)) ^^^ (-1 : Int32)))).bind fun r9 =>
        nm (if (r6 + r9) < x4 then (r6 + r9) else x4) fun u11 =>
        nm (x5 + (ii 1)) fun u12 =>
        fX0_pairsUp_b27 nf rc T N I R k x0 x2 x3 u11 u12
def fX0_pairsUp_E (nf : Nat) (rc : xT → xT → xI → xR → Nat → Int32 → Option (Int32)) (T : xT) (N : xT) (I : xI) (R : xR) (x0 : Nat) (x1 : Int32) : Option (Int32) :=
  if x1 = (ii 0) then
    some (ii 0)
  else
    (fJ13_numberOfTrailingZeros x1).bind fun r2 =>
    nm (x1 &&& (((ii 1) <<< (r2 &&& ii 31)) ^^^ (-1 : Int32))) fun u4 =>
    fX0_pairsUp_b27 nf rc T N I R nf x0 r2 u4 (ii 1000000) (ii 0)
def fX0_pairsUp (nf : Nat) : Nat → xT → xT → xI → xR → Nat → Int32 → Option (Int32)
  | 0, _, _, _, _, _, _ => none
  | d + 1, T, N, I, R, x0, x1 => fX0_pairsUp_E nf (fX0_pairsUp nf d) T N I R x0 x1
/- LostLanes.round()I -/
def fX0_round_b71 (nf : Nat) (T : xT) (N : xT) (R : xR) : Nat → xI → Nat → Int32 → Int32 → Int32 → Option (Int32 × xI)
  | 0, _, _, _, _, _ => none
  | k + 1, I, x0, x1, x2, x3 =>
    if (ii 8) ≤ x3 then
      tg T 1 x0 <|
      (fX0_pairsUp nf 6 T N I R x0 x2).bind fun r2 =>
      some ((x1 + r2), I)
    else
      tg T 1 x0 <|
      (fX0_lanesAt nf T N I R x0 x3).bind fun r5 =>
      if (r5 - r5 / (ii 2) * (ii 2)) = (ii 1) then
        nm (x2 ||| ((ii 1) <<< (x3 &&& ii 31))) fun u11 =>
        nm (x3 + (ii 1)) fun u12 =>
        fX0_round_b71 nf T N R k I x0 x1 u11 u12
      else
        nm (x2 ||| (ii 0)) fun u9 =>
        nm (x3 + (ii 1)) fun u10 =>
        fX0_round_b71 nf T N R k I x0 x1 u9 u10
def fX0_round_b10 (nf : Nat) (T : xT) (N : xT) (R : xR) : Nat → xI → Nat → Int32 → Int32 → Int32 → Option (Int32 × xI)
  | 0, _, _, _, _, _ => none
  | k + 1, I, x0, x1, x2, x3 =>
    tg T 1 x0 <|
    (R x0 2).bind fun a2 =>
    tg T 2 a2 <|
    if (I a2 8) ≤ x3 then
      fX0_round_b71 nf T N R nf I x0 x1 x2 (ii 0)
    else
      (R a2 3).bind fun a5 =>
      rA T N 100 a5 x3 fun j6 =>
      nm (x1 + (I a5 j6)) fun u7 =>
      (R a2 1).bind fun a8 =>
      rA T N 100 a8 (ii 0) fun j9 =>
      rA T N 100 a8 x3 fun j10 =>
      (fX0_farOf T N I R x0 (I a8 j9) (I a8 j10)).bind fun r11 =>
      if r11 < (ii 1000000) then
        nm (x3 + (ii 1)) fun u14 =>
        fX0_round_b10 nf T N R k I x0 u7 x2 u14
      else
        some ((-1 : Int32), I)
def fX0_round (nf : Nat) (T : xT) (N : xT) (I : xI) (R : xR) (x0 : Nat) : Option (Int32 × xI) :=
  tg T 1 x0 <|
  (fX0_laysFar nf T N I R x0).bind fun I1 =>
  fX0_round_b10 nf T N R nf I1 x0 (ii 0) (ii 0) (ii 0)
/- LostLanes.dead()I -/
def fX0_dead_b4 (nf : Nat) (T : xT) (N : xT) (I : xI) (R : xR) : Nat → Nat → Int32 → Int32 → Option (Int32)
  | 0, _, _, _ => none
  | k + 1, x0, x1, x2 =>
    if (ii 8) ≤ x2 then
      some x1
    else
      tg T 1 x0 <|
      (fX0_lanesAt nf T N I R x0 x2).bind fun r2 =>
      if r2 = (ii 1) then
        nm (x1 ||| ((ii 1) <<< (x2 &&& ii 31))) fun u8 =>
        nm (x2 + (ii 1)) fun u9 =>
        fX0_dead_b4 nf T N I R k x0 u8 u9
      else
        nm (x1 ||| (ii 0)) fun u6 =>
        nm (x2 + (ii 1)) fun u7 =>
        fX0_dead_b4 nf T N I R k x0 u6 u7
def fX0_dead (nf : Nat) (T : xT) (N : xT) (I : xI) (R : xR) (x0 : Nat) : Option (Int32) :=
  fX0_dead_b4 nf T N I R nf x0 (ii 0) (ii 0)
/- LostLanes.few(II)J -/
def fX0_few_b151 (nf : Nat) (T : xT) (N : xT) (I : xI) (R : xR) : Nat → xL → Nat → Int32 → Int64 → Int32 → Option (Int64 × xL)
  | 0, _, _, _, _, _ => none
  | k + 1, L, x0, x1, x3, x5 =>
    if x1 ≤ x5 then
      some (x3, L)
    else
      tg T 1 x0 <|
      (R x0 23).bind fun a3 =>
      rA T N 103 a3 x5 fun j4 =>
      nm (x3 + (L a3 j4)) fun u5 =>
      nm (x5 + (ii 1)) fun u6 =>
      fX0_few_b151 nf T N I R k L x0 x1 u5 u6
def fX0_few_b67 (nf : Nat) (kk57 : xL → Nat → Int32 → Int32 → Int32 → Option (Int64 × xL)) (T : xT) (N : xT) (I : xI) (R : xR) : Nat → xL → Nat → Int32 → Int32 → Int32 → Int32 → Option (Int64 × xL)
  | 0, _, _, _, _, _, _ => none
  | k + 1, L, x0, x1, x2, x3, x4 =>
    if x4 < (ii 0) then
      nm (x3 + (ii 1)) fun u2 =>
      kk57 L x0 x1 x2 u2
    else
      tg T 1 x0 <|
      (R x0 23).bind fun a4 =>
      rA T N 103 a4 (x4 + (ii 1)) fun j5 =>
      rA T N 103 a4 x4 fun j6 =>
      (R x0 2).bind fun a7 =>
      tg T 2 a7 <|
      nm (uL L a4 j5 ((L a4 j5) + (((L a4 j6) * (((I a7 11)).toInt64)) / (jj 10)))) fun L9 =>
      nm (uL L9 a4 j6 (((L9 a4 j6) * ((((ii 10) - (I a7 11))).toInt64)) / (jj 10))) fun L10 =>
      nm (x4 + (-1 : Int32)) fun u11 =>
      fX0_few_b67 nf kk57 T N I R k L10 x0 x1 x2 x3 u11
def fX0_few_b57 (nf : Nat) (T : xT) (N : xT) (I : xI) (R : xR) : Nat → xL → Nat → Int32 → Int32 → Int32 → Option (Int64 × xL)
  | 0, _, _, _, _, _ => none
  | k + 1, L, x0, x1, x2, x3 =>
    if x2 ≤ x3 then
      fX0_few_b151 nf T N I R nf L x0 x1 (jj 0) (ii 0)
    else
      nm (x1 - (ii 1)) fun u2 =>
      fX0_few_b67 nf (fX0_few_b57 nf T N I R k) T N I R nf L x0 x1 x2 x3 u2
def fX0_few_b26 (nf : Nat) (T : xT) (N : xT) (I : xI) (R : xR) : Nat → xL → Nat → Int32 → Int32 → Int32 → Option (Int64 × xL)
  | 0, _, _, _, _, _ => none
  | k + 1, L, x0, x1, x2, x3 =>
    if (ii 20) < x3 then
      fX0_few_b57 nf T N I R nf L x0 x1 x2 (ii 0)
    else
      tg T 1 x0 <|
      (R x0 23).bind fun a3 =>
      if x3 = (ii 0) then
        rA T N 103 a3 x3 fun j8 =>
        nm (uL L a3 j8 (jj 1000000000000)) fun L9 =>
        nm (x3 + (ii 1)) fun u10 =>
        fX0_few_b26 nf T N I R k L9 x0 x1 x2 u10
      else
        rA T N 103 a3 x3 fun j5 =>
        nm (uL L a3 j5 (jj 0)) fun L6 =>
        nm (x3 + (ii 1)) fun u7 =>
        fX0_few_b26 nf T N I R k L6 x0 x1 x2 u7
def fX0_few (nf : Nat) (T : xT) (N : xT) (I : xI) (L : xL) (R : xR) (x0 : Nat) (x1 : Int32) (x2 : Int32) : Option (Int64 × xL) :=
  (fX0_in x1 (ii 1) (ii 20)).bind fun r1 =>
  if r1 = (ii 0) then
    some ((-1 : Int64), L)
  else
    (fX0_in x2 (ii 0) (ii 99)).bind fun r4 =>
    if r4 = (ii 0) then
      some ((-1 : Int64), L)
    else
      fX0_few_b26 nf T N I R nf L x0 x1 x2 (ii 0)
/- LostLanes.compare(II)I -/
def fX0_compare (nf : Nat) (T : xT) (N : xT) (I : xI) (L : xL) (R : xR) (x0 : Nat) (x1 : Int32) (x2 : Int32) : Option (Int32 × xI × xL) :=
  tg T 1 x0 <|
  (fX0_isLaw T I R x0 x1).bind fun r1 =>
  if r1 = (ii 0) then
    some ((-1 : Int32), I, L)
  else
    (fX0_isChild T I R x0 x2).bind fun r5 =>
    if r5 = (ii 0) then
      some ((-1 : Int32), I, L)
    else
      (R x0 2).bind fun a8 =>
      tg T 2 a8 <|
      nm (I a8 13) fun u10 =>
      nm (uI I a8 13 x1) fun I11 =>
      (fX0_table T R x0).bind fun r12 =>
      b3 (fX0_laneNext nf T N I11 L R x0 r12 x2) fun r14 I15 L16 =>
      nm (uI I15 a8 13 u10) fun I18 =>
      if r14 = (-1 : Int32) then
        (fX0_table T R x0).bind fun r27 =>
        tg T 3 r27 <|
        (R r27 0).bind fun a30 =>
        rA T N 100 a30 x2 fun j31 =>
        some ((I18 a30 j31), I18, L16)
      else
        (fX0_table T R x0).bind fun r20 =>
        tg T 3 r20 <|
        (R r20 0).bind fun a23 =>
        rA T N 100 a23 x2 fun j24 =>
        (fX1_otherEnd T N I18 R a8 r14 (I18 a23 j24)).bind fun r25 =>
        some (r25, I18, L16)
/- LostLanes$Reader.read()V -/
def fX6_read_rX20_b38 (nf : Nat) (U : (Nat → Option Nat)) (T : xT) (N : xT) (Z : Nat) (S : Nat) (I : xI) (L : xL) (R : xR) (x0 : Nat) (z0 : Nat) : Option ((Nat ⊕ Unit) × xT × xT × Nat × Nat × xI × xR) :=
  tg T 18 x0 <|
  b2 (fX8_init U T I R z0 (I x0 3)) fun I2 R3 =>
  tg T 8 z0 <|
  some ((.inl z0), T, N, Z, S, I2, R3)
def fX6_read_rX20_b21 (nf : Nat) (kk8 : xT → xT → Nat → Nat → xI → xR → Nat → Option ((Nat ⊕ Unit) × xT × xT × Nat × Nat × xI × xR)) (U : (Nat → Option Nat)) (T : xT) (N : xT) (Z : Nat) (S : Nat) (I : xI) (L : xL) (R : xR) (x0 : Nat) : Option ((Nat ⊕ Unit) × xT × xT × Nat × Nat × xI × xR) :=
  kk8 T N Z S I R x0
def fX6_read_rX20_b8 (nf : Nat) (U : (Nat → Option Nat)) (L : xL) : Nat → xT → xT → Nat → Nat → xI → xR → Nat → Option ((Nat ⊕ Unit) × xT × xT × Nat × Nat × xI × xR)
  | 0, _, _, _, _, _, _, _ => none
  | k + 1, T, N, Z, S, I, R, x0 =>
    (U 142).bind fun a1 =>
    tg T 18 x0 <|
    b2 (fX6_takes_rX20 nf U T N I R x0 a1) fun r2 I3 =>
    if r2 = (ii 0) then
      if (I3 x0 1) ≤ (I3 x0 3) then
        some ((.inr ()), T, N, Z, S, I3, R)
      else
        nm (uT T Z 8) fun T8 =>
        nm (Z + 1) fun Z9 =>
        nm (S + 7) fun S10 =>
        fX6_read_rX20_b38 nf U T8 N Z9 S10 I3 L R x0 Z
    else
      b7 (fX20_clause nf U T N Z S I3 L R x0) fun r11 T12 N13 Z14 S15 I16 R17 =>
      xc r11 (fun a19 =>
        tg T12 8 a19 <|
        some ((.inl a19), T12, N13, Z14, S15, I16, R17)
      ) fun v20 =>
        fX6_read_rX20_b21 nf (fX6_read_rX20_b8 nf U L k) U T12 N13 Z14 S15 I16 L R17 x0
def fX6_read_rX20 (nf : Nat) (U : (Nat → Option Nat)) (T : xT) (N : xT) (Z : Nat) (S : Nat) (I : xI) (L : xL) (R : xR) (x0 : Nat) : Option ((Nat ⊕ Unit) × xT × xT × Nat × Nat × xI × xR) :=
  tg T 18 x0 <|
  (fX6_next_rX20 nf T N I R x0).bind fun I1 =>
  b7 (fX20_clause nf U T N Z S I1 L R x0) fun r4 T5 N6 Z7 S8 I9 R10 =>
  xc r4 (fun a12 =>
    tg T5 8 a12 <|
    some ((.inl a12), T5, N6, Z7, S8, I9, R10)
  ) fun v13 =>
    fX6_read_rX20_b8 nf U L nf T5 N6 Z7 S8 I9 R10 x0
/- LostLanes.reads(LLostLanes$Reader;)Z -/
def fX0_reads_ndX20_b7 (nf : Nat) (U : (Nat → Option Nat)) (T : xT) (N : xT) (Z : Nat) (S : Nat) (I : xI) (L : xL) (R : xR) (x0 : Nat) (z0 : Nat) : Option (Int32 × xT × xT × Nat × Nat × xI × xR) :=
  tg T 8 z0 <|
  tg T 1 x0 <|
  nm (uI I x0 12 (I z0 6)) fun I3 =>
  some ((ii 0), T, N, Z, S, I3, R)
def fX0_reads_ndX20_b4 (nf : Nat) (U : (Nat → Option Nat)) (T : xT) (N : xT) (Z : Nat) (S : Nat) (I : xI) (L : xL) (R : xR) (x0 : Nat) : Option (Int32 × xT × xT × Nat × Nat × xI × xR) :=
  tg T 1 x0 <|
  nm (uI I x0 12 (-1 : Int32)) fun I2 =>
  some ((ii 1), T, N, Z, S, I2, R)
def fX0_reads_ndX20 (nf : Nat) (U : (Nat → Option Nat)) (T : xT) (N : xT) (Z : Nat) (S : Nat) (I : xI) (L : xL) (R : xR) (x0 : Nat) (x1 : Nat) : Option (Int32 × xT × xT × Nat × Nat × xI × xR) :=
  tg T 18 x1 <|
  b7 (fX6_read_rX20 nf U T N Z S I L R x1) fun r1 T2 N3 Z4 S5 I6 R7 =>
  xc r1 (fun a10 =>
    tg T2 8 a10 <|
    fX0_reads_ndX20_b7 nf U T2 N3 Z4 S5 I6 L R7 x0 a10
  ) fun v11 =>
    fX0_reads_ndX20_b4 nf U T2 N3 Z4 S5 I6 L R7 x0
/- LostLanes.tellsOrder(II)V -/
def fX0_tellsOrder_b111 (nf : Nat) (T : xT) (N : xT) (I : xI) (R : xR) : Nat → xL → Nat → Nat → Nat → Int32 → Option (xL)
  | 0, _, _, _, _, _ => none
  | k + 1, L, x0, x3, x4, x5 =>
    if (ii 10) ≤ x5 then
      some L
    else
      tg T 1 x0 <|
      (fX0_isLane T I R x0 x5).bind fun r2 =>
      if r2 = (ii 0) then
        rA T N 103 x4 ((ii 9) + x5) fun j6 =>
        nm (uL L x4 j6 (-1 : Int64)) fun L7 =>
        nm (x5 + (ii 1)) fun u8 =>
        fX0_tellsOrder_b111 nf T N I R k L7 x0 x3 x4 u8
      else
        tg T 3 x3 <|
        (R x3 2).bind fun a10 =>
        rA T N 100 a10 x5 fun j11 =>
        rA T N 103 x4 ((ii 9) + x5) fun j12 =>
        nm (uL L x4 j12 (((I a10 j11)).toInt64)) fun L13 =>
        nm (x5 + (ii 1)) fun u14 =>
        fX0_tellsOrder_b111 nf T N I R k L13 x0 x3 x4 u14
def fX0_tellsOrder_b66 (nf : Nat) (T : xT) (N : xT) (I : xI) (R : xR) : Nat → xL → Nat → Nat → Nat → Int32 → Option (xL)
  | 0, _, _, _, _, _ => none
  | k + 1, L, x0, x3, x4, x5 =>
    if (ii 4) ≤ x5 then
      fX0_tellsOrder_b111 nf T N I R nf L x0 x3 x4 (ii 0)
    else
      tg T 1 x0 <|
      (fX0_isChild T I R x0 x5).bind fun r2 =>
      if r2 = (ii 0) then
        rA T N 103 x4 ((ii 5) + x5) fun j6 =>
        nm (uL L x4 j6 (-1 : Int64)) fun L7 =>
        nm (x5 + (ii 1)) fun u8 =>
        fX0_tellsOrder_b66 nf T N I R k L7 x0 x3 x4 u8
      else
        tg T 3 x3 <|
        (R x3 0).bind fun a10 =>
        rA T N 100 a10 x5 fun j11 =>
        rA T N 103 x4 ((ii 5) + x5) fun j12 =>
        nm (uL L x4 j12 (((I a10 j11)).toInt64)) fun L13 =>
        nm (x5 + (ii 1)) fun u14 =>
        fX0_tellsOrder_b66 nf T N I R k L13 x0 x3 x4 u14
def fX0_tellsOrder (nf : Nat) (T : xT) (N : xT) (I : xI) (L : xL) (R : xR) (x0 : Nat) (x1 : Int32) (x2 : Int32) : Option (xL) :=
  tg T 1 x0 <|
  (fX0_table T R x0).bind fun r1 =>
  (R x0 16).bind fun a4 =>
  tg T 4 a4 <|
  (R a4 1).bind fun a6 =>
  tg T 3 r1 <|
  rA T N 103 a6 (ii 0) fun j8 =>
  nm (uL L a6 j8 (((I r1 3)).toInt64)) fun L9 =>
  rA T N 103 a6 (ii 1) fun j10 =>
  nm (uL L9 a6 j10 ((x1).toInt64)) fun L11 =>
  rA T N 103 a6 (ii 2) fun j12 =>
  nm (uL L11 a6 j12 ((x2).toInt64)) fun L13 =>
  (R x0 2).bind fun a14 =>
  tg T 2 a14 <|
  (fX2_namedOf nf T N I R r1 (I a14 8)).bind fun r16 =>
  rA T N 103 a6 (ii 3) fun j18 =>
  nm (uL L13 a6 j18 ((r16).toInt64)) fun L19 =>
  rA T N 103 a6 (ii 4) fun j20 =>
  nm (uL L19 a6 j20 (((I a14 9)).toInt64)) fun L21 =>
  fX0_tellsOrder_b66 nf T N I R nf L21 x0 r1 a6 (ii 0)
/- LostLanes.runsOrder(LLostLanes$Order;)I -/
def fX0_runsOrder (nf : Nat) (T : xT) (N : xT) (I : xI) (L : xL) (R : xR) (x0 : Nat) (x1 : Nat) : Option (Int32 × xI × xL × xR) :=
  tg T 16 x1 <|
  if (I x1 0) = (ii 3) then
    tg T 1 x0 <|
    b4 (fX0_passesKept nf T N I L R x0) fun r27 I28 L29 R30 =>
    some (r27, I28, L29, R30)
  else
    (R x1 1).bind fun a3 =>
    tg T 1 x0 <|
    (R x0 16).bind fun a5 =>
    (fX18_told T N I L R a3 a5).bind fun r6 =>
    if (I x1 0) = (ii 2) then
      (R x1 2).bind fun a20 =>
      (fX18_told T N I L R a20 a5).bind fun r21 =>
      b3 (fX0_leadsKept nf T N I R x0 r6 r21) fun r23 I24 R25 =>
      some (r23, I24, L, R25)
    else
      if (I x1 0) = (ii 0) then
        b4 (fX0_wandersKept nf T N I L R x0 r6) fun r15 I16 L17 R18 =>
        some (r15, I16, L17, R18)
      else
        b4 (fX0_criesKept nf T N I L R x0 r6) fun r10 I11 L12 R13 =>
        some (r10, I11, L12, R13)
/- LostLanes.putsBack(I)V -/
def fX0_putsBack_b13 (nf : Nat) (T : xT) (N : xT) (R : xR) : Nat → xI → Nat → Int32 → Int32 → Option (xI)
  | 0, _, _, _, _ => none
  | k + 1, I, x0, x1, x2 =>
    if x1 ≤ x2 then
      tg T 1 x0 <|
      (R x0 7).bind fun a3 =>
      (R x0 6).bind fun a4 =>
      tg T 100 a3 <|
      tg T 100 a4 <|
      chk (cpk N a3 (ii 0) a4 (ii 0) (ii 16)) <|
      nm (cpI I a3 ((ii 0)).toNatClampNeg a4 ((ii 0)).toNatClampNeg ((ii 16)).toNatClampNeg) fun I8 =>
      nm (uI I8 x0 15 x1) fun I9 =>
      some I9
    else
      tg T 1 x0 <|
      (R x0 4).bind fun a11 =>
      rA T N 106 a11 x2 fun j12 =>
      (R a11 j12).bind fun a13 =>
      (R x0 5).bind fun a14 =>
      rA T N 106 a14 x2 fun j15 =>
      (R a14 j15).bind fun a16 =>
      tg T 3 a13 <|
      (fX2_takes T N I R a13 a16).bind fun I17 =>
      nm (x2 + (ii 1)) fun u20 =>
      fX0_putsBack_b13 nf T N R k I17 x0 x1 u20
def fX0_putsBack (nf : Nat) (T : xT) (N : xT) (I : xI) (R : xR) (x0 : Nat) (x1 : Int32) : Option (xI) :=
  tg T 1 x0 <|
  (fX0_table T R x0).bind fun r1 =>
  (R x0 8).bind fun a4 =>
  tg T 3 r1 <|
  (fX2_takes T N I R r1 a4).bind fun I5 =>
  fX0_putsBack_b13 nf T N R nf I5 x0 x1 (ii 0)
/- LostLanes.orders()I -/
def fX0_orders_b143 (nf : Nat) (kk114 : xT → xT → Nat → Nat → xI → xL → xR → Nat → Nat → Int32 → Int32 → Int32 → Int32 → Option (Int32 × xT × xT × Nat × Nat × xI × xL × xR)) (U : (Nat → Option Nat)) : Nat → xT → xT → Nat → Nat → xI → xL → xR → Nat → Nat → Int32 → Int32 → Int32 → Int32 → Nat → Int32 → Option (Int32 × xT × xT × Nat × Nat × xI × xL × xR)
  | 0, _, _, _, _, _, _, _, _, _, _, _, _, _, _, _ => none
  | k + 1, T, N, Z, S, I, L, R, x0, x2, x3, x4, x5, x6, x7, x8 =>
    tg T 16 x7 <|
    if (I x7 3) ≤ x8 then
      nm (x6 + (ii 1)) fun u3 =>
      kk114 T N Z S I L R x0 x2 x3 x4 x5 u3
    else
      tg T 1 x0 <|
      (fX0_tellsOrder nf T N I L R x0 x4 x5).bind fun L4 =>
      (R x0 16).bind fun a7 =>
      (fX18_isNow nf T N I L4 R x7 a7).bind fun r8 =>
      if r8 = (ii 0) then
        nm (x8 + (ii 1)) fun u28 =>
        fX0_orders_b143 nf kk114 U k T N Z S I L4 R x0 x2 x3 x4 x5 x6 x7 u28
      else
        b4 (fX0_runsOrder nf T N I L4 R x0 x7) fun r11 I12 L13 R14 =>
        if (ii 0) ≤ r11 then
          if (I12 x7 0) = (ii 1) then
            nm (x4 + (ii 1)) fun u20 =>
            nm (x8 + (ii 1)) fun u21 =>
            fX0_orders_b143 nf kk114 U k T N Z S I12 L13 R14 x0 x2 x3 u20 r11 x6 x7 u21
          else
            nm (x4 + (ii 1)) fun u18 =>
            nm (x8 + (ii 1)) fun u19 =>
            fX0_orders_b143 nf kk114 U k T N Z S I12 L13 R14 x0 x2 x3 u18 x5 x6 x7 u19
        else
          (fX0_putsBack nf T N I12 R14 x0 x3).bind fun I22 =>
          nm (uI I22 x0 14 x6) fun I24 =>
          b2 (fX0_refuse T N I24 R14 x0 (-3 : Int32)) fun r25 I26 =>
          some (r25, T, N, Z, S, I26, L13, R14)
def fX0_orders_b114 (nf : Nat) (U : (Nat → Option Nat)) : Nat → xT → xT → Nat → Nat → xI → xL → xR → Nat → Nat → Int32 → Int32 → Int32 → Int32 → Option (Int32 × xT × xT × Nat × Nat × xI × xL × xR)
  | 0, _, _, _, _, _, _, _, _, _, _, _, _, _ => none
  | k + 1, T, N, Z, S, I, L, R, x0, x2, x3, x4, x5, x6 =>
    tg T 18 x2 <|
    (R x2 7).bind fun a2 =>
    tg T 19 a2 <|
    (fJ2_size T I a2).bind fun r3 =>
    if r3 ≤ x6 then
      tg T 1 x0 <|
      b2 (fX0_done T I x0 x4) fun r7 I8 =>
      some (r7, T, N, Z, S, I8, L, R)
    else
      (fJ2_get T N I R a2 x6).bind fun r11 =>
      tg T 16 r11 <|
      fX0_orders_b143 nf (fX0_orders_b114 nf U k) U nf T N Z S I L R x0 x2 x3 x4 x5 x6 r11 (ii 0)
def fX0_orders_b56 (nf : Nat) (U : (Nat → Option Nat)) : Nat → xT → xT → Nat → Nat → xI → xL → xR → Nat → Nat → Int32 → Option (Int32 × xT × xT × Nat × Nat × xI × xL × xR)
  | 0, _, _, _, _, _, _, _, _, _, _ => none
  | k + 1, T, N, Z, S, I, L, R, x0, x2, x3 =>
    tg T 1 x0 <|
    if (I x0 15) ≤ x3 then
      (R x0 6).bind fun a3 =>
      (R x0 7).bind fun a4 =>
      tg T 100 a3 <|
      tg T 100 a4 <|
      chk (cpk N a3 (ii 0) a4 (ii 0) (ii 16)) <|
      nm (cpI I a3 ((ii 0)).toNatClampNeg a4 ((ii 0)).toNatClampNeg ((ii 16)).toNatClampNeg) fun I8 =>
      nm (I8 x0 15) fun u9 =>
      fX0_orders_b114 nf U nf T N Z S I8 L R x0 x2 u9 (ii 0) (-1 : Int32) (ii 0)
    else
      (R x0 5).bind fun a10 =>
      rA T N 106 a10 x3 fun j11 =>
      (R a10 j11).bind fun a12 =>
      (R x0 4).bind fun a13 =>
      rA T N 106 a13 x3 fun j14 =>
      (R a13 j14).bind fun a15 =>
      tg T 3 a12 <|
      (fX2_takes T N I R a12 a15).bind fun I16 =>
      nm (x3 + (ii 1)) fun u19 =>
      fX0_orders_b56 nf U k T N Z S I16 L R x0 x2 u19
def fX0_orders_b33 (nf : Nat) (U : (Nat → Option Nat)) (T : xT) (N : xT) (Z : Nat) (S : Nat) (I : xI) (L : xL) (R : xR) (x0 : Nat) (x2 : Nat) (z0 : Int32) : Option (Int32 × xT × xT × Nat × Nat × xI × xL × xR) :=
  if z0 = (ii 0) then
    tg T 1 x0 <|
    b2 (fX0_refuse T N I R x0 (-6 : Int32)) fun r9 I10 =>
    some (r9, T, N, Z, S, I10, L, R)
  else
    tg T 1 x0 <|
    (R x0 8).bind fun a3 =>
    (fX0_table T R x0).bind fun r4 =>
    tg T 3 a3 <|
    (fX2_takes T N I R a3 r4).bind fun I6 =>
    fX0_orders_b56 nf U nf T N Z S I6 L R x0 x2 (ii 0)
def fX0_orders_b27 (nf : Nat) (U : (Nat → Option Nat)) (T : xT) (N : xT) (Z : Nat) (S : Nat) (I : xI) (L : xL) (R : xR) (x0 : Nat) (z0 : Nat) : Option (Int32 × xT × xT × Nat × Nat × xI × xL × xR) :=
  tg T 1 x0 <|
  b7 (fX0_reads_ndX20 nf U T N Z S I L R x0 z0) fun r1 T2 N3 Z4 S5 I6 R7 =>
  fX0_orders_b33 nf U T2 N3 Z4 S5 I6 L R7 x0 z0 r1
def fX0_orders_b18 (nf : Nat) (U : (Nat → Option Nat)) (T : xT) (N : xT) (Z : Nat) (S : Nat) (I : xI) (L : xL) (R : xR) (x0 : Nat) (x1 : Int32) (z0 : Nat) : Option (Int32 × xT × xT × Nat × Nat × xI × xL × xR) :=
  tg T 1 x0 <|
  (R x0 10).bind fun a2 =>
  b6 (fX20_init T N Z S I R z0 a2 x1) fun T3 N4 Z5 S6 I7 R8 =>
  fX0_orders_b27 nf U T3 N4 Z5 S6 I7 L R8 x0 z0
def fX0_orders (nf : Nat) (U : (Nat → Option Nat)) (T : xT) (N : xT) (Z : Nat) (S : Nat) (I : xI) (L : xL) (R : xR) (x0 : Nat) : Option (Int32 × xT × xT × Nat × Nat × xI × xL × xR) :=
  tg T 1 x0 <|
  nm (I x0 11) fun u2 =>
  nm (uI I x0 11 (ii 0)) fun I3 =>
  nm (uI I3 x0 14 (-1 : Int32)) fun I4 =>
  nm (uT T Z 18) fun T5 =>
  nm (Z + 1) fun Z6 =>
  nm (S + 8) fun S7 =>
  fX0_orders_b18 nf U T5 N Z6 S7 I4 L R x0 u2 Z
/- LostLanes.draw(I)I -/
def fX0_draw (T : xT) (I : xI) (x0 : Nat) (x1 : Int32) : Option (Int32 × xI) :=
  tg T 1 x0 <|
  nm (uI I x0 27 ((((((((I x0 27)).toInt64) * (jj 1103)) + (jj 12345)) - (((((I x0 27)).toInt64) * (jj 1103)) + (jj 12345)) / (jj 1000003) * (jj 1000003))).toInt32)) fun I2 =>
  chk (decide (¬ x1 = (ii 0))) <|
  some (((I2 x0 27) - (I2 x0 27) / x1 * x1), I2)
/- LostLanes.decades(II)I -/
def fX0_decades_b182 (nf : Nat) (T : xT) (N : xT) (I : xI) (L : xL) (R : xR) (x0 : Nat) (x3 : Nat) : Option (Int32 × xI × xL) :=
  tg T 1 x0 <|
  (R x0 2).bind fun a2 =>
  tg T 2 a2 <|
  tg T 3 x3 <|
  (fX2_namedOf nf T N I R x3 (I a2 8)).bind fun r4 =>
  b2 (fX0_done T I x0 r4) fun r7 I8 =>
  some (r7, I8, L)
def fX0_decades_b170 (nf : Nat) (kk87 : xI → xL → Nat → Int32 → Nat → Int32 → Option (Int32 × xI × xL)) (T : xT) (N : xT) (I : xI) (L : xL) (R : xR) (x0 : Nat) (x2 : Int32) (x3 : Nat) (x4 : Int32) : Option (Int32 × xI × xL) :=
  tg T 1 x0 <|
  b3 (fX0_passes nf T N I L R x0 x3) fun r1 I2 L3 =>
  nm (x4 + (ii 1)) fun u6 =>
  kk87 I2 L3 x0 x2 x3 u6
def fX0_decades_b155 (nf : Nat) (kk87 : xI → xL → Nat → Int32 → Nat → Int32 → Option (Int32 × xI × xL)) (T : xT) (N : xT) (I : xI) (L : xL) (R : xR) (x0 : Nat) (x2 : Int32) (x3 : Nat) (x4 : Int32) (x5 : Int32) (x6 : Int32) (x7 : Int32) : Option (Int32 × xI × xL) :=
  if x7 = (ii 2) then
    tg T 3 x3 <|
    (R x3 0).bind fun a3 =>
    rA T N 100 a3 x5 fun j4 =>
    nm (uI I a3 j4 x6) fun I5 =>
    fX0_decades_b170 nf kk87 T N I5 L R x0 x2 x3 x4
  else
    fX0_decades_b170 nf kk87 T N I L R x0 x2 x3 x4
def fX0_decades_b87 (nf : Nat) (T : xT) (N : xT) (R : xR) : Nat → xI → xL → Nat → Int32 → Nat → Int32 → Option (Int32 × xI × xL)
  | 0, _, _, _, _, _, _ => none
  | k + 1, I, L, x0, x2, x3, x4 =>
    if x2 ≤ x4 then
      fX0_decades_b182 nf T N I L R x0 x3
    else
      tg T 3 x3 <|
      if (ii 999) ≤ (I x3 3) then
        fX0_decades_b182 nf T N I L R x0 x3
      else
        tg T 1 x0 <|
        (R x0 2).bind fun a5 =>
        tg T 2 a5 <|
        b2 (fX0_draw T I x0 (I a5 9)) fun r7 I8 =>
        b2 (fX0_draw T I8 x0 (ii 8)) fun r10 I11 =>
        b2 (fX0_draw T I11 x0 (ii 4)) fun r13 I14 =>
        if (ii 2) ≤ r13 then
          fX0_decades_b155 nf (fX0_decades_b87 nf T N R k) T N I14 L R x0 x2 x3 x4 r7 r10 r13
        else
          (R x3 1).bind fun a17 =>
          rA T N 100 a17 r7 fun j18 =>
          if (I14 a17 j18) = (-1 : Int32) then
            fX0_decades_b155 nf (fX0_decades_b87 nf T N R k) T N I14 L R x0 x2 x3 x4 r7 r10 r13
          else
            b2 (fX0_criesOut nf T N I14 L R x0 x3 r7) fun I20 L21 =>
            fX0_decades_b155 nf (fX0_decades_b87 nf T N R k) T N I20 L21 R x0 x2 x3 x4 r7 r10 r13
def fX0_decades (nf : Nat) (T : xT) (N : xT) (I : xI) (L : xL) (R : xR) (x0 : Nat) (x1 : Int32) (x2 : Int32) : Option (Int32 × xI × xL) :=
  (fX0_in x1 (ii 0) (ii 1000000)).bind fun r1 =>
  if r1 = (ii 0) then
    tg T 1 x0 <|
    b2 (fX0_refuse T N I R x0 (-1 : Int32)) fun r4 I5 =>
    some (r4, I5, L)
  else
    (fX0_in x2 (ii 1) (ii 60)).bind fun r8 =>
    if r8 = (ii 0) then
      tg T 1 x0 <|
      b2 (fX0_refuse T N I R x0 (-1 : Int32)) fun r27 I28 =>
      some (r27, I28, L)
    else
      tg T 1 x0 <|
      (R x0 2).bind fun a12 =>
      tg T 2 a12 <|
      if (I a12 9) = (ii 0) then
        b2 (fX0_refuse T N I R x0 (-3 : Int32)) fun r24 I25 =>
        some (r24, I25, L)
      else
        nm (uI I x0 27 x1) fun I15 =>
        nm (uI I15 x0 25 (I15 a12 9)) fun I16 =>
        nm (uI I16 x0 26 (I16 a12 8)) fun I17 =>
        (R x0 24).bind fun a18 =>
        (fX0_table T R x0).bind fun r19 =>
        tg T 3 a18 <|
        (fX2_takes T N I17 R a18 r19).bind fun I21 =>
        fX0_decades_b87 nf T N R nf I21 L x0 x2 a18 (ii 0)
/- LostLanes.drawn(II)I -/
def fX0_drawn_b34 (T : xT) (N : xT) (I : xI) (R : xR) (x0 : Nat) (x1 : Int32) (x2 : Int32) (z0 : Int32) (z1 : Int32) (z2 : Int32) : Option (Int32) :=
  (fX0_in z0 z1 (z2 - (ii 1))).bind fun r1 =>
  if r1 = (ii 0) then
    some (-1 : Int32)
  else
    if x2 = (ii 0) then
      tg T 1 x0 <|
      (R x0 24).bind fun a11 =>
      tg T 3 a11 <|
      (R a11 0).bind fun a13 =>
      rA T N 100 a13 x1 fun j14 =>
      some (I a13 j14)
    else
      tg T 1 x0 <|
      (R x0 24).bind fun a6 =>
      tg T 3 a6 <|
      (R a6 2).bind fun a8 =>
      rA T N 100 a8 x1 fun j9 =>
      some (I a8 j9)
def fX0_drawn (T : xT) (N : xT) (I : xI) (R : xR) (x0 : Nat) (x1 : Int32) (x2 : Int32) : Option (Int32) :=
  tg T 1 x0 <|
  if (I x0 25) = (-1 : Int32) then
    some (-1 : Int32)
  else
    (fX0_in x2 (ii 0) (ii 1)).bind fun r3 =>
    if r3 = (ii 0) then
      some (-1 : Int32)
    else
      if x2 = (ii 0) then
        fX0_drawn_b34 T N I R x0 x1 x2 x1 (ii 0) (I x0 25)
      else
        fX0_drawn_b34 T N I R x0 x1 x2 x1 (ii 0) (I x0 26)
/- LostLanes.count(I)I -/
def fX0_count (nf : Nat) (T : xT) (N : xT) (I : xI) (R : xR) (x0 : Nat) (x1 : Int32) : Option (Int32) :=
  if x1 = (ii 0) then
    tg T 1 x0 <|
    (R x0 2).bind fun a3 =>
    tg T 2 a3 <|
    some (I a3 8)
  else
  if x1 = (ii 1) then
    tg T 1 x0 <|
    (R x0 2).bind fun a7 =>
    tg T 2 a7 <|
    some (I a7 9)
  else
  if x1 = (ii 2) then
    tg T 1 x0 <|
    (fX0_table T R x0).bind fun r10 =>
    (R x0 2).bind fun a13 =>
    tg T 2 a13 <|
    tg T 3 r10 <|
    (fX2_namedOf nf T N I R r10 (I a13 8)).bind fun r15 =>
    some r15
  else
  if x1 = (ii 3) then
    tg T 1 x0 <|
    (R x0 2).bind fun a20 =>
    tg T 2 a20 <|
    some (I a20 10)
  else
  if x1 = (ii 4) then
    tg T 1 x0 <|
    (R x0 2).bind fun a24 =>
    tg T 2 a24 <|
    (R a24 7).bind fun a26 =>
    tg T 19 a26 <|
    (fJ2_size T I a26).bind fun r27 =>
    some r27
  else
  if x1 = (ii 5) then
    tg T 1 x0 <|
    some (I x0 15)
  else
  if x1 = (ii 6) then
    tg T 1 x0 <|
    some (I x0 11)
  else
  if x1 = (ii 7) then
    tg T 1 x0 <|
    (R x0 1).bind fun a36 =>
    rA T N 100 a36 (x1 - (ii 6)) fun j37 =>
    some (I a36 j37)
  else
  if x1 = (ii 8) then
    tg T 1 x0 <|
    (R x0 1).bind fun a40 =>
    rA T N 100 a40 (x1 - (ii 6)) fun j41 =>
    some (I a40 j41)
  else
  if x1 = (ii 9) then
    tg T 1 x0 <|
    (R x0 1).bind fun a44 =>
    rA T N 100 a44 (x1 - (ii 6)) fun j45 =>
    some (I a44 j45)
  else
  if x1 = (ii 10) then
    tg T 1 x0 <|
    (R x0 1).bind fun a48 =>
    rA T N 100 a48 (x1 - (ii 5)) fun j49 =>
    some (I a48 j49)
  else
  if x1 = (ii 11) then
    tg T 1 x0 <|
    (R x0 1).bind fun a52 =>
    rA T N 100 a52 (x1 - (ii 5)) fun j53 =>
    some (I a52 j53)
  else
  if x1 = (ii 12) then
    tg T 1 x0 <|
    (R x0 2).bind fun a56 =>
    tg T 2 a56 <|
    some (I a56 13)
  else
  if x1 = (ii 13) then
    tg T 1 x0 <|
    (fX0_table T R x0).bind fun r59 =>
    tg T 3 r59 <|
    some (I r59 3)
  else
  if x1 = (ii 14) then
    tg T 1 x0 <|
    (R x0 2).bind fun a65 =>
    tg T 2 a65 <|
    some (I a65 11)
  else
  if x1 = (ii 15) then
    tg T 1 x0 <|
    (R x0 2).bind fun a69 =>
    tg T 2 a69 <|
    some (I a69 12)
  else
  some (-1 : Int32)
/- LostLanes.status()I -/
def fX0_status (T : xT) (I : xI) (x0 : Nat) : Option (Int32) :=
  tg T 1 x0 <|
  some (I x0 0)
theorem hsX0_init : yX0_init.cls ≠ "java/lang/invoke/MethodHandle" ∧ yX0_init.cls ≠ "java/lang/invoke/VarHandle" ∧ (parseMethodDescriptor yX0_init.desc).map (fun d => d.parameters.length) = some 0 := by decide +kernel
theorem hsX0_in : yX0_in.cls ≠ "java/lang/invoke/MethodHandle" ∧ yX0_in.cls ≠ "java/lang/invoke/VarHandle" ∧ (parseMethodDescriptor yX0_in.desc).map (fun d => d.parameters.length) = some 3 := by decide +kernel
theorem hsX0_refuse : yX0_refuse.cls ≠ "java/lang/invoke/MethodHandle" ∧ yX0_refuse.cls ≠ "java/lang/invoke/VarHandle" ∧ (parseMethodDescriptor yX0_refuse.desc).map (fun d => d.parameters.length) = some 1 := by decide +kernel
theorem hsX0_done : yX0_done.cls ≠ "java/lang/invoke/MethodHandle" ∧ yX0_done.cls ≠ "java/lang/invoke/VarHandle" ∧ (parseMethodDescriptor yX0_done.desc).map (fun d => d.parameters.length) = some 1 := by decide +kernel
theorem hsX0_image : yX0_image.cls ≠ "java/lang/invoke/MethodHandle" ∧ yX0_image.cls ≠ "java/lang/invoke/VarHandle" ∧ (parseMethodDescriptor yX0_image.desc).map (fun d => d.parameters.length) = some 1 := by decide +kernel
theorem hsX0_settled : yX0_settled.cls ≠ "java/lang/invoke/MethodHandle" ∧ yX0_settled.cls ≠ "java/lang/invoke/VarHandle" ∧ (parseMethodDescriptor yX0_settled.desc).map (fun d => d.parameters.length) = some 1 := by decide +kernel
theorem hsX0_back : yX0_back.cls ≠ "java/lang/invoke/MethodHandle" ∧ yX0_back.cls ≠ "java/lang/invoke/VarHandle" ∧ (parseMethodDescriptor yX0_back.desc).map (fun d => d.parameters.length) = some 1 := by decide +kernel
theorem hsX0_isCorner : yX0_isCorner.cls ≠ "java/lang/invoke/MethodHandle" ∧ yX0_isCorner.cls ≠ "java/lang/invoke/VarHandle" ∧ (parseMethodDescriptor yX0_isCorner.desc).map (fun d => d.parameters.length) = some 1 := by decide +kernel
theorem hsX0_canLane : yX0_canLane.cls ≠ "java/lang/invoke/MethodHandle" ∧ yX0_canLane.cls ≠ "java/lang/invoke/VarHandle" ∧ (parseMethodDescriptor yX0_canLane.desc).map (fun d => d.parameters.length) = some 4 := by decide +kernel
theorem hsX0_table : yX0_table.cls ≠ "java/lang/invoke/MethodHandle" ∧ yX0_table.cls ≠ "java/lang/invoke/VarHandle" ∧ (parseMethodDescriptor yX0_table.desc).map (fun d => d.parameters.length) = some 0 := by decide +kernel
theorem hsX0_adds : yX0_adds.cls ≠ "java/lang/invoke/MethodHandle" ∧ yX0_adds.cls ≠ "java/lang/invoke/VarHandle" ∧ (parseMethodDescriptor yX0_adds.desc).map (fun d => d.parameters.length) = some 4 := by decide +kernel
theorem hsX0_lane : yX0_lane.cls ≠ "java/lang/invoke/MethodHandle" ∧ yX0_lane.cls ≠ "java/lang/invoke/VarHandle" ∧ (parseMethodDescriptor yX0_lane.desc).map (fun d => d.parameters.length) = some 4 := by decide +kernel
theorem hsX0_isLane : yX0_isLane.cls ≠ "java/lang/invoke/MethodHandle" ∧ yX0_isLane.cls ≠ "java/lang/invoke/VarHandle" ∧ (parseMethodDescriptor yX0_isLane.desc).map (fun d => d.parameters.length) = some 1 := by decide +kernel
theorem hsX0_at : yX0_at.cls ≠ "java/lang/invoke/MethodHandle" ∧ yX0_at.cls ≠ "java/lang/invoke/VarHandle" ∧ (parseMethodDescriptor yX0_at.desc).map (fun d => d.parameters.length) = some 2 := by decide +kernel
theorem hsX0_child : yX0_child.cls ≠ "java/lang/invoke/MethodHandle" ∧ yX0_child.cls ≠ "java/lang/invoke/VarHandle" ∧ (parseMethodDescriptor yX0_child.desc).map (fun d => d.parameters.length) = some 2 := by decide +kernel
theorem hsX0_isChild : yX0_isChild.cls ≠ "java/lang/invoke/MethodHandle" ∧ yX0_isChild.cls ≠ "java/lang/invoke/VarHandle" ∧ (parseMethodDescriptor yX0_isChild.desc).map (fun d => d.parameters.length) = some 1 := by decide +kernel
theorem hsX0_told : yX0_told.cls ≠ "java/lang/invoke/MethodHandle" ∧ yX0_told.cls ≠ "java/lang/invoke/VarHandle" ∧ (parseMethodDescriptor yX0_told.desc).map (fun d => d.parameters.length) = some 4 := by decide +kernel
theorem hsX0_near : yX0_near.cls ≠ "java/lang/invoke/MethodHandle" ∧ yX0_near.cls ≠ "java/lang/invoke/VarHandle" ∧ (parseMethodDescriptor yX0_near.desc).map (fun d => d.parameters.length) = some 3 := by decide +kernel
theorem hsX0_or : yX0_or.cls ≠ "java/lang/invoke/MethodHandle" ∧ yX0_or.cls ≠ "java/lang/invoke/VarHandle" ∧ (parseMethodDescriptor yX0_or.desc).map (fun d => d.parameters.length) = some 3 := by decide +kernel
theorem hsX0_turns : yX0_turns.cls ≠ "java/lang/invoke/MethodHandle" ∧ yX0_turns.cls ≠ "java/lang/invoke/VarHandle" ∧ (parseMethodDescriptor yX0_turns.desc).map (fun d => d.parameters.length) = some 2 := by decide +kernel
theorem hsX0_isBarred : yX0_isBarred.cls ≠ "java/lang/invoke/MethodHandle" ∧ yX0_isBarred.cls ≠ "java/lang/invoke/VarHandle" ∧ (parseMethodDescriptor yX0_isBarred.desc).map (fun d => d.parameters.length) = some 3 := by decide +kernel
theorem hsX0_laneNext : yX0_laneNext.cls ≠ "java/lang/invoke/MethodHandle" ∧ yX0_laneNext.cls ≠ "java/lang/invoke/VarHandle" ∧ (parseMethodDescriptor yX0_laneNext.desc).map (fun d => d.parameters.length) = some 2 := by decide +kernel
theorem hsX0_of : yX0_of.cls ≠ "java/lang/invoke/MethodHandle" ∧ yX0_of.cls ≠ "java/lang/invoke/VarHandle" ∧ (parseMethodDescriptor yX0_of.desc).map (fun d => d.parameters.length) = some 2 := by decide +kernel
theorem hsX0_says : yX0_says.cls ≠ "java/lang/invoke/MethodHandle" ∧ yX0_says.cls ≠ "java/lang/invoke/VarHandle" ∧ (parseMethodDescriptor yX0_says.desc).map (fun d => d.parameters.length) = some 3 := by decide +kernel
theorem hsX0_asks : yX0_asks.cls ≠ "java/lang/invoke/MethodHandle" ∧ yX0_asks.cls ≠ "java/lang/invoke/VarHandle" ∧ (parseMethodDescriptor yX0_asks.desc).map (fun d => d.parameters.length) = some 3 := by decide +kernel
theorem hsX0_terms : yX0_terms.cls ≠ "java/lang/invoke/MethodHandle" ∧ yX0_terms.cls ≠ "java/lang/invoke/VarHandle" ∧ (parseMethodDescriptor yX0_terms.desc).map (fun d => d.parameters.length) = some 2 := by decide +kernel
theorem hsX0_four : yX0_four.cls ≠ "java/lang/invoke/MethodHandle" ∧ yX0_four.cls ≠ "java/lang/invoke/VarHandle" ∧ (parseMethodDescriptor yX0_four.desc).map (fun d => d.parameters.length) = some 1 := by decide +kernel
theorem hsX0_feed : yX0_feed.cls ≠ "java/lang/invoke/MethodHandle" ∧ yX0_feed.cls ≠ "java/lang/invoke/VarHandle" ∧ (parseMethodDescriptor yX0_feed.desc).map (fun d => d.parameters.length) = some 5 := by decide +kernel
theorem hsX0_end : yX0_end.cls ≠ "java/lang/invoke/MethodHandle" ∧ yX0_end.cls ≠ "java/lang/invoke/VarHandle" ∧ (parseMethodDescriptor yX0_end.desc).map (fun d => d.parameters.length) = some 1 := by decide +kernel
theorem hsX0_row : yX0_row.cls ≠ "java/lang/invoke/MethodHandle" ∧ yX0_row.cls ≠ "java/lang/invoke/VarHandle" ∧ (parseMethodDescriptor yX0_row.desc).map (fun d => d.parameters.length) = some 0 := by decide +kernel
theorem hsX0_gravel : yX0_gravel.cls ≠ "java/lang/invoke/MethodHandle" ∧ yX0_gravel.cls ≠ "java/lang/invoke/VarHandle" ∧ (parseMethodDescriptor yX0_gravel.desc).map (fun d => d.parameters.length) = some 0 := by decide +kernel
theorem hsX6_read_rX7 : yX6_read.cls ≠ "java/lang/invoke/MethodHandle" ∧ yX6_read.cls ≠ "java/lang/invoke/VarHandle" ∧ (parseMethodDescriptor yX6_read.desc).map (fun d => d.parameters.length) = some 0 := by decide +kernel
theorem hu_X6_clause : "LostLanes$Reader" ≠ "java/lang/invoke/MethodHandle" ∧ "LostLanes$Reader" ≠ "java/lang/invoke/VarHandle" ∧ (parseMethodDescriptor "()V").map (fun d => d.parameters.length) = some 0 := by decide +kernel
theorem hsX0_reads_ndX7 : yX0_reads.cls ≠ "java/lang/invoke/MethodHandle" ∧ yX0_reads.cls ≠ "java/lang/invoke/VarHandle" ∧ (parseMethodDescriptor yX0_reads.desc).map (fun d => d.parameters.length) = some 1 := by decide +kernel
theorem hsX0_law : yX0_law.cls ≠ "java/lang/invoke/MethodHandle" ∧ yX0_law.cls ≠ "java/lang/invoke/VarHandle" ∧ (parseMethodDescriptor yX0_law.desc).map (fun d => d.parameters.length) = some 0 := by decide +kernel
theorem hsX0_fault : yX0_fault.cls ≠ "java/lang/invoke/MethodHandle" ∧ yX0_fault.cls ≠ "java/lang/invoke/VarHandle" ∧ (parseMethodDescriptor yX0_fault.desc).map (fun d => d.parameters.length) = some 0 := by decide +kernel
theorem hsX0_stopped : yX0_stopped.cls ≠ "java/lang/invoke/MethodHandle" ∧ yX0_stopped.cls ≠ "java/lang/invoke/VarHandle" ∧ (parseMethodDescriptor yX0_stopped.desc).map (fun d => d.parameters.length) = some 0 := by decide +kernel
theorem hsX0_isLaw : yX0_isLaw.cls ≠ "java/lang/invoke/MethodHandle" ∧ yX0_isLaw.cls ≠ "java/lang/invoke/VarHandle" ∧ (parseMethodDescriptor yX0_isLaw.desc).map (fun d => d.parameters.length) = some 1 := by decide +kernel
theorem hsX0_force : yX0_force.cls ≠ "java/lang/invoke/MethodHandle" ∧ yX0_force.cls ≠ "java/lang/invoke/VarHandle" ∧ (parseMethodDescriptor yX0_force.desc).map (fun d => d.parameters.length) = some 1 := by decide +kernel
theorem hsX0_keeps : yX0_keeps.cls ≠ "java/lang/invoke/MethodHandle" ∧ yX0_keeps.cls ≠ "java/lang/invoke/VarHandle" ∧ (parseMethodDescriptor yX0_keeps.desc).map (fun d => d.parameters.length) = some 1 := by decide +kernel
theorem hsX0_goes : yX0_goes.cls ≠ "java/lang/invoke/MethodHandle" ∧ yX0_goes.cls ≠ "java/lang/invoke/VarHandle" ∧ (parseMethodDescriptor yX0_goes.desc).map (fun d => d.parameters.length) = some 3 := by decide +kernel
theorem hsX0_wandersKept : yX0_wandersKept.cls ≠ "java/lang/invoke/MethodHandle" ∧ yX0_wandersKept.cls ≠ "java/lang/invoke/VarHandle" ∧ (parseMethodDescriptor yX0_wandersKept.desc).map (fun d => d.parameters.length) = some 1 := by decide +kernel
theorem hsX0_doneOr : yX0_doneOr.cls ≠ "java/lang/invoke/MethodHandle" ∧ yX0_doneOr.cls ≠ "java/lang/invoke/VarHandle" ∧ (parseMethodDescriptor yX0_doneOr.desc).map (fun d => d.parameters.length) = some 1 := by decide +kernel
theorem hsX0_wander : yX0_wander.cls ≠ "java/lang/invoke/MethodHandle" ∧ yX0_wander.cls ≠ "java/lang/invoke/VarHandle" ∧ (parseMethodDescriptor yX0_wander.desc).map (fun d => d.parameters.length) = some 1 := by decide +kernel
theorem hsX0_criesOut : yX0_criesOut.cls ≠ "java/lang/invoke/MethodHandle" ∧ yX0_criesOut.cls ≠ "java/lang/invoke/VarHandle" ∧ (parseMethodDescriptor yX0_criesOut.desc).map (fun d => d.parameters.length) = some 2 := by decide +kernel
theorem hsX0_criesKept : yX0_criesKept.cls ≠ "java/lang/invoke/MethodHandle" ∧ yX0_criesKept.cls ≠ "java/lang/invoke/VarHandle" ∧ (parseMethodDescriptor yX0_criesKept.desc).map (fun d => d.parameters.length) = some 1 := by decide +kernel
theorem hsX0_cry : yX0_cry.cls ≠ "java/lang/invoke/MethodHandle" ∧ yX0_cry.cls ≠ "java/lang/invoke/VarHandle" ∧ (parseMethodDescriptor yX0_cry.desc).map (fun d => d.parameters.length) = some 1 := by decide +kernel
theorem hsX0_leadsKept : yX0_leadsKept.cls ≠ "java/lang/invoke/MethodHandle" ∧ yX0_leadsKept.cls ≠ "java/lang/invoke/VarHandle" ∧ (parseMethodDescriptor yX0_leadsKept.desc).map (fun d => d.parameters.length) = some 2 := by decide +kernel
theorem hsX0_lead : yX0_lead.cls ≠ "java/lang/invoke/MethodHandle" ∧ yX0_lead.cls ≠ "java/lang/invoke/VarHandle" ∧ (parseMethodDescriptor yX0_lead.desc).map (fun d => d.parameters.length) = some 2 := by decide +kernel
theorem hsX0_passes : yX0_passes.cls ≠ "java/lang/invoke/MethodHandle" ∧ yX0_passes.cls ≠ "java/lang/invoke/VarHandle" ∧ (parseMethodDescriptor yX0_passes.desc).map (fun d => d.parameters.length) = some 1 := by decide +kernel
theorem hsX0_passesKept : yX0_passesKept.cls ≠ "java/lang/invoke/MethodHandle" ∧ yX0_passesKept.cls ≠ "java/lang/invoke/VarHandle" ∧ (parseMethodDescriptor yX0_passesKept.desc).map (fun d => d.parameters.length) = some 0 := by decide +kernel
theorem hsX0_pass : yX0_pass.cls ≠ "java/lang/invoke/MethodHandle" ∧ yX0_pass.cls ≠ "java/lang/invoke/VarHandle" ∧ (parseMethodDescriptor yX0_pass.desc).map (fun d => d.parameters.length) = some 0 := by decide +kernel
theorem hsX0_undo : yX0_undo.cls ≠ "java/lang/invoke/MethodHandle" ∧ yX0_undo.cls ≠ "java/lang/invoke/VarHandle" ∧ (parseMethodDescriptor yX0_undo.desc).map (fun d => d.parameters.length) = some 0 := by decide +kernel
theorem hsX0_where : yX0_where.cls ≠ "java/lang/invoke/MethodHandle" ∧ yX0_where.cls ≠ "java/lang/invoke/VarHandle" ∧ (parseMethodDescriptor yX0_where.desc).map (fun d => d.parameters.length) = some 2 := by decide +kernel
theorem hsX0_again : yX0_again.cls ≠ "java/lang/invoke/MethodHandle" ∧ yX0_again.cls ≠ "java/lang/invoke/VarHandle" ∧ (parseMethodDescriptor yX0_again.desc).map (fun d => d.parameters.length) = some 1 := by decide +kernel
theorem hsX0_farOf : yX0_farOf.cls ≠ "java/lang/invoke/MethodHandle" ∧ yX0_farOf.cls ≠ "java/lang/invoke/VarHandle" ∧ (parseMethodDescriptor yX0_farOf.desc).map (fun d => d.parameters.length) = some 2 := by decide +kernel
theorem hsX0_laysFar : yX0_laysFar.cls ≠ "java/lang/invoke/MethodHandle" ∧ yX0_laysFar.cls ≠ "java/lang/invoke/VarHandle" ∧ (parseMethodDescriptor yX0_laysFar.desc).map (fun d => d.parameters.length) = some 0 := by decide +kernel
theorem hsX0_far : yX0_far.cls ≠ "java/lang/invoke/MethodHandle" ∧ yX0_far.cls ≠ "java/lang/invoke/VarHandle" ∧ (parseMethodDescriptor yX0_far.desc).map (fun d => d.parameters.length) = some 2 := by decide +kernel
theorem hsX0_foundFrom : yX0_foundFrom.cls ≠ "java/lang/invoke/MethodHandle" ∧ yX0_foundFrom.cls ≠ "java/lang/invoke/VarHandle" ∧ (parseMethodDescriptor yX0_foundFrom.desc).map (fun d => d.parameters.length) = some 2 := by decide +kernel
theorem hsX0_found : yX0_found.cls ≠ "java/lang/invoke/MethodHandle" ∧ yX0_found.cls ≠ "java/lang/invoke/VarHandle" ∧ (parseMethodDescriptor yX0_found.desc).map (fun d => d.parameters.length) = some 2 := by decide +kernel
theorem hsX0_post : yX0_post.cls ≠ "java/lang/invoke/MethodHandle" ∧ yX0_post.cls ≠ "java/lang/invoke/VarHandle" ∧ (parseMethodDescriptor yX0_post.desc).map (fun d => d.parameters.length) = some 1 := by decide +kernel
theorem hsJ13_bitCount : yJ13_bitCount.cls ≠ "java/lang/invoke/MethodHandle" ∧ yJ13_bitCount.cls ≠ "java/lang/invoke/VarHandle" ∧ (parseMethodDescriptor yJ13_bitCount.desc).map (fun d => d.parameters.length) = some 1 := by decide +kernel
theorem hsX0_ones : yX0_ones.cls ≠ "java/lang/invoke/MethodHandle" ∧ yX0_ones.cls ≠ "java/lang/invoke/VarHandle" ∧ (parseMethodDescriptor yX0_ones.desc).map (fun d => d.parameters.length) = some 1 := by decide +kernel
theorem hsX0_ends : yX0_ends.cls ≠ "java/lang/invoke/MethodHandle" ∧ yX0_ends.cls ≠ "java/lang/invoke/VarHandle" ∧ (parseMethodDescriptor yX0_ends.desc).map (fun d => d.parameters.length) = some 0 := by decide +kernel
theorem hsX0_isOf : yX0_isOf.cls ≠ "java/lang/invoke/MethodHandle" ∧ yX0_isOf.cls ≠ "java/lang/invoke/VarHandle" ∧ (parseMethodDescriptor yX0_isOf.desc).map (fun d => d.parameters.length) = some 2 := by decide +kernel
theorem hsX0_areNear : yX0_areNear.cls ≠ "java/lang/invoke/MethodHandle" ∧ yX0_areNear.cls ≠ "java/lang/invoke/VarHandle" ∧ (parseMethodDescriptor yX0_areNear.desc).map (fun d => d.parameters.length) = some 2 := by decide +kernel
theorem hsX0_posts : yX0_posts.cls ≠ "java/lang/invoke/MethodHandle" ∧ yX0_posts.cls ≠ "java/lang/invoke/VarHandle" ∧ (parseMethodDescriptor yX0_posts.desc).map (fun d => d.parameters.length) = some 2 := by decide +kernel
theorem hsX0_hear : yX0_hear.cls ≠ "java/lang/invoke/MethodHandle" ∧ yX0_hear.cls ≠ "java/lang/invoke/VarHandle" ∧ (parseMethodDescriptor yX0_hear.desc).map (fun d => d.parameters.length) = some 1 := by decide +kernel
theorem hsX0_forget : yX0_forget.cls ≠ "java/lang/invoke/MethodHandle" ∧ yX0_forget.cls ≠ "java/lang/invoke/VarHandle" ∧ (parseMethodDescriptor yX0_forget.desc).map (fun d => d.parameters.length) = some 0 := by decide +kernel
theorem hsX0_laysWays : yX0_laysWays.cls ≠ "java/lang/invoke/MethodHandle" ∧ yX0_laysWays.cls ≠ "java/lang/invoke/VarHandle" ∧ (parseMethodDescriptor yX0_laysWays.desc).map (fun d => d.parameters.length) = some 1 := by decide +kernel
theorem hsX0_gone : yX0_gone.cls ≠ "java/lang/invoke/MethodHandle" ∧ yX0_gone.cls ≠ "java/lang/invoke/VarHandle" ∧ (parseMethodDescriptor yX0_gone.desc).map (fun d => d.parameters.length) = some 1 := by decide +kernel
theorem hsX0_named : yX0_named.cls ≠ "java/lang/invoke/MethodHandle" ∧ yX0_named.cls ≠ "java/lang/invoke/VarHandle" ∧ (parseMethodDescriptor yX0_named.desc).map (fun d => d.parameters.length) = some 1 := by decide +kernel
theorem hsX0_nearerEnd : yX0_nearerEnd.cls ≠ "java/lang/invoke/MethodHandle" ∧ yX0_nearerEnd.cls ≠ "java/lang/invoke/VarHandle" ∧ (parseMethodDescriptor yX0_nearerEnd.desc).map (fun d => d.parameters.length) = some 2 := by decide +kernel
theorem hsX0_laneFor : yX0_laneFor.cls ≠ "java/lang/invoke/MethodHandle" ∧ yX0_laneFor.cls ≠ "java/lang/invoke/VarHandle" ∧ (parseMethodDescriptor yX0_laneFor.desc).map (fun d => d.parameters.length) = some 2 := by decide +kernel
theorem hsX0_laneLong : yX0_laneLong.cls ≠ "java/lang/invoke/MethodHandle" ∧ yX0_laneLong.cls ≠ "java/lang/invoke/VarHandle" ∧ (parseMethodDescriptor yX0_laneLong.desc).map (fun d => d.parameters.length) = some 2 := by decide +kernel
theorem hsX0_letter : yX0_letter.cls ≠ "java/lang/invoke/MethodHandle" ∧ yX0_letter.cls ≠ "java/lang/invoke/VarHandle" ∧ (parseMethodDescriptor yX0_letter.desc).map (fun d => d.parameters.length) = some 3 := by decide +kernel
theorem hsX0_meet : yX0_meet.cls ≠ "java/lang/invoke/MethodHandle" ∧ yX0_meet.cls ≠ "java/lang/invoke/VarHandle" ∧ (parseMethodDescriptor yX0_meet.desc).map (fun d => d.parameters.length) = some 2 := by decide +kernel
theorem hsX0_colours : yX0_colours.cls ≠ "java/lang/invoke/MethodHandle" ∧ yX0_colours.cls ≠ "java/lang/invoke/VarHandle" ∧ (parseMethodDescriptor yX0_colours.desc).map (fun d => d.parameters.length) = some 2 := by decide +kernel
def Con_X0_colours (l : Launch) (D : va_G) (dA : Nat → ClassId) (s0 fr lo : Nat) (f : xT → xT → xI → xR → Nat → Int32 → Int32 → Option (Int32 × xI)) : Prop := ∀ {T : xT} {N : xT} {Z : Nat} {I : xI} {L : xL} {R : xR} {x0 : Nat} {x1 : Int32} {x2 : Int32} {ro : Int32} {Io : xI}, f T N I R x0 x1 x2 = some (ro, Io) → XMet l D dA s0 yX0_colours (ws_ yX0_colours cX0_colours 6 ((some .boolean))) fr lo [.ref x0, .int x1, .int x2] T N Z I L R (some (.int ro)) T N Z Io L R 0 0
theorem hsX0_apart : yX0_apart.cls ≠ "java/lang/invoke/MethodHandle" ∧ yX0_apart.cls ≠ "java/lang/invoke/VarHandle" ∧ (parseMethodDescriptor yX0_apart.desc).map (fun d => d.parameters.length) = some 1 := by decide +kernel
theorem hsX0_alike : yX0_alike.cls ≠ "java/lang/invoke/MethodHandle" ∧ yX0_alike.cls ≠ "java/lang/invoke/VarHandle" ∧ (parseMethodDescriptor yX0_alike.desc).map (fun d => d.parameters.length) = some 0 := by decide +kernel
theorem hsX0_lanesAt : yX0_lanesAt.cls ≠ "java/lang/invoke/MethodHandle" ∧ yX0_lanesAt.cls ≠ "java/lang/invoke/VarHandle" ∧ (parseMethodDescriptor yX0_lanesAt.desc).map (fun d => d.parameters.length) = some 1 := by decide +kernel
theorem hsJ13_numberOfTrailingZeros : yJ13_numberOfTrailingZeros.cls ≠ "java/lang/invoke/MethodHandle" ∧ yJ13_numberOfTrailingZeros.cls ≠ "java/lang/invoke/VarHandle" ∧ (parseMethodDescriptor yJ13_numberOfTrailingZeros.desc).map (fun d => d.parameters.length) = some 1 := by decide +kernel
theorem hsX0_pairsUp : yX0_pairsUp.cls ≠ "java/lang/invoke/MethodHandle" ∧ yX0_pairsUp.cls ≠ "java/lang/invoke/VarHandle" ∧ (parseMethodDescriptor yX0_pairsUp.desc).map (fun d => d.parameters.length) = some 1 := by decide +kernel
def Con_X0_pairsUp (l : Launch) (D : va_G) (dA : Nat → ClassId) (s0 fr lo : Nat) (f : xT → xT → xI → xR → Nat → Int32 → Option (Int32)) : Prop := ∀ {T : xT} {N : xT} {Z : Nat} {I : xI} {L : xL} {R : xR} {x0 : Nat} {x1 : Int32} {ro : Int32}, f T N I R x0 x1 = some ro → XMet l D dA s0 yX0_pairsUp (ws_ yX0_pairsUp cX0_pairsUp 6 ((some .int))) fr lo [.ref x0, .int x1] T N Z I L R (some (.int ro)) T N Z I L R 0 0
theorem hsX0_round : yX0_round.cls ≠ "java/lang/invoke/MethodHandle" ∧ yX0_round.cls ≠ "java/lang/invoke/VarHandle" ∧ (parseMethodDescriptor yX0_round.desc).map (fun d => d.parameters.length) = some 0 := by decide +kernel
theorem hsX0_dead : yX0_dead.cls ≠ "java/lang/invoke/MethodHandle" ∧ yX0_dead.cls ≠ "java/lang/invoke/VarHandle" ∧ (parseMethodDescriptor yX0_dead.desc).map (fun d => d.parameters.length) = some 0 := by decide +kernel
theorem hsX0_few : yX0_few.cls ≠ "java/lang/invoke/MethodHandle" ∧ yX0_few.cls ≠ "java/lang/invoke/VarHandle" ∧ (parseMethodDescriptor yX0_few.desc).map (fun d => d.parameters.length) = some 2 := by decide +kernel
theorem hsX0_compare : yX0_compare.cls ≠ "java/lang/invoke/MethodHandle" ∧ yX0_compare.cls ≠ "java/lang/invoke/VarHandle" ∧ (parseMethodDescriptor yX0_compare.desc).map (fun d => d.parameters.length) = some 2 := by decide +kernel
theorem hsX6_read_rX20 : yX6_read.cls ≠ "java/lang/invoke/MethodHandle" ∧ yX6_read.cls ≠ "java/lang/invoke/VarHandle" ∧ (parseMethodDescriptor yX6_read.desc).map (fun d => d.parameters.length) = some 0 := by decide +kernel
theorem hsX0_reads_ndX20 : yX0_reads.cls ≠ "java/lang/invoke/MethodHandle" ∧ yX0_reads.cls ≠ "java/lang/invoke/VarHandle" ∧ (parseMethodDescriptor yX0_reads.desc).map (fun d => d.parameters.length) = some 1 := by decide +kernel
theorem hsX0_tellsOrder : yX0_tellsOrder.cls ≠ "java/lang/invoke/MethodHandle" ∧ yX0_tellsOrder.cls ≠ "java/lang/invoke/VarHandle" ∧ (parseMethodDescriptor yX0_tellsOrder.desc).map (fun d => d.parameters.length) = some 2 := by decide +kernel
theorem hsX0_runsOrder : yX0_runsOrder.cls ≠ "java/lang/invoke/MethodHandle" ∧ yX0_runsOrder.cls ≠ "java/lang/invoke/VarHandle" ∧ (parseMethodDescriptor yX0_runsOrder.desc).map (fun d => d.parameters.length) = some 1 := by decide +kernel
theorem hsX0_putsBack : yX0_putsBack.cls ≠ "java/lang/invoke/MethodHandle" ∧ yX0_putsBack.cls ≠ "java/lang/invoke/VarHandle" ∧ (parseMethodDescriptor yX0_putsBack.desc).map (fun d => d.parameters.length) = some 1 := by decide +kernel
theorem hsX0_orders : yX0_orders.cls ≠ "java/lang/invoke/MethodHandle" ∧ yX0_orders.cls ≠ "java/lang/invoke/VarHandle" ∧ (parseMethodDescriptor yX0_orders.desc).map (fun d => d.parameters.length) = some 0 := by decide +kernel
theorem hsX0_draw : yX0_draw.cls ≠ "java/lang/invoke/MethodHandle" ∧ yX0_draw.cls ≠ "java/lang/invoke/VarHandle" ∧ (parseMethodDescriptor yX0_draw.desc).map (fun d => d.parameters.length) = some 1 := by decide +kernel
theorem hsX0_decades : yX0_decades.cls ≠ "java/lang/invoke/MethodHandle" ∧ yX0_decades.cls ≠ "java/lang/invoke/VarHandle" ∧ (parseMethodDescriptor yX0_decades.desc).map (fun d => d.parameters.length) = some 2 := by decide +kernel
theorem hsX0_drawn : yX0_drawn.cls ≠ "java/lang/invoke/MethodHandle" ∧ yX0_drawn.cls ≠ "java/lang/invoke/VarHandle" ∧ (parseMethodDescriptor yX0_drawn.desc).map (fun d => d.parameters.length) = some 2 := by decide +kernel
theorem hsX0_count : yX0_count.cls ≠ "java/lang/invoke/MethodHandle" ∧ yX0_count.cls ≠ "java/lang/invoke/VarHandle" ∧ (parseMethodDescriptor yX0_count.desc).map (fun d => d.parameters.length) = some 1 := by decide +kernel
theorem hsX0_status : yX0_status.cls ≠ "java/lang/invoke/MethodHandle" ∧ yX0_status.cls ≠ "java/lang/invoke/VarHandle" ∧ (parseMethodDescriptor yX0_status.desc).map (fun d => d.parameters.length) = some 0 := by decide +kernel
