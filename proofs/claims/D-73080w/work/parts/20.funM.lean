/-! LostLanesModel: functions; printed by gen.py -/
/- LostLanesModel.<init>()V -/
def fX5_init_b400 (T : xT) (N : xT) (Z : Nat) (S : Nat) (I : xI) (L : xL) (R : xR) (x0 : Nat) (z0 : Nat) (z1 : Nat) : Option (xT × xT × Nat × Nat × xI × xL × xR) :=
  tg T 6 z0 <|
  nm (uR R z0 55 (some z1)) fun R2 =>
  tg T 6 x0 <|
  nm (uI I x0 56 (-1 : Int32)) fun I4 =>
  nm (uI I4 x0 57 (-1 : Int32)) fun I5 =>
  (R2 x0 3).bind fun a6 =>
  rA T N 100 a6 (ii 4) fun j7 =>
  nm (uI I5 a6 j7 (-1 : Int32)) fun I8 =>
  rA T N 100 a6 (ii 6) fun j9 =>
  nm (uI I8 a6 j9 (ii 1)) fun I10 =>
  some (T, N, Z, S, I10, L, R2)
def fX5_init_b387 (T : xT) (N : xT) (Z : Nat) (S : Nat) (I : xI) (L : xL) (R : xR) (x0 : Nat) (z0 : Nat) (z1 : Nat) : Option (xT × xT × Nat × Nat × xI × xL × xR) :=
  tg T 6 z0 <|
  nm (uR R z0 49 (some z1)) fun R2 =>
  tg T 6 x0 <|
  nm (uI I x0 52 (-1 : Int32)) fun I4 =>
  nm (uT T Z 100) fun T5 =>
  nm (uT N Z ((ii 21)).toNatClampNeg) fun N6 =>
  nm (Z + 1) fun Z7 =>
  nm (S + ((ii 21)).toNatClampNeg) fun S8 =>
  fX5_init_b400 T5 N6 Z7 S8 I4 L R2 x0 x0 Z
def fX5_init_b355 (T : xT) (N : xT) (Z : Nat) (S : Nat) (I : xI) (L : xL) (R : xR) (x0 : Nat) (z0 : Nat) (z1 : Nat) : Option (xT × xT × Nat × Nat × xI × xL × xR) :=
  rA T N 103 z1 (ii 0) fun j1 =>
  nm (uL L z1 j1 (jj 773263538)) fun L2 =>
  rA T N 103 z1 (ii 1) fun j3 =>
  nm (uL L2 z1 j3 (jj 3673)) fun L4 =>
  rA T N 103 z1 (ii 2) fun j5 =>
  nm (uL L4 z1 j5 (jj 398372)) fun L6 =>
  rA T N 103 z1 (ii 3) fun j7 =>
  nm (uL L6 z1 j7 (jj 525939)) fun L8 =>
  tg T 6 z0 <|
  nm (uR R z0 48 (some z1)) fun R10 =>
  nm (uT T Z 100) fun T11 =>
  nm (uT N Z ((ii 96)).toNatClampNeg) fun N12 =>
  nm (Z + 1) fun Z13 =>
  nm (S + ((ii 96)).toNatClampNeg) fun S14 =>
  fX5_init_b387 T11 N12 Z13 S14 I L8 R10 x0 x0 Z
def fX5_init_b348 (T : xT) (N : xT) (Z : Nat) (S : Nat) (I : xI) (L : xL) (R : xR) (x0 : Nat) (z0 : Nat) (z1 : Nat) : Option (xT × xT × Nat × Nat × xI × xL × xR) :=
  tg T 6 z0 <|
  nm (uR R z0 47 (some z1)) fun R2 =>
  nm (uT T Z 103) fun T3 =>
  nm (uT N Z ((ii 4)).toNatClampNeg) fun N4 =>
  nm (Z + 1) fun Z5 =>
  nm (S + ((ii 4)).toNatClampNeg) fun S6 =>
  fX5_init_b355 T3 N4 Z5 S6 I L R2 x0 x0 Z
def fX5_init_b340 (T : xT) (N : xT) (Z : Nat) (S : Nat) (I : xI) (L : xL) (R : xR) (x0 : Nat) (z0 : Nat) (z1 : Nat) : Option (xT × xT × Nat × Nat × xI × xL × xR) :=
  tg T 6 z0 <|
  nm (uR R z0 46 (some z1)) fun R2 =>
  nm (uT T Z 103) fun T3 =>
  nm (uT N Z ((ii 21)).toNatClampNeg) fun N4 =>
  nm (Z + 1) fun Z5 =>
  nm (S + ((ii 21)).toNatClampNeg) fun S6 =>
  fX5_init_b348 T3 N4 Z5 S6 I L R2 x0 x0 Z
def fX5_init_b331 (T : xT) (N : xT) (Z : Nat) (S : Nat) (I : xI) (L : xL) (R : xR) (x0 : Nat) (z0 : Nat) (z1 : Nat) : Option (xT × xT × Nat × Nat × xI × xL × xR) :=
  tg T 6 z0 <|
  nm (uR R z0 45 (some z1)) fun R2 =>
  nm (uT T Z 100) fun T3 =>
  nm (uT N Z ((ii 256)).toNatClampNeg) fun N4 =>
  nm (Z + 1) fun Z5 =>
  nm (S + ((ii 256)).toNatClampNeg) fun S6 =>
  fX5_init_b340 T3 N4 Z5 S6 I L R2 x0 x0 Z
def fX5_init_b323 (T : xT) (N : xT) (Z : Nat) (S : Nat) (I : xI) (L : xL) (R : xR) (x0 : Nat) (z0 : Nat) (z1 : Nat) : Option (xT × xT × Nat × Nat × xI × xL × xR) :=
  tg T 6 z0 <|
  nm (uR R z0 44 (some z1)) fun R2 =>
  nm (uT T Z 100) fun T3 =>
  nm (uT N Z ((ii 11)).toNatClampNeg) fun N4 =>
  nm (Z + 1) fun Z5 =>
  nm (S + ((ii 11)).toNatClampNeg) fun S6 =>
  fX5_init_b331 T3 N4 Z5 S6 I L R2 x0 x0 Z
def fX5_init_b315 (T : xT) (N : xT) (Z : Nat) (S : Nat) (I : xI) (L : xL) (R : xR) (x0 : Nat) (z0 : Nat) (z1 : Nat) : Option (xT × xT × Nat × Nat × xI × xL × xR) :=
  tg T 6 z0 <|
  nm (uR R z0 43 (some z1)) fun R2 =>
  nm (uT T Z 100) fun T3 =>
  nm (uT N Z ((ii 8)).toNatClampNeg) fun N4 =>
  nm (Z + 1) fun Z5 =>
  nm (S + ((ii 8)).toNatClampNeg) fun S6 =>
  fX5_init_b323 T3 N4 Z5 S6 I L R2 x0 x0 Z
def fX5_init_b307 (T : xT) (N : xT) (Z : Nat) (S : Nat) (I : xI) (L : xL) (R : xR) (x0 : Nat) (z0 : Nat) (z1 : Nat) : Option (xT × xT × Nat × Nat × xI × xL × xR) :=
  tg T 6 z0 <|
  nm (uR R z0 42 (some z1)) fun R2 =>
  nm (uT T Z 100) fun T3 =>
  nm (uT N Z ((ii 8)).toNatClampNeg) fun N4 =>
  nm (Z + 1) fun Z5 =>
  nm (S + ((ii 8)).toNatClampNeg) fun S6 =>
  fX5_init_b315 T3 N4 Z5 S6 I L R2 x0 x0 Z
def fX5_init_b299 (T : xT) (N : xT) (Z : Nat) (S : Nat) (I : xI) (L : xL) (R : xR) (x0 : Nat) (z0 : Nat) (z1 : Nat) : Option (xT × xT × Nat × Nat × xI × xL × xR) :=
  tg T 6 z0 <|
  nm (uR R z0 41 (some z1)) fun R2 =>
  nm (uT T Z 100) fun T3 =>
  nm (uT N Z ((ii 64)).toNatClampNeg) fun N4 =>
  nm (Z + 1) fun Z5 =>
  nm (S + ((ii 64)).toNatClampNeg) fun S6 =>
  fX5_init_b307 T3 N4 Z5 S6 I L R2 x0 x0 Z
def fX5_init_b292 (T : xT) (N : xT) (Z : Nat) (S : Nat) (I : xI) (L : xL) (R : xR) (x0 : Nat) (z0 : Nat) (z1 : Nat) : Option (xT × xT × Nat × Nat × xI × xL × xR) :=
  tg T 6 z0 <|
  nm (uR R z0 37 (some z1)) fun R2 =>
  nm (uT T Z 100) fun T3 =>
  nm (uT N Z ((ii 4)).toNatClampNeg) fun N4 =>
  nm (Z + 1) fun Z5 =>
  nm (S + ((ii 4)).toNatClampNeg) fun S6 =>
  fX5_init_b299 T3 N4 Z5 S6 I L R2 x0 x0 Z
def fX5_init_b283 (T : xT) (N : xT) (Z : Nat) (S : Nat) (I : xI) (L : xL) (R : xR) (x0 : Nat) (z0 : Nat) (z1 : Nat) : Option (xT × xT × Nat × Nat × xI × xL × xR) :=
  tg T 6 z0 <|
  nm (uR R z0 36 (some z1)) fun R2 =>
  nm (uT T Z 103) fun T3 =>
  nm (uT N Z ((ii 400)).toNatClampNeg) fun N4 =>
  nm (Z + 1) fun Z5 =>
  nm (S + ((ii 400)).toNatClampNeg) fun S6 =>
  fX5_init_b292 T3 N4 Z5 S6 I L R2 x0 x0 Z
def fX5_init_b275 (T : xT) (N : xT) (Z : Nat) (S : Nat) (I : xI) (L : xL) (R : xR) (x0 : Nat) (z0 : Nat) (z1 : Nat) : Option (xT × xT × Nat × Nat × xI × xL × xR) :=
  tg T 6 z0 <|
  nm (uR R z0 35 (some z1)) fun R2 =>
  nm (uT T Z 103) fun T3 =>
  nm (uT N Z ((ii 13)).toNatClampNeg) fun N4 =>
  nm (Z + 1) fun Z5 =>
  nm (S + ((ii 13)).toNatClampNeg) fun S6 =>
  fX5_init_b283 T3 N4 Z5 S6 I L R2 x0 x0 Z
def fX5_init_b249 (T : xT) (N : xT) (Z : Nat) (S : Nat) (I : xI) (L : xL) (R : xR) (x0 : Nat) (z0 : Nat) (z1 : Nat) : Option (xT × xT × Nat × Nat × xI × xL × xR) :=
  rA T N 103 z1 (ii 0) fun j1 =>
  nm (uL L z1 j1 (jj 21678547)) fun L2 =>
  rA T N 103 z1 (ii 1) fun j3 =>
  nm (uL L2 z1 j3 (jj 624435)) fun L4 =>
  rA T N 103 z1 (ii 2) fun j5 =>
  nm (uL L4 z1 j5 (jj 67155)) fun L6 =>
  tg T 6 z0 <|
  nm (uR R z0 33 (some z1)) fun R8 =>
  nm (uT T Z 103) fun T9 =>
  nm (uT N Z ((ii 13)).toNatClampNeg) fun N10 =>
  nm (Z + 1) fun Z11 =>
  nm (S + ((ii 13)).toNatClampNeg) fun S12 =>
  fX5_init_b275 T9 N10 Z11 S12 I L6 R8 x0 x0 Z
def fX5_init_b199 (T : xT) (N : xT) (Z : Nat) (S : Nat) (I : xI) (L : xL) (R : xR) (x0 : Nat) (z0 : Nat) (z1 : Nat) : Option (xT × xT × Nat × Nat × xI × xL × xR) :=
  rA T N 103 z1 (ii 0) fun j1 =>
  nm (uL L z1 j1 (jj 278194)) fun L2 =>
  rA T N 103 z1 (ii 1) fun j3 =>
  nm (uL L2 z1 j3 (jj 146885)) fun L4 =>
  rA T N 103 z1 (ii 2) fun j5 =>
  nm (uL L4 z1 j5 (jj 404362868)) fun L6 =>
  rA T N 103 z1 (ii 3) fun j7 =>
  nm (uL L6 z1 j7 (jj 14726308)) fun L8 =>
  rA T N 103 z1 (ii 4) fun j9 =>
  nm (uL L8 z1 j9 (jj 369811)) fun L10 =>
  rA T N 103 z1 (ii 5) fun j11 =>
  nm (uL L10 z1 j11 (jj 52)) fun L12 =>
  rA T N 103 z1 (ii 6) fun j13 =>
  nm (uL L12 z1 j13 (jj 17172101)) fun L14 =>
  tg T 6 z0 <|
  nm (uR R z0 32 (some z1)) fun R16 =>
  nm (uT T Z 103) fun T17 =>
  nm (uT N Z ((ii 3)).toNatClampNeg) fun N18 =>
  nm (Z + 1) fun Z19 =>
  nm (S + ((ii 3)).toNatClampNeg) fun S20 =>
  fX5_init_b249 T17 N18 Z19 S20 I L14 R16 x0 x0 Z
def fX5_init_b134 (T : xT) (N : xT) (Z : Nat) (S : Nat) (I : xI) (L : xL) (R : xR) (x0 : Nat) (z0 : Nat) (z1 : Nat) : Option (xT × xT × Nat × Nat × xI × xL × xR) :=
  rA T N 103 z1 (ii 0) fun j1 =>
  nm (uL L z1 j1 (jj 3417476)) fun L2 =>
  rA T N 103 z1 (ii 1) fun j3 =>
  nm (uL L2 z1 j3 (jj 1253)) fun L4 =>
  rA T N 103 z1 (ii 2) fun j5 =>
  nm (uL L4 z1 j5 (jj 394693)) fun L6 =>
  rA T N 103 z1 (ii 3) fun j7 =>
  nm (uL L6 z1 j7 (jj 409031)) fun L8 =>
  rA T N 103 z1 (ii 4) fun j9 =>
  nm (uL L8 z1 j9 (jj 20225300)) fun L10 =>
  rA T N 103 z1 (ii 5) fun j11 =>
  nm (uL L10 z1 j11 (jj 116996274)) fun L12 =>
  rA T N 103 z1 (ii 6) fun j13 =>
  nm (uL L12 z1 j13 (jj 394868)) fun L14 =>
  rA T N 103 z1 (ii 7) fun j15 =>
  nm (uL L14 z1 j15 (jj 278194)) fun L16 =>
  rA T N 103 z1 (ii 8) fun j17 =>
  nm (uL L16 z1 j17 (jj 441828)) fun L18 =>
  tg T 6 z0 <|
  nm (uR R z0 31 (some z1)) fun R20 =>
  nm (uT T Z 103) fun T21 =>
  nm (uT N Z ((ii 7)).toNatClampNeg) fun N22 =>
  nm (Z + 1) fun Z23 =>
  nm (S + ((ii 7)).toNatClampNeg) fun S24 =>
  fX5_init_b199 T21 N22 Z23 S24 I L18 R20 x0 x0 Z
def fX5_init_b126 (T : xT) (N : xT) (Z : Nat) (S : Nat) (I : xI) (L : xL) (R : xR) (x0 : Nat) (z0 : Nat) (z1 : Nat) : Option (xT × xT × Nat × Nat × xI × xL × xR) :=
  tg T 6 z0 <|
  nm (uR R z0 28 (some z1)) fun R2 =>
  nm (uT T Z 103) fun T3 =>
  nm (uT N Z ((ii 9)).toNatClampNeg) fun N4 =>
  nm (Z + 1) fun Z5 =>
  nm (S + ((ii 9)).toNatClampNeg) fun S6 =>
  fX5_init_b134 T3 N4 Z5 S6 I L R2 x0 x0 Z
def fX5_init_b117 (T : xT) (N : xT) (Z : Nat) (S : Nat) (I : xI) (L : xL) (R : xR) (x0 : Nat) (z0 : Nat) (z1 : Nat) : Option (xT × xT × Nat × Nat × xI × xL × xR) :=
  tg T 6 z0 <|
  nm (uR R z0 27 (some z1)) fun R2 =>
  nm (uT T Z 100) fun T3 =>
  nm (uT N Z ((ii 400)).toNatClampNeg) fun N4 =>
  nm (Z + 1) fun Z5 =>
  nm (S + ((ii 400)).toNatClampNeg) fun S6 =>
  fX5_init_b126 T3 N4 Z5 S6 I L R2 x0 x0 Z
def fX5_init_b108 (T : xT) (N : xT) (Z : Nat) (S : Nat) (I : xI) (L : xL) (R : xR) (x0 : Nat) (z0 : Nat) (z1 : Nat) : Option (xT × xT × Nat × Nat × xI × xL × xR) :=
  tg T 6 z0 <|
  nm (uR R z0 25 (some z1)) fun R2 =>
  nm (uT T Z 100) fun T3 =>
  nm (uT N Z ((ii 400)).toNatClampNeg) fun N4 =>
  nm (Z + 1) fun Z5 =>
  nm (S + ((ii 400)).toNatClampNeg) fun S6 =>
  fX5_init_b117 T3 N4 Z5 S6 I L R2 x0 x0 Z
def fX5_init_b99 (T : xT) (N : xT) (Z : Nat) (S : Nat) (I : xI) (L : xL) (R : xR) (x0 : Nat) (z0 : Nat) (z1 : Nat) : Option (xT × xT × Nat × Nat × xI × xL × xR) :=
  tg T 6 z0 <|
  nm (uR R z0 24 (some z1)) fun R2 =>
  nm (uT T Z 100) fun T3 =>
  nm (uT N Z ((ii 400)).toNatClampNeg) fun N4 =>
  nm (Z + 1) fun Z5 =>
  nm (S + ((ii 400)).toNatClampNeg) fun S6 =>
  fX5_init_b108 T3 N4 Z5 S6 I L R2 x0 x0 Z
def fX5_init_b90 (T : xT) (N : xT) (Z : Nat) (S : Nat) (I : xI) (L : xL) (R : xR) (x0 : Nat) (z0 : Nat) (z1 : Nat) : Option (xT × xT × Nat × Nat × xI × xL × xR) :=
  tg T 6 z0 <|
  nm (uR R z0 22 (some z1)) fun R2 =>
  nm (uT T Z 100) fun T3 =>
  nm (uT N Z ((ii 400)).toNatClampNeg) fun N4 =>
  nm (Z + 1) fun Z5 =>
  nm (S + ((ii 400)).toNatClampNeg) fun S6 =>
  fX5_init_b99 T3 N4 Z5 S6 I L R2 x0 x0 Z
def fX5_init_b77 (T : xT) (N : xT) (Z : Nat) (S : Nat) (I : xI) (L : xL) (R : xR) (x0 : Nat) (z0 : Nat) (z1 : Nat) : Option (xT × xT × Nat × Nat × xI × xL × xR) :=
  tg T 6 z0 <|
  nm (uR R z0 12 (some z1)) fun R2 =>
  tg T 6 x0 <|
  nm (uI I x0 18 (-1 : Int32)) fun I4 =>
  nm (uT T Z 100) fun T5 =>
  nm (uT N Z ((ii 96)).toNatClampNeg) fun N6 =>
  nm (Z + 1) fun Z7 =>
  nm (S + ((ii 96)).toNatClampNeg) fun S8 =>
  fX5_init_b90 T5 N6 Z7 S8 I4 L R2 x0 x0 Z
def fX5_init_b68 (T : xT) (N : xT) (Z : Nat) (S : Nat) (I : xI) (L : xL) (R : xR) (x0 : Nat) (z0 : Nat) (z1 : Nat) : Option (xT × xT × Nat × Nat × xI × xL × xR) :=
  tg T 6 z0 <|
  nm (uR R z0 10 (some z1)) fun R2 =>
  nm (uT T Z 100) fun T3 =>
  nm (uT N Z ((ii 400)).toNatClampNeg) fun N4 =>
  nm (Z + 1) fun Z5 =>
  nm (S + ((ii 400)).toNatClampNeg) fun S6 =>
  fX5_init_b77 T3 N4 Z5 S6 I L R2 x0 x0 Z
def fX5_init_b60 (T : xT) (N : xT) (Z : Nat) (S : Nat) (I : xI) (L : xL) (R : xR) (x0 : Nat) (z0 : Nat) (z1 : Nat) : Option (xT × xT × Nat × Nat × xI × xL × xR) :=
  tg T 6 z0 <|
  nm (uR R z0 9 (some z1)) fun R2 =>
  nm (uT T Z 100) fun T3 =>
  nm (uT N Z ((ii 16)).toNatClampNeg) fun N4 =>
  nm (Z + 1) fun Z5 =>
  nm (S + ((ii 16)).toNatClampNeg) fun S6 =>
  fX5_init_b68 T3 N4 Z5 S6 I L R2 x0 x0 Z
def fX5_init_b51 (T : xT) (N : xT) (Z : Nat) (S : Nat) (I : xI) (L : xL) (R : xR) (x0 : Nat) (z0 : Nat) (z1 : Nat) : Option (xT × xT × Nat × Nat × xI × xL × xR) :=
  tg T 6 z0 <|
  nm (uR R z0 7 (some z1)) fun R2 =>
  nm (uT T Z 100) fun T3 =>
  nm (uT N Z ((ii 336)).toNatClampNeg) fun N4 =>
  nm (Z + 1) fun Z5 =>
  nm (S + ((ii 336)).toNatClampNeg) fun S6 =>
  fX5_init_b60 T3 N4 Z5 S6 I L R2 x0 x0 Z
def fX5_init_b43 (T : xT) (N : xT) (Z : Nat) (S : Nat) (I : xI) (L : xL) (R : xR) (x0 : Nat) (z0 : Nat) (z1 : Nat) : Option (xT × xT × Nat × Nat × xI × xL × xR) :=
  tg T 6 z0 <|
  nm (uR R z0 6 (some z1)) fun R2 =>
  nm (uT T Z 100) fun T3 =>
  nm (uT N Z ((ii 16)).toNatClampNeg) fun N4 =>
  nm (Z + 1) fun Z5 =>
  nm (S + ((ii 16)).toNatClampNeg) fun S6 =>
  fX5_init_b51 T3 N4 Z5 S6 I L R2 x0 x0 Z
def fX5_init_b34 (T : xT) (N : xT) (Z : Nat) (S : Nat) (I : xI) (L : xL) (R : xR) (x0 : Nat) (z0 : Nat) (z1 : Nat) : Option (xT × xT × Nat × Nat × xI × xL × xR) :=
  tg T 6 z0 <|
  nm (uR R z0 5 (some z1)) fun R2 =>
  nm (uT T Z 100) fun T3 =>
  nm (uT N Z ((ii 378)).toNatClampNeg) fun N4 =>
  nm (Z + 1) fun Z5 =>
  nm (S + ((ii 378)).toNatClampNeg) fun S6 =>
  fX5_init_b43 T3 N4 Z5 S6 I L R2 x0 x0 Z
def fX5_init_b27 (T : xT) (N : xT) (Z : Nat) (S : Nat) (I : xI) (L : xL) (R : xR) (x0 : Nat) (z0 : Nat) (z1 : Nat) : Option (xT × xT × Nat × Nat × xI × xL × xR) :=
  tg T 6 z0 <|
  nm (uR R z0 4 (some z1)) fun R2 =>
  nm (uT T Z 102) fun T3 =>
  nm (uT N Z ((ii 2)).toNatClampNeg) fun N4 =>
  nm (Z + 1) fun Z5 =>
  nm (S + ((ii 2)).toNatClampNeg) fun S6 =>
  fX5_init_b34 T3 N4 Z5 S6 I L R2 x0 x0 Z
def fX5_init_b18 (T : xT) (N : xT) (Z : Nat) (S : Nat) (I : xI) (L : xL) (R : xR) (x0 : Nat) (z0 : Nat) (z1 : Nat) : Option (xT × xT × Nat × Nat × xI × xL × xR) :=
  tg T 6 z0 <|
  nm (uR R z0 3 (some z1)) fun R2 =>
  nm (uT T Z 100) fun T3 =>
  nm (uT N Z ((ii 10952)).toNatClampNeg) fun N4 =>
  nm (Z + 1) fun Z5 =>
  nm (S + ((ii 10952)).toNatClampNeg) fun S6 =>
  fX5_init_b27 T3 N4 Z5 S6 I L R2 x0 x0 Z
def fX5_init_b9 (T : xT) (N : xT) (Z : Nat) (S : Nat) (I : xI) (L : xL) (R : xR) (x0 : Nat) (z0 : Nat) (z1 : Nat) : Option (xT × xT × Nat × Nat × xI × xL × xR) :=
  tg T 6 z0 <|
  nm (uR R z0 2 (some z1)) fun R2 =>
  nm (uT T Z 100) fun T3 =>
  nm (uT N Z ((ii 5476)).toNatClampNeg) fun N4 =>
  nm (Z + 1) fun Z5 =>
  nm (S + ((ii 5476)).toNatClampNeg) fun S6 =>
  fX5_init_b18 T3 N4 Z5 S6 I L R2 x0 x0 Z
def fX5_init (T : xT) (N : xT) (Z : Nat) (S : Nat) (I : xI) (L : xL) (R : xR) (x0 : Nat) : Option (xT × xT × Nat × Nat × xI × xL × xR) :=
  nm (uT T Z 100) fun T1 =>
  nm (uT N Z ((ii 7)).toNatClampNeg) fun N2 =>
  nm (Z + 1) fun Z3 =>
  nm (S + ((ii 7)).toNatClampNeg) fun S4 =>
  fX5_init_b9 T1 N2 Z3 S4 I L R x0 x0 Z
/- LostLanesModel.tell(I)I -/
def fX5_tell_b10 (T : xT) (N : xT) (I : xI) (R : xR) (x0 : Nat) (x1 : Int32) (z0 : Nat) (z1 : Int32) : Option (Int32 × xI) :=
  tg T 6 z0 <|
  nm (uI I z0 1 z1) fun I2 =>
  if (ii 0) ≤ x1 then
    some (x1, I2)
  else
    tg T 6 x0 <|
    (R x0 2).bind fun a5 =>
    rA T N 100 a5 (-x1) fun j6 =>
    nm (uI I2 a5 j6 ((I2 a5 j6) + (ii 1))) fun I7 =>
    some (x1, I7)
def fX5_tell (T : xT) (N : xT) (I : xI) (R : xR) (x0 : Nat) (x1 : Int32) : Option (Int32 × xI) :=
  if (ii 0) ≤ x1 then
    fX5_tell_b10 T N I R x0 x1 x0 (ii 0)
  else
    fX5_tell_b10 T N I R x0 x1 x0 x1
/- LostLanesModel.putBack(I)V -/
def fX5_putBack_b2 (nf : Nat) (T : xT) (N : xT) (R : xR) : Nat → xI → Nat → Int32 → Int32 → Option (xI)
  | 0, _, _, _, _ => none
  | k + 1, I, x0, x1, x2 =>
    if (ii 21) ≤ x2 then
      some I
    else
      tg T 6 x0 <|
      (R x0 3).bind fun a3 =>
      (R x0 6).bind fun a4 =>
      rA T N 100 a4 (((ii 21) * x1) + x2) fun j5 =>
      rA T N 100 a3 ((ii 5) + x2) fun j6 =>
      nm (uI I a3 j6 (I a4 j5)) fun I7 =>
      nm (x2 + (ii 1)) fun u8 =>
      fX5_putBack_b2 nf T N R k I7 x0 x1 u8
def fX5_putBack (nf : Nat) (T : xT) (N : xT) (I : xI) (R : xR) (x0 : Nat) (x1 : Int32) : Option (xI) :=
  fX5_putBack_b2 nf T N R nf I x0 x1 (ii 0)
/- LostLanesModel.undo()I -/
def fX5_undo (nf : Nat) (T : xT) (N : xT) (I : xI) (R : xR) (x0 : Nat) : Option (Int32 × xI) :=
  tg T 6 x0 <|
  nm (uI I x0 0 (ii 0)) fun I2 =>
  if (I2 x0 8) = (ii 0) then
    b2 (fX5_tell T N I2 R x0 (-3 : Int32)) fun r12 I13 =>
    some (r12, I13)
  else
    nm (uI I2 x0 8 ((I2 x0 8) - (ii 1))) fun I4 =>
    (fX5_putBack nf T N I4 R x0 (I4 x0 8)).bind fun I5 =>
    (R x0 7).bind fun a7 =>
    rA T N 100 a7 (I5 x0 8) fun j8 =>
    b2 (fX5_tell T N I5 R x0 (I5 a7 j8)) fun r9 I10 =>
    some (r9, I10)
/- LostLanesModel.in(JJJ)Z -/
def fX5_in (x0 : Int64) (x2 : Int64) (x4 : Int64) : Option (Int32) :=
  if x0 < x2 then
    some (ii 0)
  else
    if x4 < x0 then
      some (ii 0)
    else
      some (ii 1)
/- LostLanesModel.image(I)I -/
def fX5_image_b23 (nf : Nat) (T : xT) (N : xT) (R : xR) : Nat → xI → Nat → Int32 → Int32 → Option (Int32 × xI)
  | 0, _, _, _, _ => none
  | k + 1, I, x0, x1, x2 =>
    if (ii 5476) ≤ x2 then
      tg T 6 x0 <|
      (R x0 5).bind fun a3 =>
      rA T N 102 a3 x1 fun j4 =>
      nm (uI I a3 j4 (ii 1)) fun I5 =>
      b2 (fX5_tell T N I5 R x0 (ii 0)) fun r6 I7 =>
      some (r6, I7)
    else
      tg T 6 x0 <|
      (R x0 4).bind fun a10 =>
      (R x0 3).bind fun a11 =>
      rA T N 100 a11 x2 fun j12 =>
      rA T N 100 a10 (((ii 5476) * x1) + x2) fun j13 =>
      nm (uI I a10 j13 (I a11 j12)) fun I14 =>
      nm (x2 + (ii 1)) fun u15 =>
      fX5_image_b23 nf T N R k I14 x0 x1 u15
def fX5_image (nf : Nat) (T : xT) (N : xT) (I : xI) (R : xR) (x0 : Nat) (x1 : Int32) : Option (Int32 × xI) :=
  tg T 6 x0 <|
  nm (uI I x0 0 (ii 0)) fun I2 =>
  (fX5_in ((x1).toInt64) (jj 0) (jj 1)).bind fun r3 =>
  if r3 = (ii 0) then
    b2 (fX5_tell T N I2 R x0 (-1 : Int32)) fun r6 I7 =>
    some (r6, I7)
  else
    fX5_image_b23 nf T N R nf I2 x0 x1 (ii 0)
/- LostLanesModel.lasting(I)I -/
def fX5_lasting_b13 (T : xT) (N : xT) (I : xI) (R : xR) (x0 : Nat) (x1 : Int32) (z0 : Nat) (z1 : Int32) : Option (Int32 × xI) :=
  tg T 6 z0 <|
  nm (uI I z0 8 z1) fun I2 =>
  tg T 6 x0 <|
  b2 (fX5_tell T N I2 R x0 x1) fun r3 I4 =>
  some (r3, I4)
def fX5_lasting (T : xT) (N : xT) (I : xI) (R : xR) (x0 : Nat) (x1 : Int32) : Option (Int32 × xI) :=
  if (ii 0) ≤ x1 then
    fX5_lasting_b13 T N I R x0 x1 x0 (ii 0)
  else
    tg T 6 x0 <|
    fX5_lasting_b13 T N I R x0 x1 x0 (I x0 8)
/- LostLanesModel.back(I)I -/
def fX5_back_b39 (nf : Nat) (T : xT) (N : xT) (R : xR) : Nat → xI → Nat → Int32 → Int32 → Option (Int32 × xI)
  | 0, _, _, _, _ => none
  | k + 1, I, x0, x1, x2 =>
    if (ii 5476) ≤ x2 then
      tg T 6 x0 <|
      b2 (fX5_lasting T N I R x0 (ii 0)) fun r2 I3 =>
      some (r2, I3)
    else
      tg T 6 x0 <|
      (R x0 3).bind fun a7 =>
      (R x0 4).bind fun a8 =>
      rA T N 100 a8 (((ii 5476) * x1) + x2) fun j9 =>
      rA T N 100 a7 x2 fun j10 =>
      nm (uI I a7 j10 (I a8 j9)) fun I11 =>
      nm (x2 + (ii 1)) fun u12 =>
      fX5_back_b39 nf T N R k I11 x0 x1 u12
def fX5_back (nf : Nat) (T : xT) (N : xT) (I : xI) (R : xR) (x0 : Nat) (x1 : Int32) : Option (Int32 × xI) :=
  tg T 6 x0 <|
  nm (uI I x0 0 (ii 0)) fun I2 =>
  (fX5_in ((x1).toInt64) (jj 0) (jj 1)).bind fun r3 =>
  if r3 = (ii 0) then
    b2 (fX5_tell T N I2 R x0 (-1 : Int32)) fun r12 I13 =>
    some (r12, I13)
  else
    (R x0 5).bind fun a6 =>
    rA T N 102 a6 x1 fun j7 =>
    if (I2 a6 j7) = (ii 0) then
      b2 (fX5_tell T N I2 R x0 (-2 : Int32)) fun r9 I10 =>
      some (r9, I10)
    else
      fX5_back_b39 nf T N R nf I2 x0 x1 (ii 0)
/- LostLanesModel.isCorner(I)Z -/
def fX5_isCorner (x0 : Int32) : Option (Int32) :=
  (fX5_in ((x0).toInt64) (jj 0) (jj 7)).bind fun r1 =>
  chk (zb r1) <|
  some r1
/- LostLanesModel.come(IIII)I -/
def fX5_come (T : xT) (N : xT) (I : xI) (R : xR) (x0 : Nat) (x1 : Int32) (x2 : Int32) (x3 : Int32) (x4 : Int32) : Option (Int32 × xI) :=
  (fX5_isCorner x1).bind fun r1 =>
  if r1 = (ii 0) then
    some ((-1 : Int32), I)
  else
    (fX5_isCorner x2).bind fun r4 =>
    if r4 = (ii 0) then
      some ((-1 : Int32), I)
    else
      if x1 = x2 then
        some ((-1 : Int32), I)
      else
        (fX5_in ((x3).toInt64) (jj 1) (jj 9)).bind fun r8 =>
        if r8 = (ii 0) then
          some ((-1 : Int32), I)
        else
          (fX5_in ((x4).toInt64) (jj 0) (jj 4)).bind fun r11 =>
          if r11 = (ii 0) then
            some ((-1 : Int32), I)
          else
            tg T 6 x0 <|
            (R x0 3).bind fun a15 =>
            rA T N 100 a15 (ii 0) fun j16 =>
            nm (I a15 j16) fun u17 =>
            if u17 = (ii 10) then
              some ((-5 : Int32), I)
            else
              rA T N 100 a15 ((ii 26) + u17) fun j19 =>
              nm (uI I a15 j19 x1) fun I20 =>
              rA T N 100 a15 ((ii 36) + u17) fun j21 =>
              nm (uI I20 a15 j21 x2) fun I22 =>
              rA T N 100 a15 ((ii 46) + u17) fun j23 =>
              nm (uI I22 a15 j23 x3) fun I24 =>
              rA T N 100 a15 ((ii 56) + u17) fun j25 =>
              nm (uI I24 a15 j25 x4) fun I26 =>
              rA T N 100 a15 ((ii 8) + u17) fun j27 =>
              nm (uI I26 a15 j27 (-1 : Int32)) fun I28 =>
              nm (uI I28 a15 j16 ((I28 a15 j16) + (ii 1))) fun I29 =>
              some (u17, I29)
/- LostLanesModel.lane(IIII)I -/
def fX5_lane (T : xT) (N : xT) (I : xI) (R : xR) (x0 : Nat) (x1 : Int32) (x2 : Int32) (x3 : Int32) (x4 : Int32) : Option (Int32 × xI) :=
  tg T 6 x0 <|
  nm (uI I x0 0 (ii 0)) fun I2 =>
  b2 (fX5_come T N I2 R x0 x1 x2 x3 x4) fun r3 I4 =>
  b2 (fX5_lasting T N I4 R x0 r3) fun r6 I7 =>
  some (r6, I7)
/- LostLanesModel.isLane(I)Z -/
def fX5_isLane (T : xT) (N : xT) (I : xI) (R : xR) (x0 : Nat) (x1 : Int32) : Option (Int32) :=
  tg T 6 x0 <|
  (R x0 3).bind fun a2 =>
  rA T N 100 a2 (ii 0) fun j3 =>
  (fX5_in ((x1).toInt64) (jj 0) ((((I a2 j3)).toInt64) - (jj 1))).bind fun r4 =>
  chk (zb r4) <|
  some r4
/- LostLanesModel.at(II)I -/
def fX5_at (T : xT) (N : xT) (I : xI) (R : xR) (x0 : Nat) (x1 : Int32) (x2 : Int32) : Option (Int32 × xI) :=
  tg T 6 x0 <|
  nm (uI I x0 0 (ii 0)) fun I2 =>
  (fX5_isLane T N I2 R x0 x1).bind fun r3 =>
  if r3 = (ii 0) then
    some ((-1 : Int32), I2)
  else
    if x2 = (ii 0) then
      (R x0 3).bind fun a7 =>
      rA T N 100 a7 ((ii 26) + x1) fun j8 =>
      some ((I2 a7 j8), I2)
    else
    if x2 = (ii 1) then
      (R x0 3).bind fun a10 =>
      rA T N 100 a10 ((ii 36) + x1) fun j11 =>
      some ((I2 a10 j11), I2)
    else
    if x2 = (ii 2) then
      (R x0 3).bind fun a13 =>
      rA T N 100 a13 ((ii 46) + x1) fun j14 =>
      some ((I2 a13 j14), I2)
    else
    if x2 = (ii 3) then
      (R x0 3).bind fun a16 =>
      rA T N 100 a16 ((ii 56) + x1) fun j17 =>
      some ((I2 a16 j17), I2)
    else
    if x2 = (ii 4) then
      (R x0 3).bind fun a19 =>
      rA T N 100 a19 ((ii 8) + x1) fun j20 =>
      some ((I2 a19 j20), I2)
    else
    some ((-1 : Int32), I2)
/- LostLanesModel.child(II)I -/
def fX5_child (T : xT) (N : xT) (I : xI) (R : xR) (x0 : Nat) (x1 : Int32) (x2 : Int32) : Option (Int32 × xI) :=
  tg T 6 x0 <|
  nm (uI I x0 0 (ii 0)) fun I2 =>
  (fX5_in ((x1).toInt64) (jj 1) (jj 9)).bind fun r3 =>
  if r3 = (ii 0) then
    b2 (fX5_tell T N I2 R x0 (-1 : Int32)) fun r6 I7 =>
    some (r6, I7)
  else
    (fX5_isCorner x2).bind fun r9 =>
    if r9 = (ii 0) then
      b2 (fX5_tell T N I2 R x0 (-1 : Int32)) fun r29 I30 =>
      some (r29, I30)
    else
      (R x0 3).bind fun a12 =>
      rA T N 100 a12 (ii 1) fun j13 =>
      nm (I2 a12 j13) fun u14 =>
      if u14 = (ii 4) then
        b2 (fX5_tell T N I2 R x0 (-5 : Int32)) fun r26 I27 =>
        some (r26, I27)
      else
        rA T N 100 a12 ((ii 66) + u14) fun j16 =>
        nm (uI I2 a12 j16 x1) fun I17 =>
        rA T N 100 a12 ((ii 18) + u14) fun j18 =>
        nm (uI I17 a12 j18 x2) fun I19 =>
        rA T N 100 a12 ((ii 22) + u14) fun j20 =>
        nm (uI I19 a12 j20 (-1 : Int32)) fun I21 =>
        nm (uI I21 a12 j13 ((I21 a12 j13) + (ii 1))) fun I22 =>
        b2 (fX5_lasting T N I22 R x0 u14) fun r23 I24 =>
        some (r23, I24)
/- LostLanesModel.isChild(I)Z -/
def fX5_isChild (T : xT) (N : xT) (I : xI) (R : xR) (x0 : Nat) (x1 : Int32) : Option (Int32) :=
  tg T 6 x0 <|
  (R x0 3).bind fun a2 =>
  rA T N 100 a2 (ii 1) fun j3 =>
  (fX5_in ((x1).toInt64) (jj 0) ((((I a2 j3)).toInt64) - (jj 1))).bind fun r4 =>
  chk (zb r4) <|
  some r4
/- LostLanesModel.reckon(IJJ)J -/
def fX5_reckon_b104 (T : xT) (I : xI) (x0 : Nat) (x2 : Int64) (x4 : Int64) (z0 : Nat) (z1 : Int32) : Option (Int64 × xI) :=
  tg T 6 z0 <|
  chk (zb z1) <|
  nm (uI I z0 38 z1) fun I3 =>
  tg T 6 x0 <|
  if (I3 x0 38) = (ii 0) then
    chk (decide (¬ x4 = (jj 0))) <|
    some ((x2 - x2 / x4 * x4), I3)
  else
    some ((jj 0), I3)
def fX5_reckon_b72 (T : xT) (I : xI) (x0 : Nat) (x2 : Int64) (x4 : Int64) (z0 : Nat) (z1 : Int32) : Option (Int64 × xI) :=
  tg T 6 z0 <|
  chk (zb z1) <|
  nm (uI I z0 38 z1) fun I3 =>
  tg T 6 x0 <|
  if (I3 x0 38) = (ii 0) then
    chk (decide (¬ x4 = (jj 0))) <|
    some ((x2 / x4), I3)
  else
    some ((jj 0), I3)
def fX5_reckon (T : xT) (I : xI) (x0 : Nat) (x1 : Int32) (x2 : Int64) (x4 : Int64) : Option (Int64 × xI) :=
  if x1 = (ii 20) then
    some ((x2 + x4), I)
  else
  if x1 = (ii 21) then
    some ((x2 - x4), I)
  else
  if x1 = (ii 22) then
    some ((x2 * x4), I)
  else
  if x1 = (ii 23) then
    if x4 = (jj 0) then
      fX5_reckon_b72 T I x0 x2 x4 x0 (ii 1)
    else
      fX5_reckon_b72 T I x0 x2 x4 x0 (ii 0)
  else
  if x1 = (ii 24) then
    if x4 = (jj 0) then
      fX5_reckon_b104 T I x0 x2 x4 x0 (ii 1)
    else
      fX5_reckon_b104 T I x0 x2 x4 x0 (ii 0)
  else
  if x1 = (ii 25) then
    if x4 ≤ x2 then
      some ((jj 0), I)
    else
      some ((jj 1), I)
  else
  if x1 = (ii 26) then
    if x2 ≤ x4 then
      some ((jj 0), I)
    else
      some ((jj 1), I)
  else
  if x2 = x4 then
    some ((jj 1), I)
  else
    some ((jj 0), I)
/- LostLanesModel.reckonAll(II)V -/
def fX5_reckonAll_b366 (nf : Nat) (T : xT) (N : xT) (I : xI) (L : xL) (R : xR) (x0 : Nat) (x3 : Int32) : Option (xI × xL) :=
  if x3 ≤ (ii 0) then
    tg T 6 x0 <|
    nm (uL L x0 39 (jj 0)) fun L3 =>
    some (I, L3)
  else
    tg T 6 x0 <|
    (R x0 37).bind fun a5 =>
    rA T N 103 a5 (ii 0) fun j6 =>
    nm (uL L x0 39 (L a5 j6)) fun L7 =>
    some (I, L7)
def fX5_reckonAll_b349 (nf : Nat) (kk10 : xI → xL → Nat → Int32 → Int32 → Int32 → Option (xI × xL)) (T : xT) (N : xT) (I : xI) (L : xL) (R : xR) (x0 : Nat) (x2 : Int32) (x3 : Int32) (x4 : Int32) (x6 : Int32) (z0 : Int64) (z1 : Int64) : Option (xI × xL) :=
  if z0 = z1 then
    kk10 I L x0 x2 x3 x6
  else
    nm (x3 + (-1 : Int32)) fun u2 =>
    kk10 I L x0 x2 u2 x4
def fX5_reckonAll_b95 (nf : Nat) (kk10 : xI → xL → Nat → Int32 → Int32 → Int32 → Option (xI × xL)) (T : xT) (N : xT) (I : xI) (L : xL) (R : xR) (x0 : Nat) (x2 : Int32) (x3 : Int32) (x4 : Int32) (x5 : Int32) (z0 : Int32) : Option (xI × xL) :=
  nm (x4 + (ii 1)) fun u1 =>
  if (ii 20) ≤ x5 then
    if (ii 28) ≤ x5 then
      if x5 = (ii 28) then
        tg T 6 x0 <|
        (R x0 37).bind fun a10 =>
        rA T N 103 a10 (x3 - (ii 1)) fun j11 =>
        nm (uL L a10 j11 ((jj 1) - (L a10 j11))) fun L12 =>
        kk10 I L12 x0 x2 x3 u1
      else
        tg T 6 x0 <|
        (R x0 37).bind fun a6 =>
        rA T N 103 a6 (x3 - (ii 1)) fun j7 =>
        if x5 = (ii 29) then
          fX5_reckonAll_b349 nf kk10 T N I L R x0 x2 x3 u1 z0 (L a6 j7) (jj 0)
        else
          fX5_reckonAll_b349 nf kk10 T N I L R x0 x2 x3 u1 z0 (L a6 j7) (jj 1)
    else
      nm (x3 + (-1 : Int32)) fun u13 =>
      tg T 6 x0 <|
      (R x0 37).bind fun a15 =>
      rA T N 103 a15 (u13 - (ii 1)) fun j16 =>
      rA T N 103 a15 u13 fun j17 =>
      b2 (fX5_reckon T I x0 x5 (L a15 j16) (L a15 j17)) fun r18 I19 =>
      nm (uL L a15 j16 r18) fun L21 =>
      if (I19 x0 38) = (ii 0) then
        (fX5_in (L21 a15 j16) (-1000000000 : Int64) (jj 1000000000)).bind fun r24 =>
        if r24 = (ii 0) then
          nm (uI I19 x0 38 (ii 1)) fun I28 =>
          kk10 I28 L21 x0 x2 u13 u1
        else
          nm (uI I19 x0 38 (ii 0)) fun I27 =>
          kk10 I27 L21 x0 x2 u13 u1
      else
        nm (uI I19 x0 38 (ii 1)) fun I23 =>
        kk10 I23 L21 x0 x2 u13 u1
  else
    tg T 6 x0 <|
    (R x0 37).bind fun a30 =>
    if x5 = (ii 0) then
      rA T N 103 a30 x3 fun j67 =>
      nm (uL L a30 j67 ((z0).toInt64)) fun L68 =>
      nm (x3 + (ii 1)) fun u69 =>
      kk10 I L68 x0 x2 u69 u1
    else
      if (I x0 20) = (ii 0) then
        (R x0 35).bind fun a62 =>
        rA T N 103 a62 x5 fun j63 =>
        rA T N 103 a30 x3 fun j64 =>
        nm (uL L a30 j64 (L a62 j63)) fun L65 =>
        nm (x3 + (ii 1)) fun u66 =>
        kk10 I L65 x0 x2 u66 u1
      else
        if (ii 6) ≤ x5 then
          if x5 = (ii 6) then
            (fX5_isChild T N I R x0 z0).bind fun r46 =>
            if r46 = (ii 0) then
              rA T N 103 a30 x3 fun j49 =>
              nm (uL L a30 j49 (((-1 : Int32)).toInt64)) fun L50 =>
              nm (x3 + (ii 1)) fun u51 =>
              kk10 I L50 x0 x2 u51 u1
            else
              (R x0 3).bind fun a52 =>
              rA T N 100 a52 ((ii 18) + z0) fun j53 =>
              rA T N 103 a30 x3 fun j54 =>
              nm (uL L a30 j54 (((I a52 j53)).toInt64)) fun L55 =>
              nm (x3 + (ii 1)) fun u56 =>
              kk10 I L55 x0 x2 u56 u1
          else
            (fX5_isLane T N I R x0 z0).bind fun r35 =>
            if r35 = (ii 0) then
              rA T N 103 a30 x3 fun j38 =>
              nm (uL L a30 j38 (-1 : Int64)) fun L39 =>
              nm (x3 + (ii 1)) fun u40 =>
              kk10 I L39 x0 x2 u40 u1
            else
              (R x0 3).bind fun a41 =>
              rA T N 100 a41 ((ii 8) + z0) fun j42 =>
              rA T N 103 a30 x3 fun j43 =>
              nm (uL L a30 j43 (((I a41 j42)).toInt64)) fun L44 =>
              nm (x3 + (ii 1)) fun u45 =>
              kk10 I L44 x0 x2 u45 u1
        else
          (R x0 36).bind fun a57 =>
          rA T N 103 a57 x5 fun j58 =>
          rA T N 103 a30 x3 fun j59 =>
          nm (uL L a30 j59 (L a57 j58)) fun L60 =>
          nm (x3 + (ii 1)) fun u61 =>
          kk10 I L60 x0 x2 u61 u1
def fX5_reckonAll_b57 (nf : Nat) (kk10 : xI → xL → Nat → Int32 → Int32 → Int32 → Option (xI × xL)) (T : xT) (N : xT) (I : xI) (L : xL) (R : xR) (x0 : Nat) (x2 : Int32) (x3 : Int32) (x4 : Int32) (z0 : Int32) : Option (xI × xL) :=
  tg T 6 x0 <|
  if (I x0 20) = (ii 0) then
    (R x0 3).bind fun a3 =>
    rA T N 100 a3 ((((I x0 34) + (ii 98)) + ((ii 2) * x4)) + (ii 1)) fun j4 =>
    fX5_reckonAll_b95 nf kk10 T N I L R x0 x2 x3 x4 z0 (I a3 j4)
  else
    (R x0 25).bind fun a5 =>
    rA T N 100 a5 x4 fun j6 =>
    fX5_reckonAll_b95 nf kk10 T N I L R x0 x2 x3 x4 z0 (I a5 j6)
def fX5_reckonAll_b10 (nf : Nat) (T : xT) (N : xT) (R : xR) : Nat → xI → xL → Nat → Int32 → Int32 → Int32 → Option (xI × xL)
  | 0, _, _, _, _, _, _ => none
  | k + 1, I, L, x0, x2, x3, x4 =>
    if x2 ≤ x4 then
      fX5_reckonAll_b366 nf T N I L R x0 x3
    else
      tg T 6 x0 <|
      if (I x0 38) = (ii 0) then
        if (I x0 20) = (ii 0) then
          (R x0 3).bind fun a5 =>
          rA T N 100 a5 (((I x0 34) + (ii 98)) + ((ii 2) * x4)) fun j6 =>
          fX5_reckonAll_b57 nf (fX5_reckonAll_b10 nf T N R k) T N I L R x0 x2 x3 x4 (I a5 j6)
        else
          (R x0 24).bind fun a7 =>
          rA T N 100 a7 x4 fun j8 =>
          fX5_reckonAll_b57 nf (fX5_reckonAll_b10 nf T N R k) T N I L R x0 x2 x3 x4 (I a7 j8)
      else
        fX5_reckonAll_b366 nf T N I L R x0 x3
def fX5_reckonAll (nf : Nat) (T : xT) (N : xT) (I : xI) (L : xL) (R : xR) (x0 : Nat) (x1 : Int32) (x2 : Int32) : Option (xI × xL) :=
  tg T 6 x0 <|
  nm (uI I x0 38 (ii 0)) fun I2 =>
  fX5_reckonAll_b10 nf T N R nf I2 L x0 x2 (ii 0) x1
/- LostLanesModel.isSo(I)Z -/
def fX5_isSo_b59 (nf : Nat) (T : xT) (N : xT) (I : xI) (L : xL) (R : xR) (x0 : Nat) (x1 : Int32) : Option (Int32 × xI × xL) :=
  tg T 6 x0 <|
  (R x0 3).bind fun a2 =>
  rA T N 100 a2 x1 fun j3 =>
  if (I a2 j3) = (ii 2) then
    some ((ii 1), I, L)
  else
    rA T N 100 a2 (x1 + (ii 3)) fun j5 =>
    rA T N 100 a2 (x1 + (ii 4)) fun j6 =>
    b2 (fX5_reckonAll nf T N I L R x0 (I a2 j5) (I a2 j6)) fun I7 L8 =>
    nm (uL L8 x0 40 (L8 x0 39)) fun L10 =>
    if (I7 x0 38) = (ii 0) then
      some ((ii 1), I7, L10)
    else
      some ((ii 0), I7, L10)
def fX5_isSo (nf : Nat) (T : xT) (N : xT) (I : xI) (L : xL) (R : xR) (x0 : Nat) (x1 : Int32) : Option (Int32 × xI × xL) :=
  tg T 6 x0 <|
  (R x0 3).bind fun a2 =>
  rA T N 100 a2 (x1 + (ii 5)) fun j3 =>
  rA T N 100 a2 (x1 + (ii 6)) fun j4 =>
  if (I a2 j4) ≤ (I a2 j3) then
    fX5_isSo_b59 nf T N I L R x0 x1
  else
    b2 (fX5_reckonAll nf T N I L R x0 (I a2 j3) (I a2 j4)) fun I6 L7 =>
    if (I6 x0 38) = (ii 0) then
      if (L7 x0 39) = (jj 0) then
        some ((ii 0), I6, L7)
      else
        fX5_isSo_b59 nf T N I6 L7 R x0 x1
    else
      some ((ii 0), I6, L7)
/- LostLanesModel.tells(IIIJ)J -/
def fX5_tells_b186 (nf : Nat) (T : xT) (N : xT) (R : xR) : Nat → xI → xL → Nat → Int32 → Int64 → Int32 → Option (Int64 × xI × xL)
  | 0, _, _, _, _, _, _ => none
  | k + 1, I, L, x0, x1, x6, x8 =>
    tg T 6 x0 <|
    (R x0 3).bind fun a2 =>
    rA T N 100 a2 ((I x0 34) + (ii 1)) fun j3 =>
    if (I a2 j3) ≤ x8 then
      some (x6, I, L)
    else
      nm (((I x0 34) + (ii 2)) + ((ii 8) * x8)) fun u5 =>
      rA T N 100 a2 u5 fun j6 =>
      if (I a2 j6) = x1 then
        b3 (fX5_isSo nf T N I L R x0 u5) fun r9 I10 L11 =>
        if r9 = (ii 0) then
          nm (x8 + (ii 1)) fun u14 =>
          fX5_tells_b186 nf T N R k I10 L11 x0 x1 x6 u14
        else
          if x1 = (ii 2) then
            nm (x8 + (ii 1)) fun u18 =>
            fX5_tells_b186 nf T N R k I10 L11 x0 x1 (jj 1) u18
          else
            nm (L11 x0 40) fun u16 =>
            nm (x8 + (ii 1)) fun u17 =>
            fX5_tells_b186 nf T N R k I10 L11 x0 x1 u16 u17
      else
        nm (x8 + (ii 1)) fun u8 =>
        fX5_tells_b186 nf T N R k I L x0 x1 x6 u8
def fX5_tells_b115 (nf : Nat) (T : xT) (N : xT) (I : xI) (L : xL) (R : xR) (x0 : Nat) (x1 : Int32) (x2 : Int32) (x4 : Int64) (z0 : Nat) (z1 : Int32) (z2 : Int64) : Option (Int64 × xI × xL) :=
  rA T N 103 z0 z1 fun j1 =>
  nm (uL L z0 j1 z2) fun L2 =>
  tg T 6 x0 <|
  (R x0 35).bind fun a4 =>
  (R x0 3).bind fun a5 =>
  rA T N 100 a5 ((ii 18) + x2) fun j6 =>
  rA T N 103 a4 (ii 6) fun j7 =>
  nm (uL L2 a4 j7 (((I a5 j6)).toInt64)) fun L8 =>
  rA T N 100 a5 ((ii 22) + x2) fun j9 =>
  rA T N 103 a4 (ii 7) fun j10 =>
  nm (uL L8 a4 j10 (((I a5 j9)).toInt64)) fun L11 =>
  rA T N 100 a5 (ii 5) fun j12 =>
  rA T N 103 a4 (ii 8) fun j13 =>
  nm (uL L11 a4 j13 (((I a5 j12)).toInt64)) fun L14 =>
  rA T N 100 a5 (ii 7) fun j15 =>
  rA T N 103 a4 (ii 9) fun j16 =>
  nm (uL L14 a4 j16 (((I a5 j15)).toInt64)) fun L17 =>
  fX5_tells_b186 nf T N R nf I L17 x0 x1 x4 (ii 0)
def fX5_tells_b88 (nf : Nat) (T : xT) (N : xT) (I : xI) (L : xL) (R : xR) (x0 : Nat) (x1 : Int32) (x2 : Int32) (x3 : Int32) (x4 : Int64) (z0 : Nat) (z1 : Int32) (z2 : Int64) : Option (Int64 × xI × xL) :=
  rA T N 103 z0 z1 fun j1 =>
  nm (uL L z0 j1 z2) fun L2 =>
  tg T 6 x0 <|
  (R x0 35).bind fun a4 =>
  if x3 = (-1 : Int32) then
    fX5_tells_b115 nf T N I L2 R x0 x1 x2 x4 a4 (ii 5) (-1 : Int64)
  else
    (R x0 3).bind fun a6 =>
    rA T N 100 a6 ((ii 56) + x3) fun j7 =>
    fX5_tells_b115 nf T N I L2 R x0 x1 x2 x4 a4 (ii 5) (((I a6 j7)).toInt64)
def fX5_tells (nf : Nat) (T : xT) (N : xT) (I : xI) (L : xL) (R : xR) (x0 : Nat) (x1 : Int32) (x2 : Int32) (x3 : Int32) (x4 : Int64) : Option (Int64 × xI × xL) :=
  tg T 6 x0 <|
  (R x0 3).bind fun a2 =>
  rA T N 100 a2 (ii 4) fun j3 =>
  if (I a2 j3) = (-1 : Int32) then
    some (x4, I, L)
  else
    nm (uI I x0 34 ((ii 76) + ((ii 900) * (I a2 j3)))) fun I5 =>
    (R x0 35).bind fun a6 =>
    rA T N 103 a6 (ii 1) fun j7 =>
    nm (uL L a6 j7 ((x2).toInt64)) fun L8 =>
    rA T N 100 a2 ((ii 66) + x2) fun j9 =>
    rA T N 103 a6 (ii 2) fun j10 =>
    nm (uL L8 a6 j10 (((I5 a2 j9)).toInt64)) fun L11 =>
    rA T N 103 a6 (ii 3) fun j12 =>
    nm (uL L11 a6 j12 ((x3).toInt64)) fun L13 =>
    if x3 = (-1 : Int32) then
      fX5_tells_b88 nf T N I5 L13 R x0 x1 x2 x3 x4 a6 (ii 4) (-1 : Int64)
    else
      rA T N 100 a2 ((ii 46) + x3) fun j15 =>
      fX5_tells_b88 nf T N I5 L13 R x0 x1 x2 x3 x4 a6 (ii 4) (((I5 a2 j15)).toInt64)
/- LostLanesModel.bounded(JII)I -/
def fX5_bounded (x0 : Int64) (x2 : Int32) (x3 : Int32) : Option (Int32) :=
  if ((x2).toInt64) ≤ x0 then
    if x0 ≤ ((x3).toInt64) then
      some ((x0).toInt32)
    else
      some x3
  else
    some x2
/- LostLanesModel.turnsTo(I)I -/
def fX5_turnsTo (nf : Nat) (T : xT) (N : xT) (I : xI) (L : xL) (R : xR) (x0 : Nat) (x1 : Int32) : Option (Int32 × xI × xL) :=
  tg T 6 x0 <|
  b3 (fX5_tells nf T N I L R x0 (ii 0) x1 (-1 : Int32) (jj 0)) fun r1 I2 L3 =>
  (fX5_bounded r1 (ii 0) (ii 99)).bind fun r6 =>
  some (r6, I2, L3)
/- LostLanesModel.ends(II)Z -/
def fX5_ends (T : xT) (N : xT) (I : xI) (R : xR) (x0 : Nat) (x1 : Int32) (x2 : Int32) : Option (Int32) :=
  tg T 6 x0 <|
  (R x0 3).bind fun a2 =>
  rA T N 100 a2 ((ii 26) + x1) fun j3 =>
  if (I a2 j3) = x2 then
    some (ii 1)
  else
    rA T N 100 a2 ((ii 36) + x1) fun j5 =>
    if (I a2 j5) = x2 then
      some (ii 1)
    else
      some (ii 0)
/- LostLanesModel.isBarred(II)Z -/
def fX5_isBarred (nf : Nat) (T : xT) (N : xT) (I : xI) (L : xL) (R : xR) (x0 : Nat) (x1 : Int32) (x2 : Int32) : Option (Int32 × xI × xL) :=
  tg T 6 x0 <|
  b3 (fX5_tells nf T N I L R x0 (ii 2) x1 x2 (jj 0)) fun r1 I2 L3 =>
  if r1 = (jj 1) then
    some ((ii 1), I2, L3)
  else
    some ((ii 0), I2, L3)
/- LostLanesModel.canGo(II)Z -/
def fX5_canGo (nf : Nat) (T : xT) (N : xT) (I : xI) (L : xL) (R : xR) (x0 : Nat) (x1 : Int32) (x2 : Int32) : Option (Int32 × xI × xL) :=
  tg T 6 x0 <|
  (R x0 3).bind fun a2 =>
  rA T N 100 a2 ((ii 18) + x1) fun j3 =>
  (fX5_ends T N I R x0 x2 (I a2 j3)).bind fun r4 =>
  if r4 = (ii 0) then
    some ((ii 0), I, L)
  else
    b3 (fX5_isBarred nf T N I L R x0 x1 x2) fun r7 I8 L9 =>
    if r7 = (ii 0) then
      some ((ii 1), I8, L9)
    else
      some ((ii 0), I8, L9)
/- LostLanesModel.laneOf(I)I -/
def fX5_laneOf_b57 (nf : Nat) (T : xT) (N : xT) (R : xR) : Nat → xI → xL → Nat → Int32 → Int32 → Int32 → Int32 → Option (Int32 × xI × xL)
  | 0, _, _, _, _, _, _, _ => none
  | k + 1, I, L, x0, x1, x3, x4, x5 =>
    tg T 6 x0 <|
    (R x0 3).bind fun a2 =>
    rA T N 100 a2 (ii 0) fun j3 =>
    if (I a2 j3) ≤ x5 then
      some (x4, I, L)
    else
      b3 (fX5_canGo nf T N I L R x0 x1 x5) fun r5 I6 L7 =>
      if r5 = (ii 0) then
        nm (x5 + (ii 1)) fun u10 =>
        fX5_laneOf_b57 nf T N R k I6 L7 x0 x1 x3 x4 u10
      else
        if x3 = (ii 0) then
          nm (x3 + (-1 : Int32)) fun u14 =>
          nm (x5 + (ii 1)) fun u15 =>
          fX5_laneOf_b57 nf T N R k I6 L7 x0 x1 u14 x5 u15
        else
          nm (x3 + (-1 : Int32)) fun u12 =>
          nm (x5 + (ii 1)) fun u13 =>
          fX5_laneOf_b57 nf T N R k I6 L7 x0 x1 u12 x4 u13
def fX5_laneOf_b4 (nf : Nat) (T : xT) (N : xT) (R : xR) : Nat → xI → xL → Nat → Int32 → Int32 → Int32 → Option (Int32 × xI × xL)
  | 0, _, _, _, _, _, _ => none
  | k + 1, I, L, x0, x1, x2, x3 =>
    tg T 6 x0 <|
    (R x0 3).bind fun a2 =>
    rA T N 100 a2 (ii 0) fun j3 =>
    if (I a2 j3) ≤ x3 then
      if x2 = (ii 0) then
        some ((-1 : Int32), I, L)
      else
        b3 (fX5_turnsTo nf T N I L R x0 x1) fun r6 I7 L8 =>
        chk (decide (¬ x2 = (ii 0))) <|
        nm (r6 - r6 / x2 * x2) fun u11 =>
        fX5_laneOf_b57 nf T N R nf I7 L8 x0 x1 u11 (-1 : Int32) (ii 0)
    else
      b3 (fX5_canGo nf T N I L R x0 x1 x3) fun r12 I13 L14 =>
      if r12 = (ii 0) then
        nm (x2 + (ii 0)) fun u17 =>
        nm (x3 + (ii 1)) fun u18 =>
        fX5_laneOf_b4 nf T N R k I13 L14 x0 x1 u17 u18
      else
        nm (x2 + (ii 1)) fun u19 =>
        nm (x3 + (ii 1)) fun u20 =>
        fX5_laneOf_b4 nf T N R k I13 L14 x0 x1 u19 u20
def fX5_laneOf (nf : Nat) (T : xT) (N : xT) (I : xI) (L : xL) (R : xR) (x0 : Nat) (x1 : Int32) : Option (Int32 × xI × xL) :=
  fX5_laneOf_b4 nf T N R nf I L x0 x1 (ii 0) (ii 0)
/- LostLanesModel.of(II)I -/
def fX5_of (nf : Nat) (T : xT) (N : xT) (I : xI) (L : xL) (R : xR) (x0 : Nat) (x1 : Int32) (x2 : Int32) : Option (Int32 × xI × xL) :=
  tg T 6 x0 <|
  nm (uI I x0 0 (ii 0)) fun I2 =>
  (fX5_isChild T N I2 R x0 x1).bind fun r3 =>
  if r3 = (ii 0) then
    some ((-1 : Int32), I2, L)
  else
    if x2 = (ii 0) then
      (R x0 3).bind fun a7 =>
      rA T N 100 a7 ((ii 66) + x1) fun j8 =>
      some ((I2 a7 j8), I2, L)
    else
    if x2 = (ii 1) then
      (R x0 3).bind fun a10 =>
      rA T N 100 a10 ((ii 18) + x1) fun j11 =>
      some ((I2 a10 j11), I2, L)
    else
    if x2 = (ii 2) then
      (R x0 3).bind fun a13 =>
      rA T N 100 a13 ((ii 22) + x1) fun j14 =>
      some ((I2 a13 j14), I2, L)
    else
    if x2 = (ii 3) then
      b3 (fX5_turnsTo nf T N I2 L R x0 x1) fun r16 I17 L18 =>
      some (r16, I17, L18)
    else
    if x2 = (ii 4) then
      b3 (fX5_laneOf nf T N I2 L R x0 x1) fun r21 I22 L23 =>
      some (r21, I22, L23)
    else
    some ((-1 : Int32), I2, L)
/- LostLanesModel.saysOf(II)I -/
def fX5_saysOf (nf : Nat) (T : xT) (N : xT) (I : xI) (L : xL) (R : xR) (x0 : Nat) (x1 : Int32) (x2 : Int32) : Option (Int32 × xI × xL) :=
  tg T 6 x0 <|
  (R x0 3).bind fun a2 =>
  rA T N 100 a2 ((ii 56) + x2) fun j3 =>
  b3 (fX5_tells nf T N I L R x0 (ii 1) x1 x2 (((I a2 j3)).toInt64)) fun r4 I5 L6 =>
  (fX5_bounded r4 (ii 0) (ii 19)).bind fun r8 =>
  some (r8, I5, L6)
/- LostLanesModel.asks(III)I -/
def fX5_asks (nf : Nat) (T : xT) (N : xT) (I : xI) (L : xL) (R : xR) (x0 : Nat) (x1 : Int32) (x2 : Int32) (x3 : Int32) : Option (Int32 × xI × xL) :=
  tg T 6 x0 <|
  nm (uI I x0 0 (ii 0)) fun I2 =>
  (fX5_isChild T N I2 R x0 x1).bind fun r3 =>
  if r3 = (ii 0) then
    some ((-1 : Int32), I2, L)
  else
    (fX5_isLane T N I2 R x0 x2).bind fun r6 =>
    if r6 = (ii 0) then
      some ((-1 : Int32), I2, L)
    else
      (fX5_in ((x3).toInt64) (jj 0) (jj 1)).bind fun r9 =>
      if r9 = (ii 0) then
        some ((-1 : Int32), I2, L)
      else
        if x3 = (ii 0) then
          b3 (fX5_saysOf nf T N I2 L R x0 x1 x2) fun r18 I19 L20 =>
          some (r18, I19, L20)
        else
          b3 (fX5_isBarred nf T N I2 L R x0 x1 x2) fun r13 I14 L15 =>
          if r13 = (ii 0) then
            some ((ii 0), I14, L15)
          else
            some ((ii 1), I14, L15)
/- LostLanesModel.change(II)I -/
def fX5_change (T : xT) (N : xT) (I : xI) (R : xR) (x0 : Nat) (x1 : Int32) (x2 : Int32) : Option (Int32 × xI) :=
  tg T 6 x0 <|
  (R x0 3).bind fun a2 =>
  rA T N 100 a2 x1 fun j3 =>
  nm (I a2 j3) fun u4 =>
  nm (uI I a2 j3 x2) fun I5 =>
  nm (uI I5 x0 1 (ii 0)) fun I6 =>
  some (u4, I6)
/- LostLanesModel.terms(II)I -/
def fX5_terms_b60 (T : xT) (N : xT) (I : xI) (R : xR) (x0 : Nat) (x1 : Int32) (x2 : Int32) (z0 : Int32) : Option (Int32 × xI) :=
  if z0 = (ii 0) then
    tg T 6 x0 <|
    b2 (fX5_tell T N I R x0 (-1 : Int32)) fun r7 I8 =>
    some (r7, I8)
  else
    tg T 6 x0 <|
    nm (uI I x0 8 (ii 0)) fun I3 =>
    b2 (fX5_change T N I3 R x0 ((ii 5) + x1) x2) fun r4 I5 =>
    some (r4, I5)
def fX5_terms (T : xT) (N : xT) (I : xI) (R : xR) (x0 : Nat) (x1 : Int32) (x2 : Int32) : Option (Int32 × xI) :=
  tg T 6 x0 <|
  nm (uI I x0 0 (ii 0)) fun I2 =>
  if x1 = (ii 0) then
    (fX5_in ((x2).toInt64) (jj 0) (jj 999)).bind fun r11 =>
    fX5_terms_b60 T N I2 R x0 x1 x2 r11
  else
    if x1 = (ii 1) then
      (fX5_in ((x2).toInt64) (jj 0) (jj 10)).bind fun r9 =>
      fX5_terms_b60 T N I2 R x0 x1 x2 r9
    else
      if x1 = (ii 2) then
        (fX5_in ((x2).toInt64) (jj 0) (jj 9)).bind fun r6 =>
        if r6 = (ii 0) then
          fX5_terms_b60 T N I2 R x0 x1 x2 (ii 0)
        else
          fX5_terms_b60 T N I2 R x0 x1 x2 (ii 1)
      else
        fX5_terms_b60 T N I2 R x0 x1 x2 (ii 0)
/- LostLanesModel.row()I -/
def fX5_row_b90 (nf : Nat) (kk35 : xI → Nat → Int32 → Int32 → Int32 → Option (Int32 × xI)) (T : xT) (N : xT) (I : xI) (R : xR) (x0 : Nat) (x1 : Int32) (x2 : Int32) (x3 : Int32) : Option (Int32 × xI) :=
  tg T 6 x0 <|
  nm (uI I x0 11 ((I x0 11) + (ii 1))) fun I2 =>
  nm (x3 + (ii 4)) fun u3 =>
  kk35 I2 x0 x1 x2 u3
def fX5_row_b35 (nf : Nat) (T : xT) (N : xT) (R : xR) : Nat → xI → Nat → Int32 → Int32 → Int32 → Option (Int32 × xI)
  | 0, _, _, _, _, _ => none
  | k + 1, I, x0, x1, x2, x3 =>
    if x1 ≤ x3 then
      tg T 6 x0 <|
      b2 (fX5_lasting T N I R x0 x2) fun r2 I3 =>
      some (r2, I3)
    else
      if x1 ≤ (x3 + (ii 3)) then
        fX5_row_b90 nf (fX5_row_b35 nf T N R k) T N I R x0 x1 x2 x3
      else
        tg T 6 x0 <|
        (R x0 12).bind fun a8 =>
        rA T N 100 a8 x3 fun j9 =>
        rA T N 100 a8 (x3 + (ii 1)) fun j10 =>
        rA T N 100 a8 (x3 + (ii 2)) fun j11 =>
        rA T N 100 a8 (x3 + (ii 3)) fun j12 =>
        b2 (fX5_come T N I R x0 (I a8 j9) (I a8 j10) (I a8 j11) (I a8 j12)) fun r13 I14 =>
        if r13 < (ii 0) then
          fX5_row_b90 nf (fX5_row_b35 nf T N R k) T N I14 R x0 x1 x2 x3
        else
          nm (x2 + (ii 1)) fun u17 =>
          nm (x3 + (ii 4)) fun u18 =>
          fX5_row_b35 nf T N R k I14 x0 x1 u17 u18
def fX5_row (nf : Nat) (T : xT) (N : xT) (I : xI) (R : xR) (x0 : Nat) : Option (Int32 × xI) :=
  tg T 6 x0 <|
  nm (uI I x0 0 (ii 0)) fun I2 =>
  nm (I2 x0 13) fun u3 =>
  nm (uI I2 x0 13 (ii 0)) fun I4 =>
  if u3 = (ii 0) then
    b2 (fX5_tell T N I4 R x0 (-6 : Int32)) fun r7 I8 =>
    some (r7, I8)
  else
    nm (uI I4 x0 11 (ii 0)) fun I6 =>
    fX5_row_b35 nf T N R nf I6 x0 u3 (ii 0) (ii 0)
/- LostLanesModel.gravel()I -/
def fX5_gravel (T : xT) (I : xI) (x0 : Nat) : Option (Int32 × xI) :=
  tg T 6 x0 <|
  nm (uI I x0 0 (ii 0)) fun I2 =>
  some ((I2 x0 11), I2)
/- LostLanesModel.four(I)V -/
def fX5_four_b3 (nf : Nat) (T : xT) (N : xT) (R : xR) : Nat → xI → Nat → Int32 → Int32 → Option (xI)
  | 0, _, _, _, _ => none
  | k + 1, I, x0, x1, x2 =>
    if x2 < (ii 0) then
      some I
    else
      tg T 6 x0 <|
      (R x0 12).bind fun a3 =>
      rA T N 100 a3 (I x0 13) fun j4 =>
      nm (uI I a3 j4 ((x1 >>> (x2 &&& ii 31)) &&& (ii 255))) fun I5 =>
      nm (uI I5 x0 13 ((I5 x0 13) + (ii 1))) fun I6 =>
      nm (x2 + (-8 : Int32)) fun u7 =>
      fX5_four_b3 nf T N R k I6 x0 x1 u7
def fX5_four (nf : Nat) (T : xT) (N : xT) (I : xI) (R : xR) (x0 : Nat) (x1 : Int32) : Option (xI) :=
  fX5_four_b3 nf T N R nf I x0 x1 (ii 24)
/- LostLanesModel.feed(IIIII)I -/
def fX5_feed (nf : Nat) (T : xT) (N : xT) (I : xI) (R : xR) (x0 : Nat) (x1 : Int32) (x2 : Int32) (x3 : Int32) (x4 : Int32) (x5 : Int32) : Option (Int32 × xI) :=
  tg T 6 x0 <|
  nm (uI I x0 0 (ii 0)) fun I2 =>
  if ((I2 x0 13) + (ii 20)) ≤ (ii 400) then
    (fX5_four nf T N I2 R x0 x1).bind fun I4 =>
    (fX5_four nf T N I4 R x0 x2).bind fun I6 =>
    (fX5_four nf T N I6 R x0 x3).bind fun I8 =>
    (fX5_four nf T N I8 R x0 x4).bind fun I10 =>
    (fX5_four nf T N I10 R x0 x5).bind fun I12 =>
    some ((I12 x0 13), I12)
  else
    some ((-1 : Int32), I2)
/- LostLanesModel.end(I)I -/
def fX5_end (T : xT) (I : xI) (x0 : Nat) (x1 : Int32) : Option (Int32 × xI) :=
  tg T 6 x0 <|
  nm (uI I x0 0 (ii 0)) fun I2 =>
  if x1 < (ii 0) then
    some ((-1 : Int32), I2)
  else
    if x1 ≤ (I2 x0 13) then
      nm (uI I2 x0 13 x1) fun I5 =>
      some (x1, I5)
    else
      some ((-1 : Int32), I2)
/- LostLanesModel.fault()I -/
def fX5_fault (T : xT) (I : xI) (x0 : Nat) : Option (Int32 × xI) :=
  tg T 6 x0 <|
  nm (uI I x0 0 (ii 0)) fun I2 =>
  some ((I2 x0 18), I2)
/- LostLanesModel.isSmall(I)Z -/
def fX5_isSmall (x0 : Int32) : Option (Int32) :=
  if x0 < (ii 97) then
    some (ii 0)
  else
    if (ii 122) < x0 then
      some (ii 0)
    else
      some (ii 1)
/- LostLanesModel.isDigit(I)Z -/
def fX5_isDigit (x0 : Int32) : Option (Int32) :=
  if x0 < (ii 48) then
    some (ii 0)
  else
    if (ii 57) < x0 then
      some (ii 0)
    else
      some (ii 1)
/- LostLanesModel.next()V -/
def fX5_next_b319 (nf : Nat) (kk243 : xI → xL → Nat → Option (xI × xL)) (T : xT) (N : xT) (I : xI) (L : xL) (R : xR) (x0 : Nat) (z0 : Nat) (z1 : Int64) : Option (xI × xL) :=
  tg T 6 z0 <|
  nm (uL L z0 17 z1) fun L2 =>
  tg T 6 x0 <|
  nm (uI I x0 15 ((I x0 15) + (ii 1))) fun I4 =>
  kk243 I4 L2 x0
def fX5_next_b243 (nf : Nat) (T : xT) (N : xT) (R : xR) : Nat → xI → xL → Nat → Option (xI × xL)
  | 0, _, _, _ => none
  | k + 1, I, L, x0 =>
    tg T 6 x0 <|
    if (I x0 16) = (ii 2) then
      if (I x0 13) ≤ (I x0 15) then
        some (I, L)
      else
        (R x0 12).bind fun a4 =>
        rA T N 100 a4 (I x0 15) fun j5 =>
        (fX5_isDigit (I a4 j5)).bind fun r6 =>
        if r6 = (ii 0) then
          some (I, L)
        else
          if (L x0 17) ≤ (jj 1000000) then
            fX5_next_b319 nf (fX5_next_b243 nf T N R k) T N I L R x0 x0 ((((L x0 17) * (jj 10)) + (((I a4 j5)).toInt64)) - (jj 48))
          else
            fX5_next_b319 nf (fX5_next_b243 nf T N R k) T N I L R x0 x0 (L x0 17)
    else
      some (I, L)
def fX5_next_b227 (nf : Nat) (kk149 : xI → xL → Nat → Option (xI × xL)) (T : xT) (N : xT) (I : xI) (L : xL) (R : xR) (x0 : Nat) (z0 : Nat) (z1 : Int64) : Option (xI × xL) :=
  tg T 6 z0 <|
  nm (uL L z0 17 z1) fun L2 =>
  tg T 6 x0 <|
  nm (uI I x0 15 ((I x0 15) + (ii 1))) fun I4 =>
  kk149 I4 L2 x0
def fX5_next_b149 (nf : Nat) (T : xT) (N : xT) (R : xR) : Nat → xI → xL → Nat → Option (xI × xL)
  | 0, _, _, _ => none
  | k + 1, I, L, x0 =>
    tg T 6 x0 <|
    if (I x0 16) = (ii 1) then
      if (I x0 13) ≤ (I x0 15) then
        fX5_next_b243 nf T N R nf I L x0
      else
        (R x0 12).bind fun a4 =>
        rA T N 100 a4 (I x0 15) fun j5 =>
        (fX5_isSmall (I a4 j5)).bind fun r6 =>
        if r6 = (ii 0) then
          fX5_next_b243 nf T N R nf I L x0
        else
          if (ii 10) ≤ ((I x0 15) - (I x0 14)) then
            fX5_next_b227 nf (fX5_next_b149 nf T N R k) T N I L R x0 x0 (-1 : Int64)
          else
            fX5_next_b227 nf (fX5_next_b149 nf T N R k) T N I L R x0 x0 ((((L x0 17) * (jj 32)) + (((I a4 j5)).toInt64)) - (jj 96))
    else
      fX5_next_b243 nf T N R nf I L x0
def fX5_next_b114 (nf : Nat) (T : xT) (N : xT) (I : xI) (L : xL) (R : xR) (x0 : Nat) (z0 : Nat) (z1 : Int32) : Option (xI × xL) :=
  tg T 6 z0 <|
  nm (uI I z0 16 z1) fun I2 =>
  tg T 6 x0 <|
  if (I2 x0 16) = (ii 3) then
    (R x0 12).bind fun a5 =>
    rA T N 100 a5 (I2 x0 14) fun j6 =>
    nm (uL L x0 17 (((I2 a5 j6)).toInt64)) fun L7 =>
    nm (uI I2 x0 15 ((I2 x0 15) + (ii 1))) fun I8 =>
    fX5_next_b149 nf T N R nf I8 L7 x0
  else
    fX5_next_b149 nf T N R nf I2 L x0
def fX5_next_b46 (nf : Nat) (T : xT) (N : xT) (I : xI) (L : xL) (R : xR) (x0 : Nat) : Option (xI × xL) :=
  tg T 6 x0 <|
  nm (uI I x0 15 (I x0 14)) fun I2 =>
  nm (uL L x0 17 (jj 0)) fun L3 =>
  if (I2 x0 14) = (I2 x0 13) then
    fX5_next_b114 nf T N I2 L3 R x0 x0 (ii 0)
  else
    (R x0 12).bind fun a5 =>
    rA T N 100 a5 (I2 x0 14) fun j6 =>
    (fX5_isSmall (I2 a5 j6)).bind fun r7 =>
    if r7 = (ii 0) then
      (fX5_isDigit (I2 a5 j6)).bind fun r10 =>
      if r10 = (ii 0) then
        fX5_next_b114 nf T N I2 L3 R x0 x0 (ii 3)
      else
        fX5_next_b114 nf T N I2 L3 R x0 x0 (ii 2)
    else
      fX5_next_b114 nf T N I2 L3 R x0 x0 (ii 1)
def fX5_next_b8 (nf : Nat) (T : xT) (N : xT) (R : xR) : Nat → xI → xL → Nat → Option (xI × xL)
  | 0, _, _, _ => none
  | k + 1, I, L, x0 =>
    tg T 6 x0 <|
    if (I x0 13) ≤ (I x0 14) then
      fX5_next_b46 nf T N I L R x0
    else
      (R x0 12).bind fun a3 =>
      rA T N 100 a3 (I x0 14) fun j4 =>
      if (I a3 j4) = (ii 32) then
        nm (uI I x0 14 ((I x0 14) + (ii 1))) fun I6 =>
        fX5_next_b8 nf T N R k I6 L x0
      else
        fX5_next_b46 nf T N I L R x0
def fX5_next (nf : Nat) (T : xT) (N : xT) (I : xI) (L : xL) (R : xR) (x0 : Nat) : Option (xI × xL) :=
  tg T 6 x0 <|
  nm (uI I x0 14 (I x0 15)) fun I2 =>
  fX5_next_b8 nf T N R nf I2 L x0
/- LostLanesModel.begin()V -/
def fX5_begin (nf : Nat) (T : xT) (N : xT) (I : xI) (L : xL) (R : xR) (x0 : Nat) : Option (xI × xL) :=
  tg T 6 x0 <|
  nm (uI I x0 15 (ii 0)) fun I2 =>
  nm (uI I2 x0 19 (ii 0)) fun I3 =>
  nm (uI I3 x0 18 (-1 : Int32)) fun I4 =>
  b2 (fX5_next nf T N I4 L R x0) fun I5 L6 =>
  some (I5, L6)
/- LostLanesModel.beginText(Z)V -/
def fX5_beginText (nf : Nat) (T : xT) (N : xT) (I : xI) (L : xL) (R : xR) (x0 : Nat) (x1 : Int32) : Option (xI × xL) :=
  tg T 6 x0 <|
  chk (zb x1) <|
  nm (uI I x0 20 x1) fun I3 =>
  b2 (fX5_begin nf T N I3 L R x0) fun I4 L5 =>
  nm (uI I4 x0 21 (ii 0)) fun I7 =>
  nm (uI I7 x0 23 (ii 0)) fun I8 =>
  nm (uI I8 x0 26 (ii 0)) fun I9 =>
  some (I9, L5)
/- LostLanesModel.isWord(J)Z -/
def fX5_isWord (T : xT) (I : xI) (L : xL) (x0 : Nat) (x1 : Int64) : Option (Int32) :=
  tg T 6 x0 <|
  if (I x0 16) = (ii 1) then
    if (L x0 17) = x1 then
      some (ii 1)
    else
      some (ii 0)
  else
    some (ii 0)
/- LostLanesModel.must(Z)V -/
def fX5_must_b24 (nf : Nat) (T : xT) (N : xT) (I : xI) (L : xL) (R : xR) (x0 : Nat) : Option (xI × xL) :=
  tg T 6 x0 <|
  if (I x0 19) = (ii 0) then
    b2 (fX5_next nf T N I L R x0) fun I3 L4 =>
    some (I3, L4)
  else
    some (I, L)
def fX5_must (nf : Nat) (T : xT) (N : xT) (I : xI) (L : xL) (R : xR) (x0 : Nat) (x1 : Int32) : Option (xI × xL) :=
  tg T 6 x0 <|
  if (I x0 19) = (ii 0) then
    if x1 = (ii 0) then
      nm (uI I x0 19 (ii 1)) fun I4 =>
      nm (uI I4 x0 18 (I4 x0 14)) fun I5 =>
      fX5_must_b24 nf T N I5 L R x0
    else
      fX5_must_b24 nf T N I L R x0
  else
    fX5_must_b24 nf T N I L R x0
/- LostLanesModel.push(II)V -/
def fX5_push (T : xT) (N : xT) (I : xI) (R : xR) (x0 : Nat) (x1 : Int32) (x2 : Int32) : Option (xI) :=
  tg T 6 x0 <|
  (R x0 27).bind fun a2 =>
  rA T N 100 a2 (I x0 29) fun j3 =>
  nm (uI I a2 j3 x1) fun I4 =>
  (R x0 28).bind fun a5 =>
  rA T N 100 a5 (I4 x0 29) fun j6 =>
  nm (uI I4 a5 j6 x2) fun I7 =>
  nm (uI I7 x0 29 ((I7 x0 29) + (ii 1))) fun I8 =>
  some I8
/- LostLanesModel.isSign(I)Z -/
def fX5_isSign (T : xT) (I : xI) (L : xL) (x0 : Nat) (x1 : Int32) : Option (Int32) :=
  tg T 6 x0 <|
  if (I x0 16) = (ii 3) then
    if (L x0 17) = ((x1).toInt64) then
      some (ii 1)
    else
      some (ii 0)
  else
    some (ii 0)
/- LostLanesModel.openBracket(I)V -/
def fX5_openBracket_b15 (nf : Nat) (T : xT) (N : xT) (I : xI) (L : xL) (R : xR) (x0 : Nat) (x1 : Int32) (z0 : Nat) (z1 : Int32) : Option (xI × xL) :=
  tg T 6 z0 <|
  b2 (fX5_must nf T N I L R z0 z1) fun I1 L2 =>
  tg T 6 x0 <|
  if (I1 x0 19) = (ii 0) then
    nm (uI I1 x0 30 ((I1 x0 30) + (ii 1))) fun I7 =>
    (fX5_push T N I7 R x0 x1 (ii 0)).bind fun I8 =>
    some (I8, L2)
  else
    some (I1, L2)
def fX5_openBracket (nf : Nat) (T : xT) (N : xT) (I : xI) (L : xL) (R : xR) (x0 : Nat) (x1 : Int32) : Option (xI × xL) :=
  tg T 6 x0 <|
  if (ii 8) ≤ (I x0 30) then
    fX5_openBracket_b15 nf T N I L R x0 x1 x0 (ii 0)
  else
    fX5_openBracket_b15 nf T N I L R x0 x1 x0 (ii 1)
/- LostLanesModel.orderPartAt()I -/
def fX5_orderPartAt_b4 (nf : Nat) (T : xT) (N : xT) (I : xI) (L : xL) (R : xR) : Nat → Nat → Int32 → Int32 → Option (Int32)
  | 0, _, _, _ => none
  | k + 1, x0, x1, x2 =>
    if (ii 7) ≤ x2 then
      some x1
    else
      tg T 6 x0 <|
      (R x0 32).bind fun a3 =>
      rA T N 103 a3 x2 fun j4 =>
      (fX5_isWord T I L x0 (L a3 j4)).bind fun r5 =>
      if r5 = (ii 0) then
        nm (x2 + (ii 1)) fun u8 =>
        fX5_orderPartAt_b4 nf T N I L R k x0 x1 u8
      else
        nm (x2 + (ii 1)) fun u9 =>
        nm (x2 + (ii 1)) fun u10 =>
        fX5_orderPartAt_b4 nf T N I L R k x0 u9 u10
def fX5_orderPartAt (nf : Nat) (T : xT) (N : xT) (I : xI) (L : xL) (R : xR) (x0 : Nat) : Option (Int32) :=
  fX5_orderPartAt_b4 nf T N I L R nf x0 (-1 : Int32) (ii 0)
/- LostLanesModel.partAt()I -/
def fX5_partAt_b4 (nf : Nat) (T : xT) (N : xT) (I : xI) (L : xL) (R : xR) : Nat → Nat → Int32 → Int32 → Option (Int32)
  | 0, _, _, _ => none
  | k + 1, x0, x1, x2 =>
    if (ii 9) ≤ x2 then
      some x1
    else
      tg T 6 x0 <|
      (R x0 31).bind fun a3 =>
      rA T N 103 a3 x2 fun j4 =>
      (fX5_isWord T I L x0 (L a3 j4)).bind fun r5 =>
      if r5 = (ii 0) then
        nm (x2 + (ii 1)) fun u8 =>
        fX5_partAt_b4 nf T N I L R k x0 x1 u8
      else
        nm (x2 + (ii 1)) fun u9 =>
        nm (x2 + (ii 1)) fun u10 =>
        fX5_partAt_b4 nf T N I L R k x0 u9 u10
def fX5_partAt (nf : Nat) (T : xT) (N : xT) (I : xI) (L : xL) (R : xR) (x0 : Nat) : Option (Int32) :=
  fX5_partAt_b4 nf T N I L R nf x0 (-1 : Int32) (ii 0)
/- LostLanesModel.emit(II)V -/
def fX5_emit (T : xT) (N : xT) (I : xI) (R : xR) (x0 : Nat) (x1 : Int32) (x2 : Int32) : Option (xI) :=
  tg T 6 x0 <|
  (R x0 24).bind fun a2 =>
  rA T N 100 a2 (I x0 23) fun j3 =>
  nm (uI I a2 j3 x1) fun I4 =>
  (R x0 25).bind fun a5 =>
  rA T N 100 a5 (I4 x0 23) fun j6 =>
  nm (uI I4 a5 j6 x2) fun I7 =>
  nm (uI I7 x0 23 ((I7 x0 23) + (ii 1))) fun I8 =>
  some I8
/- LostLanesModel.leaf(ZII)V -/
def fX5_leaf_b19 (nf : Nat) (T : xT) (N : xT) (I : xI) (L : xL) (R : xR) (x0 : Nat) (x2 : Int32) (x3 : Int32) (z0 : Nat) (z1 : Int32) : Option (xI × xL) :=
  tg T 6 z0 <|
  b2 (fX5_must nf T N I L R z0 z1) fun I1 L2 =>
  tg T 6 x0 <|
  if (I1 x0 19) = (ii 0) then
    (fX5_emit T N I1 R x0 x2 x3).bind fun I7 =>
    nm (uI I7 x0 26 ((I7 x0 26) + (ii 1))) fun I9 =>
    some (I9, L2)
  else
    some (I1, L2)
def fX5_leaf (nf : Nat) (T : xT) (N : xT) (I : xI) (L : xL) (R : xR) (x0 : Nat) (x1 : Int32) (x2 : Int32) (x3 : Int32) : Option (xI × xL) :=
  if x1 = (ii 0) then
    fX5_leaf_b19 nf T N I L R x0 x2 x3 x0 (ii 0)
  else
    tg T 6 x0 <|
    if (ii 50) ≤ (I x0 26) then
      fX5_leaf_b19 nf T N I L R x0 x2 x3 x0 (ii 0)
    else
      fX5_leaf_b19 nf T N I L R x0 x2 x3 x0 (ii 1)
/- LostLanesModel.number(JJ)I -/
def fX5_number (nf : Nat) (T : xT) (N : xT) (I : xI) (L : xL) (R : xR) (x0 : Nat) (x1 : Int64) (x3 : Int64) : Option (Int32 × xI × xL) :=
  tg T 6 x0 <|
  nm (((L x0 17)).toInt32) fun u2 =>
  if (I x0 16) = (ii 2) then
    (fX5_in (L x0 17) x1 x3).bind fun r7 =>
    if r7 = (ii 0) then
      b2 (fX5_must nf T N I L R x0 (ii 0)) fun I10 L11 =>
      some (u2, I10, L11)
    else
      b2 (fX5_must nf T N I L R x0 (ii 1)) fun I13 L14 =>
      some (u2, I13, L14)
  else
    b2 (fX5_must nf T N I L R x0 (ii 0)) fun I4 L5 =>
    some (u2, I4, L5)
/- LostLanesModel.readPart()I -/
def fX5_readPart_b99 (nf : Nat) (T : xT) (N : xT) (I : xI) (L : xL) (R : xR) (x0 : Nat) (x1 : Int32) (z0 : Nat) (z1 : Int32) (z2 : Int32) (z3 : Int32) : Option (Int32 × xI × xL) :=
  tg T 6 z0 <|
  b2 (fX5_leaf nf T N I L R z0 z1 z2 z3) fun I1 L2 =>
  tg T 6 x0 <|
  if (I1 x0 20) = (ii 0) then
    some ((ii 3), I1, L2)
  else
    if x1 < (ii 6) then
      some ((ii 3), I1, L2)
    else
      if (I1 x0 19) = (ii 0) then
        nm ((I1 x0 23) - (ii 1)) fun u9 =>
        (R x0 25).bind fun a10 =>
        if x1 = (ii 6) then
          b3 (fX5_number nf T N I1 L2 R x0 (jj 0) (jj 3)) fun r18 I19 L20 =>
          rA T N 100 a10 u9 fun j22 =>
          nm (uI I19 a10 j22 r18) fun I23 =>
          some ((ii 3), I23, L20)
        else
          b3 (fX5_number nf T N I1 L2 R x0 (jj 0) (jj 9)) fun r12 I13 L14 =>
          rA T N 100 a10 u9 fun j16 =>
          nm (uI I13 a10 j16 r12) fun I17 =>
          some ((ii 3), I17, L14)
      else
        some ((ii 3), I1, L2)
def fX5_readPart_b86 (nf : Nat) (T : xT) (N : xT) (I : xI) (L : xL) (R : xR) (x0 : Nat) (x1 : Int32) (x2 : Int32) (z0 : Nat) (z1 : Int32) (z2 : Int32) : Option (Int32 × xI × xL) :=
  if x2 = (ii 0) then
    fX5_readPart_b99 nf T N I L R x0 x1 z0 z1 z2 (ii 0)
  else
    tg T 6 x0 <|
    fX5_readPart_b99 nf T N I L R x0 x1 z0 z1 z2 (((L x0 17)).toInt32)
def fX5_readPart_b76 (nf : Nat) (T : xT) (N : xT) (I : xI) (L : xL) (R : xR) (x0 : Nat) (x1 : Int32) (x2 : Int32) (z0 : Nat) (z1 : Int32) : Option (Int32 × xI × xL) :=
  if x1 = (-1 : Int32) then
    fX5_readPart_b86 nf T N I L R x0 x1 x2 z0 z1 (ii 0)
  else
    fX5_readPart_b86 nf T N I L R x0 x1 x2 z0 z1 x1
def fX5_readPart_b60 (nf : Nat) (T : xT) (N : xT) (I : xI) (L : xL) (R : xR) (x0 : Nat) (x1 : Int32) (z0 : Int32) : Option (Int32 × xI × xL) :=
  if x1 = (-1 : Int32) then
    if z0 = (ii 0) then
      fX5_readPart_b76 nf T N I L R x0 x1 z0 x0 (ii 0)
    else
      fX5_readPart_b76 nf T N I L R x0 x1 z0 x0 (ii 1)
  else
    fX5_readPart_b76 nf T N I L R x0 x1 z0 x0 (ii 1)
def fX5_readPart_b35 (nf : Nat) (T : xT) (N : xT) (I : xI) (L : xL) (R : xR) (x0 : Nat) (z0 : Int32) : Option (Int32 × xI × xL) :=
  tg T 6 x0 <|
  if (I x0 16) = (ii 2) then
    if (jj 1000) < (L x0 17) then
      fX5_readPart_b60 nf T N I L R x0 z0 (ii 0)
    else
      fX5_readPart_b60 nf T N I L R x0 z0 (ii 1)
  else
    fX5_readPart_b60 nf T N I L R x0 z0 (ii 0)
def fX5_readPart (nf : Nat) (T : xT) (N : xT) (I : xI) (L : xL) (R : xR) (x0 : Nat) : Option (Int32 × xI × xL) :=
  tg T 6 x0 <|
  (fX5_isSign T I L x0 (ii 91)).bind fun r1 =>
  if r1 = (ii 0) then
    if (I x0 20) = (ii 0) then
      (fX5_partAt nf T N I L R x0).bind fun r6 =>
      fX5_readPart_b35 nf T N I L R x0 r6
    else
      (fX5_orderPartAt nf T N I L R x0).bind fun r8 =>
      fX5_readPart_b35 nf T N I L R x0 r8
  else
    b2 (fX5_openBracket nf T N I L R x0 (ii 32)) fun I10 L11 =>
    some ((ii 1), I10, L11)
/- LostLanesModel.readPlain()I -/
def fX5_readPlain (nf : Nat) (T : xT) (N : xT) (I : xI) (L : xL) (R : xR) (x0 : Nat) : Option (Int32 × xI × xL) :=
  tg T 6 x0 <|
  (fX5_isWord T I L x0 (jj 14836)).bind fun r1 =>
  if r1 = (ii 0) then
    (fX5_isSign T I L x0 (ii 40)).bind fun r5 =>
    if r5 = (ii 0) then
      b3 (fX5_readPart nf T N I L R x0) fun r8 I9 L10 =>
      some (r8, I9, L10)
    else
      b2 (fX5_openBracket nf T N I L R x0 (ii 31)) fun I12 L13 =>
      some ((ii 0), I12, L13)
  else
    (fX5_push T N I R x0 (ii 28) (ii 0)).bind fun I15 =>
    b2 (fX5_next nf T N I15 L R x0) fun I17 L18 =>
    some ((ii 0), I17, L18)
/- LostLanesModel.binds(I)I -/
def fX5_binds (x0 : Int32) : Option (Int32) :=
  if x0 < (ii 31) then
    if x0 = (ii 30) then
      some (ii 1)
    else
      if x0 = (ii 29) then
        some (ii 2)
      else
        if x0 = (ii 28) then
          some (ii 3)
        else
          if x0 < (ii 25) then
            if x0 < (ii 22) then
              some (ii 5)
            else
              some (ii 6)
          else
            some (ii 4)
  else
    some (ii 0)
/- LostLanesModel.settle(I)V -/
def fX5_settle_b63 (nf : Nat) (kk0 : xI → Nat → Int32 → Option (xI)) (T : xT) (N : xT) (I : xI) (R : xR) (x0 : Nat) (x1 : Int32) : Option (xI) :=
  tg T 6 x0 <|
  (R x0 25).bind fun a2 =>
  (R x0 28).bind fun a3 =>
  rA T N 100 a3 (I x0 29) fun j4 =>
  rA T N 100 a2 (I a3 j4) fun j5 =>
  nm (uI I a2 j5 (I x0 23)) fun I6 =>
  kk0 I6 x0 x1
def fX5_settle_b0 (nf : Nat) (T : xT) (N : xT) (R : xR) : Nat → xI → Nat → Int32 → Option (xI)
  | 0, _, _, _ => none
  | k + 1, I, x0, x1 =>
    tg T 6 x0 <|
    if (I x0 29) ≤ (ii 0) then
      some I
    else
      (R x0 27).bind fun a3 =>
      rA T N 100 a3 ((I x0 29) - (ii 1)) fun j4 =>
      (fX5_binds (I a3 j4)).bind fun r5 =>
      if r5 < x1 then
        some I
      else
        nm (uI I x0 29 ((I x0 29) - (ii 1))) fun I8 =>
        rA T N 100 a3 (I8 x0 29) fun j9 =>
        if (I8 a3 j9) = (ii 29) then
          fX5_settle_b63 nf (fX5_settle_b0 nf T N R k) T N I8 R x0 x1
        else
          if (I8 a3 j9) = (ii 30) then
            fX5_settle_b63 nf (fX5_settle_b0 nf T N R k) T N I8 R x0 x1
          else
            (fX5_emit T N I8 R x0 (I8 a3 j9) (ii 0)).bind fun I12 =>
            fX5_settle_b0 nf T N R k I12 x0 x1
def fX5_settle (nf : Nat) (T : xT) (N : xT) (I : xI) (R : xR) (x0 : Nat) (x1 : Int32) : Option (xI) :=
  fX5_settle_b0 nf T N R nf I x0 x1
/- LostLanesModel.inner()I -/
def fX5_inner_b4 (nf : Nat) (T : xT) (N : xT) (I : xI) (R : xR) : Nat → Nat → Int32 → Int32 → Option (Int32)
  | 0, _, _, _ => none
  | k + 1, x0, x1, x2 =>
    tg T 6 x0 <|
    if (I x0 29) ≤ x2 then
      some x1
    else
      (R x0 27).bind fun a3 =>
      rA T N 100 a3 x2 fun j4 =>
      if (I a3 j4) < (ii 31) then
        nm (x2 + (ii 1)) fun u6 =>
        fX5_inner_b4 nf T N I R k x0 x1 u6
      else
        nm (I a3 j4) fun u7 =>
        nm (x2 + (ii 1)) fun u8 =>
        fX5_inner_b4 nf T N I R k x0 u7 u8
def fX5_inner (nf : Nat) (T : xT) (N : xT) (I : xI) (R : xR) (x0 : Nat) : Option (Int32) :=
  fX5_inner_b4 nf T N I R nf x0 (-1 : Int32) (ii 0)
/- LostLanesModel.isCompared()Z -/
def fX5_isCompared_b36 (nf : Nat) (T : xT) (N : xT) (I : xI) (R : xR) (x0 : Nat) (x1 : Int32) : Option (Int32) :=
  if x1 < (ii 0) then
    some (ii 0)
  else
    tg T 6 x0 <|
    (R x0 27).bind fun a3 =>
    rA T N 100 a3 x1 fun j4 =>
    (fX5_in (((I a3 j4)).toInt64) (jj 25) (jj 27)).bind fun r5 =>
    if r5 = (ii 0) then
      some (ii 0)
    else
      some (ii 1)
def fX5_isCompared_b7 (nf : Nat) (T : xT) (N : xT) (I : xI) (R : xR) : Nat → Nat → Int32 → Option (Int32)
  | 0, _, _ => none
  | k + 1, x0, x1 =>
    if x1 < (ii 0) then
      fX5_isCompared_b36 nf T N I R x0 x1
    else
      tg T 6 x0 <|
      (R x0 27).bind fun a3 =>
      rA T N 100 a3 x1 fun j4 =>
      (fX5_in (((I a3 j4)).toInt64) (jj 20) (jj 24)).bind fun r5 =>
      if r5 = (ii 0) then
        fX5_isCompared_b36 nf T N I R x0 x1
      else
        nm (x1 + (-1 : Int32)) fun u8 =>
        fX5_isCompared_b7 nf T N I R k x0 u8
def fX5_isCompared (nf : Nat) (T : xT) (N : xT) (I : xI) (R : xR) (x0 : Nat) : Option (Int32) :=
  tg T 6 x0 <|
  nm ((I x0 29) - (ii 1)) fun u2 =>
  fX5_isCompared_b7 nf T N I R nf x0 u2
/- LostLanesModel.behindSum(Z)I -/
def fX5_behindSum_b224 (nf : Nat) (T : xT) (N : xT) (I : xI) (L : xL) (R : xR) (x0 : Nat) (x2 : Int32) (z0 : Nat) (z1 : Int32) : Option (Int32 × xI × xL) :=
  tg T 6 z0 <|
  b2 (fX5_must nf T N I L R z0 z1) fun I1 L2 =>
  tg T 6 x0 <|
  if (I1 x0 19) = (ii 0) then
    (fX5_settle nf T N I1 R x0 (ii 5)).bind fun I7 =>
    (fX5_push T N I7 R x0 x2 (ii 0)).bind fun I9 =>
    some ((ii 1), I9, L2)
  else
    some ((ii 1), I1, L2)
def fX5_behindSum_b202 (nf : Nat) (T : xT) (N : xT) (I : xI) (L : xL) (R : xR) (x0 : Nat) (z0 : Int32) : Option (Int32 × xI × xL) :=
  if z0 = (ii 27) then
    tg T 6 x0 <|
    (fX5_isSign T I L x0 (ii 61)).bind fun r2 =>
    if r2 = (ii 0) then
      fX5_behindSum_b224 nf T N I L R x0 z0 x0 (ii 0)
    else
      fX5_behindSum_b224 nf T N I L R x0 z0 x0 (ii 1)
  else
    fX5_behindSum_b224 nf T N I L R x0 z0 x0 (ii 1)
def fX5_behindSum_b163 (nf : Nat) (T : xT) (N : xT) (I : xI) (L : xL) (R : xR) (x0 : Nat) : Option (Int32 × xI × xL) :=
  tg T 6 x0 <|
  (fX5_isCompared nf T N I R x0).bind fun r1 =>
  if r1 = (ii 0) then
    (fX5_isSign T I L x0 (ii 60)).bind fun r5 =>
    if r5 = (ii 0) then
      (fX5_isSign T I L x0 (ii 62)).bind fun r8 =>
      if r8 = (ii 0) then
        fX5_behindSum_b202 nf T N I L R x0 (ii 27)
      else
        fX5_behindSum_b202 nf T N I L R x0 (ii 26)
    else
      fX5_behindSum_b202 nf T N I L R x0 (ii 25)
  else
    some ((ii 2), I, L)
def fX5_behindSum_b71 (nf : Nat) (T : xT) (N : xT) (I : xI) (L : xL) (R : xR) (x0 : Nat) (x1 : Int32) (z0 : Int32) : Option (Int32 × xI × xL) :=
  if z0 = (-1 : Int32) then
    tg T 6 x0 <|
    (fX5_inner nf T N I R x0).bind fun r2 =>
    if r2 = (ii 32) then
      (fX5_isSign T I L x0 (ii 93)).bind fun r8 =>
      b2 (fX5_must nf T N I L R x0 r8) fun I10 L11 =>
      if (I10 x0 19) = (ii 0) then
        (fX5_settle nf T N I10 R x0 (ii 5)).bind fun I14 =>
        nm (uI I14 x0 29 ((I14 x0 29) - (ii 1))) fun I16 =>
        nm (uI I16 x0 30 ((I16 x0 30) - (ii 1))) fun I17 =>
        some ((ii 3), I17, L11)
      else
        some ((ii 3), I10, L11)
    else
      if r2 = (-1 : Int32) then
        if x1 = (ii 0) then
          some ((ii 4), I, L)
        else
          fX5_behindSum_b163 nf T N I L R x0
      else
        fX5_behindSum_b163 nf T N I L R x0
  else
    (fX5_binds z0).bind fun r18 =>
    tg T 6 x0 <|
    (fX5_settle nf T N I R x0 r18).bind fun I20 =>
    (fX5_push T N I20 R x0 z0 (ii 0)).bind fun I23 =>
    b2 (fX5_next nf T N I23 L R x0) fun I25 L26 =>
    some ((ii 1), I25, L26)
def fX5_behindSum (nf : Nat) (T : xT) (N : xT) (I : xI) (L : xL) (R : xR) (x0 : Nat) (x1 : Int32) : Option (Int32 × xI × xL) :=
  tg T 6 x0 <|
  (fX5_isSign T I L x0 (ii 43)).bind fun r1 =>
  if r1 = (ii 0) then
    (fX5_isSign T I L x0 (ii 45)).bind fun r5 =>
    if r5 = (ii 0) then
      (fX5_isSign T I L x0 (ii 42)).bind fun r8 =>
      if r8 = (ii 0) then
        (fX5_isSign T I L x0 (ii 47)).bind fun r11 =>
        if r11 = (ii 0) then
          (fX5_isSign T I L x0 (ii 37)).bind fun r14 =>
          if r14 = (ii 0) then
            fX5_behindSum_b71 nf T N I L R x0 x1 (-1 : Int32)
          else
            fX5_behindSum_b71 nf T N I L R x0 x1 (ii 24)
        else
          fX5_behindSum_b71 nf T N I L R x0 x1 (ii 23)
      else
        fX5_behindSum_b71 nf T N I L R x0 x1 (ii 22)
    else
      fX5_behindSum_b71 nf T N I L R x0 x1 (ii 21)
  else
    fX5_behindSum_b71 nf T N I L R x0 x1 (ii 20)
/- LostLanesModel.behindTest()I -/
def fX5_behindTest_b66 (nf : Nat) (T : xT) (N : xT) (I : xI) (L : xL) (R : xR) (x0 : Nat) (z0 : Nat) (z1 : Int32) : Option (Int32 × xI × xL) :=
  tg T 6 z0 <|
  (fX5_emit T N I R z0 z1 (ii 0)).bind fun I1 =>
  tg T 6 x0 <|
  b2 (fX5_next nf T N I1 L R x0) fun I4 L5 =>
  some ((ii 0), I4, L5)
def fX5_behindTest_b47 (nf : Nat) (T : xT) (N : xT) (I : xI) (L : xL) (R : xR) (x0 : Nat) (x1 : Int32) (z0 : Nat) (z1 : Int32) : Option (Int32 × xI × xL) :=
  tg T 6 x0 <|
  tg T 6 z0 <|
  (fX5_push T N I R z0 z1 (I x0 23)).bind fun I2 =>
  if x1 = (ii 0) then
    fX5_behindTest_b66 nf T N I2 L R x0 x0 (ii 30)
  else
    fX5_behindTest_b66 nf T N I2 L R x0 x0 (ii 29)
def fX5_behindTest_b32 (nf : Nat) (T : xT) (N : xT) (I : xI) (L : xL) (R : xR) (x0 : Nat) (x1 : Int32) (z0 : Nat) (z1 : Int32) : Option (Int32 × xI × xL) :=
  tg T 6 z0 <|
  (fX5_settle nf T N I R z0 z1).bind fun I1 =>
  if x1 = (ii 0) then
    fX5_behindTest_b47 nf T N I1 L R x0 x1 x0 (ii 30)
  else
    fX5_behindTest_b47 nf T N I1 L R x0 x1 x0 (ii 29)
def fX5_behindTest_b22 (nf : Nat) (T : xT) (N : xT) (I : xI) (L : xL) (R : xR) (x0 : Nat) (x1 : Int32) : Option (Int32 × xI × xL) :=
  if x1 = (ii 0) then
    fX5_behindTest_b32 nf T N I L R x0 x1 x0 (ii 1)
  else
    fX5_behindTest_b32 nf T N I L R x0 x1 x0 (ii 2)
def fX5_behindTest (nf : Nat) (T : xT) (N : xT) (I : xI) (L : xL) (R : xR) (x0 : Nat) : Option (Int32 × xI × xL) :=
  tg T 6 x0 <|
  (fX5_isWord T I L x0 (jj 1476)).bind fun r1 =>
  if r1 = (ii 0) then
    (fX5_isWord T I L x0 (jj 498)).bind fun r5 =>
    if r5 = (ii 0) then
      (fX5_inner nf T N I R x0).bind fun r8 =>
      if r8 = (-1 : Int32) then
        some ((ii 4), I, L)
      else
        (fX5_isSign T I L x0 (ii 41)).bind fun r11 =>
        b2 (fX5_must nf T N I L R x0 r11) fun I13 L14 =>
        if (I13 x0 19) = (ii 0) then
          (fX5_settle nf T N I13 R x0 (ii 1)).bind fun I17 =>
          nm (uI I17 x0 29 ((I17 x0 29) - (ii 1))) fun I19 =>
          nm (uI I19 x0 30 ((I19 x0 30) - (ii 1))) fun I20 =>
          some ((ii 2), I20, L14)
        else
          some ((ii 2), I13, L14)
    else
      fX5_behindTest_b22 nf T N I L R x0 r1
  else
    fX5_behindTest_b22 nf T N I L R x0 r1
/- LostLanesModel.readExpression(Z)V -/
def fX5_readExpression_b20 (nf : Nat) (T : xT) (N : xT) (R : xR) : Nat → xI → xL → Nat → Int32 → Int32 → Option (xI × xL)
  | 0, _, _, _, _, _ => none
  | k + 1, I, L, x0, x1, x2 =>
    tg T 6 x0 <|
    if (I x0 19) = (ii 0) then
      if x2 = (ii 4) then
        (fX5_settle nf T N I R x0 (ii 1)).bind fun I6 =>
        some (I6, L)
      else
        if x2 = (ii 0) then
          b3 (fX5_readPlain nf T N I L R x0) fun r23 I24 L25 =>
          fX5_readExpression_b20 nf T N R k I24 L25 x0 x1 r23
        else
          if x2 = (ii 1) then
            b3 (fX5_readPart nf T N I L R x0) fun r19 I20 L21 =>
            fX5_readExpression_b20 nf T N R k I20 L21 x0 x1 r19
          else
            if x2 = (ii 3) then
              b3 (fX5_behindSum nf T N I L R x0 x1) fun r15 I16 L17 =>
              fX5_readExpression_b20 nf T N R k I16 L17 x0 x1 r15
            else
              b3 (fX5_behindTest nf T N I L R x0) fun r11 I12 L13 =>
              fX5_readExpression_b20 nf T N R k I12 L13 x0 x1 r11
    else
      (fX5_settle nf T N I R x0 (ii 1)).bind fun I3 =>
      some (I3, L)
def fX5_readExpression (nf : Nat) (T : xT) (N : xT) (I : xI) (L : xL) (R : xR) (x0 : Nat) (x1 : Int32) : Option (xI × xL) :=
  tg T 6 x0 <|
  nm (uI I x0 29 (ii 0)) fun I2 =>
  nm (uI I2 x0 30 (ii 0)) fun I3 =>
  if x1 = (ii 0) then
    fX5_readExpression_b20 nf T N R nf I3 L x0 x1 (ii 1)
  else
    fX5_readExpression_b20 nf T N R nf I3 L x0 x1 (ii 0)
/- LostLanesModel.readLaw()V -/
def fX5_readLaw_b185 (nf : Nat) (T : xT) (N : xT) (I : xI) (L : xL) (R : xR) (x0 : Nat) (x2 : Int32) : Option (xI × xL) :=
  tg T 6 x0 <|
  (R x0 22).bind fun a2 =>
  rA T N 100 a2 (x2 + (ii 6)) fun j3 =>
  nm (uI I a2 j3 (I x0 23)) fun I4 =>
  some (I4, L)
def fX5_readLaw_b135 (nf : Nat) (T : xT) (N : xT) (I : xI) (L : xL) (R : xR) (x0 : Nat) (x2 : Int32) : Option (xI × xL) :=
  tg T 6 x0 <|
  (R x0 22).bind fun a2 =>
  rA T N 100 a2 (x2 + (ii 4)) fun j3 =>
  nm (uI I a2 j3 (I x0 23)) fun I4 =>
  rA T N 100 a2 (x2 + (ii 5)) fun j5 =>
  nm (uI I4 a2 j5 (I4 x0 23)) fun I6 =>
  if (I6 x0 19) = (ii 0) then
    (fX5_isWord T I6 L x0 (jj 294)).bind fun r8 =>
    if r8 = (ii 0) then
      fX5_readLaw_b185 nf T N I6 L R x0 x2
    else
      b2 (fX5_next nf T N I6 L R x0) fun I11 L12 =>
      b2 (fX5_readExpression nf T N I11 L12 R x0 (ii 1)) fun I14 L15 =>
      fX5_readLaw_b185 nf T N I14 L15 R x0 x2
  else
    fX5_readLaw_b185 nf T N I6 L R x0 x2
def fX5_readLaw_b75 (nf : Nat) (T : xT) (N : xT) (R : xR) : Nat → xI → xL → Nat → Int32 → Int32 → Int32 → Option (xI × xL)
  | 0, _, _, _, _, _, _ => none
  | k + 1, I, L, x0, x1, x2, x3 =>
    if (ii 8) ≤ x3 then
      tg T 6 x0 <|
      (R x0 22).bind fun a3 =>
      rA T N 100 a3 x2 fun j4 =>
      nm (uI I a3 j4 x1) fun I5 =>
      nm (uI I5 x0 21 ((I5 x0 21) + (ii 1))) fun I6 =>
      rA T N 100 a3 (x2 + (ii 3)) fun j7 =>
      nm (uI I6 a3 j7 (I6 x0 23)) fun I8 =>
      if x1 = (ii 2) then
        fX5_readLaw_b135 nf T N I8 L R x0 x2
      else
        b2 (fX5_readExpression nf T N I8 L R x0 (ii 0)) fun I10 L11 =>
        fX5_readLaw_b135 nf T N I10 L11 R x0 x2
    else
      tg T 6 x0 <|
      (R x0 22).bind fun a14 =>
      rA T N 100 a14 (x2 + x3) fun j15 =>
      nm (uI I a14 j15 (ii 0)) fun I16 =>
      nm (x3 + (ii 1)) fun u17 =>
      fX5_readLaw_b75 nf T N R k I16 L x0 x1 x2 u17
def fX5_readLaw_b54 (nf : Nat) (T : xT) (N : xT) (I : xI) (L : xL) (R : xR) (x0 : Nat) (x1 : Int32) (z0 : Nat) (z1 : Int32) : Option (xI × xL) :=
  tg T 6 z0 <|
  b2 (fX5_must nf T N I L R z0 z1) fun I1 L2 =>
  tg T 6 x0 <|
  if (I1 x0 19) = (ii 0) then
    nm ((ii 8) * (I1 x0 21)) fun u7 =>
    fX5_readLaw_b75 nf T N R nf I1 L2 x0 x1 u7 (ii 0)
  else
    some (I1, L2)
def fX5_readLaw_b4 (nf : Nat) (T : xT) (N : xT) (R : xR) : Nat → xI → xL → Nat → Int32 → Int32 → Option (xI × xL)
  | 0, _, _, _, _, _ => none
  | k + 1, I, L, x0, x1, x2 =>
    if (ii 3) ≤ x2 then
      if x1 = (-1 : Int32) then
        fX5_readLaw_b54 nf T N I L R x0 x1 x0 (ii 0)
      else
        tg T 6 x0 <|
        if (ii 12) ≤ (I x0 21) then
          fX5_readLaw_b54 nf T N I L R x0 x1 x0 (ii 0)
        else
          fX5_readLaw_b54 nf T N I L R x0 x1 x0 (ii 1)
    else
      tg T 6 x0 <|
      (R x0 33).bind fun a6 =>
      rA T N 103 a6 x2 fun j7 =>
      (fX5_isWord T I L x0 (L a6 j7)).bind fun r8 =>
      if r8 = (ii 0) then
        nm (x2 + (ii 1)) fun u11 =>
        fX5_readLaw_b4 nf T N R k I L x0 x1 u11
      else
        nm (x2 + (ii 1)) fun u12 =>
        fX5_readLaw_b4 nf T N R k I L x0 x2 u12
def fX5_readLaw (nf : Nat) (T : xT) (N : xT) (I : xI) (L : xL) (R : xR) (x0 : Nat) : Option (xI × xL) :=
  fX5_readLaw_b4 nf T N R nf I L x0 (-1 : Int32) (ii 0)
/- LostLanesModel.endText()V -/
def fX5_endText (nf : Nat) (T : xT) (N : xT) (I : xI) (L : xL) (R : xR) (x0 : Nat) : Option (xI × xL) :=
  tg T 6 x0 <|
  if (I x0 19) = (ii 0) then
    if (I x0 16) = (ii 0) then
      nm (uI I x0 20 (ii 0)) fun I6 =>
      nm (uI I6 x0 13 (ii 0)) fun I7 =>
      some (I7, L)
    else
      b2 (fX5_must nf T N I L R x0 (ii 0)) fun I8 L9 =>
      nm (uI I8 x0 20 (ii 0)) fun I11 =>
      nm (uI I11 x0 13 (ii 0)) fun I12 =>
      some (I12, L9)
  else
    nm (uI I x0 20 (ii 0)) fun I3 =>
    nm (uI I3 x0 13 (ii 0)) fun I4 =>
    some (I4, L)
/- LostLanesModel.law()I -/
def fX5_law_b145 (nf : Nat) (T : xT) (N : xT) (R : xR) : Nat → xI → xL → Nat → Int32 → Int32 → Option (Int32 × xI × xL)
  | 0, _, _, _, _, _ => none
  | k + 1, I, L, x0, x1, x2 =>
    tg T 6 x0 <|
    if (I x0 23) ≤ x2 then
      (R x0 3).bind fun a3 =>
      rA T N 100 a3 (ii 3) fun j4 =>
      nm (uI I a3 j4 ((I a3 j4) + (ii 1))) fun I5 =>
      b2 (fX5_tell T N I5 R x0 ((I5 a3 j4) - (ii 1))) fun r6 I7 =>
      some (r6, I7, L)
    else
      (R x0 3).bind fun a9 =>
      (R x0 24).bind fun a10 =>
      rA T N 100 a10 x2 fun j11 =>
      rA T N 100 a9 ((x1 + (ii 98)) + ((ii 2) * x2)) fun j12 =>
      nm (uI I a9 j12 (I a10 j11)) fun I13 =>
      (R x0 25).bind fun a14 =>
      rA T N 100 a14 x2 fun j15 =>
      rA T N 100 a9 (((x1 + (ii 98)) + ((ii 2) * x2)) + (ii 1)) fun j16 =>
      nm (uI I13 a9 j16 (I13 a14 j15)) fun I17 =>
      nm (x2 + (ii 1)) fun u18 =>
      fX5_law_b145 nf T N R k I17 L x0 x1 u18
def fX5_law_b110 (nf : Nat) (T : xT) (N : xT) (R : xR) : Nat → xI → xL → Nat → Int32 → Int32 → Option (Int32 × xI × xL)
  | 0, _, _, _, _, _ => none
  | k + 1, I, L, x0, x1, x2 =>
    tg T 6 x0 <|
    if ((ii 8) * (I x0 21)) ≤ x2 then
      fX5_law_b145 nf T N R nf I L x0 x1 (ii 0)
    else
      (R x0 3).bind fun a3 =>
      (R x0 22).bind fun a4 =>
      rA T N 100 a4 x2 fun j5 =>
      rA T N 100 a3 ((x1 + (ii 2)) + x2) fun j6 =>
      nm (uI I a3 j6 (I a4 j5)) fun I7 =>
      nm (x2 + (ii 1)) fun u8 =>
      fX5_law_b110 nf T N R k I7 L x0 x1 u8
def fX5_law_b64 (nf : Nat) (T : xT) (N : xT) (I : xI) (L : xL) (R : xR) (x0 : Nat) : Option (Int32 × xI × xL) :=
  tg T 6 x0 <|
  b2 (fX5_endText nf T N I L R x0) fun I1 L2 =>
  if (I1 x0 19) = (ii 0) then
    (R x0 3).bind fun a6 =>
    rA T N 100 a6 (ii 3) fun j7 =>
    nm ((ii 76) + ((ii 900) * (I1 a6 j7))) fun u8 =>
    rA T N 100 a6 (u8 + (ii 1)) fun j9 =>
    nm (uI I1 a6 j9 (I1 x0 21)) fun I10 =>
    fX5_law_b110 nf T N R nf I10 L2 x0 u8 (ii 0)
  else
    b2 (fX5_tell T N I1 R x0 (-6 : Int32)) fun r11 I12 =>
    some (r11, I12, L2)
def fX5_law_b37 (nf : Nat) (T : xT) (N : xT) (R : xR) : Nat → xI → xL → Nat → Option (Int32 × xI × xL)
  | 0, _, _, _ => none
  | k + 1, I, L, x0 =>
    tg T 6 x0 <|
    if (I x0 19) = (ii 0) then
      (fX5_isSign T I L x0 (ii 59)).bind fun r3 =>
      if r3 = (ii 0) then
        fX5_law_b64 nf T N I L R x0
      else
        b2 (fX5_next nf T N I L R x0) fun I6 L7 =>
        b2 (fX5_readLaw nf T N I6 L7 R x0) fun I9 L10 =>
        fX5_law_b37 nf T N R k I9 L10 x0
    else
      fX5_law_b64 nf T N I L R x0
def fX5_law (nf : Nat) (T : xT) (N : xT) (I : xI) (L : xL) (R : xR) (x0 : Nat) : Option (Int32 × xI × xL) :=
  tg T 6 x0 <|
  nm (uI I x0 0 (ii 0)) fun I2 =>
  (R x0 3).bind fun a3 =>
  rA T N 100 a3 (ii 3) fun j4 =>
  if (I2 a3 j4) = (ii 6) then
    nm (uI I2 x0 13 (ii 0)) fun I12 =>
    b2 (fX5_tell T N I12 R x0 (-5 : Int32)) fun r13 I14 =>
    some (r13, I14, L)
  else
    b2 (fX5_beginText nf T N I2 L R x0 (ii 0)) fun I6 L7 =>
    b2 (fX5_readLaw nf T N I6 L7 R x0) fun I9 L10 =>
    fX5_law_b37 nf T N R nf I9 L10 x0
/- LostLanesModel.isLaw(I)Z -/
def fX5_isLaw (T : xT) (N : xT) (I : xI) (R : xR) (x0 : Nat) (x1 : Int32) : Option (Int32) :=
  if x1 = (-1 : Int32) then
    some (ii 1)
  else
    tg T 6 x0 <|
    (R x0 3).bind fun a3 =>
    rA T N 100 a3 (ii 3) fun j4 =>
    (fX5_in ((x1).toInt64) (jj 0) ((((I a3 j4)).toInt64) - (jj 1))).bind fun r5 =>
    if r5 = (ii 0) then
      some (ii 0)
    else
      some (ii 1)
/- LostLanesModel.force(I)I -/
def fX5_force (T : xT) (N : xT) (I : xI) (R : xR) (x0 : Nat) (x1 : Int32) : Option (Int32 × xI) :=
  tg T 6 x0 <|
  nm (uI I x0 0 (ii 0)) fun I2 =>
  (fX5_isLaw T N I2 R x0 x1).bind fun r3 =>
  if r3 = (ii 0) then
    b2 (fX5_tell T N I2 R x0 (-2 : Int32)) fun r6 I7 =>
    some (r6, I7)
  else
    b2 (fX5_change T N I2 R x0 (ii 4) x1) fun r9 I10 =>
    some (r9, I10)
/- LostLanesModel.keepAll(I)V -/
def fX5_keepAll_b2 (nf : Nat) (T : xT) (N : xT) (R : xR) : Nat → xI → Nat → Int32 → Int32 → Option (xI)
  | 0, _, _, _, _ => none
  | k + 1, I, x0, x1, x2 =>
    if (ii 21) ≤ x2 then
      some I
    else
      tg T 6 x0 <|
      (R x0 6).bind fun a3 =>
      (R x0 3).bind fun a4 =>
      rA T N 100 a4 ((ii 5) + x2) fun j5 =>
      rA T N 100 a3 (((ii 21) * x1) + x2) fun j6 =>
      nm (uI I a3 j6 (I a4 j5)) fun I7 =>
      nm (x2 + (ii 1)) fun u8 =>
      fX5_keepAll_b2 nf T N R k I7 x0 x1 u8
def fX5_keepAll (nf : Nat) (T : xT) (N : xT) (I : xI) (R : xR) (x0 : Nat) (x1 : Int32) : Option (xI) :=
  fX5_keepAll_b2 nf T N R nf I x0 x1 (ii 0)
/- LostLanesModel.remember(I)V -/
def fX5_remember_b77 (nf : Nat) (T : xT) (N : xT) (I : xI) (R : xR) (x0 : Nat) (x1 : Int32) : Option (xI) :=
  tg T 6 x0 <|
  (fX5_keepAll nf T N I R x0 (I x0 8)).bind fun I2 =>
  (R x0 7).bind fun a4 =>
  rA T N 100 a4 (I2 x0 8) fun j5 =>
  nm (uI I2 a4 j5 x1) fun I6 =>
  nm (uI I6 x0 8 ((I6 x0 8) + (ii 1))) fun I7 =>
  some I7
def fX5_remember_b41 (nf : Nat) (T : xT) (N : xT) (R : xR) : Nat → xI → Nat → Int32 → Int32 → Option (xI)
  | 0, _, _, _, _ => none
  | k + 1, I, x0, x1, x2 =>
    if (ii 15) ≤ x2 then
      tg T 6 x0 <|
      nm (uI I x0 8 ((I x0 8) - (ii 1))) fun I3 =>
      fX5_remember_b77 nf T N I3 R x0 x1
    else
      tg T 6 x0 <|
      (R x0 7).bind fun a5 =>
      rA T N 100 a5 (x2 + (ii 1)) fun j6 =>
      rA T N 100 a5 x2 fun j7 =>
      nm (uI I a5 j7 (I a5 j6)) fun I8 =>
      nm (x2 + (ii 1)) fun u9 =>
      fX5_remember_b41 nf T N R k I8 x0 x1 u9
def fX5_remember_b11 (nf : Nat) (T : xT) (N : xT) (R : xR) : Nat → xI → Nat → Int32 → Int32 → Option (xI)
  | 0, _, _, _, _ => none
  | k + 1, I, x0, x1, x2 =>
    if (ii 315) ≤ x2 then
      fX5_remember_b41 nf T N R nf I x0 x1 (ii 0)
    else
      tg T 6 x0 <|
      (R x0 6).bind fun a3 =>
      rA T N 100 a3 (x2 + (ii 21)) fun j4 =>
      rA T N 100 a3 x2 fun j5 =>
      nm (uI I a3 j5 (I a3 j4)) fun I6 =>
      nm (x2 + (ii 1)) fun u7 =>
      fX5_remember_b11 nf T N R k I6 x0 x1 u7
def fX5_remember (nf : Nat) (T : xT) (N : xT) (I : xI) (R : xR) (x0 : Nat) (x1 : Int32) : Option (xI) :=
  tg T 6 x0 <|
  if (I x0 8) = (ii 16) then
    fX5_remember_b11 nf T N R nf I x0 x1 (ii 0)
  else
    fX5_remember_b77 nf T N I R x0 x1
/- LostLanesModel.across(II)I -/
def fX5_across (T : xT) (N : xT) (I : xI) (R : xR) (x0 : Nat) (x1 : Int32) (x2 : Int32) : Option (Int32) :=
  tg T 6 x0 <|
  (R x0 3).bind fun a2 =>
  rA T N 100 a2 ((ii 26) + x1) fun j3 =>
  if (I a2 j3) = x2 then
    rA T N 100 a2 ((ii 36) + x1) fun j5 =>
    some (I a2 j5)
  else
    some (I a2 j3)
/- LostLanesModel.goAlong(II)V -/
def fX5_goAlong (T : xT) (N : xT) (I : xI) (R : xR) (x0 : Nat) (x1 : Int32) (x2 : Int32) : Option (xI) :=
  tg T 6 x0 <|
  (R x0 3).bind fun a2 =>
  rA T N 100 a2 ((ii 18) + x1) fun j3 =>
  (fX5_across T N I R x0 x2 (I a2 j3)).bind fun r4 =>
  nm (uI I a2 j3 r4) fun I6 =>
  rA T N 100 a2 ((ii 22) + x1) fun j7 =>
  nm (uI I6 a2 j7 x2) fun I8 =>
  some I8
/- LostLanesModel.wanderNow(I)I -/
def fX5_wanderNow (nf : Nat) (T : xT) (N : xT) (I : xI) (L : xL) (R : xR) (x0 : Nat) (x1 : Int32) : Option (Int32 × xI × xL) :=
  tg T 6 x0 <|
  (fX5_isChild T N I R x0 x1).bind fun r1 =>
  if r1 = (ii 0) then
    some ((-2 : Int32), I, L)
  else
    b3 (fX5_laneOf nf T N I L R x0 x1) fun r5 I6 L7 =>
    if r5 = (-1 : Int32) then
      some ((-3 : Int32), I6, L7)
    else
      (fX5_remember nf T N I6 R x0 (ii 0)).bind fun I10 =>
      (fX5_goAlong T N I10 R x0 x1 r5).bind fun I12 =>
      (R x0 3).bind fun a14 =>
      rA T N 100 a14 ((ii 18) + x1) fun j15 =>
      some ((I12 a14 j15), I12, L7)
/- LostLanesModel.wander(I)I -/
def fX5_wander (nf : Nat) (T : xT) (N : xT) (I : xI) (L : xL) (R : xR) (x0 : Nat) (x1 : Int32) : Option (Int32 × xI × xL) :=
  tg T 6 x0 <|
  nm (uI I x0 0 (ii 0)) fun I2 =>
  b3 (fX5_wanderNow nf T N I2 L R x0 x1) fun r3 I4 L5 =>
  b2 (fX5_tell T N I4 R x0 r3) fun r7 I8 =>
  some (r7, I8, L5)
/- LostLanesModel.cryIt(I)I -/
def fX5_cryIt (nf : Nat) (T : xT) (N : xT) (I : xI) (L : xL) (R : xR) (x0 : Nat) (x1 : Int32) : Option (Int32 × xI × xL) :=
  tg T 6 x0 <|
  (R x0 3).bind fun a2 =>
  rA T N 100 a2 ((ii 22) + x1) fun j3 =>
  nm (I a2 j3) fun u4 =>
  b3 (fX5_saysOf nf T N I L R x0 x1 u4) fun r5 I6 L7 =>
  rA T N 100 a2 ((ii 8) + u4) fun j9 =>
  nm (uI I6 a2 j9 r5) fun I10 =>
  some ((I10 a2 j9), I10, L7)
/- LostLanesModel.cryNow(I)I -/
def fX5_cryNow (nf : Nat) (T : xT) (N : xT) (I : xI) (L : xL) (R : xR) (x0 : Nat) (x1 : Int32) : Option (Int32 × xI × xL) :=
  tg T 6 x0 <|
  (fX5_isChild T N I R x0 x1).bind fun r1 =>
  if r1 = (ii 0) then
    some ((-2 : Int32), I, L)
  else
    (R x0 3).bind fun a5 =>
    rA T N 100 a5 ((ii 22) + x1) fun j6 =>
    if (I a5 j6) = (-1 : Int32) then
      some ((-3 : Int32), I, L)
    else
      (fX5_remember nf T N I R x0 (ii 1)).bind fun I8 =>
      b3 (fX5_cryIt nf T N I8 L R x0 x1) fun r10 I11 L12 =>
      some (r10, I11, L12)
/- LostLanesModel.cry(I)I -/
def fX5_cry (nf : Nat) (T : xT) (N : xT) (I : xI) (L : xL) (R : xR) (x0 : Nat) (x1 : Int32) : Option (Int32 × xI × xL) :=
  tg T 6 x0 <|
  nm (uI I x0 0 (ii 0)) fun I2 =>
  b3 (fX5_cryNow nf T N I2 L R x0 x1) fun r3 I4 L5 =>
  b2 (fX5_tell T N I4 R x0 r3) fun r7 I8 =>
  some (r7, I8, L5)
/- LostLanesModel.leadNow(II)I -/
def fX5_leadNow (nf : Nat) (T : xT) (N : xT) (I : xI) (R : xR) (x0 : Nat) (x1 : Int32) (x2 : Int32) : Option (Int32 × xI) :=
  (fX5_isCorner x2).bind fun r1 =>
  if r1 = (ii 0) then
    some ((-1 : Int32), I)
  else
    tg T 6 x0 <|
    (fX5_isChild T N I R x0 x1).bind fun r4 =>
    if r4 = (ii 0) then
      some ((-2 : Int32), I)
    else
      (R x0 3).bind fun a8 =>
      rA T N 100 a8 ((ii 18) + x1) fun j9 =>
      nm (I a8 j9) fun u10 =>
      if u10 = x2 then
        some ((-3 : Int32), I)
      else
        (fX5_remember nf T N I R x0 (ii 2)).bind fun I12 =>
        nm (uI I12 a8 j9 x2) fun I14 =>
        some (u10, I14)
/- LostLanesModel.lead(II)I -/
def fX5_lead (nf : Nat) (T : xT) (N : xT) (I : xI) (R : xR) (x0 : Nat) (x1 : Int32) (x2 : Int32) : Option (Int32 × xI) :=
  tg T 6 x0 <|
  nm (uI I x0 0 (ii 0)) fun I2 =>
  b2 (fX5_leadNow nf T N I2 R x0 x1 x2) fun r3 I4 =>
  b2 (fX5_tell T N I4 R x0 r3) fun r6 I7 =>
  some (r6, I7)
/- LostLanesModel.passIt()I -/
def fX5_passIt_b33 (nf : Nat) (T : xT) (N : xT) (R : xR) : Nat → xI → xL → Nat → Int32 → Int32 → Option (Int32 × xI × xL)
  | 0, _, _, _, _, _ => none
  | k + 1, I, L, x0, x1, x2 =>
    tg T 6 x0 <|
    (R x0 3).bind fun a2 =>
    rA T N 100 a2 (ii 1) fun j3 =>
    if (I a2 j3) ≤ x2 then
      rA T N 100 a2 (ii 5) fun j5 =>
      nm (uI I a2 j5 ((I a2 j5) + (ii 1))) fun I6 =>
      some (x1, I6, L)
    else
      (R x0 41).bind fun a7 =>
      rA T N 100 a7 x2 fun j8 =>
      if (I a7 j8) = (-1 : Int32) then
        nm (x2 + (ii 1)) fun u10 =>
        fX5_passIt_b33 nf T N R k I L x0 x1 u10
      else
        (fX5_goAlong T N I R x0 x2 (I a7 j8)).bind fun I11 =>
        nm (x1 + (ii 1)) fun u13 =>
        nm (x2 + (ii 1)) fun u14 =>
        fX5_passIt_b33 nf T N R k I11 L x0 u13 u14
def fX5_passIt_b4 (nf : Nat) (T : xT) (N : xT) (R : xR) : Nat → xI → xL → Nat → Int32 → Int32 → Option (Int32 × xI × xL)
  | 0, _, _, _, _, _ => none
  | k + 1, I, L, x0, x1, x2 =>
    tg T 6 x0 <|
    (R x0 3).bind fun a2 =>
    rA T N 100 a2 (ii 1) fun j3 =>
    if (I a2 j3) ≤ x2 then
      fX5_passIt_b33 nf T N R nf I L x0 x1 (ii 0)
    else
      (R x0 41).bind fun a5 =>
      b3 (fX5_laneOf nf T N I L R x0 x2) fun r6 I7 L8 =>
      rA T N 100 a5 x2 fun j10 =>
      nm (uI I7 a5 j10 r6) fun I11 =>
      nm (x2 + (ii 1)) fun u12 =>
      fX5_passIt_b4 nf T N R k I11 L8 x0 x1 u12
def fX5_passIt (nf : Nat) (T : xT) (N : xT) (I : xI) (L : xL) (R : xR) (x0 : Nat) : Option (Int32 × xI × xL) :=
  fX5_passIt_b4 nf T N R nf I L x0 (ii 0) (ii 0)
/- LostLanesModel.passNow()I -/
def fX5_passNow (nf : Nat) (T : xT) (N : xT) (I : xI) (L : xL) (R : xR) (x0 : Nat) : Option (Int32 × xI × xL) :=
  tg T 6 x0 <|
  (R x0 3).bind fun a2 =>
  rA T N 100 a2 (ii 5) fun j3 =>
  if (I a2 j3) = (ii 999) then
    some ((-3 : Int32), I, L)
  else
    (fX5_remember nf T N I R x0 (ii 3)).bind fun I5 =>
    b3 (fX5_passIt nf T N I5 L R x0) fun r7 I8 L9 =>
    some (r7, I8, L9)
/- LostLanesModel.pass()I -/
def fX5_pass (nf : Nat) (T : xT) (N : xT) (I : xI) (L : xL) (R : xR) (x0 : Nat) : Option (Int32 × xI × xL) :=
  tg T 6 x0 <|
  nm (uI I x0 0 (ii 0)) fun I2 =>
  b3 (fX5_passNow nf T N I2 L R x0) fun r3 I4 L5 =>
  b2 (fX5_tell T N I4 R x0 r3) fun r7 I8 =>
  some (r7, I8, L5)
/- LostLanesModel.where(II)I -/
def fX5_where_b35 (nf : Nat) (T : xT) (N : xT) (R : xR) : Nat → xI → xL → Nat → Int32 → Int32 → Int32 → Option (Int32 × xI × xL)
  | 0, _, _, _, _, _, _ => none
  | k + 1, I, L, x0, x1, x2, x3 =>
    if x2 ≤ x3 then
      tg T 6 x0 <|
      (R x0 3).bind fun a3 =>
      rA T N 100 a3 ((ii 18) + x1) fun j4 =>
      nm (I a3 j4) fun u5 =>
      (fX5_putBack nf T N I R x0 (ii 16)).bind fun I6 =>
      some (u5, I6, L)
    else
      tg T 6 x0 <|
      b3 (fX5_passIt nf T N I L R x0) fun r8 I9 L10 =>
      nm (x3 + (ii 1)) fun u13 =>
      fX5_where_b35 nf T N R k I9 L10 x0 x1 x2 u13
def fX5_where (nf : Nat) (T : xT) (N : xT) (I : xI) (L : xL) (R : xR) (x0 : Nat) (x1 : Int32) (x2 : Int32) : Option (Int32 × xI × xL) :=
  tg T 6 x0 <|
  nm (uI I x0 0 (ii 0)) fun I2 =>
  (fX5_isChild T N I2 R x0 x1).bind fun r3 =>
  if r3 = (ii 0) then
    some ((-1 : Int32), I2, L)
  else
    (fX5_in ((x2).toInt64) (jj 0) (jj 60)).bind fun r6 =>
    if r6 = (ii 0) then
      some ((-1 : Int32), I2, L)
    else
      (fX5_keepAll nf T N I2 R x0 (ii 16)).bind fun I9 =>
      fX5_where_b35 nf T N R nf I9 L x0 x1 x2 (ii 0)
/- LostLanesModel.layFar()V -/
def fX5_layFar_b170 (nf : Nat) (kk154 : xI → Nat → Int32 → Option (xI)) (kk162 : xI → Nat → Int32 → Int32 → Option (xI)) (T : xT) (N : xT) (R : xR) : Nat → xI → Nat → Int32 → Int32 → Int32 → Option (xI)
  | 0, _, _, _, _, _ => none
  | k + 1, I, x0, x1, x2, x3 =>
    if (ii 8) ≤ x3 then
      nm (x2 + (ii 1)) fun u2 =>
      kk162 I x0 x1 u2
    else
      tg T 6 x0 <|
      (R x0 42).bind fun a4 =>
      rA T N 100 a4 (((ii 8) * x2) + x1) fun j5 =>
      rA T N 100 a4 (((ii 8) * x1) + x3) fun j6 =>
      nm ((I a4 j5) + (I a4 j6)) fun u7 =>
      rA T N 100 a4 (((ii 8) * x2) + x3) fun j8 =>
      if (I a4 j8) ≤ u7 then
        nm (uI I a4 j8 (I a4 j8)) fun I10 =>
        nm (x3 + (ii 1)) fun u11 =>
        fX5_layFar_b170 nf kk154 kk162 T N R k I10 x0 x1 x2 u11
      else
        nm (uI I a4 j8 u7) fun I12 =>
        nm (x3 + (ii 1)) fun u13 =>
        fX5_layFar_b170 nf kk154 kk162 T N R k I12 x0 x1 x2 u13
def fX5_layFar_b162 (nf : Nat) (kk154 : xI → Nat → Int32 → Option (xI)) (T : xT) (N : xT) (R : xR) : Nat → xI → Nat → Int32 → Int32 → Option (xI)
  | 0, _, _, _, _ => none
  | k + 1, I, x0, x1, x2 =>
    if (ii 8) ≤ x2 then
      nm (x1 + (ii 1)) fun u2 =>
      kk154 I x0 u2
    else
      fX5_layFar_b170 nf kk154 (fX5_layFar_b162 nf kk154 T N R k) T N R nf I x0 x1 x2 (ii 0)
def fX5_layFar_b154 (nf : Nat) (T : xT) (N : xT) (R : xR) : Nat → xI → Nat → Int32 → Option (xI)
  | 0, _, _, _ => none
  | k + 1, I, x0, x1 =>
    if (ii 8) ≤ x1 then
      some I
    else
      fX5_layFar_b162 nf (fX5_layFar_b154 nf T N R k) T N R nf I x0 x1 (ii 0)
def fX5_layFar_b123 (nf : Nat) (kk40 : xI → Nat → Int32 → Option (xI)) (T : xT) (N : xT) (I : xI) (R : xR) (x0 : Nat) (x1 : Int32) (x2 : Int32) (x3 : Int32) (z0 : Nat) (z1 : Int32) (z2 : Int32) : Option (xI) :=
  rA T N 100 z0 z1 fun j1 =>
  nm (uI I z0 j1 z2) fun I2 =>
  tg T 6 x0 <|
  (R x0 42).bind fun a4 =>
  rA T N 100 a4 (((ii 8) * x2) + x3) fun j5 =>
  rA T N 100 a4 (((ii 8) * x3) + x2) fun j6 =>
  nm (uI I2 a4 j6 (I2 a4 j5)) fun I7 =>
  nm (x1 + (ii 1)) fun u8 =>
  kk40 I7 x0 u8
def fX5_layFar_b40 (nf : Nat) (T : xT) (N : xT) (R : xR) : Nat → xI → Nat → Int32 → Option (xI)
  | 0, _, _, _ => none
  | k + 1, I, x0, x1 =>
    tg T 6 x0 <|
    (R x0 3).bind fun a2 =>
    rA T N 100 a2 (ii 0) fun j3 =>
    if (I a2 j3) ≤ x1 then
      fX5_layFar_b154 nf T N R nf I x0 (ii 0)
    else
      rA T N 100 a2 ((ii 26) + x1) fun j5 =>
      nm (I a2 j5) fun u6 =>
      rA T N 100 a2 ((ii 36) + x1) fun j7 =>
      nm (I a2 j7) fun u8 =>
      rA T N 100 a2 ((ii 46) + x1) fun j9 =>
      nm (I a2 j9) fun u10 =>
      (R x0 42).bind fun a11 =>
      rA T N 100 a11 (((ii 8) * u6) + u8) fun j12 =>
      if (I a11 j12) ≤ u10 then
        fX5_layFar_b123 nf (fX5_layFar_b40 nf T N R k) T N I R x0 x1 u6 u8 a11 (((ii 8) * u6) + u8) (I a11 j12)
      else
        fX5_layFar_b123 nf (fX5_layFar_b40 nf T N R k) T N I R x0 x1 u6 u8 a11 (((ii 8) * u6) + u8) u10
def fX5_layFar_b2 (nf : Nat) (T : xT) (N : xT) (R : xR) : Nat → xI → Nat → Int32 → Option (xI)
  | 0, _, _, _ => none
  | k + 1, I, x0, x1 =>
    if (ii 64) ≤ x1 then
      fX5_layFar_b40 nf T N R nf I x0 (ii 0)
    else
      tg T 6 x0 <|
      (R x0 42).bind fun a3 =>
      if (x1 / (ii 8)) = (x1 - x1 / (ii 8) * (ii 8)) then
        rA T N 100 a3 x1 fun j8 =>
        nm (uI I a3 j8 (ii 0)) fun I9 =>
        nm (x1 + (ii 1)) fun u10 =>
        fX5_layFar_b2 nf T N R k I9 x0 u10
      else
        rA T N 100 a3 x1 fun j5 =>
        nm (uI I a3 j5 (ii 100000000)) fun I6 =>
        nm (x1 + (ii 1)) fun u7 =>
        fX5_layFar_b2 nf T N R k I6 x0 u7
def fX5_layFar (nf : Nat) (T : xT) (N : xT) (I : xI) (R : xR) (x0 : Nat) : Option (xI) :=
  fX5_layFar_b2 nf T N R nf I x0 (ii 0)
/- LostLanesModel.farOf(II)I -/
def fX5_farOf (T : xT) (N : xT) (I : xI) (R : xR) (x0 : Nat) (x1 : Int32) (x2 : Int32) : Option (Int32) :=
  tg T 6 x0 <|
  (R x0 42).bind fun a2 =>
  rA T N 100 a2 (((ii 8) * x1) + x2) fun j3 =>
  if (I a2 j3) < (ii 100000000) then
    some (I a2 j3)
  else
    some (ii 100000000)
/- LostLanesModel.far(II)I -/
def fX5_far (nf : Nat) (T : xT) (N : xT) (I : xI) (R : xR) (x0 : Nat) (x1 : Int32) (x2 : Int32) : Option (Int32 × xI) :=
  tg T 6 x0 <|
  nm (uI I x0 0 (ii 0)) fun I2 =>
  (fX5_isCorner x1).bind fun r3 =>
  if r3 = (ii 0) then
    some ((-1 : Int32), I2)
  else
    (fX5_isCorner x2).bind fun r6 =>
    if r6 = (ii 0) then
      some ((-1 : Int32), I2)
    else
      (fX5_layFar nf T N I2 R x0).bind fun I9 =>
      (fX5_farOf T N I9 R x0 x1 x2).bind fun r11 =>
      if r11 = (ii 100000000) then
        some ((-1 : Int32), I9)
      else
        (fX5_farOf T N I9 R x0 x1 x2).bind fun r14 =>
        some (r14, I9)
/- LostLanesModel.foundAt(II)I -/
def fX5_foundAt_b43 (nf : Nat) (T : xT) (N : xT) (I : xI) (L : xL) (R : xR) (x0 : Nat) (x3 : Int32) : Option (Int32 × xI × xL) :=
  tg T 6 x0 <|
  (fX5_putBack nf T N I R x0 (ii 16)).bind fun I1 =>
  if x3 ≤ (ii 60) then
    some (x3, I1, L)
  else
    some ((ii 100000000), I1, L)
def fX5_foundAt_b8 (nf : Nat) (T : xT) (N : xT) (R : xR) : Nat → xI → xL → Nat → Int32 → Int32 → Int32 → Option (Int32 × xI × xL)
  | 0, _, _, _, _, _, _ => none
  | k + 1, I, L, x0, x1, x2, x3 =>
    if (ii 60) < x3 then
      fX5_foundAt_b43 nf T N I L R x0 x3
    else
      tg T 6 x0 <|
      (R x0 3).bind fun a3 =>
      rA T N 100 a3 ((ii 18) + x2) fun j4 =>
      (fX5_farOf T N I R x0 x1 (I a3 j4)).bind fun r5 =>
      if r5 ≤ x3 then
        fX5_foundAt_b43 nf T N I L R x0 x3
      else
        b3 (fX5_passIt nf T N I L R x0) fun r8 I9 L10 =>
        nm (x3 + (ii 1)) fun u12 =>
        fX5_foundAt_b8 nf T N R k I9 L10 x0 x1 x2 u12
def fX5_foundAt (nf : Nat) (T : xT) (N : xT) (I : xI) (L : xL) (R : xR) (x0 : Nat) (x1 : Int32) (x2 : Int32) : Option (Int32 × xI × xL) :=
  tg T 6 x0 <|
  (fX5_keepAll nf T N I R x0 (ii 16)).bind fun I1 =>
  fX5_foundAt_b8 nf T N R nf I1 L x0 x1 x2 (ii 0)
/- LostLanesModel.found(II)I -/
def fX5_found (nf : Nat) (T : xT) (N : xT) (I : xI) (L : xL) (R : xR) (x0 : Nat) (x1 : Int32) (x2 : Int32) : Option (Int32 × xI × xL) :=
  tg T 6 x0 <|
  nm (uI I x0 0 (ii 0)) fun I2 =>
  (fX5_isCorner x1).bind fun r3 =>
  if r3 = (ii 0) then
    some ((-1 : Int32), I2, L)
  else
    (fX5_isChild T N I2 R x0 x2).bind fun r6 =>
    if r6 = (ii 0) then
      some ((-1 : Int32), I2, L)
    else
      (fX5_layFar nf T N I2 R x0).bind fun I9 =>
      b3 (fX5_foundAt nf T N I9 L R x0 x1 x2) fun r11 I12 L13 =>
      if r11 = (ii 100000000) then
        some ((-1 : Int32), I12, L13)
      else
        some (r11, I12, L13)
/- LostLanesModel.post(I)I -/
def fX5_post_b107 (nf : Nat) (kk39 : xI → xL → Nat → Int32 → Int32 → Int32 → Int32 → Option (Int32 × xI × xL)) (T : xT) (N : xT) (I : xI) (L : xL) (R : xR) (x0 : Nat) (x1 : Int32) (x2 : Int32) (x4 : Int32) (x5 : Int32) (z0 : Int32) : Option (Int32 × xI × xL) :=
  if x2 ≤ x5 then
    nm (x4 + (ii 1)) fun u2 =>
    kk39 I L x0 x1 x2 z0 u2
  else
    nm (x4 + (ii 1)) fun u3 =>
    kk39 I L x0 x1 x5 z0 u3
def fX5_post_b52 (nf : Nat) (kk39 : xI → xL → Nat → Int32 → Int32 → Int32 → Int32 → Option (Int32 × xI × xL)) (T : xT) (N : xT) (R : xR) : Nat → xI → xL → Nat → Int32 → Int32 → Int32 → Int32 → Int32 → Int32 → Option (Int32 × xI × xL)
  | 0, _, _, _, _, _, _, _, _, _ => none
  | k + 1, I, L, x0, x1, x2, x3, x4, x5, x6 =>
    tg T 6 x0 <|
    (R x0 3).bind fun a2 =>
    rA T N 100 a2 (ii 1) fun j3 =>
    if (I a2 j3) ≤ x6 then
      if x2 ≤ x5 then
        fX5_post_b107 nf kk39 T N I L R x0 x1 x2 x4 x5 x3
      else
        fX5_post_b107 nf kk39 T N I L R x0 x1 x2 x4 x5 x4
    else
      b3 (fX5_foundAt nf T N I L R x0 x4 x6) fun r6 I7 L8 =>
      if r6 ≤ x5 then
        nm (x6 + (ii 1)) fun u11 =>
        fX5_post_b52 nf kk39 T N R k I7 L8 x0 x1 x2 x3 x4 x5 u11
      else
        nm (x6 + (ii 1)) fun u12 =>
        fX5_post_b52 nf kk39 T N R k I7 L8 x0 x1 x2 x3 x4 r6 u12
def fX5_post_b39 (nf : Nat) (T : xT) (N : xT) (R : xR) : Nat → xI → xL → Nat → Int32 → Int32 → Int32 → Int32 → Option (Int32 × xI × xL)
  | 0, _, _, _, _, _, _, _ => none
  | k + 1, I, L, x0, x1, x2, x3, x4 =>
    if (ii 8) ≤ x4 then
      if x3 = (-1 : Int32) then
        some (x3, I, L)
      else
        if x1 = (ii 0) then
          some (x3, I, L)
        else
          some (x2, I, L)
    else
      fX5_post_b52 nf (fX5_post_b39 nf T N R k) T N R nf I L x0 x1 x2 x3 x4 (ii 0) (ii 0)
def fX5_post (nf : Nat) (T : xT) (N : xT) (I : xI) (L : xL) (R : xR) (x0 : Nat) (x1 : Int32) : Option (Int32 × xI × xL) :=
  tg T 6 x0 <|
  nm (uI I x0 0 (ii 0)) fun I2 =>
  (fX5_in ((x1).toInt64) (jj 0) (jj 1)).bind fun r3 =>
  if r3 = (ii 0) then
    some ((-1 : Int32), I2, L)
  else
    (R x0 3).bind fun a6 =>
    rA T N 100 a6 (ii 1) fun j7 =>
    if (I2 a6 j7) = (ii 0) then
      some ((-1 : Int32), I2, L)
    else
      (fX5_layFar nf T N I2 R x0).bind fun I9 =>
      fX5_post_b39 nf T N R nf I9 L x0 x1 (ii 100000000) (-1 : Int32) (ii 0)
/- LostLanesModel.ones(I)I -/
def fX5_ones_b4 (nf : Nat) : Nat → Int32 → Int32 → Int32 → Option (Int32)
  | 0, _, _, _ => none
  | k + 1, x0, x1, x2 =>
    if (ii 8) ≤ x2 then
      some x1
    else
      nm (x1 + ((x0 >>> (x2 &&& ii 31)) &&& (ii 1))) fun u2 =>
      nm (x2 + (ii 1)) fun u3 =>
      fX5_ones_b4 nf k x0 u2 u3
def fX5_ones (nf : Nat) (x0 : Int32) : Option (Int32) :=
  fX5_ones_b4 nf nf x0 (ii 0) (ii 0)
/- LostLanesModel.laneEnds(I)I -/
def fX5_laneEnds_b4 (nf : Nat) (T : xT) (N : xT) (I : xI) (R : xR) : Nat → Nat → Int32 → Int32 → Int32 → Option (Int32)
  | 0, _, _, _, _ => none
  | k + 1, x0, x1, x2, x3 =>
    tg T 6 x0 <|
    (R x0 3).bind fun a2 =>
    rA T N 100 a2 (ii 0) fun j3 =>
    if (I a2 j3) ≤ x3 then
      some x2
    else
      (fX5_ends T N I R x0 x3 x1).bind fun r5 =>
      if r5 = (ii 0) then
        nm (x2 + (ii 0)) fun u8 =>
        nm (x3 + (ii 1)) fun u9 =>
        fX5_laneEnds_b4 nf T N I R k x0 x1 u8 u9
      else
        nm (x2 + (ii 1)) fun u10 =>
        nm (x3 + (ii 1)) fun u11 =>
        fX5_laneEnds_b4 nf T N I R k x0 x1 u10 u11
def fX5_laneEnds (nf : Nat) (T : xT) (N : xT) (I : xI) (R : xR) (x0 : Nat) (x1 : Int32) : Option (Int32) :=
  fX5_laneEnds_b4 nf T N I R nf x0 x1 (ii 0) (ii 0)
/- LostLanesModel.is(II)Z -/
def fX5_is (x0 : Int32) (x1 : Int32) : Option (Int32) :=
  if ((x0 >>> (x1 &&& ii 31)) &&& (ii 1)) = (ii 1) then
    some (ii 1)
  else
    some (ii 0)
/- LostLanesModel.allNear(II)Z -/
def fX5_allNear_b31 (nf : Nat) (kk5 : Nat → Int32 → Int32 → Int32 → Int32 → Option (Int32)) (T : xT) (N : xT) (I : xI) (R : xR) : Nat → Nat → Int32 → Int32 → Int32 → Int32 → Int32 → Int32 → Option (Int32)
  | 0, _, _, _, _, _, _, _ => none
  | k + 1, x0, x1, x2, x3, x4, x5, x6 =>
    if (ii 8) ≤ x6 then
      if x3 = (ii 0) then
        nm (x4 + (ii 1)) fun u3 =>
        kk5 x0 x1 x2 (ii 0) u3
      else
        if x5 = (ii 0) then
          nm (x4 + (ii 1)) fun u5 =>
          kk5 x0 x1 x2 (ii 0) u5
        else
          nm (x4 + (ii 1)) fun u6 =>
          kk5 x0 x1 x2 (ii 1) u6
    else
      if x5 = (ii 0) then
        (fX5_is x1 x6).bind fun r9 =>
        if r9 = (ii 0) then
          nm (x6 + (ii 1)) fun u12 =>
          fX5_allNear_b31 nf kk5 T N I R k x0 x1 x2 x3 x4 (ii 0) u12
        else
          tg T 6 x0 <|
          (fX5_farOf T N I R x0 x6 x4).bind fun r13 =>
          if x2 < r13 then
            nm (x6 + (ii 1)) fun u17 =>
            fX5_allNear_b31 nf kk5 T N I R k x0 x1 x2 x3 x4 (ii 0) u17
          else
            nm (x6 + (ii 1)) fun u18 =>
            fX5_allNear_b31 nf kk5 T N I R k x0 x1 x2 x3 x4 (ii 1) u18
      else
        nm (x6 + (ii 1)) fun u8 =>
        fX5_allNear_b31 nf kk5 T N I R k x0 x1 x2 x3 x4 (ii 1) u8
def fX5_allNear_b5 (nf : Nat) (T : xT) (N : xT) (I : xI) (R : xR) : Nat → Nat → Int32 → Int32 → Int32 → Int32 → Option (Int32)
  | 0, _, _, _, _, _ => none
  | k + 1, x0, x1, x2, x3, x4 =>
    if (ii 8) ≤ x4 then
      chk (zb x3) <|
      some x3
    else
      tg T 6 x0 <|
      (fX5_laneEnds nf T N I R x0 x4).bind fun r3 =>
      if r3 = (ii 0) then
        fX5_allNear_b31 nf (fX5_allNear_b5 nf T N I R k) T N I R nf x0 x1 x2 x3 x4 (ii 1) (ii 0)
      else
        fX5_allNear_b31 nf (fX5_allNear_b5 nf T N I R k) T N I R nf x0 x1 x2 x3 x4 (ii 0) (ii 0)
def fX5_allNear (nf : Nat) (T : xT) (N : xT) (I : xI) (R : xR) (x0 : Nat) (x1 : Int32) (x2 : Int32) : Option (Int32) :=
  fX5_allNear_b5 nf T N I R nf x0 x1 x2 (ii 1) (ii 0)
/- LostLanesModel.posts(II)I -/
def fX5_posts_b43 (nf : Nat) (T : xT) (N : xT) (R : xR) : Nat → xI → Nat → Int32 → Int32 → Int32 → Int32 → Int32 → Option (Int32 × xI)
  | 0, _, _, _, _, _, _, _ => none
  | k + 1, I, x0, x1, x2, x3, x4, x5 =>
    if (ii 256) ≤ x5 then
      if x2 = (ii 0) then
        some (x3, I)
      else
        some (x4, I)
    else
      (fX5_ones nf x5).bind fun r3 =>
      if x3 ≤ r3 then
        nm (x5 + (ii 1)) fun u6 =>
        fX5_posts_b43 nf T N R k I x0 x1 x2 x3 x4 u6
      else
        tg T 6 x0 <|
        (fX5_allNear nf T N I R x0 x5 x1).bind fun r7 =>
        if r7 = (ii 0) then
          nm (x5 + (ii 1)) fun u11 =>
          fX5_posts_b43 nf T N R k I x0 x1 x2 x3 x4 u11
        else
          (fX5_ones nf x5).bind fun r12 =>
          nm (x5 + (ii 1)) fun u14 =>
          fX5_posts_b43 nf T N R k I x0 x1 x2 r12 x5 u14
def fX5_posts (nf : Nat) (T : xT) (N : xT) (I : xI) (R : xR) (x0 : Nat) (x1 : Int32) (x2 : Int32) : Option (Int32 × xI) :=
  tg T 6 x0 <|
  nm (uI I x0 0 (ii 0)) fun I2 =>
  (fX5_in ((x1).toInt64) (jj 0) (jj 50)).bind fun r3 =>
  if r3 = (ii 0) then
    some ((-1 : Int32), I2)
  else
    (fX5_in ((x2).toInt64) (jj 0) (jj 1)).bind fun r6 =>
    if r6 = (ii 0) then
      some ((-1 : Int32), I2)
    else
      (fX5_layFar nf T N I2 R x0).bind fun I9 =>
      fX5_posts_b43 nf T N R nf I9 x0 x1 x2 (ii 100000000) (ii 0) (ii 0)
/- LostLanesModel.again(I)I -/
def fX5_again_b68 (nf : Nat) (T : xT) (N : xT) (I : xI) (L : xL) (R : xR) (x0 : Nat) (x3 : Int32) : Option (Int32 × xI × xL) :=
  tg T 6 x0 <|
  (fX5_putBack nf T N I R x0 (ii 16)).bind fun I1 =>
  if x3 ≤ (ii 60) then
    some (x3, I1, L)
  else
    some ((-1 : Int32), I1, L)
def fX5_again_b38 (nf : Nat) (T : xT) (N : xT) (R : xR) : Nat → xI → xL → Nat → Int32 → Int32 → Int32 → Option (Int32 × xI × xL)
  | 0, _, _, _, _, _, _ => none
  | k + 1, I, L, x0, x1, x2, x3 =>
    if (ii 60) < x3 then
      fX5_again_b68 nf T N I L R x0 x3
    else
      tg T 6 x0 <|
      (R x0 3).bind fun a3 =>
      rA T N 100 a3 ((ii 18) + x1) fun j4 =>
      if (I a3 j4) = x2 then
        fX5_again_b68 nf T N I L R x0 x3
      else
        b3 (fX5_passIt nf T N I L R x0) fun r6 I7 L8 =>
        nm (x3 + (ii 1)) fun u10 =>
        fX5_again_b38 nf T N R k I7 L8 x0 x1 x2 u10
def fX5_again (nf : Nat) (T : xT) (N : xT) (I : xI) (L : xL) (R : xR) (x0 : Nat) (x1 : Int32) : Option (Int32 × xI × xL) :=
  tg T 6 x0 <|
  nm (uI I x0 0 (ii 0)) fun I2 =>
  (fX5_isChild T N I2 R x0 x1).bind fun r3 =>
  if r3 = (ii 0) then
    some ((-1 : Int32), I2, L)
  else
    (R x0 3).bind fun a6 =>
    rA T N 100 a6 ((ii 18) + x1) fun j7 =>
    nm (I2 a6 j7) fun u8 =>
    (fX5_keepAll nf T N I2 R x0 (ii 16)).bind fun I9 =>
    b3 (fX5_passIt nf T N I9 L R x0) fun r11 I12 L13 =>
    fX5_again_b38 nf T N R nf I12 L13 x0 x1 u8 (ii 1)
/- LostLanesModel.hear(I)I -/
def fX5_hear (T : xT) (N : xT) (I : xI) (R : xR) (x0 : Nat) (x1 : Int32) : Option (Int32 × xI) :=
  tg T 6 x0 <|
  nm (uI I x0 0 (ii 0)) fun I2 =>
  (fX5_in ((x1).toInt64) (jj 0) (jj 19)).bind fun r3 =>
  if r3 = (ii 0) then
    b2 (fX5_tell T N I2 R x0 (-1 : Int32)) fun r19 I20 =>
    some (r19, I20)
  else
    (R x0 3).bind fun a6 =>
    rA T N 100 a6 (ii 2) fun j7 =>
    nm (I2 a6 j7) fun u8 =>
    if u8 = (ii 6) then
      b2 (fX5_tell T N I2 R x0 (-5 : Int32)) fun r16 I17 =>
      some (r16, I17)
    else
      rA T N 100 a6 ((ii 70) + u8) fun j10 =>
      nm (uI I2 a6 j10 x1) fun I11 =>
      nm (uI I11 a6 j7 ((I11 a6 j7) + (ii 1))) fun I12 =>
      b2 (fX5_tell T N I12 R x0 (u8 + (ii 1))) fun r13 I14 =>
      some (r13, I14)
/- LostLanesModel.forget()I -/
def fX5_forget (T : xT) (N : xT) (I : xI) (R : xR) (x0 : Nat) : Option (Int32 × xI) :=
  tg T 6 x0 <|
  nm (uI I x0 0 (ii 0)) fun I2 =>
  (R x0 3).bind fun a3 =>
  rA T N 100 a3 (ii 2) fun j4 =>
  nm (I2 a3 j4) fun u5 =>
  nm (uI I2 a3 j4 (ii 0)) fun I6 =>
  some (u5, I6)
/- LostLanesModel.goneFrom(I)I -/
def fX5_goneFrom_b200 (nf : Nat) (T : xT) (N : xT) (R : xR) : Nat → xI → Nat → Int32 → Int32 → Option (Int32 × xI)
  | 0, _, _, _, _ => none
  | k + 1, I, x0, x2, x3 =>
    if (ii 8) ≤ x3 then
      some (x2, I)
    else
      tg T 6 x0 <|
      (R x0 43).bind fun a3 =>
      rA T N 100 a3 x3 fun j4 =>
      nm (x2 + (I a3 j4)) fun u5 =>
      nm (x3 + (ii 1)) fun u6 =>
      fX5_goneFrom_b200 nf T N R k I x0 u5 u6
def fX5_goneFrom_b166 (nf : Nat) (kk32 : xI → Nat → Int32 → Option (Int32 × xI)) (T : xT) (N : xT) (R : xR) : Nat → xI → Nat → Int32 → Int32 → Option (Int32 × xI)
  | 0, _, _, _, _ => none
  | k + 1, I, x0, x2, x3 =>
    if (ii 8) ≤ x3 then
      nm (x2 + (ii 1)) fun u2 =>
      kk32 I x0 u2
    else
      tg T 6 x0 <|
      (R x0 43).bind fun a4 =>
      (R x0 44).bind fun a5 =>
      rA T N 100 a5 x3 fun j6 =>
      rA T N 100 a4 x3 fun j7 =>
      nm (uI I a4 j7 (I a5 j6)) fun I8 =>
      nm (x3 + (ii 1)) fun u9 =>
      fX5_goneFrom_b166 nf kk32 T N R k I8 x0 x2 u9
def fX5_goneFrom_b65 (nf : Nat) (kk32 : xI → Nat → Int32 → Option (Int32 × xI)) (T : xT) (N : xT) (R : xR) : Nat → xI → Nat → Int32 → Int32 → Option (Int32 × xI)
  | 0, _, _, _, _ => none
  | k + 1, I, x0, x2, x3 =>
    tg T 6 x0 <|
    (R x0 3).bind fun a2 =>
    rA T N 100 a2 (ii 0) fun j3 =>
    if (I a2 j3) ≤ x3 then
      fX5_goneFrom_b166 nf kk32 T N R nf I x0 x2 (ii 0)
    else
      rA T N 100 a2 ((ii 8) + x3) fun j5 =>
      rA T N 100 a2 ((ii 70) + x2) fun j6 =>
      if (I a2 j5) = (I a2 j6) then
        (R x0 44).bind fun a9 =>
        rA T N 100 a2 ((ii 36) + x3) fun j10 =>
        rA T N 100 a9 (I a2 j10) fun j11 =>
        (R x0 43).bind fun a12 =>
        rA T N 100 a2 ((ii 26) + x3) fun j13 =>
        rA T N 100 a12 (I a2 j13) fun j14 =>
        nm (uI I a9 j11 ((I a9 j11) + (I a12 j14))) fun I15 =>
        rA T N 100 a9 (I15 a2 j13) fun j16 =>
        rA T N 100 a12 (I15 a2 j10) fun j17 =>
        nm (uI I15 a9 j16 ((I15 a9 j16) + (I15 a12 j17))) fun I18 =>
        nm (x3 + (ii 1)) fun u19 =>
        fX5_goneFrom_b65 nf kk32 T N R k I18 x0 x2 u19
      else
        nm (x3 + (ii 1)) fun u8 =>
        fX5_goneFrom_b65 nf kk32 T N R k I x0 x2 u8
def fX5_goneFrom_b44 (nf : Nat) (kk32 : xI → Nat → Int32 → Option (Int32 × xI)) (T : xT) (N : xT) (R : xR) : Nat → xI → Nat → Int32 → Int32 → Option (Int32 × xI)
  | 0, _, _, _, _ => none
  | k + 1, I, x0, x2, x3 =>
    if (ii 8) ≤ x3 then
      fX5_goneFrom_b65 nf kk32 T N R nf I x0 x2 (ii 0)
    else
      tg T 6 x0 <|
      (R x0 44).bind fun a3 =>
      rA T N 100 a3 x3 fun j4 =>
      nm (uI I a3 j4 (ii 0)) fun I5 =>
      nm (x3 + (ii 1)) fun u6 =>
      fX5_goneFrom_b44 nf kk32 T N R k I5 x0 x2 u6
def fX5_goneFrom_b32 (nf : Nat) (T : xT) (N : xT) (R : xR) : Nat → xI → Nat → Int32 → Option (Int32 × xI)
  | 0, _, _, _ => none
  | k + 1, I, x0, x2 =>
    tg T 6 x0 <|
    (R x0 3).bind fun a2 =>
    rA T N 100 a2 (ii 2) fun j3 =>
    if (I a2 j3) ≤ x2 then
      fX5_goneFrom_b200 nf T N R nf I x0 (ii 0) (ii 0)
    else
      fX5_goneFrom_b44 nf (fX5_goneFrom_b32 nf T N R k) T N R nf I x0 x2 (ii 0)
def fX5_goneFrom_b2 (nf : Nat) (T : xT) (N : xT) (R : xR) : Nat → xI → Nat → Int32 → Int32 → Option (Int32 × xI)
  | 0, _, _, _, _ => none
  | k + 1, I, x0, x1, x2 =>
    if (ii 8) ≤ x2 then
      fX5_goneFrom_b32 nf T N R nf I x0 (ii 0)
    else
      tg T 6 x0 <|
      (R x0 43).bind fun a3 =>
      if x2 = x1 then
        rA T N 100 a3 x2 fun j8 =>
        nm (uI I a3 j8 (ii 1)) fun I9 =>
        nm (x2 + (ii 1)) fun u10 =>
        fX5_goneFrom_b2 nf T N R k I9 x0 x1 u10
      else
        rA T N 100 a3 x2 fun j5 =>
        nm (uI I a3 j5 (ii 0)) fun I6 =>
        nm (x2 + (ii 1)) fun u7 =>
        fX5_goneFrom_b2 nf T N R k I6 x0 x1 u7
def fX5_goneFrom (nf : Nat) (T : xT) (N : xT) (I : xI) (R : xR) (x0 : Nat) (x1 : Int32) : Option (Int32 × xI) :=
  fX5_goneFrom_b2 nf T N R nf I x0 x1 (ii 0)
/- LostLanesModel.gone(I)I -/
def fX5_gone_b68 (nf : Nat) (kk29 : xI → Nat → Int32 → Int32 → Int32 → Int32 → Int32 → Option (Int32 × xI)) (T : xT) (N : xT) (R : xR) : Nat → xI → Nat → Int32 → Int32 → Int32 → Int32 → Int32 → Int32 → Option (Int32 × xI)
  | 0, _, _, _, _, _, _, _, _ => none
  | k + 1, I, x0, x1, x2, x3, x4, x5, x7 =>
    if (ii 8) ≤ x7 then
      nm (x5 + (ii 1)) fun u2 =>
      kk29 I x0 x1 x2 x3 x4 u2
    else
      tg T 6 x0 <|
      (R x0 43).bind fun a4 =>
      rA T N 100 a4 x7 fun j5 =>
      if (I a4 j5) ≤ (ii 0) then
        nm (x4 ||| (ii 0)) fun u7 =>
        nm (x7 + (ii 1)) fun u8 =>
        fX5_gone_b68 nf kk29 T N R k I x0 x1 x2 x3 u7 x5 u8
      else
        nm (x4 ||| ((ii 1) <<< (x7 &&& ii 31))) fun u9 =>
        nm (x7 + (ii 1)) fun u10 =>
        fX5_gone_b68 nf kk29 T N R k I x0 x1 x2 x3 u9 x5 u10
def fX5_gone_b29 (nf : Nat) (T : xT) (N : xT) (R : xR) : Nat → xI → Nat → Int32 → Int32 → Int32 → Int32 → Int32 → Option (Int32 × xI)
  | 0, _, _, _, _, _, _, _ => none
  | k + 1, I, x0, x1, x2, x3, x4, x5 =>
    if (ii 8) ≤ x5 then
      if x1 = (ii 0) then
        some (x2, I)
      else
        if x1 = (ii 1) then
          some (x3, I)
        else
          some (x4, I)
    else
      tg T 6 x0 <|
      b2 (fX5_goneFrom nf T N I R x0 x5) fun r4 I5 =>
      nm (x2 + r4) fun u8 =>
      if r4 ≤ (ii 0) then
        nm (x3 ||| (ii 0)) fun u10 =>
        fX5_gone_b68 nf (fX5_gone_b29 nf T N R k) T N R nf I5 x0 x1 u8 u10 x4 x5 (ii 0)
      else
        nm (x3 ||| ((ii 1) <<< (x5 &&& ii 31))) fun u11 =>
        fX5_gone_b68 nf (fX5_gone_b29 nf T N R k) T N R nf I5 x0 x1 u8 u11 x4 x5 (ii 0)
def fX5_gone (nf : Nat) (T : xT) (N : xT) (I : xI) (R : xR) (x0 : Nat) (x1 : Int32) : Option (Int32 × xI) :=
  tg T 6 x0 <|
  nm (uI I x0 0 (ii 0)) fun I2 =>
  (fX5_in ((x1).toInt64) (jj 0) (jj 2)).bind fun r3 =>
  if r3 = (ii 0) then
    some ((-1 : Int32), I2)
  else
    fX5_gone_b29 nf T N R nf I2 x0 x1 (ii 0) (ii 0) (ii 0) (ii 0)
/- LostLanesModel.named(I)I -/
def fX5_named_b16 (nf : Nat) (T : xT) (N : xT) (R : xR) : Nat → xI → Nat → Int32 → Int32 → Int32 → Option (Int32 × xI)
  | 0, _, _, _, _, _ => none
  | k + 1, I, x0, x1, x2, x3 =>
    if x3 < (ii 0) then
      some (x2, I)
    else
      (fX5_in ((x1).toInt64) (jj 0) (jj 19)).bind fun r2 =>
      if r2 = (ii 0) then
        nm (x3 + (-1 : Int32)) fun u5 =>
        fX5_named_b16 nf T N R k I x0 x1 x2 u5
      else
        tg T 6 x0 <|
        (R x0 3).bind fun a7 =>
        rA T N 100 a7 ((ii 8) + x3) fun j8 =>
        if (I a7 j8) = x1 then
          nm (x3 + (-1 : Int32)) fun u11 =>
          fX5_named_b16 nf T N R k I x0 x1 x3 u11
        else
          nm (x3 + (-1 : Int32)) fun u10 =>
          fX5_named_b16 nf T N R k I x0 x1 x2 u10
def fX5_named (nf : Nat) (T : xT) (N : xT) (I : xI) (R : xR) (x0 : Nat) (x1 : Int32) : Option (Int32 × xI) :=
  tg T 6 x0 <|
  nm (uI I x0 0 (ii 0)) fun I2 =>
  (R x0 3).bind fun a3 =>
  rA T N 100 a3 (ii 0) fun j4 =>
  nm ((I2 a3 j4) - (ii 1)) fun u5 =>
  fX5_named_b16 nf T N R nf I2 x0 x1 (-1 : Int32) u5
/- LostLanesModel.nearEnd(II)I -/
def fX5_nearEnd (T : xT) (N : xT) (I : xI) (R : xR) (x0 : Nat) (x1 : Int32) (x2 : Int32) : Option (Int32) :=
  tg T 6 x0 <|
  (R x0 3).bind fun a2 =>
  rA T N 100 a2 ((ii 26) + x2) fun j3 =>
  nm (I a2 j3) fun u4 =>
  rA T N 100 a2 ((ii 36) + x2) fun j5 =>
  nm (I a2 j5) fun u6 =>
  (fX5_farOf T N I R x0 x1 u4).bind fun r7 =>
  (fX5_farOf T N I R x0 x1 u6).bind fun r9 =>
  nm (r7 - r9) fun u11 =>
  if u11 < (ii 0) then
    some u4
  else
    if u11 = (ii 0) then
      if u6 ≤ u4 then
        some u6
      else
        some u4
    else
      some u6
/- LostLanesModel.laneBetween(II)I -/
def fX5_laneBetween_b48 (nf : Nat) (kk7 : Nat → Int32 → Int32 → Int32 → Int32 → Option (Int32)) (T : xT) (N : xT) (I : xI) (R : xR) (x0 : Nat) (x1 : Int32) (x2 : Int32) (x3 : Int32) (x4 : Int32) (z0 : Int32) : Option (Int32) :=
  if z0 = (ii 0) then
    nm (x4 + (ii 1)) fun u2 =>
    kk7 x0 x1 x2 x3 u2
  else
    tg T 6 x0 <|
    (R x0 3).bind fun a4 =>
    rA T N 100 a4 ((ii 46) + x4) fun j5 =>
    if x3 ≤ (I a4 j5) then
      nm (x4 + (ii 1)) fun u7 =>
      kk7 x0 x1 x2 x3 u7
    else
      nm (I a4 j5) fun u8 =>
      nm (x4 + (ii 1)) fun u9 =>
      kk7 x0 x1 x2 u8 u9
def fX5_laneBetween_b7 (nf : Nat) (T : xT) (N : xT) (I : xI) (R : xR) : Nat → Nat → Int32 → Int32 → Int32 → Int32 → Option (Int32)
  | 0, _, _, _, _, _ => none
  | k + 1, x0, x1, x2, x3, x4 =>
    tg T 6 x0 <|
    (R x0 3).bind fun a2 =>
    rA T N 100 a2 (ii 0) fun j3 =>
    if (I a2 j3) ≤ x4 then
      some x3
    else
      (fX5_ends T N I R x0 x4 x1).bind fun r5 =>
      if r5 = (ii 0) then
        fX5_laneBetween_b48 nf (fX5_laneBetween_b7 nf T N I R k) T N I R x0 x1 x2 x3 x4 (ii 0)
      else
        (fX5_ends T N I R x0 x4 x2).bind fun r8 =>
        if r8 = (ii 0) then
          fX5_laneBetween_b48 nf (fX5_laneBetween_b7 nf T N I R k) T N I R x0 x1 x2 x3 x4 (ii 0)
        else
          if x1 = x2 then
            fX5_laneBetween_b48 nf (fX5_laneBetween_b7 nf T N I R k) T N I R x0 x1 x2 x3 x4 (ii 0)
          else
            fX5_laneBetween_b48 nf (fX5_laneBetween_b7 nf T N I R k) T N I R x0 x1 x2 x3 x4 (ii 1)
def fX5_laneBetween (nf : Nat) (T : xT) (N : xT) (I : xI) (R : xR) (x0 : Nat) (x1 : Int32) (x2 : Int32) : Option (Int32) :=
  fX5_laneBetween_b7 nf T N I R nf x0 x1 x2 (ii 100000000) (ii 0)
/- LostLanesModel.letter(III)I -/
def fX5_letter_b187 (nf : Nat) (kk169 : xI → Nat → Int32 → Int32 → Int32 → Int32 → Option (Int32 × xI)) (T : xT) (N : xT) (R : xR) : Nat → xI → Nat → Int32 → Int32 → Int32 → Int32 → Int32 → Option (Int32 × xI)
  | 0, _, _, _, _, _, _, _ => none
  | k + 1, I, x0, x3, x6, x7, x8, x9 =>
    tg T 6 x0 <|
    (fX5_laneBetween nf T N I R x0 x7 x9).bind fun r1 =>
    if r1 = (ii 100000000) then
      nm (x9 + (ii 1)) fun u5 =>
      fX5_letter_b187 nf kk169 T N R k I x0 x3 x6 x7 x8 u5
    else
      (fX5_laneBetween nf T N I R x0 x7 x9).bind fun r6 =>
      (fX5_farOf T N I R x0 x9 x6).bind fun r8 =>
      (fX5_farOf T N I R x0 x7 x6).bind fun r10 =>
      if (r6 + r8) = r10 then
        nm (x8 + (ii 1)) fun u13 =>
        kk169 I x0 x3 x6 x9 u13
      else
        nm (x9 + (ii 1)) fun u14 =>
        fX5_letter_b187 nf kk169 T N R k I x0 x3 x6 x7 x8 u14
def fX5_letter_b169 (nf : Nat) (T : xT) (N : xT) (R : xR) : Nat → xI → Nat → Int32 → Int32 → Int32 → Int32 → Option (Int32 × xI)
  | 0, _, _, _, _, _, _ => none
  | k + 1, I, x0, x3, x6, x7, x8 =>
    if x3 < x8 then
      some (x7, I)
    else
      if x7 = x6 then
        some ((-1 : Int32), I)
      else
        fX5_letter_b187 nf (fX5_letter_b169 nf T N R k) T N R nf I x0 x3 x6 x7 x8 (ii 0)
def fX5_letter_b134 (nf : Nat) (T : xT) (N : xT) (I : xI) (R : xR) (x3 : Int32) (x4 : Int32) (x5 : Int32) : Option (Int32 × xI) :=
  if x5 = (-1 : Int32) then
    some (x5, I)
  else
    if x3 = (-2 : Int32) then
      some (x5, I)
    else
      some (x4, I)
def fX5_letter_b100 (nf : Nat) (kk47 : xI → Nat → Int32 → Int32 → Int32 → Int32 → Int32 → Int32 → Option (Int32 × xI)) (T : xT) (N : xT) (I : xI) (R : xR) (x0 : Nat) (x1 : Int32) (x2 : Int32) (x3 : Int32) (x4 : Int32) (x6 : Int32) (x7 : Int32) (z0 : Int32) : Option (Int32 × xI) :=
  if x4 ≤ x7 then
    nm (x6 + (ii 1)) fun u2 =>
    kk47 I x0 x1 x2 x3 x4 z0 u2
  else
    nm (x6 + (ii 1)) fun u3 =>
    kk47 I x0 x1 x2 x3 x7 z0 u3
def fX5_letter_b47 (nf : Nat) (T : xT) (N : xT) (R : xR) : Nat → xI → Nat → Int32 → Int32 → Int32 → Int32 → Int32 → Int32 → Option (Int32 × xI)
  | 0, _, _, _, _, _, _, _, _ => none
  | k + 1, I, x0, x1, x2, x3, x4, x5, x6 =>
    tg T 6 x0 <|
    (R x0 3).bind fun a2 =>
    rA T N 100 a2 (ii 0) fun j3 =>
    if (I a2 j3) ≤ x6 then
      if x5 = (-1 : Int32) then
        fX5_letter_b134 nf T N I R x3 x4 x5
      else
        if (ii 0) ≤ x3 then
          (fX5_nearEnd T N I R x0 x1 x5).bind fun r7 =>
          fX5_letter_b169 nf T N R nf I x0 x3 r7 x1 (ii 0)
        else
          fX5_letter_b134 nf T N I R x3 x4 x5
    else
      rA T N 100 a2 ((ii 8) + x6) fun j9 =>
      if (I a2 j9) = x2 then
        (fX5_nearEnd T N I R x0 x1 x6).bind fun r12 =>
        (fX5_farOf T N I R x0 x1 r12).bind fun r14 =>
        if x4 ≤ r14 then
          fX5_letter_b100 nf (fX5_letter_b47 nf T N R k) T N I R x0 x1 x2 x3 x4 x6 r14 x5
        else
          fX5_letter_b100 nf (fX5_letter_b47 nf T N R k) T N I R x0 x1 x2 x3 x4 x6 r14 x6
      else
        nm (x6 + (ii 1)) fun u11 =>
        fX5_letter_b47 nf T N R k I x0 x1 x2 x3 x4 x5 u11
def fX5_letter (nf : Nat) (T : xT) (N : xT) (I : xI) (R : xR) (x0 : Nat) (x1 : Int32) (x2 : Int32) (x3 : Int32) : Option (Int32 × xI) :=
  tg T 6 x0 <|
  nm (uI I x0 0 (ii 0)) fun I2 =>
  (fX5_isCorner x1).bind fun r3 =>
  if r3 = (ii 0) then
    some ((-1 : Int32), I2)
  else
    (fX5_in ((x2).toInt64) (jj 0) (jj 19)).bind fun r6 =>
    if r6 = (ii 0) then
      some ((-1 : Int32), I2)
    else
      if (-2 : Int32) ≤ x3 then
        (fX5_layFar nf T N I2 R x0).bind fun I10 =>
        fX5_letter_b47 nf T N R nf I10 x0 x1 x2 x3 (ii 100000000) (-1 : Int32) (ii 0)
      else
        some ((-1 : Int32), I2)
/- LostLanesModel.nameAhead(I)I -/
def fX5_nameAhead_b4 (nf : Nat) (T : xT) (N : xT) (I : xI) (R : xR) : Nat → Nat → Int32 → Int32 → Int32 → Option (Int32)
  | 0, _, _, _, _ => none
  | k + 1, x0, x1, x2, x3 =>
    if x1 ≤ x3 then
      some x2
    else
      tg T 6 x0 <|
      (R x0 45).bind fun a3 =>
      rA T N 100 a3 x3 fun j4 =>
      if (I a3 j4) < x2 then
        nm (x3 + (ii 1)) fun u6 =>
        fX5_nameAhead_b4 nf T N I R k x0 x1 x2 u6
      else
        nm ((I a3 j4) + (ii 1)) fun u7 =>
        nm (x3 + (ii 1)) fun u8 =>
        fX5_nameAhead_b4 nf T N I R k x0 x1 u7 u8
def fX5_nameAhead (nf : Nat) (T : xT) (N : xT) (I : xI) (R : xR) (x0 : Nat) (x1 : Int32) : Option (Int32) :=
  fX5_nameAhead_b4 nf T N I R nf x0 x1 (ii 0) (ii 0)
/- LostLanesModel.haveCorner(II)Z -/
def fX5_haveCorner (T : xT) (N : xT) (I : xI) (R : xR) (x0 : Nat) (x1 : Int32) (x2 : Int32) : Option (Int32) :=
  tg T 6 x0 <|
  (R x0 3).bind fun a2 =>
  rA T N 100 a2 ((ii 26) + x2) fun j3 =>
  (fX5_ends T N I R x0 x1 (I a2 j3)).bind fun r4 =>
  if r4 = (ii 0) then
    rA T N 100 a2 ((ii 36) + x2) fun j7 =>
    (fX5_ends T N I R x0 x1 (I a2 j7)).bind fun r8 =>
    if r8 = (ii 0) then
      some (ii 0)
    else
      some (ii 1)
  else
    some (ii 1)
/- LostLanesModel.fitsName(I)Z -/
def fX5_fitsName_b4 (nf : Nat) (T : xT) (N : xT) (I : xI) (R : xR) : Nat → Nat → Int32 → Int32 → Int32 → Option (Int32)
  | 0, _, _, _, _ => none
  | k + 1, x0, x1, x2, x3 =>
    if x1 ≤ x3 then
      chk (zb x2) <|
      some x2
    else
      if x2 = (ii 0) then
        nm (x3 + (ii 1)) fun u4 =>
        fX5_fitsName_b4 nf T N I R k x0 x1 (ii 0) u4
      else
        tg T 6 x0 <|
        (R x0 45).bind fun a6 =>
        rA T N 100 a6 x3 fun j7 =>
        rA T N 100 a6 x1 fun j8 =>
        if (I a6 j7) = (I a6 j8) then
          (fX5_haveCorner T N I R x0 x3 x1).bind fun r11 =>
          if r11 = (ii 0) then
            nm (x3 + (ii 1)) fun u15 =>
            fX5_fitsName_b4 nf T N I R k x0 x1 (ii 1) u15
          else
            nm (x3 + (ii 1)) fun u14 =>
            fX5_fitsName_b4 nf T N I R k x0 x1 (ii 0) u14
        else
          nm (x3 + (ii 1)) fun u10 =>
          fX5_fitsName_b4 nf T N I R k x0 x1 (ii 1) u10
def fX5_fitsName (nf : Nat) (T : xT) (N : xT) (I : xI) (R : xR) (x0 : Nat) (x1 : Int32) : Option (Int32) :=
  fX5_fitsName_b4 nf T N I R nf x0 x1 (ii 1) (ii 0)
/- LostLanesModel.findNames(I)Z -/
def fX5_findNames_b86 (nf : Nat) (T : xT) (N : xT) (I : xI) (R : xR) (x2 : Int32) (x3 : Int32) : Option (Int32 × xI) :=
  if x3 = x2 then
    some ((ii 1), I)
  else
    some ((ii 0), I)
def fX5_findNames_b16 (nf : Nat) (T : xT) (N : xT) (R : xR) : Nat → xI → Nat → Int32 → Int32 → Int32 → Option (Int32 × xI)
  | 0, _, _, _, _, _ => none
  | k + 1, I, x0, x1, x2, x3 =>
    if x3 < (ii 0) then
      fX5_findNames_b86 nf T N I R x2 x3
    else
      if x2 ≤ x3 then
        fX5_findNames_b86 nf T N I R x2 x3
      else
        tg T 6 x0 <|
        (R x0 45).bind fun a4 =>
        rA T N 100 a4 x3 fun j5 =>
        nm (uI I a4 j5 ((I a4 j5) + (ii 1))) fun I6 =>
        if x1 ≤ (I6 a4 j5) then
          nm (x3 + (-1 : Int32)) fun u8 =>
          fX5_findNames_b16 nf T N R k I6 x0 x1 x2 u8
        else
          (fX5_nameAhead nf T N I6 R x0 x3).bind fun r9 =>
          if (I6 a4 j5) ≤ r9 then
            (fX5_fitsName nf T N I6 R x0 x3).bind fun r12 =>
            if r12 = (ii 0) then
              fX5_findNames_b16 nf T N R k I6 x0 x1 x2 x3
            else
              nm (x3 + (ii 1)) fun u15 =>
              rA T N 100 a4 u15 fun j16 =>
              nm (uI I6 a4 j16 (-1 : Int32)) fun I17 =>
              fX5_findNames_b16 nf T N R k I17 x0 x1 x2 u15
          else
            nm (x3 + (-1 : Int32)) fun u18 =>
            fX5_findNames_b16 nf T N R k I6 x0 x1 x2 u18
def fX5_findNames (nf : Nat) (T : xT) (N : xT) (I : xI) (R : xR) (x0 : Nat) (x1 : Int32) : Option (Int32 × xI) :=
  tg T 6 x0 <|
  (R x0 3).bind fun a2 =>
  rA T N 100 a2 (ii 0) fun j3 =>
  nm (I a2 j3) fun u4 =>
  (R x0 45).bind fun a5 =>
  rA T N 100 a5 (ii 0) fun j6 =>
  nm (uI I a5 j6 (-1 : Int32)) fun I7 =>
  fX5_findNames_b16 nf T N R nf I7 x0 x1 u4 (ii 0)
/- LostLanesModel.apart(I)I -/
def fX5_apart_b25 (nf : Nat) (T : xT) (N : xT) (R : xR) : Nat → xI → Nat → Int32 → Int32 → Option (Int32 × xI)
  | 0, _, _, _, _ => none
  | k + 1, I, x0, x1, x2 =>
    tg T 6 x0 <|
    b2 (fX5_findNames nf T N I R x0 x2) fun r1 I2 =>
    if r1 = (ii 0) then
      nm (x2 + (ii 1)) fun u9 =>
      fX5_apart_b25 nf T N R k I2 x0 x1 u9
    else
      if x1 = (ii 0) then
        some (x2, I2)
      else
        (R x0 45).bind fun a7 =>
        rA T N 100 a7 (x1 - (ii 1)) fun j8 =>
        some ((I2 a7 j8), I2)
def fX5_apart (nf : Nat) (T : xT) (N : xT) (I : xI) (R : xR) (x0 : Nat) (x1 : Int32) : Option (Int32 × xI) :=
  tg T 6 x0 <|
  nm (uI I x0 0 (ii 0)) fun I2 =>
  (R x0 3).bind fun a3 =>
  rA T N 100 a3 (ii 0) fun j4 =>
  (fX5_in ((x1).toInt64) (jj 0) (((I2 a3 j4)).toInt64)).bind fun r5 =>
  if r5 = (ii 0) then
    some ((-1 : Int32), I2)
  else
    fX5_apart_b25 nf T N R nf I2 x0 x1 (ii 0)
/- LostLanesModel.alike()I -/
def fX5_alike_b23 (nf : Nat) (kk9 : xI → Nat → Int32 → Int32 → Option (Int32 × xI)) (T : xT) (N : xT) (R : xR) : Nat → xI → Nat → Int32 → Int32 → Int32 → Option (Int32 × xI)
  | 0, _, _, _, _, _ => none
  | k + 1, I, x0, x1, x2, x3 =>
    tg T 6 x0 <|
    (R x0 3).bind fun a2 =>
    rA T N 100 a2 (ii 0) fun j3 =>
    if (I a2 j3) ≤ x3 then
      nm (x2 + (ii 1)) fun u5 =>
      kk9 I x0 x1 u5
    else
      rA T N 100 a2 ((ii 8) + x2) fun j6 =>
      if (I a2 j6) = (-1 : Int32) then
        nm (x1 + (ii 0)) fun u8 =>
        nm (x3 + (ii 1)) fun u9 =>
        fX5_alike_b23 nf kk9 T N R k I x0 u8 x2 u9
      else
        rA T N 100 a2 ((ii 8) + x3) fun j10 =>
        if (I a2 j6) = (I a2 j10) then
          (fX5_haveCorner T N I R x0 x2 x3).bind fun r14 =>
          if r14 = (ii 0) then
            nm (x1 + (ii 0)) fun u17 =>
            nm (x3 + (ii 1)) fun u18 =>
            fX5_alike_b23 nf kk9 T N R k I x0 u17 x2 u18
          else
            nm (x1 + (ii 1)) fun u19 =>
            nm (x3 + (ii 1)) fun u20 =>
            fX5_alike_b23 nf kk9 T N R k I x0 u19 x2 u20
        else
          nm (x1 + (ii 0)) fun u12 =>
          nm (x3 + (ii 1)) fun u13 =>
          fX5_alike_b23 nf kk9 T N R k I x0 u12 x2 u13
def fX5_alike_b9 (nf : Nat) (T : xT) (N : xT) (R : xR) : Nat → xI → Nat → Int32 → Int32 → Option (Int32 × xI)
  | 0, _, _, _, _ => none
  | k + 1, I, x0, x1, x2 =>
    tg T 6 x0 <|
    (R x0 3).bind fun a2 =>
    rA T N 100 a2 (ii 0) fun j3 =>
    if (I a2 j3) ≤ x2 then
      some (x1, I)
    else
      nm (x2 + (ii 1)) fun u5 =>
      fX5_alike_b23 nf (fX5_alike_b9 nf T N R k) T N R nf I x0 x1 x2 u5
def fX5_alike (nf : Nat) (T : xT) (N : xT) (I : xI) (R : xR) (x0 : Nat) : Option (Int32 × xI) :=
  tg T 6 x0 <|
  nm (uI I x0 0 (ii 0)) fun I2 =>
  fX5_alike_b9 nf T N R nf I2 x0 (ii 0) (ii 0)
/- LostLanesModel.layPaired()V -/
def fX5_layPaired_b36 (nf : Nat) (kk2 : xI → Nat → Int32 → Option (xI)) (kk28 : xI → Nat → Int32 → Int32 → Option (xI)) (T : xT) (N : xT) (R : xR) : Nat → xI → Nat → Int32 → Int32 → Int32 → Option (xI)
  | 0, _, _, _, _, _ => none
  | k + 1, I, x0, x1, x2, x3 =>
    if x2 ≤ x3 then
      nm (x2 + (ii 1)) fun u2 =>
      kk28 I x0 x1 u2
    else
      (fX5_is x1 x2).bind fun r3 =>
      if r3 = (ii 0) then
        nm (x3 + (ii 1)) fun u6 =>
        fX5_layPaired_b36 nf kk2 kk28 T N R k I x0 x1 x2 u6
      else
        (fX5_is x1 x3).bind fun r7 =>
        if r7 = (ii 0) then
          nm (x3 + (ii 1)) fun u10 =>
          fX5_layPaired_b36 nf kk2 kk28 T N R k I x0 x1 x2 u10
        else
          tg T 6 x0 <|
          (fX5_farOf T N I R x0 x2 x3).bind fun r11 =>
          if (ii 100000000) ≤ r11 then
            nm (x3 + (ii 1)) fun u15 =>
            fX5_layPaired_b36 nf kk2 kk28 T N R k I x0 x1 x2 u15
          else
            (R x0 46).bind fun a16 =>
            rA T N 100 a16 ((x1 &&& (((ii 1) <<< (x2 &&& ii 31)) ^^^ (-1 : Int32))) &&& (((ii 1) <<< (x3 &&& ii 31)) ^^^ (-1 : Int32))) fun j17 =>
            (fX5_farOf T N I R x0 x2 x3).bind fun r18 =>
            nm ((I a16 j17) + r18) fun u20 =>
            rA T N 100 a16 x1 fun j21 =>
            if (I a16 j21) ≤ u20 then
              nm (uI I a16 j21 (I a16 j21)) fun I23 =>
              nm (x3 + (ii 1)) fun u24 =>
              fX5_layPaired_b36 nf kk2 kk28 T N R k I23 x0 x1 x2 u24
            else
              nm (uI I a16 j21 u20) fun I25 =>
              nm (x3 + (ii 1)) fun u26 =>
              fX5_layPaired_b36 nf kk2 kk28 T N R k I25 x0 x1 x2 u26
def fX5_layPaired_b28 (nf : Nat) (kk2 : xI → Nat → Int32 → Option (xI)) (T : xT) (N : xT) (R : xR) : Nat → xI → Nat → Int32 → Int32 → Option (xI)
  | 0, _, _, _, _ => none
  | k + 1, I, x0, x1, x2 =>
    if (ii 8) ≤ x2 then
      nm (x1 + (ii 1)) fun u2 =>
      kk2 I x0 u2
    else
      fX5_layPaired_b36 nf kk2 (fX5_layPaired_b28 nf kk2 T N R k) T N R nf I x0 x1 x2 (ii 0)
def fX5_layPaired_b2 (nf : Nat) (T : xT) (N : xT) (R : xR) : Nat → xI → Nat → Int32 → Option (xI)
  | 0, _, _, _ => none
  | k + 1, I, x0, x1 =>
    if (ii 256) ≤ x1 then
      some I
    else
      tg T 6 x0 <|
      (R x0 46).bind fun a3 =>
      if x1 = (ii 0) then
        rA T N 100 a3 x1 fun j7 =>
        nm (uI I a3 j7 (ii 0)) fun I8 =>
        fX5_layPaired_b28 nf (fX5_layPaired_b2 nf T N R k) T N R nf I8 x0 x1 (ii 0)
      else
        rA T N 100 a3 x1 fun j5 =>
        nm (uI I a3 j5 (ii 100000000)) fun I6 =>
        fX5_layPaired_b28 nf (fX5_layPaired_b2 nf T N R k) T N R nf I6 x0 x1 (ii 0)
def fX5_layPaired (nf : Nat) (T : xT) (N : xT) (I : xI) (R : xR) (x0 : Nat) : Option (xI) :=
  fX5_layPaired_b2 nf T N R nf I x0 (ii 0)
/- LostLanesModel.round()I -/
def fX5_round_b50 (nf : Nat) (T : xT) (N : xT) (R : xR) : Nat → xI → Nat → Int32 → Int32 → Int32 → Option (Int32 × xI)
  | 0, _, _, _, _, _ => none
  | k + 1, I, x0, x1, x2, x3 =>
    tg T 6 x0 <|
    (R x0 3).bind fun a2 =>
    rA T N 100 a2 (ii 0) fun j3 =>
    if (I a2 j3) ≤ x3 then
      (fX5_layPaired nf T N I R x0).bind fun I5 =>
      (R x0 46).bind fun a7 =>
      rA T N 100 a7 x1 fun j8 =>
      some ((x2 + (I5 a7 j8)), I5)
    else
      rA T N 100 a2 ((ii 46) + x3) fun j9 =>
      nm (x2 + (I a2 j9)) fun u10 =>
      rA T N 100 a2 (ii 26) fun j11 =>
      rA T N 100 a2 ((ii 26) + x3) fun j12 =>
      (fX5_farOf T N I R x0 (I a2 j11) (I a2 j12)).bind fun r13 =>
      if r13 = (ii 100000000) then
        some ((-1 : Int32), I)
      else
        nm (x3 + (ii 1)) fun u16 =>
        fX5_round_b50 nf T N R k I x0 x1 u10 u16
def fX5_round_b15 (nf : Nat) (T : xT) (N : xT) (R : xR) : Nat → xI → Nat → Int32 → Int32 → Int32 → Option (Int32 × xI)
  | 0, _, _, _, _, _ => none
  | k + 1, I, x0, x1, x2, x3 =>
    if (ii 8) ≤ x3 then
      fX5_round_b50 nf T N R nf I x0 x1 x2 (ii 0)
    else
      tg T 6 x0 <|
      (fX5_laneEnds nf T N I R x0 x3).bind fun r2 =>
      if (r2 - r2 / (ii 2) * (ii 2)) = (ii 1) then
        nm (x1 ||| ((ii 1) <<< (x3 &&& ii 31))) fun u8 =>
        nm (x3 + (ii 1)) fun u9 =>
        fX5_round_b15 nf T N R k I x0 u8 x2 u9
      else
        nm (x1 ||| (ii 0)) fun u6 =>
        nm (x3 + (ii 1)) fun u7 =>
        fX5_round_b15 nf T N R k I x0 u6 x2 u7
def fX5_round (nf : Nat) (T : xT) (N : xT) (I : xI) (R : xR) (x0 : Nat) : Option (Int32 × xI) :=
  tg T 6 x0 <|
  nm (uI I x0 0 (ii 0)) fun I2 =>
  (fX5_layFar nf T N I2 R x0).bind fun I3 =>
  fX5_round_b15 nf T N R nf I3 x0 (ii 0) (ii 0) (ii 0)
/- LostLanesModel.dead()I -/
def fX5_dead_b9 (nf : Nat) (T : xT) (N : xT) (R : xR) : Nat → xI → Nat → Int32 → Int32 → Option (Int32 × xI)
  | 0, _, _, _, _ => none
  | k + 1, I, x0, x1, x2 =>
    if (ii 8) ≤ x2 then
      some (x1, I)
    else
      tg T 6 x0 <|
      (fX5_laneEnds nf T N I R x0 x2).bind fun r2 =>
      if r2 = (ii 1) then
        nm (x1 ||| ((ii 1) <<< (x2 &&& ii 31))) fun u8 =>
        nm (x2 + (ii 1)) fun u9 =>
        fX5_dead_b9 nf T N R k I x0 u8 u9
      else
        nm (x1 ||| (ii 0)) fun u6 =>
        nm (x2 + (ii 1)) fun u7 =>
        fX5_dead_b9 nf T N R k I x0 u6 u7
def fX5_dead (nf : Nat) (T : xT) (N : xT) (I : xI) (R : xR) (x0 : Nat) : Option (Int32 × xI) :=
  tg T 6 x0 <|
  nm (uI I x0 0 (ii 0)) fun I2 =>
  fX5_dead_b9 nf T N R nf I2 x0 (ii 0) (ii 0)
/- LostLanesModel.few(II)J -/
def fX5_few_b158 (nf : Nat) (T : xT) (N : xT) (R : xR) : Nat → xI → xL → Nat → Int32 → Int64 → Int32 → Option (Int64 × xI × xL)
  | 0, _, _, _, _, _, _ => none
  | k + 1, I, L, x0, x1, x4, x6 =>
    if x1 ≤ x6 then
      some (x4, I, L)
    else
      tg T 6 x0 <|
      (R x0 47).bind fun a3 =>
      rA T N 103 a3 x6 fun j4 =>
      nm (x4 + (L a3 j4)) fun u5 =>
      nm (x6 + (ii 1)) fun u6 =>
      fX5_few_b158 nf T N R k I L x0 x1 u5 u6
def fX5_few_b86 (nf : Nat) (kk75 : xI → xL → Nat → Int32 → Int32 → Int32 → Int32 → Option (Int64 × xI × xL)) (T : xT) (N : xT) (R : xR) : Nat → xI → xL → Nat → Int32 → Int32 → Int32 → Int32 → Int32 → Option (Int64 × xI × xL)
  | 0, _, _, _, _, _, _, _, _ => none
  | k + 1, I, L, x0, x1, x2, x3, x4, x5 =>
    if x5 < (ii 0) then
      nm (x4 + (ii 1)) fun u2 =>
      kk75 I L x0 x1 x2 x3 u2
    else
      tg T 6 x0 <|
      (R x0 47).bind fun a4 =>
      rA T N 103 a4 x5 fun j5 =>
      nm (L a4 j5) fun u6 =>
      nm (uL L a4 j5 ((u6 * ((((ii 10) - x3)).toInt64)) / (jj 10))) fun L7 =>
      rA T N 103 a4 (x5 + (ii 1)) fun j8 =>
      nm (uL L7 a4 j8 ((L7 a4 j8) + ((u6 * ((x3).toInt64)) / (jj 10)))) fun L9 =>
      nm (x5 + (-1 : Int32)) fun u10 =>
      fX5_few_b86 nf kk75 T N R k I L9 x0 x1 x2 x3 x4 u10
def fX5_few_b75 (nf : Nat) (T : xT) (N : xT) (R : xR) : Nat → xI → xL → Nat → Int32 → Int32 → Int32 → Int32 → Option (Int64 × xI × xL)
  | 0, _, _, _, _, _, _, _ => none
  | k + 1, I, L, x0, x1, x2, x3, x4 =>
    if x2 ≤ x4 then
      fX5_few_b158 nf T N R nf I L x0 x1 (jj 0) (ii 0)
    else
      nm (x1 - (ii 1)) fun u2 =>
      fX5_few_b86 nf (fX5_few_b75 nf T N R k) T N R nf I L x0 x1 x2 x3 x4 u2
def fX5_few_b35 (nf : Nat) (T : xT) (N : xT) (R : xR) : Nat → xI → xL → Nat → Int32 → Int32 → Int32 → Option (Int64 × xI × xL)
  | 0, _, _, _, _, _, _ => none
  | k + 1, I, L, x0, x1, x2, x3 =>
    if (ii 21) ≤ x3 then
      tg T 6 x0 <|
      (R x0 3).bind fun a3 =>
      rA T N 100 a3 (ii 6) fun j4 =>
      nm (I a3 j4) fun u5 =>
      fX5_few_b75 nf T N R nf I L x0 x1 x2 u5 (ii 0)
    else
      tg T 6 x0 <|
      (R x0 47).bind fun a7 =>
      if x3 = (ii 0) then
        rA T N 103 a7 x3 fun j12 =>
        nm (uL L a7 j12 (jj 1000000000000)) fun L13 =>
        nm (x3 + (ii 1)) fun u14 =>
        fX5_few_b35 nf T N R k I L13 x0 x1 x2 u14
      else
        rA T N 103 a7 x3 fun j9 =>
        nm (uL L a7 j9 (jj 0)) fun L10 =>
        nm (x3 + (ii 1)) fun u11 =>
        fX5_few_b35 nf T N R k I L10 x0 x1 x2 u11
def fX5_few (nf : Nat) (T : xT) (N : xT) (I : xI) (L : xL) (R : xR) (x0 : Nat) (x1 : Int32) (x2 : Int32) : Option (Int64 × xI × xL) :=
  tg T 6 x0 <|
  nm (uI I x0 0 (ii 0)) fun I2 =>
  (fX5_in ((x1).toInt64) (jj 1) (jj 20)).bind fun r3 =>
  if r3 = (ii 0) then
    some ((-1 : Int64), I2, L)
  else
    (fX5_in ((x2).toInt64) (jj 0) (jj 99)).bind fun r6 =>
    if r6 = (ii 0) then
      some ((-1 : Int64), I2, L)
    else
      fX5_few_b35 nf T N R nf I2 L x0 x1 x2 (ii 0)
/- LostLanesModel.compare(II)I -/
def fX5_compare (nf : Nat) (T : xT) (N : xT) (I : xI) (L : xL) (R : xR) (x0 : Nat) (x1 : Int32) (x2 : Int32) : Option (Int32 × xI × xL) :=
  tg T 6 x0 <|
  nm (uI I x0 0 (ii 0)) fun I2 =>
  (fX5_isLaw T N I2 R x0 x1).bind fun r3 =>
  if r3 = (ii 0) then
    some ((-1 : Int32), I2, L)
  else
    (fX5_isChild T N I2 R x0 x2).bind fun r6 =>
    if r6 = (ii 0) then
      some ((-1 : Int32), I2, L)
    else
      (R x0 3).bind fun a9 =>
      rA T N 100 a9 (ii 4) fun j10 =>
      nm (I2 a9 j10) fun u11 =>
      nm (uI I2 a9 j10 x1) fun I12 =>
      b3 (fX5_laneOf nf T N I12 L R x0 x2) fun r13 I14 L15 =>
      nm (uI I14 a9 j10 u11) fun I17 =>
      if r13 = (-1 : Int32) then
        rA T N 100 a9 ((ii 18) + x2) fun j22 =>
        some ((I17 a9 j22), I17, L15)
      else
        rA T N 100 a9 ((ii 18) + x2) fun j19 =>
        (fX5_across T N I17 R x0 r13 (I17 a9 j19)).bind fun r20 =>
        some (r20, I17, L15)
/- LostLanesModel.readSum(I)V -/
def fX5_readSum_b22 (nf : Nat) (T : xT) (N : xT) (I : xI) (L : xL) (R : xR) (x0 : Nat) (x1 : Int32) : Option (xI × xL) :=
  tg T 6 x0 <|
  (R x0 49).bind fun a2 =>
  rA T N 100 a2 (x1 + (ii 1)) fun j3 =>
  nm (uI I a2 j3 (I x0 23)) fun I4 =>
  some (I4, L)
def fX5_readSum (nf : Nat) (T : xT) (N : xT) (I : xI) (L : xL) (R : xR) (x0 : Nat) (x1 : Int32) : Option (xI × xL) :=
  tg T 6 x0 <|
  (R x0 49).bind fun a2 =>
  rA T N 100 a2 x1 fun j3 =>
  nm (uI I a2 j3 (I x0 23)) fun I4 =>
  if (I4 x0 19) = (ii 0) then
    b2 (fX5_readExpression nf T N I4 L R x0 (ii 0)) fun I6 L7 =>
    fX5_readSum_b22 nf T N I6 L7 R x0 x1
  else
    fX5_readSum_b22 nf T N I4 L R x0 x1
/- LostLanesModel.readOrder()V -/
def fX5_readOrder_b241 (nf : Nat) (T : xT) (N : xT) (I : xI) (L : xL) (R : xR) (x0 : Nat) (x2 : Int32) : Option (xI × xL) :=
  tg T 6 x0 <|
  (R x0 49).bind fun a2 =>
  rA T N 100 a2 (x2 + (ii 6)) fun j3 =>
  nm (uI I a2 j3 (I x0 23)) fun I4 =>
  some (I4, L)
def fX5_readOrder_b203 (nf : Nat) (T : xT) (N : xT) (I : xI) (L : xL) (R : xR) (x0 : Nat) (x2 : Int32) : Option (xI × xL) :=
  tg T 6 x0 <|
  (R x0 49).bind fun a2 =>
  rA T N 100 a2 (x2 + (ii 5)) fun j3 =>
  nm (uI I a2 j3 (I x0 23)) fun I4 =>
  if (I4 x0 19) = (ii 0) then
    (fX5_isWord T I4 L x0 (jj 294)).bind fun r6 =>
    if r6 = (ii 0) then
      fX5_readOrder_b241 nf T N I4 L R x0 x2
    else
      b2 (fX5_next nf T N I4 L R x0) fun I9 L10 =>
      b2 (fX5_readExpression nf T N I9 L10 R x0 (ii 1)) fun I12 L13 =>
      fX5_readOrder_b241 nf T N I12 L13 R x0 x2
  else
    fX5_readOrder_b241 nf T N I4 L R x0 x2
def fX5_readOrder_b155 (nf : Nat) (T : xT) (N : xT) (I : xI) (L : xL) (R : xR) (x0 : Nat) (x2 : Int32) : Option (xI × xL) :=
  tg T 6 x0 <|
  (R x0 49).bind fun a2 =>
  rA T N 100 a2 (x2 + (ii 7)) fun j3 =>
  nm (uI I a2 j3 (ii 1)) fun I4 =>
  if (I4 x0 19) = (ii 0) then
    (fX5_isWord T I4 L x0 (jj 21279923)).bind fun r6 =>
    if r6 = (ii 0) then
      fX5_readOrder_b203 nf T N I4 L R x0 x2
    else
      b2 (fX5_next nf T N I4 L R x0) fun I9 L10 =>
      b3 (fX5_number nf T N I9 L10 R x0 (jj 1) (jj 20)) fun r12 I13 L14 =>
      nm (uI I13 a2 j3 r12) fun I16 =>
      fX5_readOrder_b203 nf T N I16 L14 R x0 x2
  else
    fX5_readOrder_b203 nf T N I4 L R x0 x2
def fX5_readOrder_b125 (nf : Nat) (T : xT) (N : xT) (I : xI) (L : xL) (R : xR) (x0 : Nat) (x1 : Int32) (x2 : Int32) : Option (xI × xL) :=
  if x1 = (ii 2) then
    tg T 6 x0 <|
    if (I x0 19) = (ii 0) then
      (fX5_isWord T I L x0 (jj 655)).bind fun r7 =>
      b2 (fX5_must nf T N I L R x0 r7) fun I9 L10 =>
      b2 (fX5_readSum nf T N I9 L10 R x0 (x2 + (ii 3))) fun I12 L13 =>
      fX5_readOrder_b155 nf T N I12 L13 R x0 x2
    else
      b2 (fX5_readSum nf T N I L R x0 (x2 + (ii 3))) fun I4 L5 =>
      fX5_readOrder_b155 nf T N I4 L5 R x0 x2
  else
    fX5_readOrder_b155 nf T N I L R x0 x2
def fX5_readOrder_b85 (nf : Nat) (T : xT) (N : xT) (R : xR) : Nat → xI → xL → Nat → Int32 → Int32 → Int32 → Option (xI × xL)
  | 0, _, _, _, _, _, _ => none
  | k + 1, I, L, x0, x1, x2, x3 =>
    if (ii 8) ≤ x3 then
      tg T 6 x0 <|
      (R x0 49).bind fun a3 =>
      rA T N 100 a3 x2 fun j4 =>
      nm (uI I a3 j4 x1) fun I5 =>
      if x1 = (ii 3) then
        fX5_readOrder_b125 nf T N I5 L R x0 x1 x2
      else
        b2 (fX5_readSum nf T N I5 L R x0 (x2 + (ii 1))) fun I7 L8 =>
        fX5_readOrder_b125 nf T N I7 L8 R x0 x1 x2
    else
      tg T 6 x0 <|
      (R x0 49).bind fun a11 =>
      rA T N 100 a11 (x2 + x3) fun j12 =>
      nm (uI I a11 j12 (ii 0)) fun I13 =>
      nm (x3 + (ii 1)) fun u14 =>
      fX5_readOrder_b85 nf T N R k I13 L x0 x1 x2 u14
def fX5_readOrder_b54 (nf : Nat) (T : xT) (N : xT) (I : xI) (L : xL) (R : xR) (x0 : Nat) (x1 : Int32) (z0 : Nat) (z1 : Int32) : Option (xI × xL) :=
  tg T 6 z0 <|
  b2 (fX5_must nf T N I L R z0 z1) fun I1 L2 =>
  tg T 6 x0 <|
  if (I1 x0 19) = (ii 0) then
    nm ((ii 8) * (I1 x0 21)) fun u7 =>
    nm (uI I1 x0 21 ((I1 x0 21) + (ii 1))) fun I8 =>
    fX5_readOrder_b85 nf T N R nf I8 L2 x0 x1 u7 (ii 0)
  else
    some (I1, L2)
def fX5_readOrder_b4 (nf : Nat) (T : xT) (N : xT) (R : xR) : Nat → xI → xL → Nat → Int32 → Int32 → Option (xI × xL)
  | 0, _, _, _, _, _ => none
  | k + 1, I, L, x0, x1, x2 =>
    if (ii 4) ≤ x2 then
      if x1 = (-1 : Int32) then
        fX5_readOrder_b54 nf T N I L R x0 x1 x0 (ii 0)
      else
        tg T 6 x0 <|
        if (ii 12) ≤ (I x0 21) then
          fX5_readOrder_b54 nf T N I L R x0 x1 x0 (ii 0)
        else
          fX5_readOrder_b54 nf T N I L R x0 x1 x0 (ii 1)
    else
      tg T 6 x0 <|
      (R x0 48).bind fun a6 =>
      rA T N 103 a6 x2 fun j7 =>
      (fX5_isWord T I L x0 (L a6 j7)).bind fun r8 =>
      if r8 = (ii 0) then
        nm (x2 + (ii 1)) fun u11 =>
        fX5_readOrder_b4 nf T N R k I L x0 x1 u11
      else
        nm (x2 + (ii 1)) fun u12 =>
        fX5_readOrder_b4 nf T N R k I L x0 x2 u12
def fX5_readOrder (nf : Nat) (T : xT) (N : xT) (I : xI) (L : xL) (R : xR) (x0 : Nat) : Option (xI × xL) :=
  fX5_readOrder_b4 nf T N R nf I L x0 (-1 : Int32) (ii 0)
/- LostLanesModel.namedOnes()I -/
def fX5_namedOnes_b4 (nf : Nat) (T : xT) (N : xT) (I : xI) (R : xR) : Nat → Nat → Int32 → Int32 → Option (Int32)
  | 0, _, _, _ => none
  | k + 1, x0, x1, x2 =>
    tg T 6 x0 <|
    (R x0 3).bind fun a2 =>
    rA T N 100 a2 (ii 0) fun j3 =>
    if (I a2 j3) ≤ x2 then
      some x1
    else
      rA T N 100 a2 ((ii 8) + x2) fun j5 =>
      if (I a2 j5) = (-1 : Int32) then
        nm (x1 + (ii 0)) fun u9 =>
        nm (x2 + (ii 1)) fun u10 =>
        fX5_namedOnes_b4 nf T N I R k x0 u9 u10
      else
        nm (x1 + (ii 1)) fun u7 =>
        nm (x2 + (ii 1)) fun u8 =>
        fX5_namedOnes_b4 nf T N I R k x0 u7 u8
def fX5_namedOnes (nf : Nat) (T : xT) (N : xT) (I : xI) (R : xR) (x0 : Nat) : Option (Int32) :=
  fX5_namedOnes_b4 nf T N I R nf x0 (ii 0) (ii 0)
/- LostLanesModel.sumOf(I)I -/
def fX5_sumOf (nf : Nat) (T : xT) (N : xT) (I : xI) (L : xL) (R : xR) (x0 : Nat) (x1 : Int32) : Option (Int32 × xI × xL) :=
  tg T 6 x0 <|
  if (I x0 53) = (ii 0) then
    (R x0 49).bind fun a3 =>
    rA T N 100 a3 x1 fun j4 =>
    rA T N 100 a3 (x1 + (ii 1)) fun j5 =>
    if (I a3 j4) = (I a3 j5) then
      some ((-1 : Int32), I, L)
    else
      nm (uI I x0 20 (ii 1)) fun I7 =>
      b2 (fX5_reckonAll nf T N I7 L R x0 (I7 a3 j4) (I7 a3 j5)) fun I8 L9 =>
      nm (uI I8 x0 20 (ii 0)) fun I11 =>
      chk (zb (I11 x0 38)) <|
      nm (uI I11 x0 53 (I11 x0 38)) fun I13 =>
      some ((((L9 x0 39)).toInt32), I13, L9)
  else
    some ((-1 : Int32), I, L)
/- LostLanesModel.act(III)I -/
def fX5_act (nf : Nat) (T : xT) (N : xT) (I : xI) (L : xL) (R : xR) (x0 : Nat) (x1 : Int32) (x2 : Int32) (x3 : Int32) : Option (Int32 × xI × xL) :=
  if x1 = (ii 0) then
    tg T 6 x0 <|
    b3 (fX5_wanderNow nf T N I L R x0 x2) fun r2 I3 L4 =>
    some (r2, I3, L4)
  else
  if x1 = (ii 1) then
    tg T 6 x0 <|
    b3 (fX5_cryNow nf T N I L R x0 x2) fun r8 I9 L10 =>
    some (r8, I9, L10)
  else
  if x1 = (ii 2) then
    tg T 6 x0 <|
    b2 (fX5_leadNow nf T N I R x0 x2 x3) fun r14 I15 =>
    some (r14, I15, L)
  else
  tg T 6 x0 <|
  b3 (fX5_passNow nf T N I L R x0) fun r18 I19 L20 =>
  some (r18, I19, L20)
/- LostLanesModel.run(I)I -/
def fX5_run_b173 (nf : Nat) (T : xT) (N : xT) (I : xI) (L : xL) (R : xR) (x0 : Nat) (z0 : Nat) (z1 : Int32) : Option (Int32 × xI × xL) :=
  tg T 6 z0 <|
  nm (uI I z0 51 z1) fun I2 =>
  tg T 6 x0 <|
  nm (uI I2 x0 50 ((I2 x0 50) + (ii 1))) fun I4 =>
  some ((ii 0), I4, L)
def fX5_run_b105 (nf : Nat) (T : xT) (N : xT) (I : xI) (L : xL) (R : xR) (x0 : Nat) (x1 : Int32) : Option (Int32 × xI × xL) :=
  tg T 6 x0 <|
  b3 (fX5_sumOf nf T N I L R x0 (x1 + (ii 1))) fun r1 I2 L3 =>
  b3 (fX5_sumOf nf T N I2 L3 R x0 (x1 + (ii 3))) fun r6 I7 L8 =>
  if (I7 x0 53) = (ii 0) then
    (R x0 49).bind fun a11 =>
    rA T N 100 a11 x1 fun j12 =>
    b3 (fX5_act nf T N I7 L8 R x0 (I7 a11 j12) r1 r6) fun r13 I14 L15 =>
    if (ii 0) ≤ r13 then
      if (I14 a11 j12) = (ii 1) then
        fX5_run_b173 nf T N I14 L15 R x0 x0 r13
      else
        fX5_run_b173 nf T N I14 L15 R x0 x0 (I14 x0 51)
    else
      some ((-3 : Int32), I14, L15)
  else
    some ((-3 : Int32), I7, L8)
def fX5_run (nf : Nat) (T : xT) (N : xT) (I : xI) (L : xL) (R : xR) (x0 : Nat) (x1 : Int32) : Option (Int32 × xI × xL) :=
  tg T 6 x0 <|
  (R x0 36).bind fun a2 =>
  (R x0 3).bind fun a3 =>
  rA T N 100 a3 (ii 5) fun j4 =>
  rA T N 103 a2 (ii 1) fun j5 =>
  nm (uL L a2 j5 (((I a3 j4)).toInt64)) fun L6 =>
  rA T N 103 a2 (ii 2) fun j7 =>
  nm (uL L6 a2 j7 (((I x0 50)).toInt64)) fun L8 =>
  rA T N 103 a2 (ii 3) fun j9 =>
  nm (uL L8 a2 j9 (((I x0 51)).toInt64)) fun L10 =>
  (fX5_namedOnes nf T N I R x0).bind fun r11 =>
  rA T N 103 a2 (ii 4) fun j13 =>
  nm (uL L10 a2 j13 ((r11).toInt64)) fun L14 =>
  rA T N 100 a3 (ii 1) fun j15 =>
  rA T N 103 a2 (ii 5) fun j16 =>
  nm (uL L14 a2 j16 (((I a3 j15)).toInt64)) fun L17 =>
  nm (uI I x0 53 (ii 0)) fun I18 =>
  (R x0 49).bind fun a19 =>
  rA T N 100 a19 (x1 + (ii 5)) fun j20 =>
  rA T N 100 a19 (x1 + (ii 6)) fun j21 =>
  if (I18 a19 j21) ≤ (I18 a19 j20) then
    fX5_run_b105 nf T N I18 L17 R x0 x1
  else
    b3 (fX5_sumOf nf T N I18 L17 R x0 (x1 + (ii 5))) fun r23 I24 L25 =>
    if (I24 x0 53) = (ii 0) then
      if r23 = (ii 0) then
        some ((ii 0), I24, L25)
      else
        fX5_run_b105 nf T N I24 L25 R x0 x1
    else
      some ((ii 0), I24, L25)
/- LostLanesModel.giveBack(I)V -/
def fX5_giveBack_b35 (nf : Nat) (T : xT) (N : xT) (R : xR) : Nat → xI → Nat → Int32 → Int32 → Option (xI)
  | 0, _, _, _, _ => none
  | k + 1, I, x0, x1, x2 =>
    if (ii 16) ≤ x2 then
      tg T 6 x0 <|
      nm (uI I x0 8 x1) fun I3 =>
      some I3
    else
      tg T 6 x0 <|
      (R x0 7).bind fun a5 =>
      (R x0 10).bind fun a6 =>
      rA T N 100 a6 x2 fun j7 =>
      rA T N 100 a5 x2 fun j8 =>
      nm (uI I a5 j8 (I a6 j7)) fun I9 =>
      nm (x2 + (ii 1)) fun u10 =>
      fX5_giveBack_b35 nf T N R k I9 x0 x1 u10
def fX5_giveBack_b8 (nf : Nat) (T : xT) (N : xT) (R : xR) : Nat → xI → Nat → Int32 → Int32 → Option (xI)
  | 0, _, _, _, _ => none
  | k + 1, I, x0, x1, x2 =>
    if (ii 336) ≤ x2 then
      fX5_giveBack_b35 nf T N R nf I x0 x1 (ii 0)
    else
      tg T 6 x0 <|
      (R x0 6).bind fun a3 =>
      (R x0 9).bind fun a4 =>
      rA T N 100 a4 x2 fun j5 =>
      rA T N 100 a3 x2 fun j6 =>
      nm (uI I a3 j6 (I a4 j5)) fun I7 =>
      nm (x2 + (ii 1)) fun u8 =>
      fX5_giveBack_b8 nf T N R k I7 x0 x1 u8
def fX5_giveBack (nf : Nat) (T : xT) (N : xT) (I : xI) (R : xR) (x0 : Nat) (x1 : Int32) : Option (xI) :=
  tg T 6 x0 <|
  (fX5_putBack nf T N I R x0 (ii 17)).bind fun I1 =>
  fX5_giveBack_b8 nf T N R nf I1 x0 x1 (ii 0)
/- LostLanesModel.orders()I -/
def fX5_orders_b150 (nf : Nat) (kk140 : xI → xL → Nat → Int32 → Int32 → Option (Int32 × xI × xL)) (T : xT) (N : xT) (R : xR) : Nat → xI → xL → Nat → Int32 → Int32 → Int32 → Option (Int32 × xI × xL)
  | 0, _, _, _, _, _, _ => none
  | k + 1, I, L, x0, x1, x2, x3 =>
    tg T 6 x0 <|
    (R x0 49).bind fun a2 =>
    rA T N 100 a2 (((ii 8) * x2) + (ii 7)) fun j3 =>
    if (I a2 j3) ≤ x3 then
      nm (x2 + (ii 1)) fun u5 =>
      kk140 I L x0 x1 u5
    else
      b3 (fX5_run nf T N I L R x0 ((ii 8) * x2)) fun r6 I7 L8 =>
      if (ii 0) ≤ r6 then
        nm (x3 + (ii 1)) fun u11 =>
        fX5_orders_b150 nf kk140 T N R k I7 L8 x0 x1 x2 u11
      else
        (fX5_giveBack nf T N I7 R x0 x1).bind fun I12 =>
        nm (uI I12 x0 52 x2) fun I14 =>
        b2 (fX5_tell T N I14 R x0 (-3 : Int32)) fun r15 I16 =>
        some (r15, I16, L8)
def fX5_orders_b140 (nf : Nat) (T : xT) (N : xT) (R : xR) : Nat → xI → xL → Nat → Int32 → Int32 → Option (Int32 × xI × xL)
  | 0, _, _, _, _, _ => none
  | k + 1, I, L, x0, x1, x2 =>
    tg T 6 x0 <|
    if (I x0 21) ≤ x2 then
      b2 (fX5_tell T N I R x0 (I x0 50)) fun r3 I4 =>
      some (r3, I4, L)
    else
      fX5_orders_b150 nf (fX5_orders_b140 nf T N R k) T N R nf I L x0 x1 x2 (ii 0)
def fX5_orders_b104 (nf : Nat) (T : xT) (N : xT) (R : xR) : Nat → xI → xL → Nat → Int32 → Int32 → Option (Int32 × xI × xL)
  | 0, _, _, _, _, _ => none
  | k + 1, I, L, x0, x1, x2 =>
    if (ii 16) ≤ x2 then
      tg T 6 x0 <|
      nm (uI I x0 50 (ii 0)) fun I3 =>
      nm (uI I3 x0 51 (-1 : Int32)) fun I4 =>
      fX5_orders_b140 nf T N R nf I4 L x0 x1 (ii 0)
    else
      tg T 6 x0 <|
      (R x0 10).bind fun a6 =>
      (R x0 7).bind fun a7 =>
      rA T N 100 a7 x2 fun j8 =>
      rA T N 100 a6 x2 fun j9 =>
      nm (uI I a6 j9 (I a7 j8)) fun I10 =>
      nm (x2 + (ii 1)) fun u11 =>
      fX5_orders_b104 nf T N R k I10 L x0 x1 u11
def fX5_orders_b77 (nf : Nat) (T : xT) (N : xT) (R : xR) : Nat → xI → xL → Nat → Int32 → Int32 → Option (Int32 × xI × xL)
  | 0, _, _, _, _, _ => none
  | k + 1, I, L, x0, x1, x2 =>
    if (ii 336) ≤ x2 then
      fX5_orders_b104 nf T N R nf I L x0 x1 (ii 0)
    else
      tg T 6 x0 <|
      (R x0 9).bind fun a3 =>
      (R x0 6).bind fun a4 =>
      rA T N 100 a4 x2 fun j5 =>
      rA T N 100 a3 x2 fun j6 =>
      nm (uI I a3 j6 (I a4 j5)) fun I7 =>
      nm (x2 + (ii 1)) fun u8 =>
      fX5_orders_b77 nf T N R k I7 L x0 x1 u8
def fX5_orders_b46 (nf : Nat) (T : xT) (N : xT) (I : xI) (L : xL) (R : xR) (x0 : Nat) : Option (Int32 × xI × xL) :=
  tg T 6 x0 <|
  b2 (fX5_endText nf T N I L R x0) fun I1 L2 =>
  if (I1 x0 19) = (ii 0) then
    (fX5_keepAll nf T N I1 R x0 (ii 17)).bind fun I6 =>
    nm (I6 x0 8) fun u8 =>
    fX5_orders_b77 nf T N R nf I6 L2 x0 u8 (ii 0)
  else
    b2 (fX5_tell T N I1 R x0 (-6 : Int32)) fun r9 I10 =>
    some (r9, I10, L2)
def fX5_orders_b19 (nf : Nat) (T : xT) (N : xT) (R : xR) : Nat → xI → xL → Nat → Option (Int32 × xI × xL)
  | 0, _, _, _ => none
  | k + 1, I, L, x0 =>
    tg T 6 x0 <|
    if (I x0 19) = (ii 0) then
      (fX5_isSign T I L x0 (ii 59)).bind fun r3 =>
      if r3 = (ii 0) then
        fX5_orders_b46 nf T N I L R x0
      else
        b2 (fX5_next nf T N I L R x0) fun I6 L7 =>
        b2 (fX5_readOrder nf T N I6 L7 R x0) fun I9 L10 =>
        fX5_orders_b19 nf T N R k I9 L10 x0
    else
      fX5_orders_b46 nf T N I L R x0
def fX5_orders (nf : Nat) (T : xT) (N : xT) (I : xI) (L : xL) (R : xR) (x0 : Nat) : Option (Int32 × xI × xL) :=
  tg T 6 x0 <|
  nm (uI I x0 0 (ii 0)) fun I2 =>
  nm (uI I2 x0 52 (-1 : Int32)) fun I3 =>
  b2 (fX5_beginText nf T N I3 L R x0 (ii 1)) fun I4 L5 =>
  b2 (fX5_readOrder nf T N I4 L5 R x0) fun I7 L8 =>
  fX5_orders_b19 nf T N R nf I7 L8 x0
/- LostLanesModel.stopped()I -/
def fX5_stopped (T : xT) (I : xI) (x0 : Nat) : Option (Int32 × xI) :=
  tg T 6 x0 <|
  nm (uI I x0 0 (ii 0)) fun I2 =>
  some ((I2 x0 52), I2)
/- LostLanesModel.draw(I)I -/
def fX5_draw (T : xT) (L : xL) (x0 : Nat) (x1 : Int32) : Option (Int32 × xL) :=
  tg T 6 x0 <|
  nm (uL L x0 54 ((((L x0 54) * (jj 1103)) + (jj 12345)) - (((L x0 54) * (jj 1103)) + (jj 12345)) / (jj 1000003) * (jj 1000003))) fun L2 =>
  chk (decide (¬ ((x1).toInt64) = (jj 0))) <|
  some (((((L2 x0 54) - (L2 x0 54) / ((x1).toInt64) * ((x1).toInt64))).toInt32), L2)
/- LostLanesModel.decades(II)I -/
def fX5_decades_b180 (nf : Nat) (T : xT) (N : xT) (R : xR) : Nat → xI → xL → Nat → Int32 → Option (Int32 × xI × xL)
  | 0, _, _, _, _ => none
  | k + 1, I, L, x0, x3 =>
    if (ii 21) ≤ x3 then
      tg T 6 x0 <|
      (R x0 3).bind fun a3 =>
      rA T N 100 a3 (ii 0) fun j4 =>
      nm (uI I x0 56 (I a3 j4)) fun I5 =>
      rA T N 100 a3 (ii 1) fun j6 =>
      nm (uI I5 x0 57 (I5 a3 j6)) fun I7 =>
      (fX5_namedOnes nf T N I7 R x0).bind fun r8 =>
      (fX5_putBack nf T N I7 R x0 (ii 16)).bind fun I10 =>
      b2 (fX5_tell T N I10 R x0 r8) fun r12 I13 =>
      some (r12, I13, L)
    else
      tg T 6 x0 <|
      (R x0 55).bind fun a16 =>
      (R x0 3).bind fun a17 =>
      rA T N 100 a17 ((ii 5) + x3) fun j18 =>
      rA T N 100 a16 x3 fun j19 =>
      nm (uI I a16 j19 (I a17 j18)) fun I20 =>
      nm (x3 + (ii 1)) fun u21 =>
      fX5_decades_b180 nf T N R k I20 L x0 u21
def fX5_decades_b166 (nf : Nat) (kk65 : xI → xL → Nat → Int32 → Int32 → Option (Int32 × xI × xL)) (T : xT) (N : xT) (I : xI) (L : xL) (R : xR) (x0 : Nat) (x2 : Int32) (x3 : Int32) (z0 : Nat) (z1 : Int32) (z2 : Int32) : Option (Int32 × xI × xL) :=
  rA T N 100 z0 z1 fun j1 =>
  nm (uI I z0 j1 z2) fun I2 =>
  tg T 6 x0 <|
  b3 (fX5_passIt nf T N I2 L R x0) fun r3 I4 L5 =>
  nm (x3 + (ii 1)) fun u8 =>
  kk65 I4 L5 x0 x2 u8
def fX5_decades_b136 (nf : Nat) (kk65 : xI → xL → Nat → Int32 → Int32 → Option (Int32 × xI × xL)) (T : xT) (N : xT) (I : xI) (L : xL) (R : xR) (x0 : Nat) (x2 : Int32) (x3 : Int32) (x4 : Int32) (x5 : Int32) (x6 : Int32) : Option (Int32 × xI × xL) :=
  tg T 6 x0 <|
  (R x0 3).bind fun a2 =>
  if x6 = (ii 2) then
    fX5_decades_b166 nf kk65 T N I L R x0 x2 x3 a2 ((ii 18) + x4) x5
  else
    rA T N 100 a2 ((ii 18) + x4) fun j4 =>
    fX5_decades_b166 nf kk65 T N I L R x0 x2 x3 a2 ((ii 18) + x4) (I a2 j4)
def fX5_decades_b65 (nf : Nat) (T : xT) (N : xT) (R : xR) : Nat → xI → xL → Nat → Int32 → Int32 → Option (Int32 × xI × xL)
  | 0, _, _, _, _, _ => none
  | k + 1, I, L, x0, x2, x3 =>
    if x2 ≤ x3 then
      fX5_decades_b180 nf T N R nf I L x0 (ii 0)
    else
      tg T 6 x0 <|
      (R x0 3).bind fun a3 =>
      rA T N 100 a3 (ii 5) fun j4 =>
      if (ii 999) ≤ (I a3 j4) then
        fX5_decades_b180 nf T N R nf I L x0 (ii 0)
      else
        rA T N 100 a3 (ii 1) fun j6 =>
        b2 (fX5_draw T L x0 (I a3 j6)) fun r7 L8 =>
        b2 (fX5_draw T L8 x0 (ii 8)) fun r10 L11 =>
        b2 (fX5_draw T L11 x0 (ii 4)) fun r13 L14 =>
        if (ii 2) ≤ r13 then
          fX5_decades_b136 nf (fX5_decades_b65 nf T N R k) T N I L14 R x0 x2 x3 r7 r10 r13
        else
          rA T N 100 a3 ((ii 22) + r7) fun j17 =>
          if (I a3 j17) = (-1 : Int32) then
            fX5_decades_b136 nf (fX5_decades_b65 nf T N R k) T N I L14 R x0 x2 x3 r7 r10 r13
          else
            b3 (fX5_cryIt nf T N I L14 R x0 r7) fun r19 I20 L21 =>
            fX5_decades_b136 nf (fX5_decades_b65 nf T N R k) T N I20 L21 R x0 x2 x3 r7 r10 r13
def fX5_decades (nf : Nat) (T : xT) (N : xT) (I : xI) (L : xL) (R : xR) (x0 : Nat) (x1 : Int32) (x2 : Int32) : Option (Int32 × xI × xL) :=
  tg T 6 x0 <|
  nm (uI I x0 0 (ii 0)) fun I2 =>
  (fX5_in ((x1).toInt64) (jj 0) (jj 1000000)).bind fun r3 =>
  if r3 = (ii 0) then
    b2 (fX5_tell T N I2 R x0 (-1 : Int32)) fun r6 I7 =>
    some (r6, I7, L)
  else
    (fX5_in ((x2).toInt64) (jj 1) (jj 60)).bind fun r9 =>
    if r9 = (ii 0) then
      b2 (fX5_tell T N I2 R x0 (-1 : Int32)) fun r21 I22 =>
      some (r21, I22, L)
    else
      (R x0 3).bind fun a12 =>
      rA T N 100 a12 (ii 1) fun j13 =>
      if (I2 a12 j13) = (ii 0) then
        b2 (fX5_tell T N I2 R x0 (-3 : Int32)) fun r18 I19 =>
        some (r18, I19, L)
      else
        (fX5_keepAll nf T N I2 R x0 (ii 16)).bind fun I15 =>
        nm (uL L x0 54 ((x1).toInt64)) fun L17 =>
        fX5_decades_b65 nf T N R nf I15 L17 x0 x2 (ii 0)
/- LostLanesModel.drawn(II)I -/
def fX5_drawn_b33 (T : xT) (N : xT) (I : xI) (R : xR) (x0 : Nat) (x1 : Int32) (x2 : Int32) (z0 : Int64) (z1 : Int64) (z2 : Int32) : Option (Int32 × xI) :=
  (fX5_in z0 z1 (((z2).toInt64) - (jj 1))).bind fun r1 =>
  if r1 = (ii 0) then
    some ((-1 : Int32), I)
  else
    tg T 6 x0 <|
    (R x0 55).bind fun a5 =>
    if x2 = (ii 0) then
      rA T N 100 a5 (((ii 18) - (ii 5)) + x1) fun j8 =>
      some ((I a5 j8), I)
    else
      rA T N 100 a5 (((ii 8) - (ii 5)) + x1) fun j7 =>
      some ((I a5 j7), I)
def fX5_drawn (T : xT) (N : xT) (I : xI) (R : xR) (x0 : Nat) (x1 : Int32) (x2 : Int32) : Option (Int32 × xI) :=
  tg T 6 x0 <|
  nm (uI I x0 0 (ii 0)) fun I2 =>
  (fX5_in ((x2).toInt64) (jj 0) (jj 1)).bind fun r3 =>
  if r3 = (ii 0) then
    some ((-1 : Int32), I2)
  else
    if x2 = (ii 0) then
      fX5_drawn_b33 T N I2 R x0 x1 x2 ((x1).toInt64) (jj 0) (I2 x0 57)
    else
      fX5_drawn_b33 T N I2 R x0 x1 x2 ((x1).toInt64) (jj 0) (I2 x0 56)
/- LostLanesModel.count(I)I -/
def fX5_count (nf : Nat) (T : xT) (N : xT) (I : xI) (R : xR) (x0 : Nat) (x1 : Int32) : Option (Int32 × xI) :=
  tg T 6 x0 <|
  nm (uI I x0 0 (ii 0)) fun I2 =>
  if x1 = (ii 0) then
    (R x0 3).bind fun a4 =>
    rA T N 100 a4 (ii 0) fun j5 =>
    some ((I2 a4 j5), I2)
  else
  if x1 = (ii 1) then
    (R x0 3).bind fun a7 =>
    rA T N 100 a7 (ii 1) fun j8 =>
    some ((I2 a7 j8), I2)
  else
  if x1 = (ii 2) then
    (fX5_namedOnes nf T N I2 R x0).bind fun r10 =>
    some (r10, I2)
  else
  if x1 = (ii 3) then
    (R x0 3).bind fun a13 =>
    rA T N 100 a13 (ii 2) fun j14 =>
    some ((I2 a13 j14), I2)
  else
  if x1 = (ii 4) then
    (R x0 3).bind fun a16 =>
    rA T N 100 a16 (ii 3) fun j17 =>
    some ((I2 a16 j17), I2)
  else
  if x1 = (ii 5) then
    some ((I2 x0 8), I2)
  else
  if x1 = (ii 6) then
    some ((I2 x0 13), I2)
  else
  if x1 = (ii 7) then
    (R x0 2).bind fun a21 =>
    rA T N 100 a21 (ii 1) fun j22 =>
    some ((I2 a21 j22), I2)
  else
  if x1 = (ii 8) then
    (R x0 2).bind fun a24 =>
    rA T N 100 a24 (ii 2) fun j25 =>
    some ((I2 a24 j25), I2)
  else
  if x1 = (ii 9) then
    (R x0 2).bind fun a27 =>
    rA T N 100 a27 (ii 3) fun j28 =>
    some ((I2 a27 j28), I2)
  else
  if x1 = (ii 10) then
    (R x0 2).bind fun a30 =>
    rA T N 100 a30 (ii 5) fun j31 =>
    some ((I2 a30 j31), I2)
  else
  if x1 = (ii 11) then
    (R x0 2).bind fun a33 =>
    rA T N 100 a33 (ii 6) fun j34 =>
    some ((I2 a33 j34), I2)
  else
  if x1 = (ii 12) then
    (R x0 3).bind fun a36 =>
    rA T N 100 a36 (ii 4) fun j37 =>
    some ((I2 a36 j37), I2)
  else
  (fX5_in ((x1).toInt64) (jj 13) (jj 15)).bind fun r38 =>
  if r38 = (ii 0) then
    some ((-1 : Int32), I2)
  else
    (R x0 3).bind fun a41 =>
    rA T N 100 a41 (((ii 5) + x1) - (ii 13)) fun j42 =>
    some ((I2 a41 j42), I2)
/- LostLanesModel.status()I -/
def fX5_status (T : xT) (I : xI) (x0 : Nat) : Option (Int32 × xI) :=
  tg T 6 x0 <|
  nm (uI I x0 0 (ii 0)) fun I2 =>
  some ((I2 x0 1), I2)
theorem hsX5_init : yX5_init.cls ≠ "java/lang/invoke/MethodHandle" ∧ yX5_init.cls ≠ "java/lang/invoke/VarHandle" ∧ (parseMethodDescriptor yX5_init.desc).map (fun d => d.parameters.length) = some 0 := by decide +kernel
theorem hsX5_tell : yX5_tell.cls ≠ "java/lang/invoke/MethodHandle" ∧ yX5_tell.cls ≠ "java/lang/invoke/VarHandle" ∧ (parseMethodDescriptor yX5_tell.desc).map (fun d => d.parameters.length) = some 1 := by decide +kernel
theorem hsX5_putBack : yX5_putBack.cls ≠ "java/lang/invoke/MethodHandle" ∧ yX5_putBack.cls ≠ "java/lang/invoke/VarHandle" ∧ (parseMethodDescriptor yX5_putBack.desc).map (fun d => d.parameters.length) = some 1 := by decide +kernel
theorem hsX5_undo : yX5_undo.cls ≠ "java/lang/invoke/MethodHandle" ∧ yX5_undo.cls ≠ "java/lang/invoke/VarHandle" ∧ (parseMethodDescriptor yX5_undo.desc).map (fun d => d.parameters.length) = some 0 := by decide +kernel
theorem hsX5_in : yX5_in.cls ≠ "java/lang/invoke/MethodHandle" ∧ yX5_in.cls ≠ "java/lang/invoke/VarHandle" ∧ (parseMethodDescriptor yX5_in.desc).map (fun d => d.parameters.length) = some 3 := by decide +kernel
theorem hsX5_image : yX5_image.cls ≠ "java/lang/invoke/MethodHandle" ∧ yX5_image.cls ≠ "java/lang/invoke/VarHandle" ∧ (parseMethodDescriptor yX5_image.desc).map (fun d => d.parameters.length) = some 1 := by decide +kernel
theorem hsX5_lasting : yX5_lasting.cls ≠ "java/lang/invoke/MethodHandle" ∧ yX5_lasting.cls ≠ "java/lang/invoke/VarHandle" ∧ (parseMethodDescriptor yX5_lasting.desc).map (fun d => d.parameters.length) = some 1 := by decide +kernel
theorem hsX5_back : yX5_back.cls ≠ "java/lang/invoke/MethodHandle" ∧ yX5_back.cls ≠ "java/lang/invoke/VarHandle" ∧ (parseMethodDescriptor yX5_back.desc).map (fun d => d.parameters.length) = some 1 := by decide +kernel
theorem hsX5_isCorner : yX5_isCorner.cls ≠ "java/lang/invoke/MethodHandle" ∧ yX5_isCorner.cls ≠ "java/lang/invoke/VarHandle" ∧ (parseMethodDescriptor yX5_isCorner.desc).map (fun d => d.parameters.length) = some 1 := by decide +kernel
theorem hsX5_come : yX5_come.cls ≠ "java/lang/invoke/MethodHandle" ∧ yX5_come.cls ≠ "java/lang/invoke/VarHandle" ∧ (parseMethodDescriptor yX5_come.desc).map (fun d => d.parameters.length) = some 4 := by decide +kernel
theorem hsX5_lane : yX5_lane.cls ≠ "java/lang/invoke/MethodHandle" ∧ yX5_lane.cls ≠ "java/lang/invoke/VarHandle" ∧ (parseMethodDescriptor yX5_lane.desc).map (fun d => d.parameters.length) = some 4 := by decide +kernel
theorem hsX5_isLane : yX5_isLane.cls ≠ "java/lang/invoke/MethodHandle" ∧ yX5_isLane.cls ≠ "java/lang/invoke/VarHandle" ∧ (parseMethodDescriptor yX5_isLane.desc).map (fun d => d.parameters.length) = some 1 := by decide +kernel
theorem hsX5_at : yX5_at.cls ≠ "java/lang/invoke/MethodHandle" ∧ yX5_at.cls ≠ "java/lang/invoke/VarHandle" ∧ (parseMethodDescriptor yX5_at.desc).map (fun d => d.parameters.length) = some 2 := by decide +kernel
theorem hsX5_child : yX5_child.cls ≠ "java/lang/invoke/MethodHandle" ∧ yX5_child.cls ≠ "java/lang/invoke/VarHandle" ∧ (parseMethodDescriptor yX5_child.desc).map (fun d => d.parameters.length) = some 2 := by decide +kernel
theorem hsX5_isChild : yX5_isChild.cls ≠ "java/lang/invoke/MethodHandle" ∧ yX5_isChild.cls ≠ "java/lang/invoke/VarHandle" ∧ (parseMethodDescriptor yX5_isChild.desc).map (fun d => d.parameters.length) = some 1 := by decide +kernel
theorem hsX5_reckon : yX5_reckon.cls ≠ "java/lang/invoke/MethodHandle" ∧ yX5_reckon.cls ≠ "java/lang/invoke/VarHandle" ∧ (parseMethodDescriptor yX5_reckon.desc).map (fun d => d.parameters.length) = some 3 := by decide +kernel
theorem hsX5_reckonAll : yX5_reckonAll.cls ≠ "java/lang/invoke/MethodHandle" ∧ yX5_reckonAll.cls ≠ "java/lang/invoke/VarHandle" ∧ (parseMethodDescriptor yX5_reckonAll.desc).map (fun d => d.parameters.length) = some 2 := by decide +kernel
theorem hsX5_isSo : yX5_isSo.cls ≠ "java/lang/invoke/MethodHandle" ∧ yX5_isSo.cls ≠ "java/lang/invoke/VarHandle" ∧ (parseMethodDescriptor yX5_isSo.desc).map (fun d => d.parameters.length) = some 1 := by decide +kernel
theorem hsX5_tells : yX5_tells.cls ≠ "java/lang/invoke/MethodHandle" ∧ yX5_tells.cls ≠ "java/lang/invoke/VarHandle" ∧ (parseMethodDescriptor yX5_tells.desc).map (fun d => d.parameters.length) = some 4 := by decide +kernel
theorem hsX5_bounded : yX5_bounded.cls ≠ "java/lang/invoke/MethodHandle" ∧ yX5_bounded.cls ≠ "java/lang/invoke/VarHandle" ∧ (parseMethodDescriptor yX5_bounded.desc).map (fun d => d.parameters.length) = some 3 := by decide +kernel
theorem hsX5_turnsTo : yX5_turnsTo.cls ≠ "java/lang/invoke/MethodHandle" ∧ yX5_turnsTo.cls ≠ "java/lang/invoke/VarHandle" ∧ (parseMethodDescriptor yX5_turnsTo.desc).map (fun d => d.parameters.length) = some 1 := by decide +kernel
theorem hsX5_ends : yX5_ends.cls ≠ "java/lang/invoke/MethodHandle" ∧ yX5_ends.cls ≠ "java/lang/invoke/VarHandle" ∧ (parseMethodDescriptor yX5_ends.desc).map (fun d => d.parameters.length) = some 2 := by decide +kernel
theorem hsX5_isBarred : yX5_isBarred.cls ≠ "java/lang/invoke/MethodHandle" ∧ yX5_isBarred.cls ≠ "java/lang/invoke/VarHandle" ∧ (parseMethodDescriptor yX5_isBarred.desc).map (fun d => d.parameters.length) = some 2 := by decide +kernel
theorem hsX5_canGo : yX5_canGo.cls ≠ "java/lang/invoke/MethodHandle" ∧ yX5_canGo.cls ≠ "java/lang/invoke/VarHandle" ∧ (parseMethodDescriptor yX5_canGo.desc).map (fun d => d.parameters.length) = some 2 := by decide +kernel
theorem hsX5_laneOf : yX5_laneOf.cls ≠ "java/lang/invoke/MethodHandle" ∧ yX5_laneOf.cls ≠ "java/lang/invoke/VarHandle" ∧ (parseMethodDescriptor yX5_laneOf.desc).map (fun d => d.parameters.length) = some 1 := by decide +kernel
theorem hsX5_of : yX5_of.cls ≠ "java/lang/invoke/MethodHandle" ∧ yX5_of.cls ≠ "java/lang/invoke/VarHandle" ∧ (parseMethodDescriptor yX5_of.desc).map (fun d => d.parameters.length) = some 2 := by decide +kernel
theorem hsX5_saysOf : yX5_saysOf.cls ≠ "java/lang/invoke/MethodHandle" ∧ yX5_saysOf.cls ≠ "java/lang/invoke/VarHandle" ∧ (parseMethodDescriptor yX5_saysOf.desc).map (fun d => d.parameters.length) = some 2 := by decide +kernel
theorem hsX5_asks : yX5_asks.cls ≠ "java/lang/invoke/MethodHandle" ∧ yX5_asks.cls ≠ "java/lang/invoke/VarHandle" ∧ (parseMethodDescriptor yX5_asks.desc).map (fun d => d.parameters.length) = some 3 := by decide +kernel
theorem hsX5_change : yX5_change.cls ≠ "java/lang/invoke/MethodHandle" ∧ yX5_change.cls ≠ "java/lang/invoke/VarHandle" ∧ (parseMethodDescriptor yX5_change.desc).map (fun d => d.parameters.length) = some 2 := by decide +kernel
theorem hsX5_terms : yX5_terms.cls ≠ "java/lang/invoke/MethodHandle" ∧ yX5_terms.cls ≠ "java/lang/invoke/VarHandle" ∧ (parseMethodDescriptor yX5_terms.desc).map (fun d => d.parameters.length) = some 2 := by decide +kernel
theorem hsX5_row : yX5_row.cls ≠ "java/lang/invoke/MethodHandle" ∧ yX5_row.cls ≠ "java/lang/invoke/VarHandle" ∧ (parseMethodDescriptor yX5_row.desc).map (fun d => d.parameters.length) = some 0 := by decide +kernel
theorem hsX5_gravel : yX5_gravel.cls ≠ "java/lang/invoke/MethodHandle" ∧ yX5_gravel.cls ≠ "java/lang/invoke/VarHandle" ∧ (parseMethodDescriptor yX5_gravel.desc).map (fun d => d.parameters.length) = some 0 := by decide +kernel
theorem hsX5_four : yX5_four.cls ≠ "java/lang/invoke/MethodHandle" ∧ yX5_four.cls ≠ "java/lang/invoke/VarHandle" ∧ (parseMethodDescriptor yX5_four.desc).map (fun d => d.parameters.length) = some 1 := by decide +kernel
theorem hsX5_feed : yX5_feed.cls ≠ "java/lang/invoke/MethodHandle" ∧ yX5_feed.cls ≠ "java/lang/invoke/VarHandle" ∧ (parseMethodDescriptor yX5_feed.desc).map (fun d => d.parameters.length) = some 5 := by decide +kernel
theorem hsX5_end : yX5_end.cls ≠ "java/lang/invoke/MethodHandle" ∧ yX5_end.cls ≠ "java/lang/invoke/VarHandle" ∧ (parseMethodDescriptor yX5_end.desc).map (fun d => d.parameters.length) = some 1 := by decide +kernel
theorem hsX5_fault : yX5_fault.cls ≠ "java/lang/invoke/MethodHandle" ∧ yX5_fault.cls ≠ "java/lang/invoke/VarHandle" ∧ (parseMethodDescriptor yX5_fault.desc).map (fun d => d.parameters.length) = some 0 := by decide +kernel
theorem hsX5_isSmall : yX5_isSmall.cls ≠ "java/lang/invoke/MethodHandle" ∧ yX5_isSmall.cls ≠ "java/lang/invoke/VarHandle" ∧ (parseMethodDescriptor yX5_isSmall.desc).map (fun d => d.parameters.length) = some 1 := by decide +kernel
theorem hsX5_isDigit : yX5_isDigit.cls ≠ "java/lang/invoke/MethodHandle" ∧ yX5_isDigit.cls ≠ "java/lang/invoke/VarHandle" ∧ (parseMethodDescriptor yX5_isDigit.desc).map (fun d => d.parameters.length) = some 1 := by decide +kernel
theorem hsX5_next : yX5_next.cls ≠ "java/lang/invoke/MethodHandle" ∧ yX5_next.cls ≠ "java/lang/invoke/VarHandle" ∧ (parseMethodDescriptor yX5_next.desc).map (fun d => d.parameters.length) = some 0 := by decide +kernel
theorem hsX5_begin : yX5_begin.cls ≠ "java/lang/invoke/MethodHandle" ∧ yX5_begin.cls ≠ "java/lang/invoke/VarHandle" ∧ (parseMethodDescriptor yX5_begin.desc).map (fun d => d.parameters.length) = some 0 := by decide +kernel
theorem hsX5_beginText : yX5_beginText.cls ≠ "java/lang/invoke/MethodHandle" ∧ yX5_beginText.cls ≠ "java/lang/invoke/VarHandle" ∧ (parseMethodDescriptor yX5_beginText.desc).map (fun d => d.parameters.length) = some 1 := by decide +kernel
theorem hsX5_isWord : yX5_isWord.cls ≠ "java/lang/invoke/MethodHandle" ∧ yX5_isWord.cls ≠ "java/lang/invoke/VarHandle" ∧ (parseMethodDescriptor yX5_isWord.desc).map (fun d => d.parameters.length) = some 1 := by decide +kernel
theorem hsX5_must : yX5_must.cls ≠ "java/lang/invoke/MethodHandle" ∧ yX5_must.cls ≠ "java/lang/invoke/VarHandle" ∧ (parseMethodDescriptor yX5_must.desc).map (fun d => d.parameters.length) = some 1 := by decide +kernel
theorem hsX5_push : yX5_push.cls ≠ "java/lang/invoke/MethodHandle" ∧ yX5_push.cls ≠ "java/lang/invoke/VarHandle" ∧ (parseMethodDescriptor yX5_push.desc).map (fun d => d.parameters.length) = some 2 := by decide +kernel
theorem hsX5_isSign : yX5_isSign.cls ≠ "java/lang/invoke/MethodHandle" ∧ yX5_isSign.cls ≠ "java/lang/invoke/VarHandle" ∧ (parseMethodDescriptor yX5_isSign.desc).map (fun d => d.parameters.length) = some 1 := by decide +kernel
theorem hsX5_openBracket : yX5_openBracket.cls ≠ "java/lang/invoke/MethodHandle" ∧ yX5_openBracket.cls ≠ "java/lang/invoke/VarHandle" ∧ (parseMethodDescriptor yX5_openBracket.desc).map (fun d => d.parameters.length) = some 1 := by decide +kernel
theorem hsX5_orderPartAt : yX5_orderPartAt.cls ≠ "java/lang/invoke/MethodHandle" ∧ yX5_orderPartAt.cls ≠ "java/lang/invoke/VarHandle" ∧ (parseMethodDescriptor yX5_orderPartAt.desc).map (fun d => d.parameters.length) = some 0 := by decide +kernel
theorem hsX5_partAt : yX5_partAt.cls ≠ "java/lang/invoke/MethodHandle" ∧ yX5_partAt.cls ≠ "java/lang/invoke/VarHandle" ∧ (parseMethodDescriptor yX5_partAt.desc).map (fun d => d.parameters.length) = some 0 := by decide +kernel
theorem hsX5_emit : yX5_emit.cls ≠ "java/lang/invoke/MethodHandle" ∧ yX5_emit.cls ≠ "java/lang/invoke/VarHandle" ∧ (parseMethodDescriptor yX5_emit.desc).map (fun d => d.parameters.length) = some 2 := by decide +kernel
theorem hsX5_leaf : yX5_leaf.cls ≠ "java/lang/invoke/MethodHandle" ∧ yX5_leaf.cls ≠ "java/lang/invoke/VarHandle" ∧ (parseMethodDescriptor yX5_leaf.desc).map (fun d => d.parameters.length) = some 3 := by decide +kernel
theorem hsX5_number : yX5_number.cls ≠ "java/lang/invoke/MethodHandle" ∧ yX5_number.cls ≠ "java/lang/invoke/VarHandle" ∧ (parseMethodDescriptor yX5_number.desc).map (fun d => d.parameters.length) = some 2 := by decide +kernel
theorem hsX5_readPart : yX5_readPart.cls ≠ "java/lang/invoke/MethodHandle" ∧ yX5_readPart.cls ≠ "java/lang/invoke/VarHandle" ∧ (parseMethodDescriptor yX5_readPart.desc).map (fun d => d.parameters.length) = some 0 := by decide +kernel
theorem hsX5_readPlain : yX5_readPlain.cls ≠ "java/lang/invoke/MethodHandle" ∧ yX5_readPlain.cls ≠ "java/lang/invoke/VarHandle" ∧ (parseMethodDescriptor yX5_readPlain.desc).map (fun d => d.parameters.length) = some 0 := by decide +kernel
theorem hsX5_binds : yX5_binds.cls ≠ "java/lang/invoke/MethodHandle" ∧ yX5_binds.cls ≠ "java/lang/invoke/VarHandle" ∧ (parseMethodDescriptor yX5_binds.desc).map (fun d => d.parameters.length) = some 1 := by decide +kernel
theorem hsX5_settle : yX5_settle.cls ≠ "java/lang/invoke/MethodHandle" ∧ yX5_settle.cls ≠ "java/lang/invoke/VarHandle" ∧ (parseMethodDescriptor yX5_settle.desc).map (fun d => d.parameters.length) = some 1 := by decide +kernel
theorem hsX5_inner : yX5_inner.cls ≠ "java/lang/invoke/MethodHandle" ∧ yX5_inner.cls ≠ "java/lang/invoke/VarHandle" ∧ (parseMethodDescriptor yX5_inner.desc).map (fun d => d.parameters.length) = some 0 := by decide +kernel
theorem hsX5_isCompared : yX5_isCompared.cls ≠ "java/lang/invoke/MethodHandle" ∧ yX5_isCompared.cls ≠ "java/lang/invoke/VarHandle" ∧ (parseMethodDescriptor yX5_isCompared.desc).map (fun d => d.parameters.length) = some 0 := by decide +kernel
theorem hsX5_behindSum : yX5_behindSum.cls ≠ "java/lang/invoke/MethodHandle" ∧ yX5_behindSum.cls ≠ "java/lang/invoke/VarHandle" ∧ (parseMethodDescriptor yX5_behindSum.desc).map (fun d => d.parameters.length) = some 1 := by decide +kernel
theorem hsX5_behindTest : yX5_behindTest.cls ≠ "java/lang/invoke/MethodHandle" ∧ yX5_behindTest.cls ≠ "java/lang/invoke/VarHandle" ∧ (parseMethodDescriptor yX5_behindTest.desc).map (fun d => d.parameters.length) = some 0 := by decide +kernel
theorem hsX5_readExpression : yX5_readExpression.cls ≠ "java/lang/invoke/MethodHandle" ∧ yX5_readExpression.cls ≠ "java/lang/invoke/VarHandle" ∧ (parseMethodDescriptor yX5_readExpression.desc).map (fun d => d.parameters.length) = some 1 := by decide +kernel
theorem hsX5_readLaw : yX5_readLaw.cls ≠ "java/lang/invoke/MethodHandle" ∧ yX5_readLaw.cls ≠ "java/lang/invoke/VarHandle" ∧ (parseMethodDescriptor yX5_readLaw.desc).map (fun d => d.parameters.length) = some 0 := by decide +kernel
theorem hsX5_endText : yX5_endText.cls ≠ "java/lang/invoke/MethodHandle" ∧ yX5_endText.cls ≠ "java/lang/invoke/VarHandle" ∧ (parseMethodDescriptor yX5_endText.desc).map (fun d => d.parameters.length) = some 0 := by decide +kernel
theorem hsX5_law : yX5_law.cls ≠ "java/lang/invoke/MethodHandle" ∧ yX5_law.cls ≠ "java/lang/invoke/VarHandle" ∧ (parseMethodDescriptor yX5_law.desc).map (fun d => d.parameters.length) = some 0 := by decide +kernel
theorem hsX5_isLaw : yX5_isLaw.cls ≠ "java/lang/invoke/MethodHandle" ∧ yX5_isLaw.cls ≠ "java/lang/invoke/VarHandle" ∧ (parseMethodDescriptor yX5_isLaw.desc).map (fun d => d.parameters.length) = some 1 := by decide +kernel
theorem hsX5_force : yX5_force.cls ≠ "java/lang/invoke/MethodHandle" ∧ yX5_force.cls ≠ "java/lang/invoke/VarHandle" ∧ (parseMethodDescriptor yX5_force.desc).map (fun d => d.parameters.length) = some 1 := by decide +kernel
theorem hsX5_keepAll : yX5_keepAll.cls ≠ "java/lang/invoke/MethodHandle" ∧ yX5_keepAll.cls ≠ "java/lang/invoke/VarHandle" ∧ (parseMethodDescriptor yX5_keepAll.desc).map (fun d => d.parameters.length) = some 1 := by decide +kernel
theorem hsX5_remember : yX5_remember.cls ≠ "java/lang/invoke/MethodHandle" ∧ yX5_remember.cls ≠ "java/lang/invoke/VarHandle" ∧ (parseMethodDescriptor yX5_remember.desc).map (fun d => d.parameters.length) = some 1 := by decide +kernel
theorem hsX5_across : yX5_across.cls ≠ "java/lang/invoke/MethodHandle" ∧ yX5_across.cls ≠ "java/lang/invoke/VarHandle" ∧ (parseMethodDescriptor yX5_across.desc).map (fun d => d.parameters.length) = some 2 := by decide +kernel
theorem hsX5_goAlong : yX5_goAlong.cls ≠ "java/lang/invoke/MethodHandle" ∧ yX5_goAlong.cls ≠ "java/lang/invoke/VarHandle" ∧ (parseMethodDescriptor yX5_goAlong.desc).map (fun d => d.parameters.length) = some 2 := by decide +kernel
theorem hsX5_wanderNow : yX5_wanderNow.cls ≠ "java/lang/invoke/MethodHandle" ∧ yX5_wanderNow.cls ≠ "java/lang/invoke/VarHandle" ∧ (parseMethodDescriptor yX5_wanderNow.desc).map (fun d => d.parameters.length) = some 1 := by decide +kernel
theorem hsX5_wander : yX5_wander.cls ≠ "java/lang/invoke/MethodHandle" ∧ yX5_wander.cls ≠ "java/lang/invoke/VarHandle" ∧ (parseMethodDescriptor yX5_wander.desc).map (fun d => d.parameters.length) = some 1 := by decide +kernel
theorem hsX5_cryIt : yX5_cryIt.cls ≠ "java/lang/invoke/MethodHandle" ∧ yX5_cryIt.cls ≠ "java/lang/invoke/VarHandle" ∧ (parseMethodDescriptor yX5_cryIt.desc).map (fun d => d.parameters.length) = some 1 := by decide +kernel
theorem hsX5_cryNow : yX5_cryNow.cls ≠ "java/lang/invoke/MethodHandle" ∧ yX5_cryNow.cls ≠ "java/lang/invoke/VarHandle" ∧ (parseMethodDescriptor yX5_cryNow.desc).map (fun d => d.parameters.length) = some 1 := by decide +kernel
theorem hsX5_cry : yX5_cry.cls ≠ "java/lang/invoke/MethodHandle" ∧ yX5_cry.cls ≠ "java/lang/invoke/VarHandle" ∧ (parseMethodDescriptor yX5_cry.desc).map (fun d => d.parameters.length) = some 1 := by decide +kernel
theorem hsX5_leadNow : yX5_leadNow.cls ≠ "java/lang/invoke/MethodHandle" ∧ yX5_leadNow.cls ≠ "java/lang/invoke/VarHandle" ∧ (parseMethodDescriptor yX5_leadNow.desc).map (fun d => d.parameters.length) = some 2 := by decide +kernel
theorem hsX5_lead : yX5_lead.cls ≠ "java/lang/invoke/MethodHandle" ∧ yX5_lead.cls ≠ "java/lang/invoke/VarHandle" ∧ (parseMethodDescriptor yX5_lead.desc).map (fun d => d.parameters.length) = some 2 := by decide +kernel
theorem hsX5_passIt : yX5_passIt.cls ≠ "java/lang/invoke/MethodHandle" ∧ yX5_passIt.cls ≠ "java/lang/invoke/VarHandle" ∧ (parseMethodDescriptor yX5_passIt.desc).map (fun d => d.parameters.length) = some 0 := by decide +kernel
theorem hsX5_passNow : yX5_passNow.cls ≠ "java/lang/invoke/MethodHandle" ∧ yX5_passNow.cls ≠ "java/lang/invoke/VarHandle" ∧ (parseMethodDescriptor yX5_passNow.desc).map (fun d => d.parameters.length) = some 0 := by decide +kernel
theorem hsX5_pass : yX5_pass.cls ≠ "java/lang/invoke/MethodHandle" ∧ yX5_pass.cls ≠ "java/lang/invoke/VarHandle" ∧ (parseMethodDescriptor yX5_pass.desc).map (fun d => d.parameters.length) = some 0 := by decide +kernel
theorem hsX5_where : yX5_where.cls ≠ "java/lang/invoke/MethodHandle" ∧ yX5_where.cls ≠ "java/lang/invoke/VarHandle" ∧ (parseMethodDescriptor yX5_where.desc).map (fun d => d.parameters.length) = some 2 := by decide +kernel
theorem hsX5_layFar : yX5_layFar.cls ≠ "java/lang/invoke/MethodHandle" ∧ yX5_layFar.cls ≠ "java/lang/invoke/VarHandle" ∧ (parseMethodDescriptor yX5_layFar.desc).map (fun d => d.parameters.length) = some 0 := by decide +kernel
theorem hsX5_farOf : yX5_farOf.cls ≠ "java/lang/invoke/MethodHandle" ∧ yX5_farOf.cls ≠ "java/lang/invoke/VarHandle" ∧ (parseMethodDescriptor yX5_farOf.desc).map (fun d => d.parameters.length) = some 2 := by decide +kernel
theorem hsX5_far : yX5_far.cls ≠ "java/lang/invoke/MethodHandle" ∧ yX5_far.cls ≠ "java/lang/invoke/VarHandle" ∧ (parseMethodDescriptor yX5_far.desc).map (fun d => d.parameters.length) = some 2 := by decide +kernel
theorem hsX5_foundAt : yX5_foundAt.cls ≠ "java/lang/invoke/MethodHandle" ∧ yX5_foundAt.cls ≠ "java/lang/invoke/VarHandle" ∧ (parseMethodDescriptor yX5_foundAt.desc).map (fun d => d.parameters.length) = some 2 := by decide +kernel
theorem hsX5_found : yX5_found.cls ≠ "java/lang/invoke/MethodHandle" ∧ yX5_found.cls ≠ "java/lang/invoke/VarHandle" ∧ (parseMethodDescriptor yX5_found.desc).map (fun d => d.parameters.length) = some 2 := by decide +kernel
theorem hsX5_post : yX5_post.cls ≠ "java/lang/invoke/MethodHandle" ∧ yX5_post.cls ≠ "java/lang/invoke/VarHandle" ∧ (parseMethodDescriptor yX5_post.desc).map (fun d => d.parameters.length) = some 1 := by decide +kernel
theorem hsX5_ones : yX5_ones.cls ≠ "java/lang/invoke/MethodHandle" ∧ yX5_ones.cls ≠ "java/lang/invoke/VarHandle" ∧ (parseMethodDescriptor yX5_ones.desc).map (fun d => d.parameters.length) = some 1 := by decide +kernel
theorem hsX5_laneEnds : yX5_laneEnds.cls ≠ "java/lang/invoke/MethodHandle" ∧ yX5_laneEnds.cls ≠ "java/lang/invoke/VarHandle" ∧ (parseMethodDescriptor yX5_laneEnds.desc).map (fun d => d.parameters.length) = some 1 := by decide +kernel
theorem hsX5_is : yX5_is.cls ≠ "java/lang/invoke/MethodHandle" ∧ yX5_is.cls ≠ "java/lang/invoke/VarHandle" ∧ (parseMethodDescriptor yX5_is.desc).map (fun d => d.parameters.length) = some 2 := by decide +kernel
theorem hsX5_allNear : yX5_allNear.cls ≠ "java/lang/invoke/MethodHandle" ∧ yX5_allNear.cls ≠ "java/lang/invoke/VarHandle" ∧ (parseMethodDescriptor yX5_allNear.desc).map (fun d => d.parameters.length) = some 2 := by decide +kernel
theorem hsX5_posts : yX5_posts.cls ≠ "java/lang/invoke/MethodHandle" ∧ yX5_posts.cls ≠ "java/lang/invoke/VarHandle" ∧ (parseMethodDescriptor yX5_posts.desc).map (fun d => d.parameters.length) = some 2 := by decide +kernel
theorem hsX5_again : yX5_again.cls ≠ "java/lang/invoke/MethodHandle" ∧ yX5_again.cls ≠ "java/lang/invoke/VarHandle" ∧ (parseMethodDescriptor yX5_again.desc).map (fun d => d.parameters.length) = some 1 := by decide +kernel
theorem hsX5_hear : yX5_hear.cls ≠ "java/lang/invoke/MethodHandle" ∧ yX5_hear.cls ≠ "java/lang/invoke/VarHandle" ∧ (parseMethodDescriptor yX5_hear.desc).map (fun d => d.parameters.length) = some 1 := by decide +kernel
theorem hsX5_forget : yX5_forget.cls ≠ "java/lang/invoke/MethodHandle" ∧ yX5_forget.cls ≠ "java/lang/invoke/VarHandle" ∧ (parseMethodDescriptor yX5_forget.desc).map (fun d => d.parameters.length) = some 0 := by decide +kernel
theorem hsX5_goneFrom : yX5_goneFrom.cls ≠ "java/lang/invoke/MethodHandle" ∧ yX5_goneFrom.cls ≠ "java/lang/invoke/VarHandle" ∧ (parseMethodDescriptor yX5_goneFrom.desc).map (fun d => d.parameters.length) = some 1 := by decide +kernel
theorem hsX5_gone : yX5_gone.cls ≠ "java/lang/invoke/MethodHandle" ∧ yX5_gone.cls ≠ "java/lang/invoke/VarHandle" ∧ (parseMethodDescriptor yX5_gone.desc).map (fun d => d.parameters.length) = some 1 := by decide +kernel
theorem hsX5_named : yX5_named.cls ≠ "java/lang/invoke/MethodHandle" ∧ yX5_named.cls ≠ "java/lang/invoke/VarHandle" ∧ (parseMethodDescriptor yX5_named.desc).map (fun d => d.parameters.length) = some 1 := by decide +kernel
theorem hsX5_nearEnd : yX5_nearEnd.cls ≠ "java/lang/invoke/MethodHandle" ∧ yX5_nearEnd.cls ≠ "java/lang/invoke/VarHandle" ∧ (parseMethodDescriptor yX5_nearEnd.desc).map (fun d => d.parameters.length) = some 2 := by decide +kernel
theorem hsX5_laneBetween : yX5_laneBetween.cls ≠ "java/lang/invoke/MethodHandle" ∧ yX5_laneBetween.cls ≠ "java/lang/invoke/VarHandle" ∧ (parseMethodDescriptor yX5_laneBetween.desc).map (fun d => d.parameters.length) = some 2 := by decide +kernel
theorem hsX5_letter : yX5_letter.cls ≠ "java/lang/invoke/MethodHandle" ∧ yX5_letter.cls ≠ "java/lang/invoke/VarHandle" ∧ (parseMethodDescriptor yX5_letter.desc).map (fun d => d.parameters.length) = some 3 := by decide +kernel
theorem hsX5_nameAhead : yX5_nameAhead.cls ≠ "java/lang/invoke/MethodHandle" ∧ yX5_nameAhead.cls ≠ "java/lang/invoke/VarHandle" ∧ (parseMethodDescriptor yX5_nameAhead.desc).map (fun d => d.parameters.length) = some 1 := by decide +kernel
theorem hsX5_haveCorner : yX5_haveCorner.cls ≠ "java/lang/invoke/MethodHandle" ∧ yX5_haveCorner.cls ≠ "java/lang/invoke/VarHandle" ∧ (parseMethodDescriptor yX5_haveCorner.desc).map (fun d => d.parameters.length) = some 2 := by decide +kernel
theorem hsX5_fitsName : yX5_fitsName.cls ≠ "java/lang/invoke/MethodHandle" ∧ yX5_fitsName.cls ≠ "java/lang/invoke/VarHandle" ∧ (parseMethodDescriptor yX5_fitsName.desc).map (fun d => d.parameters.length) = some 1 := by decide +kernel
theorem hsX5_findNames : yX5_findNames.cls ≠ "java/lang/invoke/MethodHandle" ∧ yX5_findNames.cls ≠ "java/lang/invoke/VarHandle" ∧ (parseMethodDescriptor yX5_findNames.desc).map (fun d => d.parameters.length) = some 1 := by decide +kernel
theorem hsX5_apart : yX5_apart.cls ≠ "java/lang/invoke/MethodHandle" ∧ yX5_apart.cls ≠ "java/lang/invoke/VarHandle" ∧ (parseMethodDescriptor yX5_apart.desc).map (fun d => d.parameters.length) = some 1 := by decide +kernel
theorem hsX5_alike : yX5_alike.cls ≠ "java/lang/invoke/MethodHandle" ∧ yX5_alike.cls ≠ "java/lang/invoke/VarHandle" ∧ (parseMethodDescriptor yX5_alike.desc).map (fun d => d.parameters.length) = some 0 := by decide +kernel
theorem hsX5_layPaired : yX5_layPaired.cls ≠ "java/lang/invoke/MethodHandle" ∧ yX5_layPaired.cls ≠ "java/lang/invoke/VarHandle" ∧ (parseMethodDescriptor yX5_layPaired.desc).map (fun d => d.parameters.length) = some 0 := by decide +kernel
theorem hsX5_round : yX5_round.cls ≠ "java/lang/invoke/MethodHandle" ∧ yX5_round.cls ≠ "java/lang/invoke/VarHandle" ∧ (parseMethodDescriptor yX5_round.desc).map (fun d => d.parameters.length) = some 0 := by decide +kernel
theorem hsX5_dead : yX5_dead.cls ≠ "java/lang/invoke/MethodHandle" ∧ yX5_dead.cls ≠ "java/lang/invoke/VarHandle" ∧ (parseMethodDescriptor yX5_dead.desc).map (fun d => d.parameters.length) = some 0 := by decide +kernel
theorem hsX5_few : yX5_few.cls ≠ "java/lang/invoke/MethodHandle" ∧ yX5_few.cls ≠ "java/lang/invoke/VarHandle" ∧ (parseMethodDescriptor yX5_few.desc).map (fun d => d.parameters.length) = some 2 := by decide +kernel
theorem hsX5_compare : yX5_compare.cls ≠ "java/lang/invoke/MethodHandle" ∧ yX5_compare.cls ≠ "java/lang/invoke/VarHandle" ∧ (parseMethodDescriptor yX5_compare.desc).map (fun d => d.parameters.length) = some 2 := by decide +kernel
theorem hsX5_readSum : yX5_readSum.cls ≠ "java/lang/invoke/MethodHandle" ∧ yX5_readSum.cls ≠ "java/lang/invoke/VarHandle" ∧ (parseMethodDescriptor yX5_readSum.desc).map (fun d => d.parameters.length) = some 1 := by decide +kernel
theorem hsX5_readOrder : yX5_readOrder.cls ≠ "java/lang/invoke/MethodHandle" ∧ yX5_readOrder.cls ≠ "java/lang/invoke/VarHandle" ∧ (parseMethodDescriptor yX5_readOrder.desc).map (fun d => d.parameters.length) = some 0 := by decide +kernel
theorem hsX5_namedOnes : yX5_namedOnes.cls ≠ "java/lang/invoke/MethodHandle" ∧ yX5_namedOnes.cls ≠ "java/lang/invoke/VarHandle" ∧ (parseMethodDescriptor yX5_namedOnes.desc).map (fun d => d.parameters.length) = some 0 := by decide +kernel
theorem hsX5_sumOf : yX5_sumOf.cls ≠ "java/lang/invoke/MethodHandle" ∧ yX5_sumOf.cls ≠ "java/lang/invoke/VarHandle" ∧ (parseMethodDescriptor yX5_sumOf.desc).map (fun d => d.parameters.length) = some 1 := by decide +kernel
theorem hsX5_act : yX5_act.cls ≠ "java/lang/invoke/MethodHandle" ∧ yX5_act.cls ≠ "java/lang/invoke/VarHandle" ∧ (parseMethodDescriptor yX5_act.desc).map (fun d => d.parameters.length) = some 3 := by decide +kernel
theorem hsX5_run : yX5_run.cls ≠ "java/lang/invoke/MethodHandle" ∧ yX5_run.cls ≠ "java/lang/invoke/VarHandle" ∧ (parseMethodDescriptor yX5_run.desc).map (fun d => d.parameters.length) = some 1 := by decide +kernel
theorem hsX5_giveBack : yX5_giveBack.cls ≠ "java/lang/invoke/MethodHandle" ∧ yX5_giveBack.cls ≠ "java/lang/invoke/VarHandle" ∧ (parseMethodDescriptor yX5_giveBack.desc).map (fun d => d.parameters.length) = some 1 := by decide +kernel
theorem hsX5_orders : yX5_orders.cls ≠ "java/lang/invoke/MethodHandle" ∧ yX5_orders.cls ≠ "java/lang/invoke/VarHandle" ∧ (parseMethodDescriptor yX5_orders.desc).map (fun d => d.parameters.length) = some 0 := by decide +kernel
theorem hsX5_stopped : yX5_stopped.cls ≠ "java/lang/invoke/MethodHandle" ∧ yX5_stopped.cls ≠ "java/lang/invoke/VarHandle" ∧ (parseMethodDescriptor yX5_stopped.desc).map (fun d => d.parameters.length) = some 0 := by decide +kernel
theorem hsX5_draw : yX5_draw.cls ≠ "java/lang/invoke/MethodHandle" ∧ yX5_draw.cls ≠ "java/lang/invoke/VarHandle" ∧ (parseMethodDescriptor yX5_draw.desc).map (fun d => d.parameters.length) = some 1 := by decide +kernel
theorem hsX5_decades : yX5_decades.cls ≠ "java/lang/invoke/MethodHandle" ∧ yX5_decades.cls ≠ "java/lang/invoke/VarHandle" ∧ (parseMethodDescriptor yX5_decades.desc).map (fun d => d.parameters.length) = some 2 := by decide +kernel
theorem hsX5_drawn : yX5_drawn.cls ≠ "java/lang/invoke/MethodHandle" ∧ yX5_drawn.cls ≠ "java/lang/invoke/VarHandle" ∧ (parseMethodDescriptor yX5_drawn.desc).map (fun d => d.parameters.length) = some 2 := by decide +kernel
theorem hsX5_count : yX5_count.cls ≠ "java/lang/invoke/MethodHandle" ∧ yX5_count.cls ≠ "java/lang/invoke/VarHandle" ∧ (parseMethodDescriptor yX5_count.desc).map (fun d => d.parameters.length) = some 1 := by decide +kernel
theorem hsX5_status : yX5_status.cls ≠ "java/lang/invoke/MethodHandle" ∧ yX5_status.cls ≠ "java/lang/invoke/VarHandle" ∧ (parseMethodDescriptor yX5_status.desc).map (fun d => d.parameters.length) = some 0 := by decide +kernel
