/-! readers: functions; printed by gen.py -/
/- LostLanes$Reader.<init>([BI)V -/
def fX6_init_rX7 (T : xT) (I : xI) (R : xR) (x0 : Nat) (x1 : Nat) (x2 : Int32) : Option (xI × xR) :=
  tg T 7 x0 <|
  nm (uR R x0 0 (some x1)) fun R2 =>
  nm (uI I x0 1 x2) fun I3 =>
  some (I3, R2)
/- LostLanes$LawReader.<init>([BI)V -/
def fX7_init_b15 (T : xT) (N : xT) (Z : Nat) (S : Nat) (I : xI) (R : xR) (z0 : Nat) (z1 : Nat) : Option (xT × xT × Nat × Nat × xI × xR) :=
  tg T 7 z0 <|
  nm (uR R z0 7 (some z1)) fun R2 =>
  some (T, N, Z, S, I, R2)
def fX7_init_b10 (T : xT) (N : xT) (Z : Nat) (S : Nat) (I : xI) (R : xR) (z0 : Nat) (z1 : Nat) : Option (xT × xT × Nat × Nat × xI × xR) :=
  b6 (fJ2_init T N Z S I R z1 (ii 2)) fun T1 N2 Z3 S4 I5 R6 =>
  fX7_init_b15 T1 N2 Z3 S4 I5 R6 z0 z1
def fX7_init (T : xT) (N : xT) (Z : Nat) (S : Nat) (I : xI) (R : xR) (x0 : Nat) (x1 : Nat) (x2 : Int32) : Option (xT × xT × Nat × Nat × xI × xR) :=
  b2 (fX6_init_rX7 T I R x0 x1 x2) fun I1 R2 =>
  nm (uT T Z 19) fun T4 =>
  nm (Z + 1) fun Z5 =>
  nm (S + 3) fun S6 =>
  fX7_init_b10 T4 N Z5 S6 I1 R2 x0 Z
/- java/lang/String.coder()B -/
def fJ8_coder (T : xT) (I : xI) (x0 : Nat) : Option (Int32) :=
  if (ii 1) = (ii 0) then
    chk (byb (ii 1)) <|
    some (ii 1)
  else
    tg T 20 x0 <|
    chk (byb (I x0 1)) <|
    some (I x0 1)
/- java/lang/String.length()I -/
def fJ8_length (T : xT) (N : xT) (I : xI) (R : xR) (x0 : Nat) : Option (Int32) :=
  tg T 20 x0 <|
  (R x0 0).bind fun a2 =>
  tg T 107 a2 <|
  (fJ8_coder T I x0).bind fun r4 =>
  some ((Int32.ofNat (N a2)) >>> (r4 &&& ii 31))
/- java/lang/String.isLatin1()Z -/
def fJ8_isLatin1 (T : xT) (I : xI) (x0 : Nat) : Option (Int32) :=
  if (ii 1) = (ii 0) then
    some (ii 0)
  else
    tg T 20 x0 <|
    if (I x0 1) = (ii 0) then
      some (ii 1)
    else
      some (ii 0)
/- jdk/internal/util/Preconditions.checkIndex(IILjava/util/function/BiFunction;)I -/
def fJ6_checkIndex (x0 : Int32) (x1 : Int32) (x2 : Nat) : Option (Int32) :=
  if x0 < (ii 0) then
    none
  else
    if x0 < x1 then
      some x0
    else
      none
/- java/lang/String.checkIndex(II)V -/
def fJ8_checkIndex (U : (Nat → Option Nat)) (x0 : Int32) (x1 : Int32) : Option (Unit) :=
  oc (U 2) (
    (fJ6_checkIndex_n3 x0 x1).bind fun r2 =>
    some ()
  ) fun a1 =>
    (fJ6_checkIndex x0 x1 a1).bind fun r4 =>
    some ()
/- java/lang/StringLatin1.charAt([BI)C -/
def fJ9_charAt (U : (Nat → Option Nat)) (T : xT) (N : xT) (I : xI) (x0 : Nat) (x1 : Int32) : Option (Int32) :=
  tg T 107 x0 <|
  (fJ8_checkIndex U x1 (Int32.ofNat (N x0))).bind fun _ =>
  rA T N 107 x0 x1 fun j3 =>
  chk (chb (((((I x0 j3) &&& (ii 255))).toUInt32 % 65536).toInt32)) <|
  some (((((I x0 j3) &&& (ii 255))).toUInt32 % 65536).toInt32)
/- java/lang/StringUTF16.length([B)I -/
def fJ10_length (T : xT) (N : xT) (x0 : Nat) : Option (Int32) :=
  tg T 107 x0 <|
  some ((Int32.ofNat (N x0)) >>> ((ii 1) &&& ii 31))
/- java/lang/StringUTF16.checkIndex(I[B)V -/
def fJ10_checkIndex (U : (Nat → Option Nat)) (T : xT) (N : xT) (x0 : Int32) (x1 : Nat) : Option (Unit) :=
  (fJ10_length T N x1).bind fun r1 =>
  (fJ8_checkIndex U x0 r1).bind fun _ =>
  some ()
/- java/lang/StringUTF16.getChar([BI)C -/
def fJ10_getChar (x0 : Nat) (x1 : Int32) : Option (Int32) :=
  none
/- java/lang/StringUTF16.charAt([BI)C -/
def fJ10_charAt (U : (Nat → Option Nat)) (T : xT) (N : xT) (x0 : Nat) (x1 : Int32) : Option (Int32) :=
  (fJ10_checkIndex U T N x1 x0).bind fun _ =>
  (fJ10_getChar x0 x1).bind fun r2 =>
  chk (chb r2) <|
  some r2
/- java/lang/String.charAt(I)C -/
def fJ8_charAt (U : (Nat → Option Nat)) (T : xT) (N : xT) (I : xI) (R : xR) (x0 : Nat) (x1 : Int32) : Option (Int32) :=
  tg T 20 x0 <|
  (fJ8_isLatin1 T I x0).bind fun r1 =>
  if r1 = (ii 0) then
    (R x0 0).bind fun a5 =>
    (fJ10_charAt U T N a5 x1).bind fun r6 =>
    chk (chb r6) <|
    some r6
  else
    (R x0 0).bind fun a9 =>
    (fJ9_charAt U T N I a9 x1).bind fun r10 =>
    chk (chb r10) <|
    some r10
/- LostLanes$Reader.is(Ljava/lang/String;)Z -/
def fX6_is_rX7_b20 (nf : Nat) (U : (Nat → Option Nat)) (T : xT) (N : xT) (I : xI) (R : xR) : Nat → Nat → Nat → Int32 → Option (Int32)
  | 0, _, _, _ => none
  | k + 1, x0, x1, x2 =>
    tg T 20 x1 <|
    (fJ8_length T N I R x1).bind fun r1 =>
    if r1 ≤ x2 then
      some (ii 1)
    else
      tg T 7 x0 <|
      (R x0 0).bind fun a6 =>
      rA T N 101 a6 ((I x0 3) + x2) fun j7 =>
      (fJ8_charAt U T N I R x1 x2).bind fun r8 =>
      if (I a6 j7) = r8 then
        nm (x2 + (ii 1)) fun u11 =>
        fX6_is_rX7_b20 nf U T N I R k x0 x1 u11
      else
        some (ii 0)
def fX6_is_rX7 (nf : Nat) (U : (Nat → Option Nat)) (T : xT) (N : xT) (I : xI) (R : xR) (x0 : Nat) (x1 : Nat) : Option (Int32) :=
  tg T 7 x0 <|
  tg T 20 x1 <|
  (fJ8_length T N I R x1).bind fun r2 =>
  if ((I x0 4) - (I x0 3)) = r2 then
    fX6_is_rX7_b20 nf U T N I R nf x0 x1 (ii 0)
  else
    some (ii 0)
/- java/lang/Throwable.<init>(Ljava/lang/String;Ljava/lang/Throwable;ZZ)V -/
def fJ3_init_2_rX8_n12 (U : (Nat → Option Nat)) (T : xT) (R : xR) (x0 : Nat) (x3 : Int32) (x4 : Int32) : Option (xR) :=
  tg T 8 x0 <|
  nm (uR R x0 0 (some x0)) fun R2 =>
  nm (uR R2 x0 1 (U 0)) fun R3 =>
  nm (uR R3 x0 2 (U 1)) fun R4 =>
  if x4 = (ii 0) then
    nm (uR R4 x0 1 none) fun R6 =>
    nm (uR R6 x0 3 none) fun R7 =>
    nm (uR R7 x0 0 none) fun R8 =>
    if x3 = (ii 0) then
      nm (uR R8 x0 2 none) fun R10 =>
      some R10
    else
      some R8
  else
    none
/- java/lang/Exception.<init>(Ljava/lang/String;Ljava/lang/Throwable;ZZ)V -/
def fJ4_init_rX8_n12 (U : (Nat → Option Nat)) (T : xT) (R : xR) (x0 : Nat) (x3 : Int32) (x4 : Int32) : Option (xR) :=
  (fJ3_init_2_rX8_n12 U T R x0 x3 x4).bind fun R1 =>
  some R1
/- LostLanes$Fault.<init>(I)V -/
def fX8_init (U : (Nat → Option Nat)) (T : xT) (I : xI) (R : xR) (x0 : Nat) (x1 : Int32) : Option (xI × xR) :=
  (fJ4_init_rX8_n12 U T R x0 (ii 0) (ii 0)).bind fun R1 =>
  tg T 8 x0 <|
  nm (uI I x0 6 x1) fun I4 =>
  some (I4, R1)
/- LostLanes$Reader.begins(Z)V -/
def fX6_begins_rX7_b16 (U : (Nat → Option Nat)) (T : xT) (N : xT) (Z : Nat) (S : Nat) (I : xI) (R : xR) (x0 : Nat) (z0 : Nat) : Option ((Nat ⊕ Unit) × xT × xT × Nat × Nat × xI × xR) :=
  tg T 7 x0 <|
  b2 (fX8_init U T I R z0 (I x0 3)) fun I2 R3 =>
  tg T 8 z0 <|
  some ((.inl z0), T, N, Z, S, I2, R3)
def fX6_begins_rX7_b13 (U : (Nat → Option Nat)) (T : xT) (N : xT) (Z : Nat) (S : Nat) (I : xI) (R : xR) (x0 : Nat) : Option ((Nat ⊕ Unit) × xT × xT × Nat × Nat × xI × xR) :=
  nm (uT T Z 8) fun T1 =>
  nm (Z + 1) fun Z2 =>
  nm (S + 7) fun S3 =>
  fX6_begins_rX7_b16 U T1 N Z2 S3 I R x0 Z
def fX6_begins_rX7 (U : (Nat → Option Nat)) (T : xT) (N : xT) (Z : Nat) (S : Nat) (I : xI) (R : xR) (x0 : Nat) (x1 : Int32) : Option ((Nat ⊕ Unit) × xT × xT × Nat × Nat × xI × xR) :=
  tg T 7 x0 <|
  if (I x0 2) = (ii 12) then
    fX6_begins_rX7_b13 U T N Z S I R x0
  else
    if x1 = (ii 0) then
      fX6_begins_rX7_b13 U T N Z S I R x0
    else
      nm (uI I x0 2 ((I x0 2) + (ii 1))) fun I4 =>
      some ((.inr ()), T, N, Z, S, I4, R)
/- LostLanes$Reader.isIn(III)Z -/
def fX6_isIn_rX7 (T : xT) (N : xT) (I : xI) (R : xR) (x0 : Nat) (x1 : Int32) (x2 : Int32) (x3 : Int32) : Option (Int32) :=
  tg T 7 x0 <|
  if (I x0 1) ≤ x1 then
    some (ii 0)
  else
    (R x0 0).bind fun a3 =>
    rA T N 101 a3 x1 fun j4 =>
    if (I a3 j4) < x2 then
      some (ii 0)
    else
      if x3 < (I a3 j4) then
        some (ii 0)
      else
        some (ii 1)
/- LostLanes$Reader.next()V -/
def fX6_next_rX7_b102 (nf : Nat) (T : xT) (N : xT) (R : xR) : Nat → xI → Nat → Option (xI)
  | 0, _, _ => none
  | k + 1, I, x0 =>
    tg T 7 x0 <|
    (fX6_isIn_rX7 T N I R x0 (I x0 4) (ii 48) (ii 57)).bind fun r2 =>
    if r2 = (ii 0) then
      some I
    else
      nm (uI I x0 4 ((I x0 4) + (ii 1))) fun I5 =>
      fX6_next_rX7_b102 nf T N R k I5 x0
def fX6_next_rX7_b59 (nf : Nat) (T : xT) (N : xT) (R : xR) : Nat → xI → Nat → Option (xI)
  | 0, _, _ => none
  | k + 1, I, x0 =>
    tg T 7 x0 <|
    (fX6_isIn_rX7 T N I R x0 (I x0 4) (ii 97) (ii 122)).bind fun r2 =>
    if r2 = (ii 0) then
      some I
    else
      nm (uI I x0 4 ((I x0 4) + (ii 1))) fun I5 =>
      fX6_next_rX7_b59 nf T N R k I5 x0
def fX6_next_rX7_b8 (nf : Nat) (T : xT) (N : xT) (R : xR) : Nat → xI → Nat → Option (xI)
  | 0, _, _ => none
  | k + 1, I, x0 =>
    tg T 7 x0 <|
    (fX6_isIn_rX7 T N I R x0 (I x0 3) (ii 32) (ii 32)).bind fun r2 =>
    if r2 = (ii 0) then
      nm (uI I x0 4 (I x0 3)) fun I5 =>
      (fX6_isIn_rX7 T N I5 R x0 (I5 x0 3) (ii 97) (ii 122)).bind fun r6 =>
      if r6 = (ii 0) then
        (fX6_isIn_rX7 T N I5 R x0 (I5 x0 3) (ii 48) (ii 57)).bind fun r9 =>
        if r9 = (ii 0) then
          if (I5 x0 1) ≤ (I5 x0 3) then
            some I5
          else
            nm (uI I5 x0 4 ((I5 x0 4) + (ii 1))) fun I13 =>
            some I13
        else
          fX6_next_rX7_b102 nf T N R nf I5 x0
      else
        fX6_next_rX7_b59 nf T N R nf I5 x0
    else
      nm (uI I x0 3 ((I x0 3) + (ii 1))) fun I14 =>
      fX6_next_rX7_b8 nf T N R k I14 x0
def fX6_next_rX7 (nf : Nat) (T : xT) (N : xT) (I : xI) (R : xR) (x0 : Nat) : Option (xI) :=
  tg T 7 x0 <|
  nm (uI I x0 3 (I x0 4)) fun I2 =>
  fX6_next_rX7_b8 nf T N R nf I2 x0
/- LostLanes$Reader.opens()V -/
def fX6_opens_rX7_b12 (nf : Nat) (U : (Nat → Option Nat)) (T : xT) (N : xT) (Z : Nat) (S : Nat) (I : xI) (R : xR) (x0 : Nat) (z0 : Nat) : Option ((Nat ⊕ Unit) × xT × xT × Nat × Nat × xI × xR) :=
  tg T 7 x0 <|
  b2 (fX8_init U T I R z0 (I x0 3)) fun I2 R3 =>
  tg T 8 z0 <|
  some ((.inl z0), T, N, Z, S, I2, R3)
def fX6_opens_rX7 (nf : Nat) (U : (Nat → Option Nat)) (T : xT) (N : xT) (Z : Nat) (S : Nat) (I : xI) (R : xR) (x0 : Nat) : Option ((Nat ⊕ Unit) × xT × xT × Nat × Nat × xI × xR) :=
  tg T 7 x0 <|
  if (I x0 6) = (ii 8) then
    nm (uT T Z 8) fun T6 =>
    nm (Z + 1) fun Z7 =>
    nm (S + 7) fun S8 =>
    fX6_opens_rX7_b12 nf U T6 N Z7 S8 I R x0 Z
  else
    nm (uI I x0 6 ((I x0 6) + (ii 1))) fun I3 =>
    (fX6_next_rX7 nf T N I3 R x0).bind fun I4 =>
    some ((.inr ()), T, N, Z, S, I4, R)
/- LostLanes$Reader.takes(Ljava/lang/String;)Z -/
def fX6_takes_rX7 (nf : Nat) (U : (Nat → Option Nat)) (T : xT) (N : xT) (I : xI) (R : xR) (x0 : Nat) (x1 : Nat) : Option (Int32 × xI) :=
  tg T 7 x0 <|
  (fX6_is_rX7 nf U T N I R x0 x1).bind fun r1 =>
  if r1 = (ii 0) then
    chk (zb r1) <|
    some (r1, I)
  else
    (fX6_next_rX7 nf T N I R x0).bind fun I6 =>
    chk (zb r1) <|
    some (r1, I6)
/- LostLanes$Reader.need(Ljava/lang/String;)V -/
def fX6_need_rX7_b11 (nf : Nat) (U : (Nat → Option Nat)) (T : xT) (N : xT) (Z : Nat) (S : Nat) (I : xI) (R : xR) (x0 : Nat) (z0 : Nat) : Option ((Nat ⊕ Unit) × xT × xT × Nat × Nat × xI × xR) :=
  tg T 7 x0 <|
  b2 (fX8_init U T I R z0 (I x0 3)) fun I2 R3 =>
  tg T 8 z0 <|
  some ((.inl z0), T, N, Z, S, I2, R3)
def fX6_need_rX7 (nf : Nat) (U : (Nat → Option Nat)) (T : xT) (N : xT) (Z : Nat) (S : Nat) (I : xI) (R : xR) (x0 : Nat) (x1 : Nat) : Option ((Nat ⊕ Unit) × xT × xT × Nat × Nat × xI × xR) :=
  tg T 7 x0 <|
  b2 (fX6_takes_rX7 nf U T N I R x0 x1) fun r1 I2 =>
  if r1 = (ii 0) then
    nm (uT T Z 8) fun T6 =>
    nm (Z + 1) fun Z7 =>
    nm (S + 7) fun S8 =>
    fX6_need_rX7_b11 nf U T6 N Z7 S8 I2 R x0 Z
  else
    some ((.inr ()), T, N, Z, S, I2, R)
/- LostLanes$Reader.leaf()V -/
def fX6_leaf_rX7_b12 (U : (Nat → Option Nat)) (T : xT) (N : xT) (Z : Nat) (S : Nat) (I : xI) (R : xR) (x0 : Nat) (z0 : Nat) : Option ((Nat ⊕ Unit) × xT × xT × Nat × Nat × xI × xR) :=
  tg T 7 x0 <|
  b2 (fX8_init U T I R z0 (I x0 3)) fun I2 R3 =>
  tg T 8 z0 <|
  some ((.inl z0), T, N, Z, S, I2, R3)
def fX6_leaf_rX7 (U : (Nat → Option Nat)) (T : xT) (N : xT) (Z : Nat) (S : Nat) (I : xI) (R : xR) (x0 : Nat) : Option ((Nat ⊕ Unit) × xT × xT × Nat × Nat × xI × xR) :=
  tg T 7 x0 <|
  if (I x0 5) = (ii 50) then
    nm (uT T Z 8) fun T4 =>
    nm (Z + 1) fun Z5 =>
    nm (S + 7) fun S6 =>
    fX6_leaf_rX7_b12 U T4 N Z5 S6 I R x0 Z
  else
    nm (uI I x0 5 ((I x0 5) + (ii 1))) fun I3 =>
    some ((.inr ()), T, N, Z, S, I3, R)
/- LostLanes$Reader.number(II)I -/
def fX6_number_rX7_b84 (nf : Nat) (U : (Nat → Option Nat)) (T : xT) (N : xT) (Z : Nat) (S : Nat) (I : xI) (R : xR) (x0 : Nat) (z0 : Nat) : Option ((Nat ⊕ Int32) × xT × xT × Nat × Nat × xI × xR) :=
  tg T 7 x0 <|
  b2 (fX8_init U T I R z0 (I x0 3)) fun I2 R3 =>
  tg T 8 z0 <|
  some ((.inl z0), T, N, Z, S, I2, R3)
def fX6_number_rX7_b81 (nf : Nat) (U : (Nat → Option Nat)) (T : xT) (N : xT) (Z : Nat) (S : Nat) (I : xI) (R : xR) (x0 : Nat) : Option ((Nat ⊕ Int32) × xT × xT × Nat × Nat × xI × xR) :=
  nm (uT T Z 8) fun T1 =>
  nm (Z + 1) fun Z2 =>
  nm (S + 7) fun S3 =>
  fX6_number_rX7_b84 nf U T1 N Z2 S3 I R x0 Z
def fX6_number_rX7_b71 (nf : Nat) (U : (Nat → Option Nat)) (T : xT) (N : xT) (Z : Nat) (S : Nat) (I : xI) (R : xR) (x0 : Nat) (x1 : Int32) (x2 : Int32) (x3 : Int32) : Option ((Nat ⊕ Int32) × xT × xT × Nat × Nat × xI × xR) :=
  if x3 < x1 then
    fX6_number_rX7_b81 nf U T N Z S I R x0
  else
    if x3 ≤ x2 then
      tg T 7 x0 <|
      (fX6_next_rX7 nf T N I R x0).bind fun I3 =>
      some ((.inr x3), T, N, Z, S, I3, R)
    else
      fX6_number_rX7_b81 nf U T N Z S I R x0
def fX6_number_rX7_b35 (nf : Nat) (U : (Nat → Option Nat)) : Nat → xT → xT → Nat → Nat → xI → xR → Nat → Int32 → Int32 → Int32 → Int32 → Option ((Nat ⊕ Int32) × xT × xT × Nat × Nat × xI × xR)
  | 0, _, _, _, _, _, _, _, _, _, _, _ => none
  | k + 1, T, N, Z, S, I, R, x0, x1, x2, x3, x4 =>
    tg T 7 x0 <|
    if (I x0 4) ≤ x4 then
      fX6_number_rX7_b71 nf U T N Z S I R x0 x1 x2 x3
    else
      if x2 < x3 then
        fX6_number_rX7_b71 nf U T N Z S I R x0 x1 x2 x3
      else
        (R x0 0).bind fun a4 =>
        rA T N 101 a4 x4 fun j5 =>
        nm ((((ii 10) * x3) + (I a4 j5)) - (ii 48)) fun u6 =>
        nm (x4 + (ii 1)) fun u7 =>
        fX6_number_rX7_b35 nf U k T N Z S I R x0 x1 x2 u6 u7
def fX6_number_rX7_b18 (nf : Nat) (U : (Nat → Option Nat)) (T : xT) (N : xT) (Z : Nat) (S : Nat) (I : xI) (R : xR) (x0 : Nat) (z0 : Nat) : Option ((Nat ⊕ Int32) × xT × xT × Nat × Nat × xI × xR) :=
  tg T 7 x0 <|
  b2 (fX8_init U T I R z0 (I x0 3)) fun I2 R3 =>
  tg T 8 z0 <|
  some ((.inl z0), T, N, Z, S, I2, R3)
def fX6_number_rX7 (nf : Nat) (U : (Nat → Option Nat)) (T : xT) (N : xT) (Z : Nat) (S : Nat) (I : xI) (R : xR) (x0 : Nat) (x1 : Int32) (x2 : Int32) : Option ((Nat ⊕ Int32) × xT × xT × Nat × Nat × xI × xR) :=
  tg T 7 x0 <|
  (fX6_isIn_rX7 T N I R x0 (I x0 3) (ii 48) (ii 57)).bind fun r2 =>
  if r2 = (ii 0) then
    nm (uT T Z 8) fun T6 =>
    nm (Z + 1) fun Z7 =>
    nm (S + 7) fun S8 =>
    fX6_number_rX7_b18 nf U T6 N Z7 S8 I R x0 Z
  else
    nm (I x0 3) fun u5 =>
    fX6_number_rX7_b35 nf U nf T N Z S I R x0 x1 x2 (ii 0) u5
/- LostLanes$Reader.isValue(Ljava/lang/String;)Z -/
def fX6_isValue_rX7_b14 (nf : Nat) (U : (Nat → Option Nat)) (T : xT) (N : xT) (Z : Nat) (S : Nat) (I : xI) (R : xR) (x0 : Nat) : Option ((Nat ⊕ Int32) × xT × xT × Nat × Nat × xI × xR) :=
  tg T 7 x0 <|
  (fX6_next_rX7 nf T N I R x0).bind fun I1 =>
  some ((.inr (ii 1)), T, N, Z, S, I1, R)
def fX6_isValue_rX7 (nf : Nat) (U : (Nat → Option Nat)) (T : xT) (N : xT) (Z : Nat) (S : Nat) (I : xI) (R : xR) (x0 : Nat) (x1 : Nat) : Option ((Nat ⊕ Int32) × xT × xT × Nat × Nat × xI × xR) :=
  tg T 7 x0 <|
  (fX6_is_rX7 nf U T N I R x0 x1).bind fun r1 =>
  if r1 = (ii 0) then
    some ((.inr (ii 0)), T, N, Z, S, I, R)
  else
    b7 (fX6_leaf_rX7 U T N Z S I R x0) fun r5 T6 N7 Z8 S9 I10 R11 =>
    xc r5 (fun a13 =>
      tg T6 8 a13 <|
      some ((.inl a13), T6, N7, Z8, S9, I10, R11)
    ) fun v14 =>
      fX6_isValue_rX7_b14 nf U T6 N7 Z8 S9 I10 R11 x0
/- LostLanes$LawReader.value()I -/
def fX7_value_b96 (nf : Nat) (U : (Nat → Option Nat)) (T : xT) (N : xT) (Z : Nat) (S : Nat) (I : xI) (R : xR) (z0 : Int32) : Option ((Nat ⊕ Int32) × xT × xT × Nat × Nat × xI × xR) :=
  if z0 = (ii 0) then
    some ((.inr (-1 : Int32)), T, N, Z, S, I, R)
  else
    some ((.inr (ii 8)), T, N, Z, S, I, R)
def fX7_value_b84 (nf : Nat) (U : (Nat → Option Nat)) (T : xT) (N : xT) (Z : Nat) (S : Nat) (I : xI) (R : xR) (x0 : Nat) (z0 : Int32) : Option ((Nat ⊕ Int32) × xT × xT × Nat × Nat × xI × xR) :=
  if z0 = (ii 0) then
    (U 113).bind fun a2 =>
    tg T 7 x0 <|
    b7 (fX6_isValue_rX7 nf U T N Z S I R x0 a2) fun r3 T4 N5 Z6 S7 I8 R9 =>
    xc r3 (fun a12 =>
      tg T4 8 a12 <|
      some ((.inl a12), T4, N5, Z6, S7, I8, R9)
    ) fun v13 =>
      fX7_value_b96 nf U T4 N5 Z6 S7 I8 R9 v13
  else
    some ((.inr (ii 7)), T, N, Z, S, I, R)
def fX7_value_b72 (nf : Nat) (U : (Nat → Option Nat)) (T : xT) (N : xT) (Z : Nat) (S : Nat) (I : xI) (R : xR) (x0 : Nat) (z0 : Int32) : Option ((Nat ⊕ Int32) × xT × xT × Nat × Nat × xI × xR) :=
  if z0 = (ii 0) then
    (U 112).bind fun a2 =>
    tg T 7 x0 <|
    b7 (fX6_isValue_rX7 nf U T N Z S I R x0 a2) fun r3 T4 N5 Z6 S7 I8 R9 =>
    xc r3 (fun a12 =>
      tg T4 8 a12 <|
      some ((.inl a12), T4, N5, Z6, S7, I8, R9)
    ) fun v13 =>
      fX7_value_b84 nf U T4 N5 Z6 S7 I8 R9 x0 v13
  else
    some ((.inr (ii 6)), T, N, Z, S, I, R)
def fX7_value_b61 (nf : Nat) (U : (Nat → Option Nat)) (T : xT) (N : xT) (Z : Nat) (S : Nat) (I : xI) (R : xR) (x0 : Nat) (z0 : Int32) : Option ((Nat ⊕ Int32) × xT × xT × Nat × Nat × xI × xR) :=
  if z0 = (ii 0) then
    (U 111).bind fun a2 =>
    tg T 7 x0 <|
    b7 (fX6_isValue_rX7 nf U T N Z S I R x0 a2) fun r3 T4 N5 Z6 S7 I8 R9 =>
    xc r3 (fun a12 =>
      tg T4 8 a12 <|
      some ((.inl a12), T4, N5, Z6, S7, I8, R9)
    ) fun v13 =>
      fX7_value_b72 nf U T4 N5 Z6 S7 I8 R9 x0 v13
  else
    some ((.inr (ii 5)), T, N, Z, S, I, R)
def fX7_value_b50 (nf : Nat) (U : (Nat → Option Nat)) (T : xT) (N : xT) (Z : Nat) (S : Nat) (I : xI) (R : xR) (x0 : Nat) (z0 : Int32) : Option ((Nat ⊕ Int32) × xT × xT × Nat × Nat × xI × xR) :=
  if z0 = (ii 0) then
    (U 110).bind fun a2 =>
    tg T 7 x0 <|
    b7 (fX6_isValue_rX7 nf U T N Z S I R x0 a2) fun r3 T4 N5 Z6 S7 I8 R9 =>
    xc r3 (fun a12 =>
      tg T4 8 a12 <|
      some ((.inl a12), T4, N5, Z6, S7, I8, R9)
    ) fun v13 =>
      fX7_value_b61 nf U T4 N5 Z6 S7 I8 R9 x0 v13
  else
    some ((.inr (ii 4)), T, N, Z, S, I, R)
def fX7_value_b39 (nf : Nat) (U : (Nat → Option Nat)) (T : xT) (N : xT) (Z : Nat) (S : Nat) (I : xI) (R : xR) (x0 : Nat) (z0 : Int32) : Option ((Nat ⊕ Int32) × xT × xT × Nat × Nat × xI × xR) :=
  if z0 = (ii 0) then
    (U 109).bind fun a2 =>
    tg T 7 x0 <|
    b7 (fX6_isValue_rX7 nf U T N Z S I R x0 a2) fun r3 T4 N5 Z6 S7 I8 R9 =>
    xc r3 (fun a12 =>
      tg T4 8 a12 <|
      some ((.inl a12), T4, N5, Z6, S7, I8, R9)
    ) fun v13 =>
      fX7_value_b50 nf U T4 N5 Z6 S7 I8 R9 x0 v13
  else
    some ((.inr (ii 3)), T, N, Z, S, I, R)
def fX7_value_b28 (nf : Nat) (U : (Nat → Option Nat)) (T : xT) (N : xT) (Z : Nat) (S : Nat) (I : xI) (R : xR) (x0 : Nat) (z0 : Int32) : Option ((Nat ⊕ Int32) × xT × xT × Nat × Nat × xI × xR) :=
  if z0 = (ii 0) then
    (U 108).bind fun a2 =>
    tg T 7 x0 <|
    b7 (fX6_isValue_rX7 nf U T N Z S I R x0 a2) fun r3 T4 N5 Z6 S7 I8 R9 =>
    xc r3 (fun a12 =>
      tg T4 8 a12 <|
      some ((.inl a12), T4, N5, Z6, S7, I8, R9)
    ) fun v13 =>
      fX7_value_b39 nf U T4 N5 Z6 S7 I8 R9 x0 v13
  else
    some ((.inr (ii 2)), T, N, Z, S, I, R)
def fX7_value_b17 (nf : Nat) (U : (Nat → Option Nat)) (T : xT) (N : xT) (Z : Nat) (S : Nat) (I : xI) (R : xR) (x0 : Nat) (z0 : Int32) : Option ((Nat ⊕ Int32) × xT × xT × Nat × Nat × xI × xR) :=
  if z0 = (ii 0) then
    (U 107).bind fun a2 =>
    tg T 7 x0 <|
    b7 (fX6_isValue_rX7 nf U T N Z S I R x0 a2) fun r3 T4 N5 Z6 S7 I8 R9 =>
    xc r3 (fun a12 =>
      tg T4 8 a12 <|
      some ((.inl a12), T4, N5, Z6, S7, I8, R9)
    ) fun v13 =>
      fX7_value_b28 nf U T4 N5 Z6 S7 I8 R9 x0 v13
  else
    some ((.inr (ii 1)), T, N, Z, S, I, R)
def fX7_value_b6 (nf : Nat) (U : (Nat → Option Nat)) (T : xT) (N : xT) (Z : Nat) (S : Nat) (I : xI) (R : xR) (x0 : Nat) (z0 : Int32) : Option ((Nat ⊕ Int32) × xT × xT × Nat × Nat × xI × xR) :=
  if z0 = (ii 0) then
    (U 106).bind fun a2 =>
    tg T 7 x0 <|
    b7 (fX6_isValue_rX7 nf U T N Z S I R x0 a2) fun r3 T4 N5 Z6 S7 I8 R9 =>
    xc r3 (fun a12 =>
      tg T4 8 a12 <|
      some ((.inl a12), T4, N5, Z6, S7, I8, R9)
    ) fun v13 =>
      fX7_value_b17 nf U T4 N5 Z6 S7 I8 R9 x0 v13
  else
    some ((.inr (ii 0)), T, N, Z, S, I, R)
def fX7_value (nf : Nat) (U : (Nat → Option Nat)) (T : xT) (N : xT) (Z : Nat) (S : Nat) (I : xI) (R : xR) (x0 : Nat) : Option ((Nat ⊕ Int32) × xT × xT × Nat × Nat × xI × xR) :=
  (U 105).bind fun a1 =>
  tg T 7 x0 <|
  b7 (fX6_isValue_rX7 nf U T N Z S I R x0 a1) fun r2 T3 N4 Z5 S6 I7 R8 =>
  xc r2 (fun a11 =>
    tg T3 8 a11 <|
    some ((.inl a11), T3, N4, Z5, S6, I7, R8)
  ) fun v12 =>
    fX7_value_b6 nf U T3 N4 Z5 S6 I7 R8 x0 v12
/- LostLanes$Reader.part()LLostLanes$Sum; -/
def fX6_part_rX7_b96 (nf : Nat) (rc : (Nat → Option Nat) → xT → xT → Nat → Nat → xI → xL → xR → Nat → Option ((Nat ⊕ Nat) × xT × xT × Nat × Nat × xI × xR)) (U : (Nat → Option Nat)) (T : xT) (N : xT) (Z : Nat) (S : Nat) (I : xI) (L : xL) (R : xR) (x1 : Int32) (z0 : Nat) : Option ((Nat ⊕ Nat) × xT × xT × Nat × Nat × xI × xR) :=
  (fX12_init T I z0 x1).bind fun I1 =>
  some ((.inr z0), T, N, Z, S, I1, R)
def fX6_part_rX7_b84 (nf : Nat) (rc : (Nat → Option Nat) → xT → xT → Nat → Nat → xI → xL → xR → Nat → Option ((Nat ⊕ Nat) × xT × xT × Nat × Nat × xI × xR)) (U : (Nat → Option Nat)) (T : xT) (N : xT) (Z : Nat) (S : Nat) (I : xI) (L : xL) (R : xR) (x0 : Nat) (z0 : Nat) : Option ((Nat ⊕ Nat) × xT × xT × Nat × Nat × xI × xR) :=
  tg T 7 x0 <|
  b2 (fX8_init U T I R z0 (I x0 3)) fun I2 R3 =>
  tg T 8 z0 <|
  some ((.inl z0), T, N, Z, S, I2, R3)
def fX6_part_rX7_b75 (nf : Nat) (rc : (Nat → Option Nat) → xT → xT → Nat → Nat → xI → xL → xR → Nat → Option ((Nat ⊕ Nat) × xT × xT × Nat × Nat × xI × xR)) (U : (Nat → Option Nat)) (T : xT) (N : xT) (Z : Nat) (S : Nat) (I : xI) (L : xL) (R : xR) (x0 : Nat) (z0 : Int32) : Option ((Nat ⊕ Nat) × xT × xT × Nat × Nat × xI × xR) :=
  if z0 = (-1 : Int32) then
    nm (uT T Z 8) fun T5 =>
    nm (Z + 1) fun Z6 =>
    nm (S + 7) fun S7 =>
    fX6_part_rX7_b84 nf rc U T5 N Z6 S7 I L R x0 Z
  else
    nm (uT T Z 11) fun T2 =>
    nm (Z + 1) fun Z3 =>
    nm (S + 1) fun S4 =>
    fX6_part_rX7_b96 nf rc U T2 N Z3 S4 I L R z0 Z
def fX6_part_rX7_b67 (nf : Nat) (rc : (Nat → Option Nat) → xT → xT → Nat → Nat → xI → xL → xR → Nat → Option ((Nat ⊕ Nat) × xT × xT × Nat × Nat × xI × xR)) (U : (Nat → Option Nat)) (T : xT) (N : xT) (Z : Nat) (S : Nat) (I : xI) (L : xL) (R : xR) (z0 : Nat) (z1 : Nat) (z2 : Int32) : Option ((Nat ⊕ Nat) × xT × xT × Nat × Nat × xI × xR) :=
  (fX11_init T I z1 z2).bind fun I1 =>
  some ((.inr z0), T, N, Z, S, I1, R)
def fX6_part_rX7_b58 (nf : Nat) (rc : (Nat → Option Nat) → xT → xT → Nat → Nat → xI → xL → xR → Nat → Option ((Nat ⊕ Nat) × xT × xT × Nat × Nat × xI × xR)) (U : (Nat → Option Nat)) (T : xT) (N : xT) (Z : Nat) (S : Nat) (I : xI) (L : xL) (R : xR) (x0 : Nat) (z0 : Nat) : Option ((Nat ⊕ Nat) × xT × xT × Nat × Nat × xI × xR) :=
  tg T 7 x0 <|
  b7 (fX6_number_rX7 nf U T N Z S I R x0 (ii 0) (ii 1000)) fun r1 T2 N3 Z4 S5 I6 R7 =>
  xc r1 (fun a10 =>
    tg T2 8 a10 <|
    some ((.inl a10), T2, N3, Z4, S5, I6, R7)
  ) fun v11 =>
    fX6_part_rX7_b67 nf rc U T2 N3 Z4 S5 I6 L R7 z0 z0 v11
def fX6_part_rX7_b55 (nf : Nat) (rc : (Nat → Option Nat) → xT → xT → Nat → Nat → xI → xL → xR → Nat → Option ((Nat ⊕ Nat) × xT × xT × Nat × Nat × xI × xR)) (U : (Nat → Option Nat)) (T : xT) (N : xT) (Z : Nat) (S : Nat) (I : xI) (L : xL) (R : xR) (x0 : Nat) : Option ((Nat ⊕ Nat) × xT × xT × Nat × Nat × xI × xR) :=
  nm (uT T Z 10) fun T1 =>
  nm (Z + 1) fun Z2 =>
  nm (S + 1) fun S3 =>
  fX6_part_rX7_b58 nf rc U T1 N Z2 S3 I L R x0 Z
def fX6_part_rX7_b24 (nf : Nat) (rc : (Nat → Option Nat) → xT → xT → Nat → Nat → xI → xL → xR → Nat → Option ((Nat ⊕ Nat) × xT × xT × Nat × Nat × xI × xR)) (U : (Nat → Option Nat)) (T : xT) (N : xT) (Z : Nat) (S : Nat) (I : xI) (L : xL) (R : xR) (x0 : Nat) (x1 : Nat) : Option ((Nat ⊕ Nat) × xT × xT × Nat × Nat × xI × xR) :=
  tg T 7 x0 <|
  nm (uI I x0 6 ((I x0 6) - (ii 1))) fun I2 =>
  some ((.inr x1), T, N, Z, S, I2, R)
def fX6_part_rX7_b17 (nf : Nat) (rc : (Nat → Option Nat) → xT → xT → Nat → Nat → xI → xL → xR → Nat → Option ((Nat ⊕ Nat) × xT × xT × Nat × Nat × xI × xR)) (U : (Nat → Option Nat)) (T : xT) (N : xT) (Z : Nat) (S : Nat) (I : xI) (L : xL) (R : xR) (x0 : Nat) (z0 : Nat) : Option ((Nat ⊕ Nat) × xT × xT × Nat × Nat × xI × xR) :=
  (U 104).bind fun a1 =>
  tg T 7 x0 <|
  b7 (fX6_need_rX7 nf U T N Z S I R x0 a1) fun r2 T3 N4 Z5 S6 I7 R8 =>
  xc r2 (fun a11 =>
    tg T3 8 a11 <|
    some ((.inl a11), T3, N4, Z5, S6, I7, R8)
  ) fun v12 =>
    fX6_part_rX7_b24 nf rc U T3 N4 Z5 S6 I7 L R8 x0 z0
def fX6_part_rX7_b13 (nf : Nat) (rc : (Nat → Option Nat) → xT → xT → Nat → Nat → xI → xL → xR → Nat → Option ((Nat ⊕ Nat) × xT × xT × Nat × Nat × xI × xR)) (U : (Nat → Option Nat)) (T : xT) (N : xT) (Z : Nat) (S : Nat) (I : xI) (L : xL) (R : xR) (x0 : Nat) : Option ((Nat ⊕ Nat) × xT × xT × Nat × Nat × xI × xR) :=
  tg T 7 x0 <|
  b7 (rc U T N Z S I L R x0) fun r1 T2 N3 Z4 S5 I6 R7 =>
  xc r1 (fun a10 =>
    tg T2 8 a10 <|
    some ((.inl a10), T2, N3, Z4, S5, I6, R7)
  ) fun v11 =>
    fX6_part_rX7_b17 nf rc U T2 N3 Z4 S5 I6 L R7 x0 v11
def fX6_part_rX7 (nf : Nat) (rc : (Nat → Option Nat) → xT → xT → Nat → Nat → xI → xL → xR → Nat → Option ((Nat ⊕ Nat) × xT × xT × Nat × Nat × xI × xR)) (U : (Nat → Option Nat)) (T : xT) (N : xT) (Z : Nat) (S : Nat) (I : xI) (L : xL) (R : xR) (x0 : Nat) : Option ((Nat ⊕ Nat) × xT × xT × Nat × Nat × xI × xR) :=
  (U 103).bind fun a1 =>
  tg T 7 x0 <|
  (fX6_is_rX7 nf U T N I R x0 a1).bind fun r2 =>
  if r2 = (ii 0) then
    (fX6_isIn_rX7 T N I R x0 (I x0 3) (ii 48) (ii 57)).bind fun r6 =>
    if r6 = (ii 0) then
      b7 (fX7_value nf U T N Z S I R x0) fun r9 T10 N11 Z12 S13 I14 R15 =>
      xc r9 (fun a17 =>
        tg T10 8 a17 <|
        some ((.inl a17), T10, N11, Z12, S13, I14, R15)
      ) fun v18 =>
        fX6_part_rX7_b75 nf rc U T10 N11 Z12 S13 I14 L R15 x0 v18
    else
      b7 (fX6_leaf_rX7 U T N Z S I R x0) fun r21 T22 N23 Z24 S25 I26 R27 =>
      xc r21 (fun a29 =>
        tg T22 8 a29 <|
        some ((.inl a29), T22, N23, Z24, S25, I26, R27)
      ) fun v30 =>
        fX6_part_rX7_b55 nf rc U T22 N23 Z24 S25 I26 L R27 x0
  else
    b7 (fX6_opens_rX7 nf U T N Z S I R x0) fun r33 T34 N35 Z36 S37 I38 R39 =>
    xc r33 (fun a41 =>
      tg T34 8 a41 <|
      some ((.inl a41), T34, N35, Z36, S37, I38, R39)
    ) fun v42 =>
      fX6_part_rX7_b13 nf rc U T34 N35 Z36 S37 I38 L R39 x0
/- LostLanes$Reader.term()LLostLanes$Sum; -/
def fX6_term_rX7_b57 (nf : Nat) (rc : (Nat → Option Nat) → xT → xT → Nat → Nat → xI → xL → xR → Nat → Option ((Nat ⊕ Nat) × xT × xT × Nat × Nat × xI × xR)) (kk5 : xT → xT → Nat → Nat → xI → xR → Nat → Nat → Option ((Nat ⊕ Nat) × xT × xT × Nat × Nat × xI × xR)) (U : (Nat → Option Nat)) (T : xT) (N : xT) (Z : Nat) (S : Nat) (I : xI) (L : xL) (R : xR) (x0 : Nat) (z0 : Nat) (z1 : Nat) (z2 : Int32) (z3 : Nat) (z4 : Nat) : Option ((Nat ⊕ Nat) × xT × xT × Nat × Nat × xI × xR) :=
  b2 (fX13_init T I R z1 z2 z3 z4) fun I1 R2 =>
  kk5 T N Z S I1 R2 x0 z0
def fX6_term_rX7_b50 (nf : Nat) (rc : (Nat → Option Nat) → xT → xT → Nat → Nat → xI → xL → xR → Nat → Option ((Nat ⊕ Nat) × xT × xT × Nat × Nat × xI × xR)) (kk5 : xT → xT → Nat → Nat → xI → xR → Nat → Nat → Option ((Nat ⊕ Nat) × xT × xT × Nat × Nat × xI × xR)) (U : (Nat → Option Nat)) (T : xT) (N : xT) (Z : Nat) (S : Nat) (I : xI) (L : xL) (R : xR) (x0 : Nat) (x1 : Nat) (x2 : Int32) (z0 : Nat) : Option ((Nat ⊕ Nat) × xT × xT × Nat × Nat × xI × xR) :=
  tg T 7 x0 <|
  b7 (fX6_part_rX7 nf rc U T N Z S I L R x0) fun r1 T2 N3 Z4 S5 I6 R7 =>
  xc r1 (fun a10 =>
    tg T2 8 a10 <|
    some ((.inl a10), T2, N3, Z4, S5, I6, R7)
  ) fun v11 =>
    fX6_term_rX7_b57 nf rc kk5 U T2 N3 Z4 S5 I6 L R7 x0 z0 z0 x2 x1 v11
def fX6_term_rX7_b32 (nf : Nat) (rc : (Nat → Option Nat) → xT → xT → Nat → Nat → xI → xL → xR → Nat → Option ((Nat ⊕ Nat) × xT × xT × Nat × Nat × xI × xR)) (kk5 : xT → xT → Nat → Nat → xI → xR → Nat → Nat → Option ((Nat ⊕ Nat) × xT × xT × Nat × Nat × xI × xR)) (U : (Nat → Option Nat)) (T : xT) (N : xT) (Z : Nat) (S : Nat) (I : xI) (L : xL) (R : xR) (x0 : Nat) (x1 : Nat) : Option ((Nat ⊕ Nat) × xT × xT × Nat × Nat × xI × xR) :=
  tg T 7 x0 <|
  (R x0 0).bind fun a2 =>
  rA T N 101 a2 (I x0 3) fun j3 =>
  nm ((((I a2 j3)).toUInt32 % 65536).toInt32) fun u4 =>
  (fX6_next_rX7 nf T N I R x0).bind fun I5 =>
  nm (uT T Z 12) fun T7 =>
  nm (Z + 1) fun Z8 =>
  nm (S + 3) fun S9 =>
  fX6_term_rX7_b50 nf rc kk5 U T7 N Z8 S9 I5 L R x0 x1 u4 Z
def fX6_term_rX7_b5 (nf : Nat) (rc : (Nat → Option Nat) → xT → xT → Nat → Nat → xI → xL → xR → Nat → Option ((Nat ⊕ Nat) × xT × xT × Nat × Nat × xI × xR)) (U : (Nat → Option Nat)) (L : xL) : Nat → xT → xT → Nat → Nat → xI → xR → Nat → Nat → Option ((Nat ⊕ Nat) × xT × xT × Nat × Nat × xI × xR)
  | 0, _, _, _, _, _, _, _, _ => none
  | k + 1, T, N, Z, S, I, R, x0, x1 =>
    (U 121).bind fun a1 =>
    tg T 7 x0 <|
    (fX6_is_rX7 nf U T N I R x0 a1).bind fun r2 =>
    if r2 = (ii 0) then
      (U 122).bind fun a6 =>
      (fX6_is_rX7 nf U T N I R x0 a6).bind fun r7 =>
      if r7 = (ii 0) then
        (U 123).bind fun a10 =>
        (fX6_is_rX7 nf U T N I R x0 a10).bind fun r11 =>
        if r11 = (ii 0) then
          some ((.inr x1), T, N, Z, S, I, R)
        else
          fX6_term_rX7_b32 nf rc (fX6_term_rX7_b5 nf rc U L k) U T N Z S I L R x0 x1
      else
        fX6_term_rX7_b32 nf rc (fX6_term_rX7_b5 nf rc U L k) U T N Z S I L R x0 x1
    else
      fX6_term_rX7_b32 nf rc (fX6_term_rX7_b5 nf rc U L k) U T N Z S I L R x0 x1
def fX6_term_rX7_b4 (nf : Nat) (rc : (Nat → Option Nat) → xT → xT → Nat → Nat → xI → xL → xR → Nat → Option ((Nat ⊕ Nat) × xT × xT × Nat × Nat × xI × xR)) (U : (Nat → Option Nat)) (T : xT) (N : xT) (Z : Nat) (S : Nat) (I : xI) (L : xL) (R : xR) (x0 : Nat) (z0 : Nat) : Option ((Nat ⊕ Nat) × xT × xT × Nat × Nat × xI × xR) :=
  fX6_term_rX7_b5 nf rc U L nf T N Z S I R x0 z0
def fX6_term_rX7 (nf : Nat) (rc : (Nat → Option Nat) → xT → xT → Nat → Nat → xI → xL → xR → Nat → Option ((Nat ⊕ Nat) × xT × xT × Nat × Nat × xI × xR)) (U : (Nat → Option Nat)) (T : xT) (N : xT) (Z : Nat) (S : Nat) (I : xI) (L : xL) (R : xR) (x0 : Nat) : Option ((Nat ⊕ Nat) × xT × xT × Nat × Nat × xI × xR) :=
  tg T 7 x0 <|
  b7 (fX6_part_rX7 nf rc U T N Z S I L R x0) fun r1 T2 N3 Z4 S5 I6 R7 =>
  xc r1 (fun a10 =>
    tg T2 8 a10 <|
    some ((.inl a10), T2, N3, Z4, S5, I6, R7)
  ) fun v11 =>
    fX6_term_rX7_b4 nf rc U T2 N3 Z4 S5 I6 L R7 x0 v11
/- LostLanes$Reader.sum()LLostLanes$Sum; -/
def fX6_sum_rX7_b48 (nf : Nat) (rc : (Nat → Option Nat) → xT → xT → Nat → Nat → xI → xL → xR → Nat → Option ((Nat ⊕ Nat) × xT × xT × Nat × Nat × xI × xR)) (kk5 : xT → xT → Nat → Nat → xI → xR → Nat → Nat → Option ((Nat ⊕ Nat) × xT × xT × Nat × Nat × xI × xR)) (U : (Nat → Option Nat)) (T : xT) (N : xT) (Z : Nat) (S : Nat) (I : xI) (L : xL) (R : xR) (x0 : Nat) (z0 : Nat) (z1 : Nat) (z2 : Int32) (z3 : Nat) (z4 : Nat) : Option ((Nat ⊕ Nat) × xT × xT × Nat × Nat × xI × xR) :=
  b2 (fX13_init T I R z1 z2 z3 z4) fun I1 R2 =>
  kk5 T N Z S I1 R2 x0 z0
def fX6_sum_rX7_b41 (nf : Nat) (rc : (Nat → Option Nat) → xT → xT → Nat → Nat → xI → xL → xR → Nat → Option ((Nat ⊕ Nat) × xT × xT × Nat × Nat × xI × xR)) (kk5 : xT → xT → Nat → Nat → xI → xR → Nat → Nat → Option ((Nat ⊕ Nat) × xT × xT × Nat × Nat × xI × xR)) (U : (Nat → Option Nat)) (T : xT) (N : xT) (Z : Nat) (S : Nat) (I : xI) (L : xL) (R : xR) (x0 : Nat) (x1 : Nat) (x2 : Int32) (z0 : Nat) : Option ((Nat ⊕ Nat) × xT × xT × Nat × Nat × xI × xR) :=
  tg T 7 x0 <|
  b7 (fX6_term_rX7 nf rc U T N Z S I L R x0) fun r1 T2 N3 Z4 S5 I6 R7 =>
  xc r1 (fun a10 =>
    tg T2 8 a10 <|
    some ((.inl a10), T2, N3, Z4, S5, I6, R7)
  ) fun v11 =>
    fX6_sum_rX7_b48 nf rc kk5 U T2 N3 Z4 S5 I6 L R7 x0 z0 z0 x2 x1 v11
def fX6_sum_rX7_b23 (nf : Nat) (rc : (Nat → Option Nat) → xT → xT → Nat → Nat → xI → xL → xR → Nat → Option ((Nat ⊕ Nat) × xT × xT × Nat × Nat × xI × xR)) (kk5 : xT → xT → Nat → Nat → xI → xR → Nat → Nat → Option ((Nat ⊕ Nat) × xT × xT × Nat × Nat × xI × xR)) (U : (Nat → Option Nat)) (T : xT) (N : xT) (Z : Nat) (S : Nat) (I : xI) (L : xL) (R : xR) (x0 : Nat) (x1 : Nat) : Option ((Nat ⊕ Nat) × xT × xT × Nat × Nat × xI × xR) :=
  tg T 7 x0 <|
  (R x0 0).bind fun a2 =>
  rA T N 101 a2 (I x0 3) fun j3 =>
  nm ((((I a2 j3)).toUInt32 % 65536).toInt32) fun u4 =>
  (fX6_next_rX7 nf T N I R x0).bind fun I5 =>
  nm (uT T Z 12) fun T7 =>
  nm (Z + 1) fun Z8 =>
  nm (S + 3) fun S9 =>
  fX6_sum_rX7_b41 nf rc kk5 U T7 N Z8 S9 I5 L R x0 x1 u4 Z
def fX6_sum_rX7_b5 (nf : Nat) (rc : (Nat → Option Nat) → xT → xT → Nat → Nat → xI → xL → xR → Nat → Option ((Nat ⊕ Nat) × xT × xT × Nat × Nat × xI × xR)) (U : (Nat → Option Nat)) (L : xL) : Nat → xT → xT → Nat → Nat → xI → xR → Nat → Nat → Option ((Nat ⊕ Nat) × xT × xT × Nat × Nat × xI × xR)
  | 0, _, _, _, _, _, _, _, _ => none
  | k + 1, T, N, Z, S, I, R, x0, x1 =>
    (U 124).bind fun a1 =>
    tg T 7 x0 <|
    (fX6_is_rX7 nf U T N I R x0 a1).bind fun r2 =>
    if r2 = (ii 0) then
      (U 125).bind fun a6 =>
      (fX6_is_rX7 nf U T N I R x0 a6).bind fun r7 =>
      if r7 = (ii 0) then
        some ((.inr x1), T, N, Z, S, I, R)
      else
        fX6_sum_rX7_b23 nf rc (fX6_sum_rX7_b5 nf rc U L k) U T N Z S I L R x0 x1
    else
      fX6_sum_rX7_b23 nf rc (fX6_sum_rX7_b5 nf rc U L k) U T N Z S I L R x0 x1
def fX6_sum_rX7_b4 (nf : Nat) (rc : (Nat → Option Nat) → xT → xT → Nat → Nat → xI → xL → xR → Nat → Option ((Nat ⊕ Nat) × xT × xT × Nat × Nat × xI × xR)) (U : (Nat → Option Nat)) (T : xT) (N : xT) (Z : Nat) (S : Nat) (I : xI) (L : xL) (R : xR) (x0 : Nat) (z0 : Nat) : Option ((Nat ⊕ Nat) × xT × xT × Nat × Nat × xI × xR) :=
  fX6_sum_rX7_b5 nf rc U L nf T N Z S I R x0 z0
def fX6_sum_rX7_E (nf : Nat) (rc : (Nat → Option Nat) → xT → xT → Nat → Nat → xI → xL → xR → Nat → Option ((Nat ⊕ Nat) × xT × xT × Nat × Nat × xI × xR)) (U : (Nat → Option Nat)) (T : xT) (N : xT) (Z : Nat) (S : Nat) (I : xI) (L : xL) (R : xR) (x0 : Nat) : Option ((Nat ⊕ Nat) × xT × xT × Nat × Nat × xI × xR) :=
  tg T 7 x0 <|
  b7 (fX6_term_rX7 nf rc U T N Z S I L R x0) fun r1 T2 N3 Z4 S5 I6 R7 =>
  xc r1 (fun a10 =>
    tg T2 8 a10 <|
    some ((.inl a10), T2, N3, Z4, S5, I6, R7)
  ) fun v11 =>
    fX6_sum_rX7_b4 nf rc U T2 N3 Z4 S5 I6 L R7 x0 v11
def fX6_sum_rX7 (nf : Nat) : Nat → (Nat → Option Nat) → xT → xT → Nat → Nat → xI → xL → xR → Nat → Option ((Nat ⊕ Nat) × xT × xT × Nat × Nat × xI × xR)
  | 0, _, _, _, _, _, _, _, _, _ => none
  | d + 1, U, T, N, Z, S, I, L, R, x0 => fX6_sum_rX7_E nf (fX6_sum_rX7 nf d) U T N Z S I L R x0
/- LostLanes$Reader.positive()LLostLanes$Test; -/
def fX6_positive_rX7_b105 (nf : Nat) (rc : (Nat → Option Nat) → xT → xT → Nat → Nat → xI → xL → xR → Nat → Option ((Nat ⊕ Nat) × xT × xT × Nat × Nat × xI × xR)) (U : (Nat → Option Nat)) (T : xT) (N : xT) (Z : Nat) (S : Nat) (I : xI) (L : xL) (R : xR) (z0 : Nat) (z1 : Nat) (z2 : Int32) (z3 : Nat) (z4 : Nat) : Option ((Nat ⊕ Nat) × xT × xT × Nat × Nat × xI × xR) :=
  b2 (fX15_init T I R z1 z2 z3 z4) fun I1 R2 =>
  some ((.inr z0), T, N, Z, S, I1, R2)
def fX6_positive_rX7_b98 (nf : Nat) (rc : (Nat → Option Nat) → xT → xT → Nat → Nat → xI → xL → xR → Nat → Option ((Nat ⊕ Nat) × xT × xT × Nat × Nat × xI × xR)) (U : (Nat → Option Nat)) (T : xT) (N : xT) (Z : Nat) (S : Nat) (I : xI) (L : xL) (R : xR) (x0 : Nat) (x1 : Nat) (x2 : Int32) (z0 : Nat) : Option ((Nat ⊕ Nat) × xT × xT × Nat × Nat × xI × xR) :=
  tg T 7 x0 <|
  b7 (fX6_sum_rX7 nf 12 U T N Z S I L R x0) fun r1 T2 N3 Z4 S5 I6 R7 =>
  xc r1 (fun a10 =>
    tg T2 8 a10 <|
    some ((.inl a10), T2, N3, Z4, S5, I6, R7)
  ) fun v11 =>
    fX6_positive_rX7_b105 nf rc U T2 N3 Z4 S5 I6 L R7 z0 z0 x2 x1 v11
def fX6_positive_rX7_b80 (nf : Nat) (rc : (Nat → Option Nat) → xT → xT → Nat → Nat → xI → xL → xR → Nat → Option ((Nat ⊕ Nat) × xT × xT × Nat × Nat × xI × xR)) (U : (Nat → Option Nat)) (T : xT) (N : xT) (Z : Nat) (S : Nat) (I : xI) (L : xL) (R : xR) (x0 : Nat) (x1 : Nat) : Option ((Nat ⊕ Nat) × xT × xT × Nat × Nat × xI × xR) :=
  tg T 7 x0 <|
  (R x0 0).bind fun a2 =>
  rA T N 101 a2 (I x0 3) fun j3 =>
  nm ((((I a2 j3)).toUInt32 % 65536).toInt32) fun u4 =>
  (fX6_next_rX7 nf T N I R x0).bind fun I5 =>
  nm (uT T Z 13) fun T7 =>
  nm (Z + 1) fun Z8 =>
  nm (S + 3) fun S9 =>
  fX6_positive_rX7_b98 nf rc U T7 N Z8 S9 I5 L R x0 x1 u4 Z
def fX6_positive_rX7_b71 (nf : Nat) (rc : (Nat → Option Nat) → xT → xT → Nat → Nat → xI → xL → xR → Nat → Option ((Nat ⊕ Nat) × xT × xT × Nat × Nat × xI × xR)) (U : (Nat → Option Nat)) (T : xT) (N : xT) (Z : Nat) (S : Nat) (I : xI) (L : xL) (R : xR) (x0 : Nat) (z0 : Nat) : Option ((Nat ⊕ Nat) × xT × xT × Nat × Nat × xI × xR) :=
  tg T 7 x0 <|
  b2 (fX8_init U T I R z0 (I x0 3)) fun I2 R3 =>
  tg T 8 z0 <|
  some ((.inl z0), T, N, Z, S, I2, R3)
def fX6_positive_rX7_b40 (nf : Nat) (rc : (Nat → Option Nat) → xT → xT → Nat → Nat → xI → xL → xR → Nat → Option ((Nat ⊕ Nat) × xT × xT × Nat × Nat × xI × xR)) (U : (Nat → Option Nat)) (T : xT) (N : xT) (Z : Nat) (S : Nat) (I : xI) (L : xL) (R : xR) (x0 : Nat) (z0 : Nat) : Option ((Nat ⊕ Nat) × xT × xT × Nat × Nat × xI × xR) :=
  (U 130).bind fun a1 =>
  tg T 7 x0 <|
  (fX6_is_rX7 nf U T N I R x0 a1).bind fun r2 =>
  if r2 = (ii 0) then
    (U 131).bind fun a6 =>
    (fX6_is_rX7 nf U T N I R x0 a6).bind fun r7 =>
    if r7 = (ii 0) then
      (U 132).bind fun a10 =>
      (fX6_is_rX7 nf U T N I R x0 a10).bind fun r11 =>
      if r11 = (ii 0) then
        nm (uT T Z 8) fun T14 =>
        nm (Z + 1) fun Z15 =>
        nm (S + 7) fun S16 =>
        fX6_positive_rX7_b71 nf rc U T14 N Z15 S16 I L R x0 Z
      else
        fX6_positive_rX7_b80 nf rc U T N Z S I L R x0 z0
    else
      fX6_positive_rX7_b80 nf rc U T N Z S I L R x0 z0
  else
    fX6_positive_rX7_b80 nf rc U T N Z S I L R x0 z0
def fX6_positive_rX7_b24 (nf : Nat) (rc : (Nat → Option Nat) → xT → xT → Nat → Nat → xI → xL → xR → Nat → Option ((Nat ⊕ Nat) × xT × xT × Nat × Nat × xI × xR)) (U : (Nat → Option Nat)) (T : xT) (N : xT) (Z : Nat) (S : Nat) (I : xI) (L : xL) (R : xR) (x0 : Nat) (x1 : Nat) : Option ((Nat ⊕ Nat) × xT × xT × Nat × Nat × xI × xR) :=
  tg T 7 x0 <|
  nm (uI I x0 6 ((I x0 6) - (ii 1))) fun I2 =>
  some ((.inr x1), T, N, Z, S, I2, R)
def fX6_positive_rX7_b17 (nf : Nat) (rc : (Nat → Option Nat) → xT → xT → Nat → Nat → xI → xL → xR → Nat → Option ((Nat ⊕ Nat) × xT × xT × Nat × Nat × xI × xR)) (U : (Nat → Option Nat)) (T : xT) (N : xT) (Z : Nat) (S : Nat) (I : xI) (L : xL) (R : xR) (x0 : Nat) (z0 : Nat) : Option ((Nat ⊕ Nat) × xT × xT × Nat × Nat × xI × xR) :=
  (U 129).bind fun a1 =>
  tg T 7 x0 <|
  b7 (fX6_need_rX7 nf U T N Z S I R x0 a1) fun r2 T3 N4 Z5 S6 I7 R8 =>
  xc r2 (fun a11 =>
    tg T3 8 a11 <|
    some ((.inl a11), T3, N4, Z5, S6, I7, R8)
  ) fun v12 =>
    fX6_positive_rX7_b24 nf rc U T3 N4 Z5 S6 I7 L R8 x0 z0
def fX6_positive_rX7_b13 (nf : Nat) (rc : (Nat → Option Nat) → xT → xT → Nat → Nat → xI → xL → xR → Nat → Option ((Nat ⊕ Nat) × xT × xT × Nat × Nat × xI × xR)) (U : (Nat → Option Nat)) (T : xT) (N : xT) (Z : Nat) (S : Nat) (I : xI) (L : xL) (R : xR) (x0 : Nat) : Option ((Nat ⊕ Nat) × xT × xT × Nat × Nat × xI × xR) :=
  tg T 7 x0 <|
  b7 (rc U T N Z S I L R x0) fun r1 T2 N3 Z4 S5 I6 R7 =>
  xc r1 (fun a10 =>
    tg T2 8 a10 <|
    some ((.inl a10), T2, N3, Z4, S5, I6, R7)
  ) fun v11 =>
    fX6_positive_rX7_b17 nf rc U T2 N3 Z4 S5 I6 L R7 x0 v11
def fX6_positive_rX7 (nf : Nat) (rc : (Nat → Option Nat) → xT → xT → Nat → Nat → xI → xL → xR → Nat → Option ((Nat ⊕ Nat) × xT × xT × Nat × Nat × xI × xR)) (U : (Nat → Option Nat)) (T : xT) (N : xT) (Z : Nat) (S : Nat) (I : xI) (L : xL) (R : xR) (x0 : Nat) : Option ((Nat ⊕ Nat) × xT × xT × Nat × Nat × xI × xR) :=
  (U 128).bind fun a1 =>
  tg T 7 x0 <|
  (fX6_is_rX7 nf U T N I R x0 a1).bind fun r2 =>
  if r2 = (ii 0) then
    b7 (fX6_sum_rX7 nf 12 U T N Z S I L R x0) fun r6 T7 N8 Z9 S10 I11 R12 =>
    xc r6 (fun a14 =>
      tg T7 8 a14 <|
      some ((.inl a14), T7, N8, Z9, S10, I11, R12)
    ) fun v15 =>
      fX6_positive_rX7_b40 nf rc U T7 N8 Z9 S10 I11 L R12 x0 v15
  else
    b7 (fX6_opens_rX7 nf U T N Z S I R x0) fun r18 T19 N20 Z21 S22 I23 R24 =>
    xc r18 (fun a26 =>
      tg T19 8 a26 <|
      some ((.inl a26), T19, N20, Z21, S22, I23, R24)
    ) fun v27 =>
      fX6_positive_rX7_b13 nf rc U T19 N20 Z21 S22 I23 L R24 x0
/- LostLanes$Reader.plain()LLostLanes$Test; -/
def fX6_plain_rX7_b36 (nf : Nat) (rc : (Nat → Option Nat) → xT → xT → Nat → Nat → xI → xL → xR → Nat → Option ((Nat ⊕ Nat) × xT × xT × Nat × Nat × xI × xR)) (U : (Nat → Option Nat)) (T : xT) (N : xT) (Z : Nat) (S : Nat) (I : xI) (L : xL) (R : xR) (x2 : Nat) (z0 : Nat) : Option ((Nat ⊕ Nat) × xT × xT × Nat × Nat × xI × xR) :=
  (fX16_init T R z0 x2).bind fun R1 =>
  some ((.inr z0), T, N, Z, S, I, R1)
def fX6_plain_rX7_b28 (nf : Nat) (rc : (Nat → Option Nat) → xT → xT → Nat → Nat → xI → xL → xR → Nat → Option ((Nat ⊕ Nat) × xT × xT × Nat × Nat × xI × xR)) (U : (Nat → Option Nat)) (T : xT) (N : xT) (Z : Nat) (S : Nat) (I : xI) (L : xL) (R : xR) (x1 : Int32) (z0 : Nat) : Option ((Nat ⊕ Nat) × xT × xT × Nat × Nat × xI × xR) :=
  if x1 = (ii 0) then
    some ((.inr z0), T, N, Z, S, I, R)
  else
    nm (uT T Z 14) fun T2 =>
    nm (Z + 1) fun Z3 =>
    nm (S + 1) fun S4 =>
    fX6_plain_rX7_b36 nf rc U T2 N Z3 S4 I L R z0 Z
def fX6_plain_rX7_b2 (nf : Nat) (rc : (Nat → Option Nat) → xT → xT → Nat → Nat → xI → xL → xR → Nat → Option ((Nat ⊕ Nat) × xT × xT × Nat × Nat × xI × xR)) (U : (Nat → Option Nat)) (L : xL) : Nat → xT → xT → Nat → Nat → xI → xR → Nat → Int32 → Option ((Nat ⊕ Nat) × xT × xT × Nat × Nat × xI × xR)
  | 0, _, _, _, _, _, _, _, _ => none
  | k + 1, T, N, Z, S, I, R, x0, x1 =>
    (U 127).bind fun a1 =>
    tg T 7 x0 <|
    b2 (fX6_takes_rX7 nf U T N I R x0 a1) fun r2 I3 =>
    if r2 = (ii 0) then
      b7 (fX6_positive_rX7 nf rc U T N Z S I3 L R x0) fun r7 T8 N9 Z10 S11 I12 R13 =>
      xc r7 (fun a15 =>
        tg T8 8 a15 <|
        some ((.inl a15), T8, N9, Z10, S11, I12, R13)
      ) fun v16 =>
        fX6_plain_rX7_b28 nf rc U T8 N9 Z10 S11 I12 L R13 x1 v16
    else
      if x1 = (ii 0) then
        fX6_plain_rX7_b2 nf rc U L k T N Z S I3 R x0 (ii 1)
      else
        fX6_plain_rX7_b2 nf rc U L k T N Z S I3 R x0 (ii 0)
def fX6_plain_rX7 (nf : Nat) (rc : (Nat → Option Nat) → xT → xT → Nat → Nat → xI → xL → xR → Nat → Option ((Nat ⊕ Nat) × xT × xT × Nat × Nat × xI × xR)) (U : (Nat → Option Nat)) (T : xT) (N : xT) (Z : Nat) (S : Nat) (I : xI) (L : xL) (R : xR) (x0 : Nat) : Option ((Nat ⊕ Nat) × xT × xT × Nat × Nat × xI × xR) :=
  fX6_plain_rX7_b2 nf rc U L nf T N Z S I R x0 (ii 0)
/- java/util/ArrayList.grow()[Ljava/lang/Object; -/
def fJ2_grow_2_b10 (T : xT) (N : xT) (Z : Nat) (S : Nat) (I : xI) (R : xR) (z0 : Nat) : Option (Nat × xT × xT × Nat × Nat × xR) :=
  some (z0, T, N, Z, S, R)
def fJ2_grow_2 (T : xT) (N : xT) (Z : Nat) (S : Nat) (I : xI) (R : xR) (x0 : Nat) : Option (Nat × xT × xT × Nat × Nat × xR) :=
  tg T 19 x0 <|
  b6 (fJ2_grow T N Z S R x0 ((I x0 2) + (ii 1))) fun r2 T3 N4 Z5 S6 R7 =>
  fJ2_grow_2_b10 T3 N4 Z5 S6 I R7 r2
/- java/util/ArrayList.add(Ljava/lang/Object;[Ljava/lang/Object;I)V -/
def fJ2_add_2_b11 (T : xT) (N : xT) (Z : Nat) (S : Nat) (I : xI) (R : xR) (x0 : Nat) (x1 : Nat) (x2 : Nat) (x3 : Int32) : Option (xT × xT × Nat × Nat × xI × xR) :=
  rA T N 104 x2 x3 fun j1 =>
  chk (stO (T x1)) <|
  nm (uR R x2 j1 (some x1)) fun R3 =>
  tg T 19 x0 <|
  nm (uI I x0 2 (x3 + (ii 1))) fun I5 =>
  some (T, N, Z, S, I5, R3)
def fJ2_add_2_b10 (T : xT) (N : xT) (Z : Nat) (S : Nat) (I : xI) (R : xR) (x0 : Nat) (x1 : Nat) (x3 : Int32) (z0 : Nat) : Option (xT × xT × Nat × Nat × xI × xR) :=
  fJ2_add_2_b11 T N Z S I R x0 x1 z0 x3
def fJ2_add_2 (T : xT) (N : xT) (Z : Nat) (S : Nat) (I : xI) (R : xR) (x0 : Nat) (x1 : Nat) (x2 : Nat) (x3 : Int32) : Option (xT × xT × Nat × Nat × xI × xR) :=
  tg T 104 x2 <|
  if x3 = (Int32.ofNat (N x2)) then
    tg T 19 x0 <|
    b6 (fJ2_grow_2 T N Z S I R x0) fun r3 T4 N5 Z6 S7 R8 =>
    fJ2_add_2_b10 T4 N5 Z6 S7 I R8 x0 x1 x3 r3
  else
    fJ2_add_2_b11 T N Z S I R x0 x1 x2 x3
/- java/util/ArrayList.add(Ljava/lang/Object;)Z -/
def fJ2_add_b23 (T : xT) (N : xT) (Z : Nat) (S : Nat) (I : xI) (R : xR) : Option (Int32 × xT × xT × Nat × Nat × xI × xR) :=
  some ((ii 1), T, N, Z, S, I, R)
def fJ2_add (T : xT) (N : xT) (Z : Nat) (S : Nat) (I : xI) (R : xR) (x0 : Nat) (x1 : Nat) : Option (Int32 × xT × xT × Nat × Nat × xI × xR) :=
  tg T 19 x0 <|
  nm (uI I x0 0 ((I x0 0) + (ii 1))) fun I2 =>
  (R x0 1).bind fun a3 =>
  b6 (fJ2_add_2 T N Z S I2 R x0 x1 a3 (I2 x0 2)) fun T4 N5 Z6 S7 I8 R9 =>
  fJ2_add_b23 T4 N5 Z6 S7 I8 R9
/- LostLanes$Reader.both()LLostLanes$Test; -/
def fX6_both_rX7_b54 (nf : Nat) (rc : (Nat → Option Nat) → xT → xT → Nat → Nat → xI → xL → xR → Nat → Option ((Nat ⊕ Nat) × xT × xT × Nat × Nat × xI × xR)) (kk34 : xT → xT → Nat → Nat → xI → xR → Nat → Nat → Option ((Nat ⊕ Nat) × xT × xT × Nat × Nat × xI × xR)) (U : (Nat → Option Nat)) (T : xT) (N : xT) (Z : Nat) (S : Nat) (I : xI) (L : xL) (R : xR) (x0 : Nat) (x2 : Nat) (z0 : Int32) : Option ((Nat ⊕ Nat) × xT × xT × Nat × Nat × xI × xR) :=
  kk34 T N Z S I R x0 x2
def fX6_both_rX7_b51 (nf : Nat) (rc : (Nat → Option Nat) → xT → xT → Nat → Nat → xI → xL → xR → Nat → Option ((Nat ⊕ Nat) × xT × xT × Nat × Nat × xI × xR)) (kk34 : xT → xT → Nat → Nat → xI → xR → Nat → Nat → Option ((Nat ⊕ Nat) × xT × xT × Nat × Nat × xI × xR)) (U : (Nat → Option Nat)) (T : xT) (N : xT) (Z : Nat) (S : Nat) (I : xI) (L : xL) (R : xR) (x0 : Nat) (x2 : Nat) (z0 : Nat) (z1 : Nat) : Option ((Nat ⊕ Nat) × xT × xT × Nat × Nat × xI × xR) :=
  tg T 19 z0 <|
  b7 (fJ2_add T N Z S I R z0 z1) fun r1 T2 N3 Z4 S5 I6 R7 =>
  fX6_both_rX7_b54 nf rc kk34 U T2 N3 Z4 S5 I6 L R7 x0 x2 r1
def fX6_both_rX7_b34 (nf : Nat) (rc : (Nat → Option Nat) → xT → xT → Nat → Nat → xI → xL → xR → Nat → Option ((Nat ⊕ Nat) × xT × xT × Nat × Nat × xI × xR)) (U : (Nat → Option Nat)) (L : xL) : Nat → xT → xT → Nat → Nat → xI → xR → Nat → Nat → Option ((Nat ⊕ Nat) × xT × xT × Nat × Nat × xI × xR)
  | 0, _, _, _, _, _, _, _, _ => none
  | k + 1, T, N, Z, S, I, R, x0, x2 =>
    (U 133).bind fun a1 =>
    tg T 7 x0 <|
    b2 (fX6_takes_rX7 nf U T N I R x0 a1) fun r2 I3 =>
    if r2 = (ii 0) then
      some ((.inr x2), T, N, Z, S, I3, R)
    else
      tg T 15 x2 <|
      (R x2 1).bind fun a8 =>
      b7 (fX6_plain_rX7 nf rc U T N Z S I3 L R x0) fun r9 T10 N11 Z12 S13 I14 R15 =>
      xc r9 (fun a17 =>
        tg T10 8 a17 <|
        some ((.inl a17), T10, N11, Z12, S13, I14, R15)
      ) fun v18 =>
        fX6_both_rX7_b51 nf rc (fX6_both_rX7_b34 nf rc U L k) U T10 N11 Z12 S13 I14 L R15 x0 x2 a8 v18
def fX6_both_rX7_b33 (nf : Nat) (rc : (Nat → Option Nat) → xT → xT → Nat → Nat → xI → xL → xR → Nat → Option ((Nat ⊕ Nat) × xT × xT × Nat × Nat × xI × xR)) (U : (Nat → Option Nat)) (T : xT) (N : xT) (Z : Nat) (S : Nat) (I : xI) (L : xL) (R : xR) (x0 : Nat) (x2 : Nat) (z0 : Int32) : Option ((Nat ⊕ Nat) × xT × xT × Nat × Nat × xI × xR) :=
  fX6_both_rX7_b34 nf rc U L nf T N Z S I R x0 x2
def fX6_both_rX7_b24 (nf : Nat) (rc : (Nat → Option Nat) → xT → xT → Nat → Nat → xI → xL → xR → Nat → Option ((Nat ⊕ Nat) × xT × xT × Nat × Nat × xI × xR)) (U : (Nat → Option Nat)) (T : xT) (N : xT) (Z : Nat) (S : Nat) (I : xI) (L : xL) (R : xR) (x0 : Nat) (x1 : Nat) (z0 : Nat) : Option ((Nat ⊕ Nat) × xT × xT × Nat × Nat × xI × xR) :=
  tg T 15 z0 <|
  (R z0 1).bind fun a2 =>
  tg T 19 a2 <|
  b7 (fJ2_add T N Z S I R a2 x1) fun r3 T4 N5 Z6 S7 I8 R9 =>
  fX6_both_rX7_b33 nf rc U T4 N5 Z6 S7 I8 L R9 x0 z0 r3
def fX6_both_rX7_b19 (nf : Nat) (rc : (Nat → Option Nat) → xT → xT → Nat → Nat → xI → xL → xR → Nat → Option ((Nat ⊕ Nat) × xT × xT × Nat × Nat × xI × xR)) (U : (Nat → Option Nat)) (T : xT) (N : xT) (Z : Nat) (S : Nat) (I : xI) (L : xL) (R : xR) (x0 : Nat) (x1 : Nat) (z0 : Nat) : Option ((Nat ⊕ Nat) × xT × xT × Nat × Nat × xI × xR) :=
  b6 (fX17_init T N Z S I R z0 (ii 1)) fun T1 N2 Z3 S4 I5 R6 =>
  fX6_both_rX7_b24 nf rc U T1 N2 Z3 S4 I5 L R6 x0 x1 z0
def fX6_both_rX7_b4 (nf : Nat) (rc : (Nat → Option Nat) → xT → xT → Nat → Nat → xI → xL → xR → Nat → Option ((Nat ⊕ Nat) × xT × xT × Nat × Nat × xI × xR)) (U : (Nat → Option Nat)) (T : xT) (N : xT) (Z : Nat) (S : Nat) (I : xI) (L : xL) (R : xR) (x0 : Nat) (z0 : Nat) : Option ((Nat ⊕ Nat) × xT × xT × Nat × Nat × xI × xR) :=
  (U 133).bind fun a1 =>
  tg T 7 x0 <|
  (fX6_is_rX7 nf U T N I R x0 a1).bind fun r2 =>
  if r2 = (ii 0) then
    some ((.inr z0), T, N, Z, S, I, R)
  else
    nm (uT T Z 15) fun T6 =>
    nm (Z + 1) fun Z7 =>
    nm (S + 2) fun S8 =>
    fX6_both_rX7_b19 nf rc U T6 N Z7 S8 I L R x0 z0 Z
def fX6_both_rX7 (nf : Nat) (rc : (Nat → Option Nat) → xT → xT → Nat → Nat → xI → xL → xR → Nat → Option ((Nat ⊕ Nat) × xT × xT × Nat × Nat × xI × xR)) (U : (Nat → Option Nat)) (T : xT) (N : xT) (Z : Nat) (S : Nat) (I : xI) (L : xL) (R : xR) (x0 : Nat) : Option ((Nat ⊕ Nat) × xT × xT × Nat × Nat × xI × xR) :=
  tg T 7 x0 <|
  b7 (fX6_plain_rX7 nf rc U T N Z S I L R x0) fun r1 T2 N3 Z4 S5 I6 R7 =>
  xc r1 (fun a10 =>
    tg T2 8 a10 <|
    some ((.inl a10), T2, N3, Z4, S5, I6, R7)
  ) fun v11 =>
    fX6_both_rX7_b4 nf rc U T2 N3 Z4 S5 I6 L R7 x0 v11
/- LostLanes$Reader.test()LLostLanes$Test; -/
def fX6_test_rX7_b54 (nf : Nat) (rc : (Nat → Option Nat) → xT → xT → Nat → Nat → xI → xL → xR → Nat → Option ((Nat ⊕ Nat) × xT × xT × Nat × Nat × xI × xR)) (kk34 : xT → xT → Nat → Nat → xI → xR → Nat → Nat → Option ((Nat ⊕ Nat) × xT × xT × Nat × Nat × xI × xR)) (U : (Nat → Option Nat)) (T : xT) (N : xT) (Z : Nat) (S : Nat) (I : xI) (L : xL) (R : xR) (x0 : Nat) (x2 : Nat) (z0 : Int32) : Option ((Nat ⊕ Nat) × xT × xT × Nat × Nat × xI × xR) :=
  kk34 T N Z S I R x0 x2
def fX6_test_rX7_b51 (nf : Nat) (rc : (Nat → Option Nat) → xT → xT → Nat → Nat → xI → xL → xR → Nat → Option ((Nat ⊕ Nat) × xT × xT × Nat × Nat × xI × xR)) (kk34 : xT → xT → Nat → Nat → xI → xR → Nat → Nat → Option ((Nat ⊕ Nat) × xT × xT × Nat × Nat × xI × xR)) (U : (Nat → Option Nat)) (T : xT) (N : xT) (Z : Nat) (S : Nat) (I : xI) (L : xL) (R : xR) (x0 : Nat) (x2 : Nat) (z0 : Nat) (z1 : Nat) : Option ((Nat ⊕ Nat) × xT × xT × Nat × Nat × xI × xR) :=
  tg T 19 z0 <|
  b7 (fJ2_add T N Z S I R z0 z1) fun r1 T2 N3 Z4 S5 I6 R7 =>
  fX6_test_rX7_b54 nf rc kk34 U T2 N3 Z4 S5 I6 L R7 x0 x2 r1
def fX6_test_rX7_b34 (nf : Nat) (rc : (Nat → Option Nat) → xT → xT → Nat → Nat → xI → xL → xR → Nat → Option ((Nat ⊕ Nat) × xT × xT × Nat × Nat × xI × xR)) (U : (Nat → Option Nat)) (L : xL) : Nat → xT → xT → Nat → Nat → xI → xR → Nat → Nat → Option ((Nat ⊕ Nat) × xT × xT × Nat × Nat × xI × xR)
  | 0, _, _, _, _, _, _, _, _ => none
  | k + 1, T, N, Z, S, I, R, x0, x2 =>
    (U 134).bind fun a1 =>
    tg T 7 x0 <|
    b2 (fX6_takes_rX7 nf U T N I R x0 a1) fun r2 I3 =>
    if r2 = (ii 0) then
      some ((.inr x2), T, N, Z, S, I3, R)
    else
      tg T 15 x2 <|
      (R x2 1).bind fun a8 =>
      b7 (fX6_both_rX7 nf rc U T N Z S I3 L R x0) fun r9 T10 N11 Z12 S13 I14 R15 =>
      xc r9 (fun a17 =>
        tg T10 8 a17 <|
        some ((.inl a17), T10, N11, Z12, S13, I14, R15)
      ) fun v18 =>
        fX6_test_rX7_b51 nf rc (fX6_test_rX7_b34 nf rc U L k) U T10 N11 Z12 S13 I14 L R15 x0 x2 a8 v18
def fX6_test_rX7_b33 (nf : Nat) (rc : (Nat → Option Nat) → xT → xT → Nat → Nat → xI → xL → xR → Nat → Option ((Nat ⊕ Nat) × xT × xT × Nat × Nat × xI × xR)) (U : (Nat → Option Nat)) (T : xT) (N : xT) (Z : Nat) (S : Nat) (I : xI) (L : xL) (R : xR) (x0 : Nat) (x2 : Nat) (z0 : Int32) : Option ((Nat ⊕ Nat) × xT × xT × Nat × Nat × xI × xR) :=
  fX6_test_rX7_b34 nf rc U L nf T N Z S I R x0 x2
def fX6_test_rX7_b24 (nf : Nat) (rc : (Nat → Option Nat) → xT → xT → Nat → Nat → xI → xL → xR → Nat → Option ((Nat ⊕ Nat) × xT × xT × Nat × Nat × xI × xR)) (U : (Nat → Option Nat)) (T : xT) (N : xT) (Z : Nat) (S : Nat) (I : xI) (L : xL) (R : xR) (x0 : Nat) (x1 : Nat) (z0 : Nat) : Option ((Nat ⊕ Nat) × xT × xT × Nat × Nat × xI × xR) :=
  tg T 15 z0 <|
  (R z0 1).bind fun a2 =>
  tg T 19 a2 <|
  b7 (fJ2_add T N Z S I R a2 x1) fun r3 T4 N5 Z6 S7 I8 R9 =>
  fX6_test_rX7_b33 nf rc U T4 N5 Z6 S7 I8 L R9 x0 z0 r3
def fX6_test_rX7_b19 (nf : Nat) (rc : (Nat → Option Nat) → xT → xT → Nat → Nat → xI → xL → xR → Nat → Option ((Nat ⊕ Nat) × xT × xT × Nat × Nat × xI × xR)) (U : (Nat → Option Nat)) (T : xT) (N : xT) (Z : Nat) (S : Nat) (I : xI) (L : xL) (R : xR) (x0 : Nat) (x1 : Nat) (z0 : Nat) : Option ((Nat ⊕ Nat) × xT × xT × Nat × Nat × xI × xR) :=
  b6 (fX17_init T N Z S I R z0 (ii 0)) fun T1 N2 Z3 S4 I5 R6 =>
  fX6_test_rX7_b24 nf rc U T1 N2 Z3 S4 I5 L R6 x0 x1 z0
def fX6_test_rX7_b4 (nf : Nat) (rc : (Nat → Option Nat) → xT → xT → Nat → Nat → xI → xL → xR → Nat → Option ((Nat ⊕ Nat) × xT × xT × Nat × Nat × xI × xR)) (U : (Nat → Option Nat)) (T : xT) (N : xT) (Z : Nat) (S : Nat) (I : xI) (L : xL) (R : xR) (x0 : Nat) (z0 : Nat) : Option ((Nat ⊕ Nat) × xT × xT × Nat × Nat × xI × xR) :=
  (U 134).bind fun a1 =>
  tg T 7 x0 <|
  (fX6_is_rX7 nf U T N I R x0 a1).bind fun r2 =>
  if r2 = (ii 0) then
    some ((.inr z0), T, N, Z, S, I, R)
  else
    nm (uT T Z 15) fun T6 =>
    nm (Z + 1) fun Z7 =>
    nm (S + 2) fun S8 =>
    fX6_test_rX7_b19 nf rc U T6 N Z7 S8 I L R x0 z0 Z
def fX6_test_rX7_E (nf : Nat) (rc : (Nat → Option Nat) → xT → xT → Nat → Nat → xI → xL → xR → Nat → Option ((Nat ⊕ Nat) × xT × xT × Nat × Nat × xI × xR)) (U : (Nat → Option Nat)) (T : xT) (N : xT) (Z : Nat) (S : Nat) (I : xI) (L : xL) (R : xR) (x0 : Nat) : Option ((Nat ⊕ Nat) × xT × xT × Nat × Nat × xI × xR) :=
  tg T 7 x0 <|
  b7 (fX6_both_rX7 nf rc U T N Z S I L R x0) fun r1 T2 N3 Z4 S5 I6 R7 =>
  xc r1 (fun a10 =>
    tg T2 8 a10 <|
    some ((.inl a10), T2, N3, Z4, S5, I6, R7)
  ) fun v11 =>
    fX6_test_rX7_b4 nf rc U T2 N3 Z4 S5 I6 L R7 x0 v11
def fX6_test_rX7 (nf : Nat) : Nat → (Nat → Option Nat) → xT → xT → Nat → Nat → xI → xL → xR → Nat → Option ((Nat ⊕ Nat) × xT × xT × Nat × Nat × xI × xR)
  | 0, _, _, _, _, _, _, _, _, _ => none
  | d + 1, U, T, N, Z, S, I, L, R, x0 => fX6_test_rX7_E nf (fX6_test_rX7 nf d) U T N Z S I L R x0
/- LostLanes$LawReader.clause()V -/
def fX7_clause_b106 (nf : Nat) (U : (Nat → Option Nat)) (T : xT) (N : xT) (Z : Nat) (S : Nat) (I : xI) (L : xL) (R : xR) (z0 : Int32) : Option ((Nat ⊕ Unit) × xT × xT × Nat × Nat × xI × xR) :=
  some ((.inr ()), T, N, Z, S, I, R)
def fX7_clause_b98 (nf : Nat) (U : (Nat → Option Nat)) (T : xT) (N : xT) (Z : Nat) (S : Nat) (I : xI) (L : xL) (R : xR) (x0 : Nat) (x2 : Nat) : Option ((Nat ⊕ Unit) × xT × xT × Nat × Nat × xI × xR) :=
  tg T 7 x0 <|
  (R x0 7).bind fun a2 =>
  tg T 19 a2 <|
  b7 (fJ2_add T N Z S I R a2 x2) fun r3 T4 N5 Z6 S7 I8 R9 =>
  fX7_clause_b106 nf U T4 N5 Z6 S7 I8 L R9 r3
def fX7_clause_b95 (nf : Nat) (U : (Nat → Option Nat)) (T : xT) (N : xT) (Z : Nat) (S : Nat) (I : xI) (L : xL) (R : xR) (x0 : Nat) (x2 : Nat) (z0 : Nat) (z1 : Nat) : Option ((Nat ⊕ Unit) × xT × xT × Nat × Nat × xI × xR) :=
  tg T 9 z0 <|
  nm (uR R z0 2 (some z1)) fun R2 =>
  fX7_clause_b98 nf U T N Z S I L R2 x0 x2
def fX7_clause_b81 (nf : Nat) (U : (Nat → Option Nat)) (T : xT) (N : xT) (Z : Nat) (S : Nat) (I : xI) (L : xL) (R : xR) (x0 : Nat) (x2 : Nat) : Option ((Nat ⊕ Unit) × xT × xT × Nat × Nat × xI × xR) :=
  (U 126).bind fun a1 =>
  tg T 7 x0 <|
  b2 (fX6_takes_rX7 nf U T N I R x0 a1) fun r2 I3 =>
  if r2 = (ii 0) then
    fX7_clause_b98 nf U T N Z S I3 L R x0 x2
  else
    b7 (fX6_test_rX7 nf 12 U T N Z S I3 L R x0) fun r7 T8 N9 Z10 S11 I12 R13 =>
    xc r7 (fun a15 =>
      tg T8 8 a15 <|
      some ((.inl a15), T8, N9, Z10, S11, I12, R13)
    ) fun v16 =>
      fX7_clause_b95 nf U T8 N9 Z10 S11 I12 L R13 x0 x2 x2 v16
def fX7_clause_b78 (nf : Nat) (U : (Nat → Option Nat)) (T : xT) (N : xT) (Z : Nat) (S : Nat) (I : xI) (L : xL) (R : xR) (x0 : Nat) (x2 : Nat) (z0 : Nat) (z1 : Nat) : Option ((Nat ⊕ Unit) × xT × xT × Nat × Nat × xI × xR) :=
  tg T 9 z0 <|
  nm (uR R z0 1 (some z1)) fun R2 =>
  fX7_clause_b81 nf U T N Z S I L R2 x0 x2
def fX7_clause_b62 (nf : Nat) (U : (Nat → Option Nat)) (T : xT) (N : xT) (Z : Nat) (S : Nat) (I : xI) (L : xL) (R : xR) (x0 : Nat) (x1 : Int32) (z0 : Nat) : Option ((Nat ⊕ Unit) × xT × xT × Nat × Nat × xI × xR) :=
  (fX9_init T I z0 x1).bind fun I1 =>
  if x1 = (ii 2) then
    fX7_clause_b81 nf U T N Z S I1 L R x0 z0
  else
    tg T 7 x0 <|
    b7 (fX6_sum_rX7 nf 12 U T N Z S I1 L R x0) fun r4 T5 N6 Z7 S8 I9 R10 =>
    xc r4 (fun a13 =>
      tg T5 8 a13 <|
      some ((.inl a13), T5, N6, Z7, S8, I9, R10)
    ) fun v14 =>
      fX7_clause_b78 nf U T5 N6 Z7 S8 I9 L R10 x0 z0 z0 v14
def fX7_clause_b55 (nf : Nat) (U : (Nat → Option Nat)) (T : xT) (N : xT) (Z : Nat) (S : Nat) (I : xI) (L : xL) (R : xR) (x0 : Nat) (x1 : Int32) : Option ((Nat ⊕ Unit) × xT × xT × Nat × Nat × xI × xR) :=
  tg T 7 x0 <|
  (fX6_next_rX7 nf T N I R x0).bind fun I1 =>
  nm (uT T Z 9) fun T4 =>
  nm (Z + 1) fun Z5 =>
  nm (S + 3) fun S6 =>
  fX7_clause_b62 nf U T4 N Z5 S6 I1 L R x0 x1 Z
def fX7_clause_b52 (nf : Nat) (U : (Nat → Option Nat)) (T : xT) (N : xT) (Z : Nat) (S : Nat) (I : xI) (L : xL) (R : xR) (x0 : Nat) (x1 : Int32) (z0 : Nat) (z1 : Int32) : Option ((Nat ⊕ Unit) × xT × xT × Nat × Nat × xI × xR) :=
  tg T 7 z0 <|
  b7 (fX6_begins_rX7 U T N Z S I R z0 z1) fun r1 T2 N3 Z4 S5 I6 R7 =>
  xc r1 (fun a10 =>
    tg T2 8 a10 <|
    some ((.inl a10), T2, N3, Z4, S5, I6, R7)
  ) fun v11 =>
    fX7_clause_b55 nf U T2 N3 Z4 S5 I6 L R7 x0 x1
def fX7_clause_b40 (nf : Nat) (U : (Nat → Option Nat)) (T : xT) (N : xT) (Z : Nat) (S : Nat) (I : xI) (L : xL) (R : xR) (x0 : Nat) (z0 : Int32) : Option ((Nat ⊕ Unit) × xT × xT × Nat × Nat × xI × xR) :=
  if z0 = (-1 : Int32) then
    fX7_clause_b52 nf U T N Z S I L R x0 z0 x0 (ii 0)
  else
    fX7_clause_b52 nf U T N Z S I L R x0 z0 x0 (ii 1)
def fX7_clause (nf : Nat) (U : (Nat → Option Nat)) (T : xT) (N : xT) (Z : Nat) (S : Nat) (I : xI) (L : xL) (R : xR) (x0 : Nat) : Option ((Nat ⊕ Unit) × xT × xT × Nat × Nat × xI × xR) :=
  (U 100).bind fun a1 =>
  tg T 7 x0 <|
  (fX6_is_rX7 nf U T N I R x0 a1).bind fun r2 =>
  if r2 = (ii 0) then
    (U 101).bind fun a6 =>
    (fX6_is_rX7 nf U T N I R x0 a6).bind fun r7 =>
    if r7 = (ii 0) then
      (U 102).bind fun a10 =>
      (fX6_is_rX7 nf U T N I R x0 a10).bind fun r11 =>
      if r11 = (ii 0) then
        fX7_clause_b40 nf U T N Z S I L R x0 (-1 : Int32)
      else
        fX7_clause_b40 nf U T N Z S I L R x0 (ii 2)
    else
      fX7_clause_b40 nf U T N Z S I L R x0 (ii 1)
  else
    fX7_clause_b40 nf U T N Z S I L R x0 (ii 0)
/- LostLanes$Reader.is(Ljava/lang/String;)Z -/
def fX6_is_rX20_b20 (nf : Nat) (U : (Nat → Option Nat)) (T : xT) (N : xT) (I : xI) (R : xR) : Nat → Nat → Nat → Int32 → Option (Int32)
  | 0, _, _, _ => none
  | k + 1, x0, x1, x2 =>
    tg T 20 x1 <|
    (fJ8_length T N I R x1).bind fun r1 =>
    if r1 ≤ x2 then
      some (ii 1)
    else
      tg T 18 x0 <|
      (R x0 0).bind fun a6 =>
      rA T N 101 a6 ((I x0 3) + x2) fun j7 =>
      (fJ8_charAt U T N I R x1 x2).bind fun r8 =>
      if (I a6 j7) = r8 then
        nm (x2 + (ii 1)) fun u11 =>
        fX6_is_rX20_b20 nf U T N I R k x0 x1 u11
      else
        some (ii 0)
def fX6_is_rX20 (nf : Nat) (U : (Nat → Option Nat)) (T : xT) (N : xT) (I : xI) (R : xR) (x0 : Nat) (x1 : Nat) : Option (Int32) :=
  tg T 18 x0 <|
  tg T 20 x1 <|
  (fJ8_length T N I R x1).bind fun r2 =>
  if ((I x0 4) - (I x0 3)) = r2 then
    fX6_is_rX20_b20 nf U T N I R nf x0 x1 (ii 0)
  else
    some (ii 0)
/- LostLanes$Reader.leaf()V -/
def fX6_leaf_rX20_b12 (U : (Nat → Option Nat)) (T : xT) (N : xT) (Z : Nat) (S : Nat) (I : xI) (R : xR) (x0 : Nat) (z0 : Nat) : Option ((Nat ⊕ Unit) × xT × xT × Nat × Nat × xI × xR) :=
  tg T 18 x0 <|
  b2 (fX8_init U T I R z0 (I x0 3)) fun I2 R3 =>
  tg T 8 z0 <|
  some ((.inl z0), T, N, Z, S, I2, R3)
def fX6_leaf_rX20 (U : (Nat → Option Nat)) (T : xT) (N : xT) (Z : Nat) (S : Nat) (I : xI) (R : xR) (x0 : Nat) : Option ((Nat ⊕ Unit) × xT × xT × Nat × Nat × xI × xR) :=
  tg T 18 x0 <|
  if (I x0 5) = (ii 50) then
    nm (uT T Z 8) fun T4 =>
    nm (Z + 1) fun Z5 =>
    nm (S + 7) fun S6 =>
    fX6_leaf_rX20_b12 U T4 N Z5 S6 I R x0 Z
  else
    nm (uI I x0 5 ((I x0 5) + (ii 1))) fun I3 =>
    some ((.inr ()), T, N, Z, S, I3, R)
/- LostLanes$Reader.isIn(III)Z -/
def fX6_isIn_rX20 (T : xT) (N : xT) (I : xI) (R : xR) (x0 : Nat) (x1 : Int32) (x2 : Int32) (x3 : Int32) : Option (Int32) :=
  tg T 18 x0 <|
  if (I x0 1) ≤ x1 then
    some (ii 0)
  else
    (R x0 0).bind fun a3 =>
    rA T N 101 a3 x1 fun j4 =>
    if (I a3 j4) < x2 then
      some (ii 0)
    else
      if x3 < (I a3 j4) then
        some (ii 0)
      else
        some (ii 1)
/- LostLanes$Reader.next()V -/
def fX6_next_rX20_b102 (nf : Nat) (T : xT) (N : xT) (R : xR) : Nat → xI → Nat → Option (xI)
  | 0, _, _ => none
  | k + 1, I, x0 =>
    tg T 18 x0 <|
    (fX6_isIn_rX20 T N I R x0 (I x0 4) (ii 48) (ii 57)).bind fun r2 =>
    if r2 = (ii 0) then
      some I
    else
      nm (uI I x0 4 ((I x0 4) + (ii 1))) fun I5 =>
      fX6_next_rX20_b102 nf T N R k I5 x0
def fX6_next_rX20_b59 (nf : Nat) (T : xT) (N : xT) (R : xR) : Nat → xI → Nat → Option (xI)
  | 0, _, _ => none
  | k + 1, I, x0 =>
    tg T 18 x0 <|
    (fX6_isIn_rX20 T N I R x0 (I x0 4) (ii 97) (ii 122)).bind fun r2 =>
    if r2 = (ii 0) then
      some I
    else
      nm (uI I x0 4 ((I x0 4) + (ii 1))) fun I5 =>
      fX6_next_rX20_b59 nf T N R k I5 x0
def fX6_next_rX20_b8 (nf : Nat) (T : xT) (N : xT) (R : xR) : Nat → xI → Nat → Option (xI)
  | 0, _, _ => none
  | k + 1, I, x0 =>
    tg T 18 x0 <|
    (fX6_isIn_rX20 T N I R x0 (I x0 3) (ii 32) (ii 32)).bind fun r2 =>
    if r2 = (ii 0) then
      nm (uI I x0 4 (I x0 3)) fun I5 =>
      (fX6_isIn_rX20 T N I5 R x0 (I5 x0 3) (ii 97) (ii 122)).bind fun r6 =>
      if r6 = (ii 0) then
        (fX6_isIn_rX20 T N I5 R x0 (I5 x0 3) (ii 48) (ii 57)).bind fun r9 =>
        if r9 = (ii 0) then
          if (I5 x0 1) ≤ (I5 x0 3) then
            some I5
          else
            nm (uI I5 x0 4 ((I5 x0 4) + (ii 1))) fun I13 =>
            some I13
        else
          fX6_next_rX20_b102 nf T N R nf I5 x0
      else
        fX6_next_rX20_b59 nf T N R nf I5 x0
    else
      nm (uI I x0 3 ((I x0 3) + (ii 1))) fun I14 =>
      fX6_next_rX20_b8 nf T N R k I14 x0
def fX6_next_rX20 (nf : Nat) (T : xT) (N : xT) (I : xI) (R : xR) (x0 : Nat) : Option (xI) :=
  tg T 18 x0 <|
  nm (uI I x0 3 (I x0 4)) fun I2 =>
  fX6_next_rX20_b8 nf T N R nf I2 x0
/- LostLanes$Reader.isValue(Ljava/lang/String;)Z -/
def fX6_isValue_rX20_b14 (nf : Nat) (U : (Nat → Option Nat)) (T : xT) (N : xT) (Z : Nat) (S : Nat) (I : xI) (R : xR) (x0 : Nat) : Option ((Nat ⊕ Int32) × xT × xT × Nat × Nat × xI × xR) :=
  tg T 18 x0 <|
  (fX6_next_rX20 nf T N I R x0).bind fun I1 =>
  some ((.inr (ii 1)), T, N, Z, S, I1, R)
def fX6_isValue_rX20 (nf : Nat) (U : (Nat → Option Nat)) (T : xT) (N : xT) (Z : Nat) (S : Nat) (I : xI) (R : xR) (x0 : Nat) (x1 : Nat) : Option ((Nat ⊕ Int32) × xT × xT × Nat × Nat × xI × xR) :=
  tg T 18 x0 <|
  (fX6_is_rX20 nf U T N I R x0 x1).bind fun r1 =>
  if r1 = (ii 0) then
    some ((.inr (ii 0)), T, N, Z, S, I, R)
  else
    b7 (fX6_leaf_rX20 U T N Z S I R x0) fun r5 T6 N7 Z8 S9 I10 R11 =>
    xc r5 (fun a13 =>
      tg T6 8 a13 <|
      some ((.inl a13), T6, N7, Z8, S9, I10, R11)
    ) fun v14 =>
      fX6_isValue_rX20_b14 nf U T6 N7 Z8 S9 I10 R11 x0
/- LostLanes$Reader.number(II)I -/
def fX6_number_rX20_b84 (nf : Nat) (U : (Nat → Option Nat)) (T : xT) (N : xT) (Z : Nat) (S : Nat) (I : xI) (R : xR) (x0 : Nat) (z0 : Nat) : Option ((Nat ⊕ Int32) × xT × xT × Nat × Nat × xI × xR) :=
  tg T 18 x0 <|
  b2 (fX8_init U T I R z0 (I x0 3)) fun I2 R3 =>
  tg T 8 z0 <|
  some ((.inl z0), T, N, Z, S, I2, R3)
def fX6_number_rX20_b81 (nf : Nat) (U : (Nat → Option Nat)) (T : xT) (N : xT) (Z : Nat) (S : Nat) (I : xI) (R : xR) (x0 : Nat) : Option ((Nat ⊕ Int32) × xT × xT × Nat × Nat × xI × xR) :=
  nm (uT T Z 8) fun T1 =>
  nm (Z + 1) fun Z2 =>
  nm (S + 7) fun S3 =>
  fX6_number_rX20_b84 nf U T1 N Z2 S3 I R x0 Z
def fX6_number_rX20_b71 (nf : Nat) (U : (Nat → Option Nat)) (T : xT) (N : xT) (Z : Nat) (S : Nat) (I : xI) (R : xR) (x0 : Nat) (x1 : Int32) (x2 : Int32) (x3 : Int32) : Option ((Nat ⊕ Int32) × xT × xT × Nat × Nat × xI × xR) :=
  if x3 < x1 then
    fX6_number_rX20_b81 nf U T N Z S I R x0
  else
    if x3 ≤ x2 then
      tg T 18 x0 <|
      (fX6_next_rX20 nf T N I R x0).bind fun I3 =>
      some ((.inr x3), T, N, Z, S, I3, R)
    else
      fX6_number_rX20_b81 nf U T N Z S I R x0
def fX6_number_rX20_b35 (nf : Nat) (U : (Nat → Option Nat)) : Nat → xT → xT → Nat → Nat → xI → xR → Nat → Int32 → Int32 → Int32 → Int32 → Option ((Nat ⊕ Int32) × xT × xT × Nat × Nat × xI × xR)
  | 0, _, _, _, _, _, _, _, _, _, _, _ => none
  | k + 1, T, N, Z, S, I, R, x0, x1, x2, x3, x4 =>
    tg T 18 x0 <|
    if (I x0 4) ≤ x4 then
      fX6_number_rX20_b71 nf U T N Z S I R x0 x1 x2 x3
    else
      if x2 < x3 then
        fX6_number_rX20_b71 nf U T N Z S I R x0 x1 x2 x3
      else
        (R x0 0).bind fun a4 =>
        rA T N 101 a4 x4 fun j5 =>
        nm ((((ii 10) * x3) + (I a4 j5)) - (ii 48)) fun u6 =>
        nm (x4 + (ii 1)) fun u7 =>
        fX6_number_rX20_b35 nf U k T N Z S I R x0 x1 x2 u6 u7
def fX6_number_rX20_b18 (nf : Nat) (U : (Nat → Option Nat)) (T : xT) (N : xT) (Z : Nat) (S : Nat) (I : xI) (R : xR) (x0 : Nat) (z0 : Nat) : Option ((Nat ⊕ Int32) × xT × xT × Nat × Nat × xI × xR) :=
  tg T 18 x0 <|
  b2 (fX8_init U T I R z0 (I x0 3)) fun I2 R3 =>
  tg T 8 z0 <|
  some ((.inl z0), T, N, Z, S, I2, R3)
def fX6_number_rX20 (nf : Nat) (U : (Nat → Option Nat)) (T : xT) (N : xT) (Z : Nat) (S : Nat) (I : xI) (R : xR) (x0 : Nat) (x1 : Int32) (x2 : Int32) : Option ((Nat ⊕ Int32) × xT × xT × Nat × Nat × xI × xR) :=
  tg T 18 x0 <|
  (fX6_isIn_rX20 T N I R x0 (I x0 3) (ii 48) (ii 57)).bind fun r2 =>
  if r2 = (ii 0) then
    nm (uT T Z 8) fun T6 =>
    nm (Z + 1) fun Z7 =>
    nm (S + 7) fun S8 =>
    fX6_number_rX20_b18 nf U T6 N Z7 S8 I R x0 Z
  else
    nm (I x0 3) fun u5 =>
    fX6_number_rX20_b35 nf U nf T N Z S I R x0 x1 x2 (ii 0) u5
/- LostLanes$OrderReader.value()I -/
def fX20_value_b91 (nf : Nat) (U : (Nat → Option Nat)) (T : xT) (N : xT) (Z : Nat) (S : Nat) (I : xI) (R : xR) (z0 : Int32) (z1 : Int32) : Option ((Nat ⊕ Int32) × xT × xT × Nat × Nat × xI × xR) :=
  some ((.inr (z0 + z1)), T, N, Z, S, I, R)
def fX20_value_b79 (nf : Nat) (U : (Nat → Option Nat)) (T : xT) (N : xT) (Z : Nat) (S : Nat) (I : xI) (R : xR) (x0 : Nat) (z0 : Int32) : Option ((Nat ⊕ Int32) × xT × xT × Nat × Nat × xI × xR) :=
  if z0 = (ii 0) then
    some ((.inr (-1 : Int32)), T, N, Z, S, I, R)
  else
    tg T 18 x0 <|
    b7 (fX6_number_rX20 nf U T N Z S I R x0 (ii 0) (ii 9)) fun r2 T3 N4 Z5 S6 I7 R8 =>
    xc r2 (fun a11 =>
      tg T3 8 a11 <|
      some ((.inl a11), T3, N4, Z5, S6, I7, R8)
    ) fun v12 =>
      fX20_value_b91 nf U T3 N4 Z5 S6 I7 R8 (ii 9) v12
def fX20_value_b71 (nf : Nat) (U : (Nat → Option Nat)) (T : xT) (N : xT) (Z : Nat) (S : Nat) (I : xI) (R : xR) (z0 : Int32) (z1 : Int32) : Option ((Nat ⊕ Int32) × xT × xT × Nat × Nat × xI × xR) :=
  some ((.inr (z0 + z1)), T, N, Z, S, I, R)
def fX20_value_b61 (nf : Nat) (U : (Nat → Option Nat)) (T : xT) (N : xT) (Z : Nat) (S : Nat) (I : xI) (R : xR) (x0 : Nat) (z0 : Int32) : Option ((Nat ⊕ Int32) × xT × xT × Nat × Nat × xI × xR) :=
  if z0 = (ii 0) then
    (U 120).bind fun a2 =>
    tg T 18 x0 <|
    b7 (fX6_isValue_rX20 nf U T N Z S I R x0 a2) fun r3 T4 N5 Z6 S7 I8 R9 =>
    xc r3 (fun a12 =>
      tg T4 8 a12 <|
      some ((.inl a12), T4, N5, Z6, S7, I8, R9)
    ) fun v13 =>
      fX20_value_b79 nf U T4 N5 Z6 S7 I8 R9 x0 v13
  else
    tg T 18 x0 <|
    b7 (fX6_number_rX20 nf U T N Z S I R x0 (ii 0) (ii 3)) fun r16 T17 N18 Z19 S20 I21 R22 =>
    xc r16 (fun a25 =>
      tg T17 8 a25 <|
      some ((.inl a25), T17, N18, Z19, S20, I21, R22)
    ) fun v26 =>
      fX20_value_b71 nf U T17 N18 Z19 S20 I21 R22 (ii 5) v26
def fX20_value_b50 (nf : Nat) (U : (Nat → Option Nat)) (T : xT) (N : xT) (Z : Nat) (S : Nat) (I : xI) (R : xR) (x0 : Nat) (z0 : Int32) : Option ((Nat ⊕ Int32) × xT × xT × Nat × Nat × xI × xR) :=
  if z0 = (ii 0) then
    (U 119).bind fun a2 =>
    tg T 18 x0 <|
    b7 (fX6_isValue_rX20 nf U T N Z S I R x0 a2) fun r3 T4 N5 Z6 S7 I8 R9 =>
    xc r3 (fun a12 =>
      tg T4 8 a12 <|
      some ((.inl a12), T4, N5, Z6, S7, I8, R9)
    ) fun v13 =>
      fX20_value_b61 nf U T4 N5 Z6 S7 I8 R9 x0 v13
  else
    some ((.inr (ii 4)), T, N, Z, S, I, R)
def fX20_value_b39 (nf : Nat) (U : (Nat → Option Nat)) (T : xT) (N : xT) (Z : Nat) (S : Nat) (I : xI) (R : xR) (x0 : Nat) (z0 : Int32) : Option ((Nat ⊕ Int32) × xT × xT × Nat × Nat × xI × xR) :=
  if z0 = (ii 0) then
    (U 118).bind fun a2 =>
    tg T 18 x0 <|
    b7 (fX6_isValue_rX20 nf U T N Z S I R x0 a2) fun r3 T4 N5 Z6 S7 I8 R9 =>
    xc r3 (fun a12 =>
      tg T4 8 a12 <|
      some ((.inl a12), T4, N5, Z6, S7, I8, R9)
    ) fun v13 =>
      fX20_value_b50 nf U T4 N5 Z6 S7 I8 R9 x0 v13
  else
    some ((.inr (ii 3)), T, N, Z, S, I, R)
def fX20_value_b28 (nf : Nat) (U : (Nat → Option Nat)) (T : xT) (N : xT) (Z : Nat) (S : Nat) (I : xI) (R : xR) (x0 : Nat) (z0 : Int32) : Option ((Nat ⊕ Int32) × xT × xT × Nat × Nat × xI × xR) :=
  if z0 = (ii 0) then
    (U 117).bind fun a2 =>
    tg T 18 x0 <|
    b7 (fX6_isValue_rX20 nf U T N Z S I R x0 a2) fun r3 T4 N5 Z6 S7 I8 R9 =>
    xc r3 (fun a12 =>
      tg T4 8 a12 <|
      some ((.inl a12), T4, N5, Z6, S7, I8, R9)
    ) fun v13 =>
      fX20_value_b39 nf U T4 N5 Z6 S7 I8 R9 x0 v13
  else
    some ((.inr (ii 2)), T, N, Z, S, I, R)
def fX20_value_b17 (nf : Nat) (U : (Nat → Option Nat)) (T : xT) (N : xT) (Z : Nat) (S : Nat) (I : xI) (R : xR) (x0 : Nat) (z0 : Int32) : Option ((Nat ⊕ Int32) × xT × xT × Nat × Nat × xI × xR) :=
  if z0 = (ii 0) then
    (U 116).bind fun a2 =>
    tg T 18 x0 <|
    b7 (fX6_isValue_rX20 nf U T N Z S I R x0 a2) fun r3 T4 N5 Z6 S7 I8 R9 =>
    xc r3 (fun a12 =>
      tg T4 8 a12 <|
      some ((.inl a12), T4, N5, Z6, S7, I8, R9)
    ) fun v13 =>
      fX20_value_b28 nf U T4 N5 Z6 S7 I8 R9 x0 v13
  else
    some ((.inr (ii 1)), T, N, Z, S, I, R)
def fX20_value_b6 (nf : Nat) (U : (Nat → Option Nat)) (T : xT) (N : xT) (Z : Nat) (S : Nat) (I : xI) (R : xR) (x0 : Nat) (z0 : Int32) : Option ((Nat ⊕ Int32) × xT × xT × Nat × Nat × xI × xR) :=
  if z0 = (ii 0) then
    (U 115).bind fun a2 =>
    tg T 18 x0 <|
    b7 (fX6_isValue_rX20 nf U T N Z S I R x0 a2) fun r3 T4 N5 Z6 S7 I8 R9 =>
    xc r3 (fun a12 =>
      tg T4 8 a12 <|
      some ((.inl a12), T4, N5, Z6, S7, I8, R9)
    ) fun v13 =>
      fX20_value_b17 nf U T4 N5 Z6 S7 I8 R9 x0 v13
  else
    some ((.inr (ii 0)), T, N, Z, S, I, R)
def fX20_value (nf : Nat) (U : (Nat → Option Nat)) (T : xT) (N : xT) (Z : Nat) (S : Nat) (I : xI) (R : xR) (x0 : Nat) : Option ((Nat ⊕ Int32) × xT × xT × Nat × Nat × xI × xR) :=
  (U 114).bind fun a1 =>
  tg T 18 x0 <|
  b7 (fX6_isValue_rX20 nf U T N Z S I R x0 a1) fun r2 T3 N4 Z5 S6 I7 R8 =>
  xc r2 (fun a11 =>
    tg T3 8 a11 <|
    some ((.inl a11), T3, N4, Z5, S6, I7, R8)
  ) fun v12 =>
    fX20_value_b6 nf U T3 N4 Z5 S6 I7 R8 x0 v12
/- LostLanes$Reader.begins(Z)V -/
def fX6_begins_rX20_b16 (U : (Nat → Option Nat)) (T : xT) (N : xT) (Z : Nat) (S : Nat) (I : xI) (R : xR) (x0 : Nat) (z0 : Nat) : Option ((Nat ⊕ Unit) × xT × xT × Nat × Nat × xI × xR) :=
  tg T 18 x0 <|
  b2 (fX8_init U T I R z0 (I x0 3)) fun I2 R3 =>
  tg T 8 z0 <|
  some ((.inl z0), T, N, Z, S, I2, R3)
def fX6_begins_rX20_b13 (U : (Nat → Option Nat)) (T : xT) (N : xT) (Z : Nat) (S : Nat) (I : xI) (R : xR) (x0 : Nat) : Option ((Nat ⊕ Unit) × xT × xT × Nat × Nat × xI × xR) :=
  nm (uT T Z 8) fun T1 =>
  nm (Z + 1) fun Z2 =>
  nm (S + 7) fun S3 =>
  fX6_begins_rX20_b16 U T1 N Z2 S3 I R x0 Z
def fX6_begins_rX20 (U : (Nat → Option Nat)) (T : xT) (N : xT) (Z : Nat) (S : Nat) (I : xI) (R : xR) (x0 : Nat) (x1 : Int32) : Option ((Nat ⊕ Unit) × xT × xT × Nat × Nat × xI × xR) :=
  tg T 18 x0 <|
  if (I x0 2) = (ii 12) then
    fX6_begins_rX20_b13 U T N Z S I R x0
  else
    if x1 = (ii 0) then
      fX6_begins_rX20_b13 U T N Z S I R x0
    else
      nm (uI I x0 2 ((I x0 2) + (ii 1))) fun I4 =>
      some ((.inr ()), T, N, Z, S, I4, R)
/- LostLanes$Reader.opens()V -/
def fX6_opens_rX20_b12 (nf : Nat) (U : (Nat → Option Nat)) (T : xT) (N : xT) (Z : Nat) (S : Nat) (I : xI) (R : xR) (x0 : Nat) (z0 : Nat) : Option ((Nat ⊕ Unit) × xT × xT × Nat × Nat × xI × xR) :=
  tg T 18 x0 <|
  b2 (fX8_init U T I R z0 (I x0 3)) fun I2 R3 =>
  tg T 8 z0 <|
  some ((.inl z0), T, N, Z, S, I2, R3)
def fX6_opens_rX20 (nf : Nat) (U : (Nat → Option Nat)) (T : xT) (N : xT) (Z : Nat) (S : Nat) (I : xI) (R : xR) (x0 : Nat) : Option ((Nat ⊕ Unit) × xT × xT × Nat × Nat × xI × xR) :=
  tg T 18 x0 <|
  if (I x0 6) = (ii 8) then
    nm (uT T Z 8) fun T6 =>
    nm (Z + 1) fun Z7 =>
    nm (S + 7) fun S8 =>
    fX6_opens_rX20_b12 nf U T6 N Z7 S8 I R x0 Z
  else
    nm (uI I x0 6 ((I x0 6) + (ii 1))) fun I3 =>
    (fX6_next_rX20 nf T N I3 R x0).bind fun I4 =>
    some ((.inr ()), T, N, Z, S, I4, R)
/- LostLanes$Reader.takes(Ljava/lang/String;)Z -/
def fX6_takes_rX20 (nf : Nat) (U : (Nat → Option Nat)) (T : xT) (N : xT) (I : xI) (R : xR) (x0 : Nat) (x1 : Nat) : Option (Int32 × xI) :=
  tg T 18 x0 <|
  (fX6_is_rX20 nf U T N I R x0 x1).bind fun r1 =>
  if r1 = (ii 0) then
    chk (zb r1) <|
    some (r1, I)
  else
    (fX6_next_rX20 nf T N I R x0).bind fun I6 =>
    chk (zb r1) <|
    some (r1, I6)
/- LostLanes$Reader.need(Ljava/lang/String;)V -/
def fX6_need_rX20_b11 (nf : Nat) (U : (Nat → Option Nat)) (T : xT) (N : xT) (Z : Nat) (S : Nat) (I : xI) (R : xR) (x0 : Nat) (z0 : Nat) : Option ((Nat ⊕ Unit) × xT × xT × Nat × Nat × xI × xR) :=
  tg T 18 x0 <|
  b2 (fX8_init U T I R z0 (I x0 3)) fun I2 R3 =>
  tg T 8 z0 <|
  some ((.inl z0), T, N, Z, S, I2, R3)
def fX6_need_rX20 (nf : Nat) (U : (Nat → Option Nat)) (T : xT) (N : xT) (Z : Nat) (S : Nat) (I : xI) (R : xR) (x0 : Nat) (x1 : Nat) : Option ((Nat ⊕ Unit) × xT × xT × Nat × Nat × xI × xR) :=
  tg T 18 x0 <|
  b2 (fX6_takes_rX20 nf U T N I R x0 x1) fun r1 I2 =>
  if r1 = (ii 0) then
    nm (uT T Z 8) fun T6 =>
    nm (Z + 1) fun Z7 =>
    nm (S + 7) fun S8 =>
    fX6_need_rX20_b11 nf U T6 N Z7 S8 I2 R x0 Z
  else
    some ((.inr ()), T, N, Z, S, I2, R)
/- LostLanes$Reader.part()LLostLanes$Sum; -/
def fX6_part_rX20_b96 (nf : Nat) (rc : (Nat → Option Nat) → xT → xT → Nat → Nat → xI → xL → xR → Nat → Option ((Nat ⊕ Nat) × xT × xT × Nat × Nat × xI × xR)) (U : (Nat → Option Nat)) (T : xT) (N : xT) (Z : Nat) (S : Nat) (I : xI) (L : xL) (R : xR) (x1 : Int32) (z0 : Nat) : Option ((Nat ⊕ Nat) × xT × xT × Nat × Nat × xI × xR) :=
  (fX12_init T I z0 x1).bind fun I1 =>
  some ((.inr z0), T, N, Z, S, I1, R)
def fX6_part_rX20_b84 (nf : Nat) (rc : (Nat → Option Nat) → xT → xT → Nat → Nat → xI → xL → xR → Nat → Option ((Nat ⊕ Nat) × xT × xT × Nat × Nat × xI × xR)) (U : (Nat → Option Nat)) (T : xT) (N : xT) (Z : Nat) (S : Nat) (I : xI) (L : xL) (R : xR) (x0 : Nat) (z0 : Nat) : Option ((Nat ⊕ Nat) × xT × xT × Nat × Nat × xI × xR) :=
  tg T 18 x0 <|
  b2 (fX8_init U T I R z0 (I x0 3)) fun I2 R3 =>
  tg T 8 z0 <|
  some ((.inl z0), T, N, Z, S, I2, R3)
def fX6_part_rX20_b75 (nf : Nat) (rc : (Nat → Option Nat) → xT → xT → Nat → Nat → xI → xL → xR → Nat → Option ((Nat ⊕ Nat) × xT × xT × Nat × Nat × xI × xR)) (U : (Nat → Option Nat)) (T : xT) (N : xT) (Z : Nat) (S : Nat) (I : xI) (L : xL) (R : xR) (x0 : Nat) (z0 : Int32) : Option ((Nat ⊕ Nat) × xT × xT × Nat × Nat × xI × xR) :=
  if z0 = (-1 : Int32) then
    nm (uT T Z 8) fun T5 =>
    nm (Z + 1) fun Z6 =>
    nm (S + 7) fun S7 =>
    fX6_part_rX20_b84 nf rc U T5 N Z6 S7 I L R x0 Z
  else
    nm (uT T Z 11) fun T2 =>
    nm (Z + 1) fun Z3 =>
    nm (S + 1) fun S4 =>
    fX6_part_rX20_b96 nf rc U T2 N Z3 S4 I L R z0 Z
def fX6_part_rX20_b67 (nf : Nat) (rc : (Nat → Option Nat) → xT → xT → Nat → Nat → xI → xL → xR → Nat → Option ((Nat ⊕ Nat) × xT × xT × Nat × Nat × xI × xR)) (U : (Nat → Option Nat)) (T : xT) (N : xT) (Z : Nat) (S : Nat) (I : xI) (L : xL) (R : xR) (z0 : Nat) (z1 : Nat) (z2 : Int32) : Option ((Nat ⊕ Nat) × xT × xT × Nat × Nat × xI × xR) :=
  (fX11_init T I z1 z2).bind fun I1 =>
  some ((.inr z0), T, N, Z, S, I1, R)
def fX6_part_rX20_b58 (nf : Nat) (rc : (Nat → Option Nat) → xT → xT → Nat → Nat → xI → xL → xR → Nat → Option ((Nat ⊕ Nat) × xT × xT × Nat × Nat × xI × xR)) (U : (Nat → Option Nat)) (T : xT) (N : xT) (Z : Nat) (S : Nat) (I : xI) (L : xL) (R : xR) (x0 : Nat) (z0 : Nat) : Option ((Nat ⊕ Nat) × xT × xT × Nat × Nat × xI × xR) :=
  tg T 18 x0 <|
  b7 (fX6_number_rX20 nf U T N Z S I R x0 (ii 0) (ii 1000)) fun r1 T2 N3 Z4 S5 I6 R7 =>
  xc r1 (fun a10 =>
    tg T2 8 a10 <|
    some ((.inl a10), T2, N3, Z4, S5, I6, R7)
  ) fun v11 =>
    fX6_part_rX20_b67 nf rc U T2 N3 Z4 S5 I6 L R7 z0 z0 v11
def fX6_part_rX20_b55 (nf : Nat) (rc : (Nat → Option Nat) → xT → xT → Nat → Nat → xI → xL → xR → Nat → Option ((Nat ⊕ Nat) × xT × xT × Nat × Nat × xI × xR)) (U : (Nat → Option Nat)) (T : xT) (N : xT) (Z : Nat) (S : Nat) (I : xI) (L : xL) (R : xR) (x0 : Nat) : Option ((Nat ⊕ Nat) × xT × xT × Nat × Nat × xI × xR) :=
  nm (uT T Z 10) fun T1 =>
  nm (Z + 1) fun Z2 =>
  nm (S + 1) fun S3 =>
  fX6_part_rX20_b58 nf rc U T1 N Z2 S3 I L R x0 Z
def fX6_part_rX20_b24 (nf : Nat) (rc : (Nat → Option Nat) → xT → xT → Nat → Nat → xI → xL → xR → Nat → Option ((Nat ⊕ Nat) × xT × xT × Nat × Nat × xI × xR)) (U : (Nat → Option Nat)) (T : xT) (N : xT) (Z : Nat) (S : Nat) (I : xI) (L : xL) (R : xR) (x0 : Nat) (x1 : Nat) : Option ((Nat ⊕ Nat) × xT × xT × Nat × Nat × xI × xR) :=
  tg T 18 x0 <|
  nm (uI I x0 6 ((I x0 6) - (ii 1))) fun I2 =>
  some ((.inr x1), T, N, Z, S, I2, R)
def fX6_part_rX20_b17 (nf : Nat) (rc : (Nat → Option Nat) → xT → xT → Nat → Nat → xI → xL → xR → Nat → Option ((Nat ⊕ Nat) × xT × xT × Nat × Nat × xI × xR)) (U : (Nat → Option Nat)) (T : xT) (N : xT) (Z : Nat) (S : Nat) (I : xI) (L : xL) (R : xR) (x0 : Nat) (z0 : Nat) : Option ((Nat ⊕ Nat) × xT × xT × Nat × Nat × xI × xR) :=
  (U 104).bind fun a1 =>
  tg T 18 x0 <|
  b7 (fX6_need_rX20 nf U T N Z S I R x0 a1) fun r2 T3 N4 Z5 S6 I7 R8 =>
  xc r2 (fun a11 =>
    tg T3 8 a11 <|
    some ((.inl a11), T3, N4, Z5, S6, I7, R8)
  ) fun v12 =>
    fX6_part_rX20_b24 nf rc U T3 N4 Z5 S6 I7 L R8 x0 z0
def fX6_part_rX20_b13 (nf : Nat) (rc : (Nat → Option Nat) → xT → xT → Nat → Nat → xI → xL → xR → Nat → Option ((Nat ⊕ Nat) × xT × xT × Nat × Nat × xI × xR)) (U : (Nat → Option Nat)) (T : xT) (N : xT) (Z : Nat) (S : Nat) (I : xI) (L : xL) (R : xR) (x0 : Nat) : Option ((Nat ⊕ Nat) × xT × xT × Nat × Nat × xI × xR) :=
  tg T 18 x0 <|
  b7 (rc U T N Z S I L R x0) fun r1 T2 N3 Z4 S5 I6 R7 =>
  xc r1 (fun a10 =>
    tg T2 8 a10 <|
    some ((.inl a10), T2, N3, Z4, S5, I6, R7)
  ) fun v11 =>
    fX6_part_rX20_b17 nf rc U T2 N3 Z4 S5 I6 L R7 x0 v11
def fX6_part_rX20 (nf : Nat) (rc : (Nat → Option Nat) → xT → xT → Nat → Nat → xI → xL → xR → Nat → Option ((Nat ⊕ Nat) × xT × xT × Nat × Nat × xI × xR)) (U : (Nat → Option Nat)) (T : xT) (N : xT) (Z : Nat) (S : Nat) (I : xI) (L : xL) (R : xR) (x0 : Nat) : Option ((Nat ⊕ Nat) × xT × xT × Nat × Nat × xI × xR) :=
  (U 103).bind fun a1 =>
  tg T 18 x0 <|
  (fX6_is_rX20 nf U T N I R x0 a1).bind fun r2 =>
  if r2 = (ii 0) then
    (fX6_isIn_rX20 T N I R x0 (I x0 3) (ii 48) (ii 57)).bind fun r6 =>
    if r6 = (ii 0) then
      b7 (fX20_value nf U T N Z S I R x0) fun r9 T10 N11 Z12 S13 I14 R15 =>
      xc r9 (fun a17 =>
        tg T10 8 a17 <|
        some ((.inl a17), T10, N11, Z12, S13, I14, R15)
      ) fun v18 =>
        fX6_part_rX20_b75 nf rc U T10 N11 Z12 S13 I14 L R15 x0 v18
    else
      b7 (fX6_leaf_rX20 U T N Z S I R x0) fun r21 T22 N23 Z24 S25 I26 R27 =>
      xc r21 (fun a29 =>
        tg T22 8 a29 <|
        some ((.inl a29), T22, N23, Z24, S25, I26, R27)
      ) fun v30 =>
        fX6_part_rX20_b55 nf rc U T22 N23 Z24 S25 I26 L R27 x0
  else
    b7 (fX6_opens_rX20 nf U T N Z S I R x0) fun r33 T34 N35 Z36 S37 I38 R39 =>
    xc r33 (fun a41 =>
      tg T34 8 a41 <|
      some ((.inl a41), T34, N35, Z36, S37, I38, R39)
    ) fun v42 =>
      fX6_part_rX20_b13 nf rc U T34 N35 Z36 S37 I38 L R39 x0
/- LostLanes$Reader.term()LLostLanes$Sum; -/
def fX6_term_rX20_b57 (nf : Nat) (rc : (Nat → Option Nat) → xT → xT → Nat → Nat → xI → xL → xR → Nat → Option ((Nat ⊕ Nat) × xT × xT × Nat × Nat × xI × xR)) (kk5 : xT → xT → Nat → Nat → xI → xR → Nat → Nat → Option ((Nat ⊕ Nat) × xT × xT × Nat × Nat × xI × xR)) (U : (Nat → Option Nat)) (T : xT) (N : xT) (Z : Nat) (S : Nat) (I : xI) (L : xL) (R : xR) (x0 : Nat) (z0 : Nat) (z1 : Nat) (z2 : Int32) (z3 : Nat) (z4 : Nat) : Option ((Nat ⊕ Nat) × xT × xT × Nat × Nat × xI × xR) :=
  b2 (fX13_init T I R z1 z2 z3 z4) fun I1 R2 =>
  kk5 T N Z S I1 R2 x0 z0
def fX6_term_rX20_b50 (nf : Nat) (rc : (Nat → Option Nat) → xT → xT → Nat → Nat → xI → xL → xR → Nat → Option ((Nat ⊕ Nat) × xT × xT × Nat × Nat × xI × xR)) (kk5 : xT → xT → Nat → Nat → xI → xR → Nat → Nat → Option ((Nat ⊕ Nat) × xT × xT × Nat × Nat × xI × xR)) (U : (Nat → Option Nat)) (T : xT) (N : xT) (Z : Nat) (S : Nat) (I : xI) (L : xL) (R : xR) (x0 : Nat) (x1 : Nat) (x2 : Int32) (z0 : Nat) : Option ((Nat ⊕ Nat) × xT × xT × Nat × Nat × xI × xR) :=
  tg T 18 x0 <|
  b7 (fX6_part_rX20 nf rc U T N Z S I L R x0) fun r1 T2 N3 Z4 S5 I6 R7 =>
  xc r1 (fun a10 =>
    tg T2 8 a10 <|
    some ((.inl a10), T2, N3, Z4, S5, I6, R7)
  ) fun v11 =>
    fX6_term_rX20_b57 nf rc kk5 U T2 N3 Z4 S5 I6 L R7 x0 z0 z0 x2 x1 v11
def fX6_term_rX20_b32 (nf : Nat) (rc : (Nat → Option Nat) → xT → xT → Nat → Nat → xI → xL → xR → Nat → Option ((Nat ⊕ Nat) × xT × xT × Nat × Nat × xI × xR)) (kk5 : xT → xT → Nat → Nat → xI → xR → Nat → Nat → Option ((Nat ⊕ Nat) × xT × xT × Nat × Nat × xI × xR)) (U : (Nat → Option Nat)) (T : xT) (N : xT) (Z : Nat) (S : Nat) (I : xI) (L : xL) (R : xR) (x0 : Nat) (x1 : Nat) : Option ((Nat ⊕ Nat) × xT × xT × Nat × Nat × xI × xR) :=
  tg T 18 x0 <|
  (R x0 0).bind fun a2 =>
  rA T N 101 a2 (I x0 3) fun j3 =>
  nm ((((I a2 j3)).toUInt32 % 65536).toInt32) fun u4 =>
  (fX6_next_rX20 nf T N I R x0).bind fun I5 =>
  nm (uT T Z 12) fun T7 =>
  nm (Z + 1) fun Z8 =>
  nm (S + 3) fun S9 =>
  fX6_term_rX20_b50 nf rc kk5 U T7 N Z8 S9 I5 L R x0 x1 u4 Z
def fX6_term_rX20_b5 (nf : Nat) (rc : (Nat → Option Nat) → xT → xT → Nat → Nat → xI → xL → xR → Nat → Option ((Nat ⊕ Nat) × xT × xT × Nat × Nat × xI × xR)) (U : (Nat → Option Nat)) (L : xL) : Nat → xT → xT → Nat → Nat → xI → xR → Nat → Nat → Option ((Nat ⊕ Nat) × xT × xT × Nat × Nat × xI × xR)
  | 0, _, _, _, _, _, _, _, _ => none
  | k + 1, T, N, Z, S, I, R, x0, x1 =>
    (U 121).bind fun a1 =>
    tg T 18 x0 <|
    (fX6_is_rX20 nf U T N I R x0 a1).bind fun r2 =>
    if r2 = (ii 0) then
      (U 122).bind fun a6 =>
      (fX6_is_rX20 nf U T N I R x0 a6).bind fun r7 =>
      if r7 = (ii 0) then
        (U 123).bind fun a10 =>
        (fX6_is_rX20 nf U T N I R x0 a10).bind fun r11 =>
        if r11 = (ii 0) then
          some ((.inr x1), T, N, Z, S, I, R)
        else
          fX6_term_rX20_b32 nf rc (fX6_term_rX20_b5 nf rc U L k) U T N Z S I L R x0 x1
      else
        fX6_term_rX20_b32 nf rc (fX6_term_rX20_b5 nf rc U L k) U T N Z S I L R x0 x1
    else
      fX6_term_rX20_b32 nf rc (fX6_term_rX20_b5 nf rc U L k) U T N Z S I L R x0 x1
def fX6_term_rX20_b4 (nf : Nat) (rc : (Nat → Option Nat) → xT → xT → Nat → Nat → xI → xL → xR → Nat → Option ((Nat ⊕ Nat) × xT × xT × Nat × Nat × xI × xR)) (U : (Nat → Option Nat)) (T : xT) (N : xT) (Z : Nat) (S : Nat) (I : xI) (L : xL) (R : xR) (x0 : Nat) (z0 : Nat) : Option ((Nat ⊕ Nat) × xT × xT × Nat × Nat × xI × xR) :=
  fX6_term_rX20_b5 nf rc U L nf T N Z S I R x0 z0
def fX6_term_rX20 (nf : Nat) (rc : (Nat → Option Nat) → xT → xT → Nat → Nat → xI → xL → xR → Nat → Option ((Nat ⊕ Nat) × xT × xT × Nat × Nat × xI × xR)) (U : (Nat → Option Nat)) (T : xT) (N : xT) (Z : Nat) (S : Nat) (I : xI) (L : xL) (R : xR) (x0 : Nat) : Option ((Nat ⊕ Nat) × xT × xT × Nat × Nat × xI × xR) :=
  tg T 18 x0 <|
  b7 (fX6_part_rX20 nf rc U T N Z S I L R x0) fun r1 T2 N3 Z4 S5 I6 R7 =>
  xc r1 (fun a10 =>
    tg T2 8 a10 <|
    some ((.inl a10), T2, N3, Z4, S5, I6, R7)
  ) fun v11 =>
    fX6_term_rX20_b4 nf rc U T2 N3 Z4 S5 I6 L R7 x0 v11
/- LostLanes$Reader.sum()LLostLanes$Sum; -/
def fX6_sum_rX20_b48 (nf : Nat) (rc : (Nat → Option Nat) → xT → xT → Nat → Nat → xI → xL → xR → Nat → Option ((Nat ⊕ Nat) × xT × xT × Nat × Nat × xI × xR)) (kk5 : xT → xT → Nat → Nat → xI → xR → Nat → Nat → Option ((Nat ⊕ Nat) × xT × xT × Nat × Nat × xI × xR)) (U : (Nat → Option Nat)) (T : xT) (N : xT) (Z : Nat) (S : Nat) (I : xI) (L : xL) (R : xR) (x0 : Nat) (z0 : Nat) (z1 : Nat) (z2 : Int32) (z3 : Nat) (z4 : Nat) : Option ((Nat ⊕ Nat) × xT × xT × Nat × Nat × xI × xR) :=
  b2 (fX13_init T I R z1 z2 z3 z4) fun I1 R2 =>
  kk5 T N Z S I1 R2 x0 z0
def fX6_sum_rX20_b41 (nf : Nat) (rc : (Nat → Option Nat) → xT → xT → Nat → Nat → xI → xL → xR → Nat → Option ((Nat ⊕ Nat) × xT × xT × Nat × Nat × xI × xR)) (kk5 : xT → xT → Nat → Nat → xI → xR → Nat → Nat → Option ((Nat ⊕ Nat) × xT × xT × Nat × Nat × xI × xR)) (U : (Nat → Option Nat)) (T : xT) (N : xT) (Z : Nat) (S : Nat) (I : xI) (L : xL) (R : xR) (x0 : Nat) (x1 : Nat) (x2 : Int32) (z0 : Nat) : Option ((Nat ⊕ Nat) × xT × xT × Nat × Nat × xI × xR) :=
  tg T 18 x0 <|
  b7 (fX6_term_rX20 nf rc U T N Z S I L R x0) fun r1 T2 N3 Z4 S5 I6 R7 =>
  xc r1 (fun a10 =>
    tg T2 8 a10 <|
    some ((.inl a10), T2, N3, Z4, S5, I6, R7)
  ) fun v11 =>
    fX6_sum_rX20_b48 nf rc kk5 U T2 N3 Z4 S5 I6 L R7 x0 z0 z0 x2 x1 v11
def fX6_sum_rX20_b23 (nf : Nat) (rc : (Nat → Option Nat) → xT → xT → Nat → Nat → xI → xL → xR → Nat → Option ((Nat ⊕ Nat) × xT × xT × Nat × Nat × xI × xR)) (kk5 : xT → xT → Nat → Nat → xI → xR → Nat → Nat → Option ((Nat ⊕ Nat) × xT × xT × Nat × Nat × xI × xR)) (U : (Nat → Option Nat)) (T : xT) (N : xT) (Z : Nat) (S : Nat) (I : xI) (L : xL) (R : xR) (x0 : Nat) (x1 : Nat) : Option ((Nat ⊕ Nat) × xT × xT × Nat × Nat × xI × xR) :=
  tg T 18 x0 <|
  (R x0 0).bind fun a2 =>
  rA T N 101 a2 (I x0 3) fun j3 =>
  nm ((((I a2 j3)).toUInt32 % 65536).toInt32) fun u4 =>
  (fX6_next_rX20 nf T N I R x0).bind fun I5 =>
  nm (uT T Z 12) fun T7 =>
  nm (Z + 1) fun Z8 =>
  nm (S + 3) fun S9 =>
  fX6_sum_rX20_b41 nf rc kk5 U T7 N Z8 S9 I5 L R x0 x1 u4 Z
def fX6_sum_rX20_b5 (nf : Nat) (rc : (Nat → Option Nat) → xT → xT → Nat → Nat → xI → xL → xR → Nat → Option ((Nat ⊕ Nat) × xT × xT × Nat × Nat × xI × xR)) (U : (Nat → Option Nat)) (L : xL) : Nat → xT → xT → Nat → Nat → xI → xR → Nat → Nat → Option ((Nat ⊕ Nat) × xT × xT × Nat × Nat × xI × xR)
  | 0, _, _, _, _, _, _, _, _ => none
  | k + 1, T, N, Z, S, I, R, x0, x1 =>
    (U 124).bind fun a1 =>
    tg T 18 x0 <|
    (fX6_is_rX20 nf U T N I R x0 a1).bind fun r2 =>
    if r2 = (ii 0) then
      (U 125).bind fun a6 =>
      (fX6_is_rX20 nf U T N I R x0 a6).bind fun r7 =>
      if r7 = (ii 0) then
        some ((.inr x1), T, N, Z, S, I, R)
      else
        fX6_sum_rX20_b23 nf rc (fX6_sum_rX20_b5 nf rc U L k) U T N Z S I L R x0 x1
    else
      fX6_sum_rX20_b23 nf rc (fX6_sum_rX20_b5 nf rc U L k) U T N Z S I L R x0 x1
def fX6_sum_rX20_b4 (nf : Nat) (rc : (Nat → Option Nat) → xT → xT → Nat → Nat → xI → xL → xR → Nat → Option ((Nat ⊕ Nat) × xT × xT × Nat × Nat × xI × xR)) (U : (Nat → Option Nat)) (T : xT) (N : xT) (Z : Nat) (S : Nat) (I : xI) (L : xL) (R : xR) (x0 : Nat) (z0 : Nat) : Option ((Nat ⊕ Nat) × xT × xT × Nat × Nat × xI × xR) :=
  fX6_sum_rX20_b5 nf rc U L nf T N Z S I R x0 z0
def fX6_sum_rX20_E (nf : Nat) (rc : (Nat → Option Nat) → xT → xT → Nat → Nat → xI → xL → xR → Nat → Option ((Nat ⊕ Nat) × xT × xT × Nat × Nat × xI × xR)) (U : (Nat → Option Nat)) (T : xT) (N : xT) (Z : Nat) (S : Nat) (I : xI) (L : xL) (R : xR) (x0 : Nat) : Option ((Nat ⊕ Nat) × xT × xT × Nat × Nat × xI × xR) :=
  tg T 18 x0 <|
  b7 (fX6_term_rX20 nf rc U T N Z S I L R x0) fun r1 T2 N3 Z4 S5 I6 R7 =>
  xc r1 (fun a10 =>
    tg T2 8 a10 <|
    some ((.inl a10), T2, N3, Z4, S5, I6, R7)
  ) fun v11 =>
    fX6_sum_rX20_b4 nf rc U T2 N3 Z4 S5 I6 L R7 x0 v11
def fX6_sum_rX20 (nf : Nat) : Nat → (Nat → Option Nat) → xT → xT → Nat → Nat → xI → xL → xR → Nat → Option ((Nat ⊕ Nat) × xT × xT × Nat × Nat × xI × xR)
  | 0, _, _, _, _, _, _, _, _, _ => none
  | d + 1, U, T, N, Z, S, I, L, R, x0 => fX6_sum_rX20_E nf (fX6_sum_rX20 nf d) U T N Z S I L R x0
/- LostLanes$Reader.positive()LLostLanes$Test; -/
def fX6_positive_rX20_b105 (nf : Nat) (rc : (Nat → Option Nat) → xT → xT → Nat → Nat → xI → xL → xR → Nat → Option ((Nat ⊕ Nat) × xT × xT × Nat × Nat × xI × xR)) (U : (Nat → Option Nat)) (T : xT) (N : xT) (Z : Nat) (S : Nat) (I : xI) (L : xL) (R : xR) (z0 : Nat) (z1 : Nat) (z2 : Int32) (z3 : Nat) (z4 : Nat) : Option ((Nat ⊕ Nat) × xT × xT × Nat × Nat × xI × xR) :=
  b2 (fX15_init T I R z1 z2 z3 z4) fun I1 R2 =>
  some ((.inr z0), T, N, Z, S, I1, R2)
def fX6_positive_rX20_b98 (nf : Nat) (rc : (Nat → Option Nat) → xT → xT → Nat → Nat → xI → xL → xR → Nat → Option ((Nat ⊕ Nat) × xT × xT × Nat × Nat × xI × xR)) (U : (Nat → Option Nat)) (T : xT) (N : xT) (Z : Nat) (S : Nat) (I : xI) (L : xL) (R : xR) (x0 : Nat) (x1 : Nat) (x2 : Int32) (z0 : Nat) : Option ((Nat ⊕ Nat) × xT × xT × Nat × Nat × xI × xR) :=
  tg T 18 x0 <|
  b7 (fX6_sum_rX20 nf 12 U T N Z S I L R x0) fun r1 T2 N3 Z4 S5 I6 R7 =>
  xc r1 (fun a10 =>
    tg T2 8 a10 <|
    some ((.inl a10), T2, N3, Z4, S5, I6, R7)
  ) fun v11 =>
    fX6_positive_rX20_b105 nf rc U T2 N3 Z4 S5 I6 L R7 z0 z0 x2 x1 v11
def fX6_positive_rX20_b80 (nf : Nat) (rc : (Nat → Option Nat) → xT → xT → Nat → Nat → xI → xL → xR → Nat → Option ((Nat ⊕ Nat) × xT × xT × Nat × Nat × xI × xR)) (U : (Nat → Option Nat)) (T : xT) (N : xT) (Z : Nat) (S : Nat) (I : xI) (L : xL) (R : xR) (x0 : Nat) (x1 : Nat) : Option ((Nat ⊕ Nat) × xT × xT × Nat × Nat × xI × xR) :=
  tg T 18 x0 <|
  (R x0 0).bind fun a2 =>
  rA T N 101 a2 (I x0 3) fun j3 =>
  nm ((((I a2 j3)).toUInt32 % 65536).toInt32) fun u4 =>
  (fX6_next_rX20 nf T N I R x0).bind fun I5 =>
  nm (uT T Z 13) fun T7 =>
  nm (Z + 1) fun Z8 =>
  nm (S + 3) fun S9 =>
  fX6_positive_rX20_b98 nf rc U T7 N Z8 S9 I5 L R x0 x1 u4 Z
def fX6_positive_rX20_b71 (nf : Nat) (rc : (Nat → Option Nat) → xT → xT → Nat → Nat → xI → xL → xR → Nat → Option ((Nat ⊕ Nat) × xT × xT × Nat × Nat × xI × xR)) (U : (Nat → Option Nat)) (T : xT) (N : xT) (Z : Nat) (S : Nat) (I : xI) (L : xL) (R : xR) (x0 : Nat) (z0 : Nat) : Option ((Nat ⊕ Nat) × xT × xT × Nat × Nat × xI × xR) :=
  tg T 18 x0 <|
  b2 (fX8_init U T I R z0 (I x0 3)) fun I2 R3 =>
  tg T 8 z0 <|
  some ((.inl z0), T, N, Z, S, I2, R3)
def fX6_positive_rX20_b40 (nf : Nat) (rc : (Nat → Option Nat) → xT → xT → Nat → Nat → xI → xL → xR → Nat → Option ((Nat ⊕ Nat) × xT × xT × Nat × Nat × xI × xR)) (U : (Nat → Option Nat)) (T : xT) (N : xT) (Z : Nat) (S : Nat) (I : xI) (L : xL) (R : xR) (x0 : Nat) (z0 : Nat) : Option ((Nat ⊕ Nat) × xT × xT × Nat × Nat × xI × xR) :=
  (U 130).bind fun a1 =>
  tg T 18 x0 <|
  (fX6_is_rX20 nf U T N I R x0 a1).bind fun r2 =>
  if r2 = (ii 0) then
    (U 131).bind fun a6 =>
    (fX6_is_rX20 nf U T N I R x0 a6).bind fun r7 =>
    if r7 = (ii 0) then
      (U 132).bind fun a10 =>
      (fX6_is_rX20 nf U T N I R x0 a10).bind fun r11 =>
      if r11 = (ii 0) then
        nm (uT T Z 8) fun T14 =>
        nm (Z + 1) fun Z15 =>
        nm (S + 7) fun S16 =>
        fX6_positive_rX20_b71 nf rc U T14 N Z15 S16 I L R x0 Z
      else
        fX6_positive_rX20_b80 nf rc U T N Z S I L R x0 z0
    else
      fX6_positive_rX20_b80 nf rc U T N Z S I L R x0 z0
  else
    fX6_positive_rX20_b80 nf rc U T N Z S I L R x0 z0
def fX6_positive_rX20_b24 (nf : Nat) (rc : (Nat → Option Nat) → xT → xT → Nat → Nat → xI → xL → xR → Nat → Option ((Nat ⊕ Nat) × xT × xT × Nat × Nat × xI × xR)) (U : (Nat → Option Nat)) (T : xT) (N : xT) (Z : Nat) (S : Nat) (I : xI) (L : xL) (R : xR) (x0 : Nat) (x1 : Nat) : Option ((Nat ⊕ Nat) × xT × xT × Nat × Nat × xI × xR) :=
  tg T 18 x0 <|
  nm (uI I x0 6 ((I x0 6) - (ii 1))) fun I2 =>
  some ((.inr x1), T, N, Z, S, I2, R)
def fX6_positive_rX20_b17 (nf : Nat) (rc : (Nat → Option Nat) → xT → xT → Nat → Nat → xI → xL → xR → Nat → Option ((Nat ⊕ Nat) × xT × xT × Nat × Nat × xI × xR)) (U : (Nat → Option Nat)) (T : xT) (N : xT) (Z : Nat) (S : Nat) (I : xI) (L : xL) (R : xR) (x0 : Nat) (z0 : Nat) : Option ((Nat ⊕ Nat) × xT × xT × Nat × Nat × xI × xR) :=
  (U 129).bind fun a1 =>
  tg T 18 x0 <|
  b7 (fX6_need_rX20 nf U T N Z S I R x0 a1) fun r2 T3 N4 Z5 S6 I7 R8 =>
  xc r2 (fun a11 =>
    tg T3 8 a11 <|
    some ((.inl a11), T3, N4, Z5, S6, I7, R8)
  ) fun v12 =>
    fX6_positive_rX20_b24 nf rc U T3 N4 Z5 S6 I7 L R8 x0 z0
def fX6_positive_rX20_b13 (nf : Nat) (rc : (Nat → Option Nat) → xT → xT → Nat → Nat → xI → xL → xR → Nat → Option ((Nat ⊕ Nat) × xT × xT × Nat × Nat × xI × xR)) (U : (Nat → Option Nat)) (T : xT) (N : xT) (Z : Nat) (S : Nat) (I : xI) (L : xL) (R : xR) (x0 : Nat) : Option ((Nat ⊕ Nat) × xT × xT × Nat × Nat × xI × xR) :=
  tg T 18 x0 <|
  b7 (rc U T N Z S I L R x0) fun r1 T2 N3 Z4 S5 I6 R7 =>
  xc r1 (fun a10 =>
    tg T2 8 a10 <|
    some ((.inl a10), T2, N3, Z4, S5, I6, R7)
  ) fun v11 =>
    fX6_positive_rX20_b17 nf rc U T2 N3 Z4 S5 I6 L R7 x0 v11
def fX6_positive_rX20 (nf : Nat) (rc : (Nat → Option Nat) → xT → xT → Nat → Nat → xI → xL → xR → Nat → Option ((Nat ⊕ Nat) × xT × xT × Nat × Nat × xI × xR)) (U : (Nat → Option Nat)) (T : xT) (N : xT) (Z : Nat) (S : Nat) (I : xI) (L : xL) (R : xR) (x0 : Nat) : Option ((Nat ⊕ Nat) × xT × xT × Nat × Nat × xI × xR) :=
  (U 128).bind fun a1 =>
  tg T 18 x0 <|
  (fX6_is_rX20 nf U T N I R x0 a1).bind fun r2 =>
  if r2 = (ii 0) then
    b7 (fX6_sum_rX20 nf 12 U T N Z S I L R x0) fun r6 T7 N8 Z9 S10 I11 R12 =>
    xc r6 (fun a14 =>
      tg T7 8 a14 <|
      some ((.inl a14), T7, N8, Z9, S10, I11, R12)
    ) fun v15 =>
      fX6_positive_rX20_b40 nf rc U T7 N8 Z9 S10 I11 L R12 x0 v15
  else
    b7 (fX6_opens_rX20 nf U T N Z S I R x0) fun r18 T19 N20 Z21 S22 I23 R24 =>
    xc r18 (fun a26 =>
      tg T19 8 a26 <|
      some ((.inl a26), T19, N20, Z21, S22, I23, R24)
    ) fun v27 =>
      fX6_positive_rX20_b13 nf rc U T19 N20 Z21 S22 I23 L R24 x0
/- LostLanes$Reader.plain()LLostLanes$Test; -/
def fX6_plain_rX20_b36 (nf : Nat) (rc : (Nat → Option Nat) → xT → xT → Nat → Nat → xI → xL → xR → Nat → Option ((Nat ⊕ Nat) × xT × xT × Nat × Nat × xI × xR)) (U : (Nat → Option Nat)) (T : xT) (N : xT) (Z : Nat) (S : Nat) (I : xI) (L : xL) (R : xR) (x2 : Nat) (z0 : Nat) : Option ((Nat ⊕ Nat) × xT × xT × Nat × Nat × xI × xR) :=
  (fX16_init T R z0 x2).bind fun R1 =>
  some ((.inr z0), T, N, Z, S, I, R1)
def fX6_plain_rX20_b28 (nf : Nat) (rc : (Nat → Option Nat) → xT → xT → Nat → Nat → xI → xL → xR → Nat → Option ((Nat ⊕ Nat) × xT × xT × Nat × Nat × xI × xR)) (U : (Nat → Option Nat)) (T : xT) (N : xT) (Z : Nat) (S : Nat) (I : xI) (L : xL) (R : xR) (x1 : Int32) (z0 : Nat) : Option ((Nat ⊕ Nat) × xT × xT × Nat × Nat × xI × xR) :=
  if x1 = (ii 0) then
    some ((.inr z0), T, N, Z, S, I, R)
  else
    nm (uT T Z 14) fun T2 =>
    nm (Z + 1) fun Z3 =>
    nm (S + 1) fun S4 =>
    fX6_plain_rX20_b36 nf rc U T2 N Z3 S4 I L R z0 Z
def fX6_plain_rX20_b2 (nf : Nat) (rc : (Nat → Option Nat) → xT → xT → Nat → Nat → xI → xL → xR → Nat → Option ((Nat ⊕ Nat) × xT × xT × Nat × Nat × xI × xR)) (U : (Nat → Option Nat)) (L : xL) : Nat → xT → xT → Nat → Nat → xI → xR → Nat → Int32 → Option ((Nat ⊕ Nat) × xT × xT × Nat × Nat × xI × xR)
  | 0, _, _, _, _, _, _, _, _ => none
  | k + 1, T, N, Z, S, I, R, x0, x1 =>
    (U 127).bind fun a1 =>
    tg T 18 x0 <|
    b2 (fX6_takes_rX20 nf U T N I R x0 a1) fun r2 I3 =>
    if r2 = (ii 0) then
      b7 (fX6_positive_rX20 nf rc U T N Z S I3 L R x0) fun r7 T8 N9 Z10 S11 I12 R13 =>
      xc r7 (fun a15 =>
        tg T8 8 a15 <|
        some ((.inl a15), T8, N9, Z10, S11, I12, R13)
      ) fun v16 =>
        fX6_plain_rX20_b28 nf rc U T8 N9 Z10 S11 I12 L R13 x1 v16
    else
      if x1 = (ii 0) then
        fX6_plain_rX20_b2 nf rc U L k T N Z S I3 R x0 (ii 1)
      else
        fX6_plain_rX20_b2 nf rc U L k T N Z S I3 R x0 (ii 0)
def fX6_plain_rX20 (nf : Nat) (rc : (Nat → Option Nat) → xT → xT → Nat → Nat → xI → xL → xR → Nat → Option ((Nat ⊕ Nat) × xT × xT × Nat × Nat × xI × xR)) (U : (Nat → Option Nat)) (T : xT) (N : xT) (Z : Nat) (S : Nat) (I : xI) (L : xL) (R : xR) (x0 : Nat) : Option ((Nat ⊕ Nat) × xT × xT × Nat × Nat × xI × xR) :=
  fX6_plain_rX20_b2 nf rc U L nf T N Z S I R x0 (ii 0)
/- LostLanes$Reader.both()LLostLanes$Test; -/
def fX6_both_rX20_b54 (nf : Nat) (rc : (Nat → Option Nat) → xT → xT → Nat → Nat → xI → xL → xR → Nat → Option ((Nat ⊕ Nat) × xT × xT × Nat × Nat × xI × xR)) (kk34 : xT → xT → Nat → Nat → xI → xR → Nat → Nat → Option ((Nat ⊕ Nat) × xT × xT × Nat × Nat × xI × xR)) (U : (Nat → Option Nat)) (T : xT) (N : xT) (Z : Nat) (S : Nat) (I : xI) (L : xL) (R : xR) (x0 : Nat) (x2 : Nat) (z0 : Int32) : Option ((Nat ⊕ Nat) × xT × xT × Nat × Nat × xI × xR) :=
  kk34 T N Z S I R x0 x2
def fX6_both_rX20_b51 (nf : Nat) (rc : (Nat → Option Nat) → xT → xT → Nat → Nat → xI → xL → xR → Nat → Option ((Nat ⊕ Nat) × xT × xT × Nat × Nat × xI × xR)) (kk34 : xT → xT → Nat → Nat → xI → xR → Nat → Nat → Option ((Nat ⊕ Nat) × xT × xT × Nat × Nat × xI × xR)) (U : (Nat → Option Nat)) (T : xT) (N : xT) (Z : Nat) (S : Nat) (I : xI) (L : xL) (R : xR) (x0 : Nat) (x2 : Nat) (z0 : Nat) (z1 : Nat) : Option ((Nat ⊕ Nat) × xT × xT × Nat × Nat × xI × xR) :=
  tg T 19 z0 <|
  b7 (fJ2_add T N Z S I R z0 z1) fun r1 T2 N3 Z4 S5 I6 R7 =>
  fX6_both_rX20_b54 nf rc kk34 U T2 N3 Z4 S5 I6 L R7 x0 x2 r1
def fX6_both_rX20_b34 (nf : Nat) (rc : (Nat → Option Nat) → xT → xT → Nat → Nat → xI → xL → xR → Nat → Option ((Nat ⊕ Nat) × xT × xT × Nat × Nat × xI × xR)) (U : (Nat → Option Nat)) (L : xL) : Nat → xT → xT → Nat → Nat → xI → xR → Nat → Nat → Option ((Nat ⊕ Nat) × xT × xT × Nat × Nat × xI × xR)
  | 0, _, _, _, _, _, _, _, _ => none
  | k + 1, T, N, Z, S, I, R, x0, x2 =>
    (U 133).bind fun a1 =>
    tg T 18 x0 <|
    b2 (fX6_takes_rX20 nf U T N I R x0 a1) fun r2 I3 =>
    if r2 = (ii 0) then
      some ((.inr x2), T, N, Z, S, I3, R)
    else
      tg T 15 x2 <|
      (R x2 1).bind fun a8 =>
      b7 (fX6_plain_rX20 nf rc U T N Z S I3 L R x0) fun r9 T10 N11 Z12 S13 I14 R15 =>
      xc r9 (fun a17 =>
        tg T10 8 a17 <|
        some ((.inl a17), T10, N11, Z12, S13, I14, R15)
      ) fun v18 =>
        fX6_both_rX20_b51 nf rc (fX6_both_rX20_b34 nf rc U L k) U T10 N11 Z12 S13 I14 L R15 x0 x2 a8 v18
def fX6_both_rX20_b33 (nf : Nat) (rc : (Nat → Option Nat) → xT → xT → Nat → Nat → xI → xL → xR → Nat → Option ((Nat ⊕ Nat) × xT × xT × Nat × Nat × xI × xR)) (U : (Nat → Option Nat)) (T : xT) (N : xT) (Z : Nat) (S : Nat) (I : xI) (L : xL) (R : xR) (x0 : Nat) (x2 : Nat) (z0 : Int32) : Option ((Nat ⊕ Nat) × xT × xT × Nat × Nat × xI × xR) :=
  fX6_both_rX20_b34 nf rc U L nf T N Z S I R x0 x2
def fX6_both_rX20_b24 (nf : Nat) (rc : (Nat → Option Nat) → xT → xT → Nat → Nat → xI → xL → xR → Nat → Option ((Nat ⊕ Nat) × xT × xT × Nat × Nat × xI × xR)) (U : (Nat → Option Nat)) (T : xT) (N : xT) (Z : Nat) (S : Nat) (I : xI) (L : xL) (R : xR) (x0 : Nat) (x1 : Nat) (z0 : Nat) : Option ((Nat ⊕ Nat) × xT × xT × Nat × Nat × xI × xR) :=
  tg T 15 z0 <|
  (R z0 1).bind fun a2 =>
  tg T 19 a2 <|
  b7 (fJ2_add T N Z S I R a2 x1) fun r3 T4 N5 Z6 S7 I8 R9 =>
  fX6_both_rX20_b33 nf rc U T4 N5 Z6 S7 I8 L R9 x0 z0 r3
def fX6_both_rX20_b19 (nf : Nat) (rc : (Nat → Option Nat) → xT → xT → Nat → Nat → xI → xL → xR → Nat → Option ((Nat ⊕ Nat) × xT × xT × Nat × Nat × xI × xR)) (U : (Nat → Option Nat)) (T : xT) (N : xT) (Z : Nat) (S : Nat) (I : xI) (L : xL) (R : xR) (x0 : Nat) (x1 : Nat) (z0 : Nat) : Option ((Nat ⊕ Nat) × xT × xT × Nat × Nat × xI × xR) :=
  b6 (fX17_init T N Z S I R z0 (ii 1)) fun T1 N2 Z3 S4 I5 R6 =>
  fX6_both_rX20_b24 nf rc U T1 N2 Z3 S4 I5 L R6 x0 x1 z0
def fX6_both_rX20_b4 (nf : Nat) (rc : (Nat → Option Nat) → xT → xT → Nat → Nat → xI → xL → xR → Nat → Option ((Nat ⊕ Nat) × xT × xT × Nat × Nat × xI × xR)) (U : (Nat → Option Nat)) (T : xT) (N : xT) (Z : Nat) (S : Nat) (I : xI) (L : xL) (R : xR) (x0 : Nat) (z0 : Nat) : Option ((Nat ⊕ Nat) × xT × xT × Nat × Nat × xI × xR) :=
  (U 133).bind fun a1 =>
  tg T 18 x0 <|
  (fX6_is_rX20 nf U T N I R x0 a1).bind fun r2 =>
  if r2 = (ii 0) then
    some ((.inr z0), T, N, Z, S, I, R)
  else
    nm (uT T Z 15) fun T6 =>
    nm (Z + 1) fun Z7 =>
    nm (S + 2) fun S8 =>
    fX6_both_rX20_b19 nf rc U T6 N Z7 S8 I L R x0 z0 Z
def fX6_both_rX20 (nf : Nat) (rc : (Nat → Option Nat) → xT → xT → Nat → Nat → xI → xL → xR → Nat → Option ((Nat ⊕ Nat) × xT × xT × Nat × Nat × xI × xR)) (U : (Nat → Option Nat)) (T : xT) (N : xT) (Z : Nat) (S : Nat) (I : xI) (L : xL) (R : xR) (x0 : Nat) : Option ((Nat ⊕ Nat) × xT × xT × Nat × Nat × xI × xR) :=
  tg T 18 x0 <|
  b7 (fX6_plain_rX20 nf rc U T N Z S I L R x0) fun r1 T2 N3 Z4 S5 I6 R7 =>
  xc r1 (fun a10 =>
    tg T2 8 a10 <|
    some ((.inl a10), T2, N3, Z4, S5, I6, R7)
  ) fun v11 =>
    fX6_both_rX20_b4 nf rc U T2 N3 Z4 S5 I6 L R7 x0 v11
/- LostLanes$Reader.test()LLostLanes$Test; -/
def fX6_test_rX20_b54 (nf : Nat) (rc : (Nat → Option Nat) → xT → xT → Nat → Nat → xI → xL → xR → Nat → Option ((Nat ⊕ Nat) × xT × xT × Nat × Nat × xI × xR)) (kk34 : xT → xT → Nat → Nat → xI → xR → Nat → Nat → Option ((Nat ⊕ Nat) × xT × xT × Nat × Nat × xI × xR)) (U : (Nat → Option Nat)) (T : xT) (N : xT) (Z : Nat) (S : Nat) (I : xI) (L : xL) (R : xR) (x0 : Nat) (x2 : Nat) (z0 : Int32) : Option ((Nat ⊕ Nat) × xT × xT × Nat × Nat × xI × xR) :=
  kk34 T N Z S I R x0 x2
def fX6_test_rX20_b51 (nf : Nat) (rc : (Nat → Option Nat) → xT → xT → Nat → Nat → xI → xL → xR → Nat → Option ((Nat ⊕ Nat) × xT × xT × Nat × Nat × xI × xR)) (kk34 : xT → xT → Nat → Nat → xI → xR → Nat → Nat → Option ((Nat ⊕ Nat) × xT × xT × Nat × Nat × xI × xR)) (U : (Nat → Option Nat)) (T : xT) (N : xT) (Z : Nat) (S : Nat) (I : xI) (L : xL) (R : xR) (x0 : Nat) (x2 : Nat) (z0 : Nat) (z1 : Nat) : Option ((Nat ⊕ Nat) × xT × xT × Nat × Nat × xI × xR) :=
  tg T 19 z0 <|
  b7 (fJ2_add T N Z S I R z0 z1) fun r1 T2 N3 Z4 S5 I6 R7 =>
  fX6_test_rX20_b54 nf rc kk34 U T2 N3 Z4 S5 I6 L R7 x0 x2 r1
def fX6_test_rX20_b34 (nf : Nat) (rc : (Nat → Option Nat) → xT → xT → Nat → Nat → xI → xL → xR → Nat → Option ((Nat ⊕ Nat) × xT × xT × Nat × Nat × xI × xR)) (U : (Nat → Option Nat)) (L : xL) : Nat → xT → xT → Nat → Nat → xI → xR → Nat → Nat → Option ((Nat ⊕ Nat) × xT × xT × Nat × Nat × xI × xR)
  | 0, _, _, _, _, _, _, _, _ => none
  | k + 1, T, N, Z, S, I, R, x0, x2 =>
    (U 134).bind fun a1 =>
    tg T 18 x0 <|
    b2 (fX6_takes_rX20 nf U T N I R x0 a1) fun r2 I3 =>
    if r2 = (ii 0) then
      some ((.inr x2), T, N, Z, S, I3, R)
    else
      tg T 15 x2 <|
      (R x2 1).bind fun a8 =>
      b7 (fX6_both_rX20 nf rc U T N Z S I3 L R x0) fun r9 T10 N11 Z12 S13 I14 R15 =>
      xc r9 (fun a17 =>
        tg T10 8 a17 <|
        some ((.inl a17), T10, N11, Z12, S13, I14, R15)
      ) fun v18 =>
        fX6_test_rX20_b51 nf rc (fX6_test_rX20_b34 nf rc U L k) U T10 N11 Z12 S13 I14 L R15 x0 x2 a8 v18
def fX6_test_rX20_b33 (nf : Nat) (rc : (Nat → Option Nat) → xT → xT → Nat → Nat → xI → xL → xR → Nat → Option ((Nat ⊕ Nat) × xT × xT × Nat × Nat × xI × xR)) (U : (Nat → Option Nat)) (T : xT) (N : xT) (Z : Nat) (S : Nat) (I : xI) (L : xL) (R : xR) (x0 : Nat) (x2 : Nat) (z0 : Int32) : Option ((Nat ⊕ Nat) × xT × xT × Nat × Nat × xI × xR) :=
  fX6_test_rX20_b34 nf rc U L nf T N Z S I R x0 x2
def fX6_test_rX20_b24 (nf : Nat) (rc : (Nat → Option Nat) → xT → xT → Nat → Nat → xI → xL → xR → Nat → Option ((Nat ⊕ Nat) × xT × xT × Nat × Nat × xI × xR)) (U : (Nat → Option Nat)) (T : xT) (N : xT) (Z : Nat) (S : Nat) (I : xI) (L : xL) (R : xR) (x0 : Nat) (x1 : Nat) (z0 : Nat) : Option ((Nat ⊕ Nat) × xT × xT × Nat × Nat × xI × xR) :=
  tg T 15 z0 <|
  (R z0 1).bind fun a2 =>
  tg T 19 a2 <|
  b7 (fJ2_add T N Z S I R a2 x1) fun r3 T4 N5 Z6 S7 I8 R9 =>
  fX6_test_rX20_b33 nf rc U T4 N5 Z6 S7 I8 L R9 x0 z0 r3
def fX6_test_rX20_b19 (nf : Nat) (rc : (Nat → Option Nat) → xT → xT → Nat → Nat → xI → xL → xR → Nat → Option ((Nat ⊕ Nat) × xT × xT × Nat × Nat × xI × xR)) (U : (Nat → Option Nat)) (T : xT) (N : xT) (Z : Nat) (S : Nat) (I : xI) (L : xL) (R : xR) (x0 : Nat) (x1 : Nat) (z0 : Nat) : Option ((Nat ⊕ Nat) × xT × xT × Nat × Nat × xI × xR) :=
  b6 (fX17_init T N Z S I R z0 (ii 0)) fun T1 N2 Z3 S4 I5 R6 =>
  fX6_test_rX20_b24 nf rc U T1 N2 Z3 S4 I5 L R6 x0 x1 z0
def fX6_test_rX20_b4 (nf : Nat) (rc : (Nat → Option Nat) → xT → xT → Nat → Nat → xI → xL → xR → Nat → Option ((Nat ⊕ Nat) × xT × xT × Nat × Nat × xI × xR)) (U : (Nat → Option Nat)) (T : xT) (N : xT) (Z : Nat) (S : Nat) (I : xI) (L : xL) (R : xR) (x0 : Nat) (z0 : Nat) : Option ((Nat ⊕ Nat) × xT × xT × Nat × Nat × xI × xR) :=
  (U 134).bind fun a1 =>
  tg T 18 x0 <|
  (fX6_is_rX20 nf U T N I R x0 a1).bind fun r2 =>
  if r2 = (ii 0) then
    some ((.inr z0), T, N, Z, S, I, R)
  else
    nm (uT T Z 15) fun T6 =>
    nm (Z + 1) fun Z7 =>
    nm (S + 2) fun S8 =>
    fX6_test_rX20_b19 nf rc U T6 N Z7 S8 I L R x0 z0 Z
def fX6_test_rX20_E (nf : Nat) (rc : (Nat → Option Nat) → xT → xT → Nat → Nat → xI → xL → xR → Nat → Option ((Nat ⊕ Nat) × xT × xT × Nat × Nat × xI × xR)) (U : (Nat → Option Nat)) (T : xT) (N : xT) (Z : Nat) (S : Nat) (I : xI) (L : xL) (R : xR) (x0 : Nat) : Option ((Nat ⊕ Nat) × xT × xT × Nat × Nat × xI × xR) :=
  tg T 18 x0 <|
  b7 (fX6_both_rX20 nf rc U T N Z S I L R x0) fun r1 T2 N3 Z4 S5 I6 R7 =>
  xc r1 (fun a10 =>
    tg T2 8 a10 <|
    some ((.inl a10), T2, N3, Z4, S5, I6, R7)
  ) fun v11 =>
    fX6_test_rX20_b4 nf rc U T2 N3 Z4 S5 I6 L R7 x0 v11
def fX6_test_rX20 (nf : Nat) : Nat → (Nat → Option Nat) → xT → xT → Nat → Nat → xI → xL → xR → Nat → Option ((Nat ⊕ Nat) × xT × xT × Nat × Nat × xI × xR)
  | 0, _, _, _, _, _, _, _, _, _ => none
  | d + 1, U, T, N, Z, S, I, L, R, x0 => fX6_test_rX20_E nf (fX6_test_rX20 nf d) U T N Z S I L R x0
/- LostLanes$OrderReader.clause()V -/
def fX20_clause_b158 (nf : Nat) (U : (Nat → Option Nat)) (T : xT) (N : xT) (Z : Nat) (S : Nat) (I : xI) (L : xL) (R : xR) (z0 : Int32) : Option ((Nat ⊕ Unit) × xT × xT × Nat × Nat × xI × xR) :=
  some ((.inr ()), T, N, Z, S, I, R)
def fX20_clause_b150 (nf : Nat) (U : (Nat → Option Nat)) (T : xT) (N : xT) (Z : Nat) (S : Nat) (I : xI) (L : xL) (R : xR) (x0 : Nat) (x2 : Nat) : Option ((Nat ⊕ Unit) × xT × xT × Nat × Nat × xI × xR) :=
  tg T 18 x0 <|
  (R x0 7).bind fun a2 =>
  tg T 19 a2 <|
  b7 (fJ2_add T N Z S I R a2 x2) fun r3 T4 N5 Z6 S7 I8 R9 =>
  fX20_clause_b158 nf U T4 N5 Z6 S7 I8 L R9 r3
def fX20_clause_b147 (nf : Nat) (U : (Nat → Option Nat)) (T : xT) (N : xT) (Z : Nat) (S : Nat) (I : xI) (L : xL) (R : xR) (x0 : Nat) (x2 : Nat) (z0 : Nat) (z1 : Nat) : Option ((Nat ⊕ Unit) × xT × xT × Nat × Nat × xI × xR) :=
  tg T 16 z0 <|
  nm (uR R z0 4 (some z1)) fun R2 =>
  fX20_clause_b150 nf U T N Z S I L R2 x0 x2
def fX20_clause_b133 (nf : Nat) (U : (Nat → Option Nat)) (T : xT) (N : xT) (Z : Nat) (S : Nat) (I : xI) (L : xL) (R : xR) (x0 : Nat) (x2 : Nat) : Option ((Nat ⊕ Unit) × xT × xT × Nat × Nat × xI × xR) :=
  (U 141).bind fun a1 =>
  tg T 18 x0 <|
  b2 (fX6_takes_rX20 nf U T N I R x0 a1) fun r2 I3 =>
  if r2 = (ii 0) then
    fX20_clause_b150 nf U T N Z S I3 L R x0 x2
  else
    b7 (fX6_test_rX20 nf 12 U T N Z S I3 L R x0) fun r7 T8 N9 Z10 S11 I12 R13 =>
    xc r7 (fun a15 =>
      tg T8 8 a15 <|
      some ((.inl a15), T8, N9, Z10, S11, I12, R13)
    ) fun v16 =>
      fX20_clause_b147 nf U T8 N9 Z10 S11 I12 L R13 x0 x2 x2 v16
def fX20_clause_b130 (nf : Nat) (U : (Nat → Option Nat)) (T : xT) (N : xT) (Z : Nat) (S : Nat) (I : xI) (L : xL) (R : xR) (x0 : Nat) (x2 : Nat) (z0 : Nat) (z1 : Int32) : Option ((Nat ⊕ Unit) × xT × xT × Nat × Nat × xI × xR) :=
  tg T 16 z0 <|
  nm (uI I z0 3 z1) fun I2 =>
  fX20_clause_b133 nf U T N Z S I2 L R x0 x2
def fX20_clause_b113 (nf : Nat) (U : (Nat → Option Nat)) (T : xT) (N : xT) (Z : Nat) (S : Nat) (I : xI) (L : xL) (R : xR) (x0 : Nat) (x2 : Nat) : Option ((Nat ⊕ Unit) × xT × xT × Nat × Nat × xI × xR) :=
  (U 140).bind fun a1 =>
  tg T 18 x0 <|
  b2 (fX6_takes_rX20 nf U T N I R x0 a1) fun r2 I3 =>
  if r2 = (ii 0) then
    fX20_clause_b133 nf U T N Z S I3 L R x0 x2
  else
    b7 (fX6_number_rX20 nf U T N Z S I3 R x0 (ii 1) (ii 20)) fun r7 T8 N9 Z10 S11 I12 R13 =>
    xc r7 (fun a15 =>
      tg T8 8 a15 <|
      some ((.inl a15), T8, N9, Z10, S11, I12, R13)
    ) fun v16 =>
      fX20_clause_b130 nf U T8 N9 Z10 S11 I12 L R13 x0 x2 x2 v16
def fX20_clause_b110 (nf : Nat) (U : (Nat → Option Nat)) (T : xT) (N : xT) (Z : Nat) (S : Nat) (I : xI) (L : xL) (R : xR) (x0 : Nat) (x2 : Nat) (z0 : Nat) (z1 : Nat) : Option ((Nat ⊕ Unit) × xT × xT × Nat × Nat × xI × xR) :=
  tg T 16 z0 <|
  nm (uR R z0 2 (some z1)) fun R2 =>
  fX20_clause_b113 nf U T N Z S I L R2 x0 x2
def fX20_clause_b105 (nf : Nat) (U : (Nat → Option Nat)) (T : xT) (N : xT) (Z : Nat) (S : Nat) (I : xI) (L : xL) (R : xR) (x0 : Nat) (x2 : Nat) : Option ((Nat ⊕ Unit) × xT × xT × Nat × Nat × xI × xR) :=
  tg T 18 x0 <|
  b7 (fX6_sum_rX20 nf 12 U T N Z S I L R x0) fun r1 T2 N3 Z4 S5 I6 R7 =>
  xc r1 (fun a10 =>
    tg T2 8 a10 <|
    some ((.inl a10), T2, N3, Z4, S5, I6, R7)
  ) fun v11 =>
    fX20_clause_b110 nf U T2 N3 Z4 S5 I6 L R7 x0 x2 x2 v11
def fX20_clause_b94 (nf : Nat) (U : (Nat → Option Nat)) (T : xT) (N : xT) (Z : Nat) (S : Nat) (I : xI) (L : xL) (R : xR) (x0 : Nat) (x1 : Int32) (x2 : Nat) : Option ((Nat ⊕ Unit) × xT × xT × Nat × Nat × xI × xR) :=
  if x1 = (ii 2) then
    (U 139).bind fun a2 =>
    tg T 18 x0 <|
    b7 (fX6_need_rX20 nf U T N Z S I R x0 a2) fun r3 T4 N5 Z6 S7 I8 R9 =>
    xc r3 (fun a12 =>
      tg T4 8 a12 <|
      some ((.inl a12), T4, N5, Z6, S7, I8, R9)
    ) fun v13 =>
      fX20_clause_b105 nf U T4 N5 Z6 S7 I8 L R9 x0 x2
  else
    fX20_clause_b113 nf U T N Z S I L R x0 x2
def fX20_clause_b91 (nf : Nat) (U : (Nat → Option Nat)) (T : xT) (N : xT) (Z : Nat) (S : Nat) (I : xI) (L : xL) (R : xR) (x0 : Nat) (x1 : Int32) (x2 : Nat) (z0 : Nat) (z1 : Nat) : Option ((Nat ⊕ Unit) × xT × xT × Nat × Nat × xI × xR) :=
  tg T 16 z0 <|
  nm (uR R z0 1 (some z1)) fun R2 =>
  fX20_clause_b94 nf U T N Z S I L R2 x0 x1 x2
def fX20_clause_b75 (nf : Nat) (U : (Nat → Option Nat)) (T : xT) (N : xT) (Z : Nat) (S : Nat) (I : xI) (L : xL) (R : xR) (x0 : Nat) (x1 : Int32) (z0 : Nat) : Option ((Nat ⊕ Unit) × xT × xT × Nat × Nat × xI × xR) :=
  (fX18_init T I z0 x1).bind fun I1 =>
  if x1 = (ii 3) then
    fX20_clause_b94 nf U T N Z S I1 L R x0 x1 z0
  else
    tg T 18 x0 <|
    b7 (fX6_sum_rX20 nf 12 U T N Z S I1 L R x0) fun r4 T5 N6 Z7 S8 I9 R10 =>
    xc r4 (fun a13 =>
      tg T5 8 a13 <|
      some ((.inl a13), T5, N6, Z7, S8, I9, R10)
    ) fun v14 =>
      fX20_clause_b91 nf U T5 N6 Z7 S8 I9 L R10 x0 x1 z0 z0 v14
def fX20_clause_b68 (nf : Nat) (U : (Nat → Option Nat)) (T : xT) (N : xT) (Z : Nat) (S : Nat) (I : xI) (L : xL) (R : xR) (x0 : Nat) (x1 : Int32) : Option ((Nat ⊕ Unit) × xT × xT × Nat × Nat × xI × xR) :=
  tg T 18 x0 <|
  (fX6_next_rX20 nf T N I R x0).bind fun I1 =>
  nm (uT T Z 16) fun T4 =>
  nm (Z + 1) fun Z5 =>
  nm (S + 5) fun S6 =>
  fX20_clause_b75 nf U T4 N Z5 S6 I1 L R x0 x1 Z
def fX20_clause_b65 (nf : Nat) (U : (Nat → Option Nat)) (T : xT) (N : xT) (Z : Nat) (S : Nat) (I : xI) (L : xL) (R : xR) (x0 : Nat) (x1 : Int32) (z0 : Nat) (z1 : Int32) : Option ((Nat ⊕ Unit) × xT × xT × Nat × Nat × xI × xR) :=
  tg T 18 z0 <|
  b7 (fX6_begins_rX20 U T N Z S I R z0 z1) fun r1 T2 N3 Z4 S5 I6 R7 =>
  xc r1 (fun a10 =>
    tg T2 8 a10 <|
    some ((.inl a10), T2, N3, Z4, S5, I6, R7)
  ) fun v11 =>
    fX20_clause_b68 nf U T2 N3 Z4 S5 I6 L R7 x0 x1
def fX20_clause_b53 (nf : Nat) (U : (Nat → Option Nat)) (T : xT) (N : xT) (Z : Nat) (S : Nat) (I : xI) (L : xL) (R : xR) (x0 : Nat) (z0 : Int32) : Option ((Nat ⊕ Unit) × xT × xT × Nat × Nat × xI × xR) :=
  if z0 = (-1 : Int32) then
    fX20_clause_b65 nf U T N Z S I L R x0 z0 x0 (ii 0)
  else
    fX20_clause_b65 nf U T N Z S I L R x0 z0 x0 (ii 1)
def fX20_clause (nf : Nat) (U : (Nat → Option Nat)) (T : xT) (N : xT) (Z : Nat) (S : Nat) (I : xI) (L : xL) (R : xR) (x0 : Nat) : Option ((Nat ⊕ Unit) × xT × xT × Nat × Nat × xI × xR) :=
  (U 135).bind fun a1 =>
  tg T 18 x0 <|
  (fX6_is_rX20 nf U T N I R x0 a1).bind fun r2 =>
  if r2 = (ii 0) then
    (U 136).bind fun a6 =>
    (fX6_is_rX20 nf U T N I R x0 a6).bind fun r7 =>
    if r7 = (ii 0) then
      (U 137).bind fun a10 =>
      (fX6_is_rX20 nf U T N I R x0 a10).bind fun r11 =>
      if r11 = (ii 0) then
        (U 138).bind fun a14 =>
        (fX6_is_rX20 nf U T N I R x0 a14).bind fun r15 =>
        if r15 = (ii 0) then
          fX20_clause_b53 nf U T N Z S I L R x0 (-1 : Int32)
        else
          fX20_clause_b53 nf U T N Z S I L R x0 (ii 3)
      else
        fX20_clause_b53 nf U T N Z S I L R x0 (ii 2)
    else
      fX20_clause_b53 nf U T N Z S I L R x0 (ii 1)
  else
    fX20_clause_b53 nf U T N Z S I L R x0 (ii 0)
/- LostLanes$Reader.<init>([BI)V -/
def fX6_init_rX20 (T : xT) (I : xI) (R : xR) (x0 : Nat) (x1 : Nat) (x2 : Int32) : Option (xI × xR) :=
  tg T 18 x0 <|
  nm (uR R x0 0 (some x1)) fun R2 =>
  nm (uI I x0 1 x2) fun I3 =>
  some (I3, R2)
/- LostLanes$OrderReader.<init>([BI)V -/
def fX20_init_b15 (T : xT) (N : xT) (Z : Nat) (S : Nat) (I : xI) (R : xR) (z0 : Nat) (z1 : Nat) : Option (xT × xT × Nat × Nat × xI × xR) :=
  tg T 18 z0 <|
  nm (uR R z0 7 (some z1)) fun R2 =>
  some (T, N, Z, S, I, R2)
def fX20_init_b10 (T : xT) (N : xT) (Z : Nat) (S : Nat) (I : xI) (R : xR) (z0 : Nat) (z1 : Nat) : Option (xT × xT × Nat × Nat × xI × xR) :=
  b6 (fJ2_init T N Z S I R z1 (ii 2)) fun T1 N2 Z3 S4 I5 R6 =>
  fX20_init_b15 T1 N2 Z3 S4 I5 R6 z0 z1
def fX20_init (T : xT) (N : xT) (Z : Nat) (S : Nat) (I : xI) (R : xR) (x0 : Nat) (x1 : Nat) (x2 : Int32) : Option (xT × xT × Nat × Nat × xI × xR) :=
  b2 (fX6_init_rX20 T I R x0 x1 x2) fun I1 R2 =>
  nm (uT T Z 19) fun T4 =>
  nm (Z + 1) fun Z5 =>
  nm (S + 3) fun S6 =>
  fX20_init_b10 T4 N Z5 S6 I1 R2 x0 Z
theorem hsX6_init_rX7 : yX6_init.cls ≠ "java/lang/invoke/MethodHandle" ∧ yX6_init.cls ≠ "java/lang/invoke/VarHandle" ∧ (parseMethodDescriptor yX6_init.desc).map (fun d => d.parameters.length) = some 2 := by decide +kernel
theorem hsX7_init : yX7_init.cls ≠ "java/lang/invoke/MethodHandle" ∧ yX7_init.cls ≠ "java/lang/invoke/VarHandle" ∧ (parseMethodDescriptor yX7_init.desc).map (fun d => d.parameters.length) = some 2 := by decide +kernel
theorem hsJ8_coder : yJ8_coder.cls ≠ "java/lang/invoke/MethodHandle" ∧ yJ8_coder.cls ≠ "java/lang/invoke/VarHandle" ∧ (parseMethodDescriptor yJ8_coder.desc).map (fun d => d.parameters.length) = some 0 := by decide +kernel
theorem hsJ8_length : yJ8_length.cls ≠ "java/lang/invoke/MethodHandle" ∧ yJ8_length.cls ≠ "java/lang/invoke/VarHandle" ∧ (parseMethodDescriptor yJ8_length.desc).map (fun d => d.parameters.length) = some 0 := by decide +kernel
theorem hsJ8_isLatin1 : yJ8_isLatin1.cls ≠ "java/lang/invoke/MethodHandle" ∧ yJ8_isLatin1.cls ≠ "java/lang/invoke/VarHandle" ∧ (parseMethodDescriptor yJ8_isLatin1.desc).map (fun d => d.parameters.length) = some 0 := by decide +kernel
theorem hsJ6_checkIndex : yJ6_checkIndex.cls ≠ "java/lang/invoke/MethodHandle" ∧ yJ6_checkIndex.cls ≠ "java/lang/invoke/VarHandle" ∧ (parseMethodDescriptor yJ6_checkIndex.desc).map (fun d => d.parameters.length) = some 3 := by decide +kernel
theorem hsJ8_checkIndex : yJ8_checkIndex.cls ≠ "java/lang/invoke/MethodHandle" ∧ yJ8_checkIndex.cls ≠ "java/lang/invoke/VarHandle" ∧ (parseMethodDescriptor yJ8_checkIndex.desc).map (fun d => d.parameters.length) = some 2 := by decide +kernel
theorem hsJ9_charAt : yJ9_charAt.cls ≠ "java/lang/invoke/MethodHandle" ∧ yJ9_charAt.cls ≠ "java/lang/invoke/VarHandle" ∧ (parseMethodDescriptor yJ9_charAt.desc).map (fun d => d.parameters.length) = some 2 := by decide +kernel
theorem hsJ10_length : yJ10_length.cls ≠ "java/lang/invoke/MethodHandle" ∧ yJ10_length.cls ≠ "java/lang/invoke/VarHandle" ∧ (parseMethodDescriptor yJ10_length.desc).map (fun d => d.parameters.length) = some 1 := by decide +kernel
theorem hsJ10_checkIndex : yJ10_checkIndex.cls ≠ "java/lang/invoke/MethodHandle" ∧ yJ10_checkIndex.cls ≠ "java/lang/invoke/VarHandle" ∧ (parseMethodDescriptor yJ10_checkIndex.desc).map (fun d => d.parameters.length) = some 2 := by decide +kernel
theorem hsJ10_getChar : yJ10_getChar.cls ≠ "java/lang/invoke/MethodHandle" ∧ yJ10_getChar.cls ≠ "java/lang/invoke/VarHandle" ∧ (parseMethodDescriptor yJ10_getChar.desc).map (fun d => d.parameters.length) = some 2 := by decide +kernel
theorem hsJ10_charAt : yJ10_charAt.cls ≠ "java/lang/invoke/MethodHandle" ∧ yJ10_charAt.cls ≠ "java/lang/invoke/VarHandle" ∧ (parseMethodDescriptor yJ10_charAt.desc).map (fun d => d.parameters.length) = some 2 := by decide +kernel
theorem hsJ8_charAt : yJ8_charAt.cls ≠ "java/lang/invoke/MethodHandle" ∧ yJ8_charAt.cls ≠ "java/lang/invoke/VarHandle" ∧ (parseMethodDescriptor yJ8_charAt.desc).map (fun d => d.parameters.length) = some 1 := by decide +kernel
theorem hsX6_is_rX7 : yX6_is.cls ≠ "java/lang/invoke/MethodHandle" ∧ yX6_is.cls ≠ "java/lang/invoke/VarHandle" ∧ (parseMethodDescriptor yX6_is.desc).map (fun d => d.parameters.length) = some 1 := by decide +kernel
theorem hsJ3_init_2_rX8_n12 : yJ3_init_2.cls ≠ "java/lang/invoke/MethodHandle" ∧ yJ3_init_2.cls ≠ "java/lang/invoke/VarHandle" ∧ (parseMethodDescriptor yJ3_init_2.desc).map (fun d => d.parameters.length) = some 4 := by decide +kernel
theorem hsJ4_init_rX8_n12 : yJ4_init.cls ≠ "java/lang/invoke/MethodHandle" ∧ yJ4_init.cls ≠ "java/lang/invoke/VarHandle" ∧ (parseMethodDescriptor yJ4_init.desc).map (fun d => d.parameters.length) = some 4 := by decide +kernel
theorem hsX8_init : yX8_init.cls ≠ "java/lang/invoke/MethodHandle" ∧ yX8_init.cls ≠ "java/lang/invoke/VarHandle" ∧ (parseMethodDescriptor yX8_init.desc).map (fun d => d.parameters.length) = some 1 := by decide +kernel
theorem hsX6_begins_rX7 : yX6_begins.cls ≠ "java/lang/invoke/MethodHandle" ∧ yX6_begins.cls ≠ "java/lang/invoke/VarHandle" ∧ (parseMethodDescriptor yX6_begins.desc).map (fun d => d.parameters.length) = some 1 := by decide +kernel
theorem hsX6_isIn_rX7 : yX6_isIn.cls ≠ "java/lang/invoke/MethodHandle" ∧ yX6_isIn.cls ≠ "java/lang/invoke/VarHandle" ∧ (parseMethodDescriptor yX6_isIn.desc).map (fun d => d.parameters.length) = some 3 := by decide +kernel
theorem hsX6_next_rX7 : yX6_next.cls ≠ "java/lang/invoke/MethodHandle" ∧ yX6_next.cls ≠ "java/lang/invoke/VarHandle" ∧ (parseMethodDescriptor yX6_next.desc).map (fun d => d.parameters.length) = some 0 := by decide +kernel
theorem hsX6_opens_rX7 : yX6_opens.cls ≠ "java/lang/invoke/MethodHandle" ∧ yX6_opens.cls ≠ "java/lang/invoke/VarHandle" ∧ (parseMethodDescriptor yX6_opens.desc).map (fun d => d.parameters.length) = some 0 := by decide +kernel
theorem hsX6_takes_rX7 : yX6_takes.cls ≠ "java/lang/invoke/MethodHandle" ∧ yX6_takes.cls ≠ "java/lang/invoke/VarHandle" ∧ (parseMethodDescriptor yX6_takes.desc).map (fun d => d.parameters.length) = some 1 := by decide +kernel
theorem hsX6_need_rX7 : yX6_need.cls ≠ "java/lang/invoke/MethodHandle" ∧ yX6_need.cls ≠ "java/lang/invoke/VarHandle" ∧ (parseMethodDescriptor yX6_need.desc).map (fun d => d.parameters.length) = some 1 := by decide +kernel
theorem hsX6_leaf_rX7 : yX6_leaf.cls ≠ "java/lang/invoke/MethodHandle" ∧ yX6_leaf.cls ≠ "java/lang/invoke/VarHandle" ∧ (parseMethodDescriptor yX6_leaf.desc).map (fun d => d.parameters.length) = some 0 := by decide +kernel
theorem hsX6_number_rX7 : yX6_number.cls ≠ "java/lang/invoke/MethodHandle" ∧ yX6_number.cls ≠ "java/lang/invoke/VarHandle" ∧ (parseMethodDescriptor yX6_number.desc).map (fun d => d.parameters.length) = some 2 := by decide +kernel
theorem hsX6_isValue_rX7 : yX6_isValue.cls ≠ "java/lang/invoke/MethodHandle" ∧ yX6_isValue.cls ≠ "java/lang/invoke/VarHandle" ∧ (parseMethodDescriptor yX6_isValue.desc).map (fun d => d.parameters.length) = some 1 := by decide +kernel
theorem hsX7_value : yX7_value.cls ≠ "java/lang/invoke/MethodHandle" ∧ yX7_value.cls ≠ "java/lang/invoke/VarHandle" ∧ (parseMethodDescriptor yX7_value.desc).map (fun d => d.parameters.length) = some 0 := by decide +kernel
theorem hsX6_part_rX7 : yX6_part.cls ≠ "java/lang/invoke/MethodHandle" ∧ yX6_part.cls ≠ "java/lang/invoke/VarHandle" ∧ (parseMethodDescriptor yX6_part.desc).map (fun d => d.parameters.length) = some 0 := by decide +kernel
theorem hu_X6_value : "LostLanes$Reader" ≠ "java/lang/invoke/MethodHandle" ∧ "LostLanes$Reader" ≠ "java/lang/invoke/VarHandle" ∧ (parseMethodDescriptor "()I").map (fun d => d.parameters.length) = some 0 := by decide +kernel
theorem hsX6_term_rX7 : yX6_term.cls ≠ "java/lang/invoke/MethodHandle" ∧ yX6_term.cls ≠ "java/lang/invoke/VarHandle" ∧ (parseMethodDescriptor yX6_term.desc).map (fun d => d.parameters.length) = some 0 := by decide +kernel
theorem hsX6_sum_rX7 : yX6_sum.cls ≠ "java/lang/invoke/MethodHandle" ∧ yX6_sum.cls ≠ "java/lang/invoke/VarHandle" ∧ (parseMethodDescriptor yX6_sum.desc).map (fun d => d.parameters.length) = some 0 := by decide +kernel
def Mon_X6_sum_rX7 (f : (Nat → Option Nat) → xT → xT → Nat → Nat → xI → xL → xR → Nat → Option ((Nat ⊕ Nat) × xT × xT × Nat × Nat × xI × xR)) : Prop := ∀ {dA : Nat → ClassId} {T : xT} {N : xT} {Z : Nat} {S : Nat} {I : xI} {L : xL} {R : xR} {x0 : Nat} {ro : (Nat ⊕ Nat)} {To : xT} {No : xT} {Zo : Nat} {So : Nat} {Io : xI} {Ro : xR}, f (sv dA) T N Z S I L R x0 = some (ro, To, No, Zo, So, Io, Ro) → Z ≤ Zo ∧ S ≤ So
def Con_X6_sum_rX7 (l : Launch) (D : va_G) (dA : Nat → ClassId) (s0 fr lo : Nat) (f : (Nat → Option Nat) → xT → xT → Nat → Nat → xI → xL → xR → Nat → Option ((Nat ⊕ Nat) × xT × xT × Nat × Nat × xI × xR)) : Prop := ∀ {kc ks : Nat} {T : xT} {N : xT} {Z : Nat} {S : Nat} {I : xI} {L : xL} {R : xR} {x0 : Nat} {ro : (Nat ⊕ Nat)} {To : xT} {No : xT} {Zo : Nat} {So : Nat} {Io : xI} {Ro : xR}, Zo - Z ≤ kc → So - S ≤ ks → f (sv dA) T N Z S I L R x0 = some (ro, To, No, Zo, So, Io, Ro) → YMet l D dA s0 yX6_sum (ws_ yX6_sum cX6_sum 3 ((some (.object "LostLanes$Sum")))) fr lo [.ref x0] T N Z I L R (rA_ ro) To No Zo Io L Ro kc ks
theorem hsX6_positive_rX7 : yX6_positive.cls ≠ "java/lang/invoke/MethodHandle" ∧ yX6_positive.cls ≠ "java/lang/invoke/VarHandle" ∧ (parseMethodDescriptor yX6_positive.desc).map (fun d => d.parameters.length) = some 0 := by decide +kernel
theorem hsX6_plain_rX7 : yX6_plain.cls ≠ "java/lang/invoke/MethodHandle" ∧ yX6_plain.cls ≠ "java/lang/invoke/VarHandle" ∧ (parseMethodDescriptor yX6_plain.desc).map (fun d => d.parameters.length) = some 0 := by decide +kernel
theorem hsJ2_grow_2 : yJ2_grow_2.cls ≠ "java/lang/invoke/MethodHandle" ∧ yJ2_grow_2.cls ≠ "java/lang/invoke/VarHandle" ∧ (parseMethodDescriptor yJ2_grow_2.desc).map (fun d => d.parameters.length) = some 0 := by decide +kernel
theorem hsJ2_add_2 : yJ2_add_2.cls ≠ "java/lang/invoke/MethodHandle" ∧ yJ2_add_2.cls ≠ "java/lang/invoke/VarHandle" ∧ (parseMethodDescriptor yJ2_add_2.desc).map (fun d => d.parameters.length) = some 3 := by decide +kernel
theorem hsJ2_add : yJ2_add.cls ≠ "java/lang/invoke/MethodHandle" ∧ yJ2_add.cls ≠ "java/lang/invoke/VarHandle" ∧ (parseMethodDescriptor yJ2_add.desc).map (fun d => d.parameters.length) = some 1 := by decide +kernel
theorem hsX6_both_rX7 : yX6_both.cls ≠ "java/lang/invoke/MethodHandle" ∧ yX6_both.cls ≠ "java/lang/invoke/VarHandle" ∧ (parseMethodDescriptor yX6_both.desc).map (fun d => d.parameters.length) = some 0 := by decide +kernel
theorem hsX6_test_rX7 : yX6_test.cls ≠ "java/lang/invoke/MethodHandle" ∧ yX6_test.cls ≠ "java/lang/invoke/VarHandle" ∧ (parseMethodDescriptor yX6_test.desc).map (fun d => d.parameters.length) = some 0 := by decide +kernel
def Mon_X6_test_rX7 (f : (Nat → Option Nat) → xT → xT → Nat → Nat → xI → xL → xR → Nat → Option ((Nat ⊕ Nat) × xT × xT × Nat × Nat × xI × xR)) : Prop := ∀ {dA : Nat → ClassId} {T : xT} {N : xT} {Z : Nat} {S : Nat} {I : xI} {L : xL} {R : xR} {x0 : Nat} {ro : (Nat ⊕ Nat)} {To : xT} {No : xT} {Zo : Nat} {So : Nat} {Io : xI} {Ro : xR}, f (sv dA) T N Z S I L R x0 = some (ro, To, No, Zo, So, Io, Ro) → Z ≤ Zo ∧ S ≤ So
def Con_X6_test_rX7 (l : Launch) (D : va_G) (dA : Nat → ClassId) (s0 fr lo : Nat) (f : (Nat → Option Nat) → xT → xT → Nat → Nat → xI → xL → xR → Nat → Option ((Nat ⊕ Nat) × xT × xT × Nat × Nat × xI × xR)) : Prop := ∀ {kc ks : Nat} {T : xT} {N : xT} {Z : Nat} {S : Nat} {I : xI} {L : xL} {R : xR} {x0 : Nat} {ro : (Nat ⊕ Nat)} {To : xT} {No : xT} {Zo : Nat} {So : Nat} {Io : xI} {Ro : xR}, Zo - Z ≤ kc → So - S ≤ ks → f (sv dA) T N Z S I L R x0 = some (ro, To, No, Zo, So, Io, Ro) → YMet l D dA s0 yX6_test (ws_ yX6_test cX6_test 3 ((some (.object "LostLanes$Test")))) fr lo [.ref x0] T N Z I L R (rA_ ro) To No Zo Io L Ro kc ks
theorem hsX7_clause : yX7_clause.cls ≠ "java/lang/invoke/MethodHandle" ∧ yX7_clause.cls ≠ "java/lang/invoke/VarHandle" ∧ (parseMethodDescriptor yX7_clause.desc).map (fun d => d.parameters.length) = some 0 := by decide +kernel
theorem hsX6_is_rX20 : yX6_is.cls ≠ "java/lang/invoke/MethodHandle" ∧ yX6_is.cls ≠ "java/lang/invoke/VarHandle" ∧ (parseMethodDescriptor yX6_is.desc).map (fun d => d.parameters.length) = some 1 := by decide +kernel
theorem hsX6_leaf_rX20 : yX6_leaf.cls ≠ "java/lang/invoke/MethodHandle" ∧ yX6_leaf.cls ≠ "java/lang/invoke/VarHandle" ∧ (parseMethodDescriptor yX6_leaf.desc).map (fun d => d.parameters.length) = some 0 := by decide +kernel
theorem hsX6_isIn_rX20 : yX6_isIn.cls ≠ "java/lang/invoke/MethodHandle" ∧ yX6_isIn.cls ≠ "java/lang/invoke/VarHandle" ∧ (parseMethodDescriptor yX6_isIn.desc).map (fun d => d.parameters.length) = some 3 := by decide +kernel
theorem hsX6_next_rX20 : yX6_next.cls ≠ "java/lang/invoke/MethodHandle" ∧ yX6_next.cls ≠ "java/lang/invoke/VarHandle" ∧ (parseMethodDescriptor yX6_next.desc).map (fun d => d.parameters.length) = some 0 := by decide +kernel
theorem hsX6_isValue_rX20 : yX6_isValue.cls ≠ "java/lang/invoke/MethodHandle" ∧ yX6_isValue.cls ≠ "java/lang/invoke/VarHandle" ∧ (parseMethodDescriptor yX6_isValue.desc).map (fun d => d.parameters.length) = some 1 := by decide +kernel
theorem hsX6_number_rX20 : yX6_number.cls ≠ "java/lang/invoke/MethodHandle" ∧ yX6_number.cls ≠ "java/lang/invoke/VarHandle" ∧ (parseMethodDescriptor yX6_number.desc).map (fun d => d.parameters.length) = some 2 := by decide +kernel
theorem hsX20_value : yX20_value.cls ≠ "java/lang/invoke/MethodHandle" ∧ yX20_value.cls ≠ "java/lang/invoke/VarHandle" ∧ (parseMethodDescriptor yX20_value.desc).map (fun d => d.parameters.length) = some 0 := by decide +kernel
theorem hsX6_begins_rX20 : yX6_begins.cls ≠ "java/lang/invoke/MethodHandle" ∧ yX6_begins.cls ≠ "java/lang/invoke/VarHandle" ∧ (parseMethodDescriptor yX6_begins.desc).map (fun d => d.parameters.length) = some 1 := by decide +kernel
theorem hsX6_opens_rX20 : yX6_opens.cls ≠ "java/lang/invoke/MethodHandle" ∧ yX6_opens.cls ≠ "java/lang/invoke/VarHandle" ∧ (parseMethodDescriptor yX6_opens.desc).map (fun d => d.parameters.length) = some 0 := by decide +kernel
theorem hsX6_takes_rX20 : yX6_takes.cls ≠ "java/lang/invoke/MethodHandle" ∧ yX6_takes.cls ≠ "java/lang/invoke/VarHandle" ∧ (parseMethodDescriptor yX6_takes.desc).map (fun d => d.parameters.length) = some 1 := by decide +kernel
theorem hsX6_need_rX20 : yX6_need.cls ≠ "java/lang/invoke/MethodHandle" ∧ yX6_need.cls ≠ "java/lang/invoke/VarHandle" ∧ (parseMethodDescriptor yX6_need.desc).map (fun d => d.parameters.length) = some 1 := by decide +kernel
theorem hsX6_part_rX20 : yX6_part.cls ≠ "java/lang/invoke/MethodHandle" ∧ yX6_part.cls ≠ "java/lang/invoke/VarHandle" ∧ (parseMethodDescriptor yX6_part.desc).map (fun d => d.parameters.length) = some 0 := by decide +kernel
theorem hsX6_term_rX20 : yX6_term.cls ≠ "java/lang/invoke/MethodHandle" ∧ yX6_term.cls ≠ "java/lang/invoke/VarHandle" ∧ (parseMethodDescriptor yX6_term.desc).map (fun d => d.parameters.length) = some 0 := by decide +kernel
theorem hsX6_sum_rX20 : yX6_sum.cls ≠ "java/lang/invoke/MethodHandle" ∧ yX6_sum.cls ≠ "java/lang/invoke/VarHandle" ∧ (parseMethodDescriptor yX6_sum.desc).map (fun d => d.parameters.length) = some 0 := by decide +kernel
def Mon_X6_sum_rX20 (f : (Nat → Option Nat) → xT → xT → Nat → Nat → xI → xL → xR → Nat → Option ((Nat ⊕ Nat) × xT × xT × Nat × Nat × xI × xR)) : Prop := ∀ {dA : Nat → ClassId} {T : xT} {N : xT} {Z : Nat} {S : Nat} {I : xI} {L : xL} {R : xR} {x0 : Nat} {ro : (Nat ⊕ Nat)} {To : xT} {No : xT} {Zo : Nat} {So : Nat} {Io : xI} {Ro : xR}, f (sv dA) T N Z S I L R x0 = some (ro, To, No, Zo, So, Io, Ro) → Z ≤ Zo ∧ S ≤ So
def Con_X6_sum_rX20 (l : Launch) (D : va_G) (dA : Nat → ClassId) (s0 fr lo : Nat) (f : (Nat → Option Nat) → xT → xT → Nat → Nat → xI → xL → xR → Nat → Option ((Nat ⊕ Nat) × xT × xT × Nat × Nat × xI × xR)) : Prop := ∀ {kc ks : Nat} {T : xT} {N : xT} {Z : Nat} {S : Nat} {I : xI} {L : xL} {R : xR} {x0 : Nat} {ro : (Nat ⊕ Nat)} {To : xT} {No : xT} {Zo : Nat} {So : Nat} {Io : xI} {Ro : xR}, Zo - Z ≤ kc → So - S ≤ ks → f (sv dA) T N Z S I L R x0 = some (ro, To, No, Zo, So, Io, Ro) → YMet l D dA s0 yX6_sum (ws_ yX6_sum cX6_sum 3 ((some (.object "LostLanes$Sum")))) fr lo [.ref x0] T N Z I L R (rA_ ro) To No Zo Io L Ro kc ks
theorem hsX6_positive_rX20 : yX6_positive.cls ≠ "java/lang/invoke/MethodHandle" ∧ yX6_positive.cls ≠ "java/lang/invoke/VarHandle" ∧ (parseMethodDescriptor yX6_positive.desc).map (fun d => d.parameters.length) = some 0 := by decide +kernel
theorem hsX6_plain_rX20 : yX6_plain.cls ≠ "java/lang/invoke/MethodHandle" ∧ yX6_plain.cls ≠ "java/lang/invoke/VarHandle" ∧ (parseMethodDescriptor yX6_plain.desc).map (fun d => d.parameters.length) = some 0 := by decide +kernel
theorem hsX6_both_rX20 : yX6_both.cls ≠ "java/lang/invoke/MethodHandle" ∧ yX6_both.cls ≠ "java/lang/invoke/VarHandle" ∧ (parseMethodDescriptor yX6_both.desc).map (fun d => d.parameters.length) = some 0 := by decide +kernel
theorem hsX6_test_rX20 : yX6_test.cls ≠ "java/lang/invoke/MethodHandle" ∧ yX6_test.cls ≠ "java/lang/invoke/VarHandle" ∧ (parseMethodDescriptor yX6_test.desc).map (fun d => d.parameters.length) = some 0 := by decide +kernel
def Mon_X6_test_rX20 (f : (Nat → Option Nat) → xT → xT → Nat → Nat → xI → xL → xR → Nat → Option ((Nat ⊕ Nat) × xT × xT × Nat × Nat × xI × xR)) : Prop := ∀ {dA : Nat → ClassId} {T : xT} {N : xT} {Z : Nat} {S : Nat} {I : xI} {L : xL} {R : xR} {x0 : Nat} {ro : (Nat ⊕ Nat)} {To : xT} {No : xT} {Zo : Nat} {So : Nat} {Io : xI} {Ro : xR}, f (sv dA) T N Z S I L R x0 = some (ro, To, No, Zo, So, Io, Ro) → Z ≤ Zo ∧ S ≤ So
def Con_X6_test_rX20 (l : Launch) (D : va_G) (dA : Nat → ClassId) (s0 fr lo : Nat) (f : (Nat → Option Nat) → xT → xT → Nat → Nat → xI → xL → xR → Nat → Option ((Nat ⊕ Nat) × xT × xT × Nat × Nat × xI × xR)) : Prop := ∀ {kc ks : Nat} {T : xT} {N : xT} {Z : Nat} {S : Nat} {I : xI} {L : xL} {R : xR} {x0 : Nat} {ro : (Nat ⊕ Nat)} {To : xT} {No : xT} {Zo : Nat} {So : Nat} {Io : xI} {Ro : xR}, Zo - Z ≤ kc → So - S ≤ ks → f (sv dA) T N Z S I L R x0 = some (ro, To, No, Zo, So, Io, Ro) → YMet l D dA s0 yX6_test (ws_ yX6_test cX6_test 3 ((some (.object "LostLanes$Test")))) fr lo [.ref x0] T N Z I L R (rA_ ro) To No Zo Io L Ro kc ks
theorem hsX20_clause : yX20_clause.cls ≠ "java/lang/invoke/MethodHandle" ∧ yX20_clause.cls ≠ "java/lang/invoke/VarHandle" ∧ (parseMethodDescriptor yX20_clause.desc).map (fun d => d.parameters.length) = some 0 := by decide +kernel
theorem hsX6_init_rX20 : yX6_init.cls ≠ "java/lang/invoke/MethodHandle" ∧ yX6_init.cls ≠ "java/lang/invoke/VarHandle" ∧ (parseMethodDescriptor yX6_init.desc).map (fun d => d.parameters.length) = some 2 := by decide +kernel
theorem hsX20_init : yX20_init.cls ≠ "java/lang/invoke/MethodHandle" ∧ yX20_init.cls ≠ "java/lang/invoke/VarHandle" ∧ (parseMethodDescriptor yX20_init.desc).map (fun d => d.parameters.length) = some 2 := by decide +kernel
