/-! Tables, sums and tests, lists, State: functions; printed by gen.py -/
/- LostLanes$Table.<init>()V -/
def fX2_init_b23 (T : xT) (N : xT) (Z : Nat) (S : Nat) (R : xR) (z0 : Nat) (z1 : Nat) : Option (xT × xT × Nat × Nat × xR) :=
  tg T 3 z0 <|
  nm (uR R z0 2 (some z1)) fun R2 =>
  some (T, N, Z, S, R2)
def fX2_init_b15 (T : xT) (N : xT) (Z : Nat) (S : Nat) (R : xR) (x0 : Nat) (z0 : Nat) (z1 : Nat) : Option (xT × xT × Nat × Nat × xR) :=
  tg T 3 z0 <|
  nm (uR R z0 1 (some z1)) fun R2 =>
  nm (uT T Z 100) fun T3 =>
  nm (uT N Z ((ii 10)).toNatClampNeg) fun N4 =>
  nm (Z + 1) fun Z5 =>
  nm (S + ((ii 10)).toNatClampNeg) fun S6 =>
  fX2_init_b23 T3 N4 Z5 S6 R2 x0 Z
def fX2_init_b8 (T : xT) (N : xT) (Z : Nat) (S : Nat) (R : xR) (x0 : Nat) (z0 : Nat) (z1 : Nat) : Option (xT × xT × Nat × Nat × xR) :=
  tg T 3 z0 <|
  nm (uR R z0 0 (some z1)) fun R2 =>
  nm (uT T Z 100) fun T3 =>
  nm (uT N Z ((ii 4)).toNatClampNeg) fun N4 =>
  nm (Z + 1) fun Z5 =>
  nm (S + ((ii 4)).toNatClampNeg) fun S6 =>
  fX2_init_b15 T3 N4 Z5 S6 R2 x0 x0 Z
def fX2_init (T : xT) (N : xT) (Z : Nat) (S : Nat) (R : xR) (x0 : Nat) : Option (xT × xT × Nat × Nat × xR) :=
  nm (uT T Z 100) fun T1 =>
  nm (uT N Z ((ii 4)).toNatClampNeg) fun N2 =>
  nm (Z + 1) fun Z3 =>
  nm (S + ((ii 4)).toNatClampNeg) fun S4 =>
  fX2_init_b8 T1 N2 Z3 S4 R x0 x0 Z
/- LostLanes$Table.rows([I[I)V -/
def fX2_rows (T : xT) (N : xT) (I : xI) (x0 : Nat) (x1 : Nat) : Option (xI) :=
  tg T 100 x0 <|
  tg T 100 x1 <|
  chk (cpk N x1 (ii 0) x0 (ii 0) (Int32.ofNat (N x0))) <|
  nm (cpI I x1 ((ii 0)).toNatClampNeg x0 ((ii 0)).toNatClampNeg ((Int32.ofNat (N x0))).toNatClampNeg) fun I4 =>
  some I4
/- LostLanes$Table.takes(LLostLanes$Table;)V -/
def fX2_takes (T : xT) (N : xT) (I : xI) (R : xR) (x0 : Nat) (x1 : Nat) : Option (xI) :=
  tg T 3 x0 <|
  (R x0 0).bind fun a2 =>
  tg T 3 x1 <|
  (R x1 0).bind fun a4 =>
  (fX2_rows T N I a2 a4).bind fun I5 =>
  (R x0 1).bind fun a7 =>
  (R x1 1).bind fun a8 =>
  (fX2_rows T N I5 a7 a8).bind fun I9 =>
  (R x0 2).bind fun a11 =>
  (R x1 2).bind fun a12 =>
  (fX2_rows T N I9 a11 a12).bind fun I13 =>
  nm (uI I13 x0 3 (I13 x1 3)) fun I15 =>
  some I15
/- LostLanes$Table.namedOf(I)I -/
def fX2_namedOf_b4 (nf : Nat) (T : xT) (N : xT) (I : xI) (R : xR) : Nat → Nat → Int32 → Int32 → Int32 → Option (Int32)
  | 0, _, _, _, _ => none
  | k + 1, x0, x1, x2, x3 =>
    if x1 ≤ x3 then
      some x2
    else
      tg T 3 x0 <|
      (R x0 2).bind fun a3 =>
      rA T N 100 a3 x3 fun j4 =>
      if (I a3 j4) = (-1 : Int32) then
        nm (x2 + (ii 0)) fun u8 =>
        nm (x3 + (ii 1)) fun u9 =>
        fX2_namedOf_b4 nf T N I R k x0 x1 u8 u9
      else
        nm (x2 + (ii 1)) fun u6 =>
        nm (x3 + (ii 1)) fun u7 =>
        fX2_namedOf_b4 nf T N I R k x0 x1 u6 u7
def fX2_namedOf (nf : Nat) (T : xT) (N : xT) (I : xI) (R : xR) (x0 : Nat) (x1 : Int32) : Option (Int32) :=
  fX2_namedOf_b4 nf T N I R nf x0 x1 (ii 0) (ii 0)
/- java/lang/Throwable.<init>(Ljava/lang/String;Ljava/lang/Throwable;ZZ)V -/
def fJ3_init_2_rX4_n12 (U : (Nat → Option Nat)) (T : xT) (R : xR) (x0 : Nat) (x3 : Int32) (x4 : Int32) : Option (xR) :=
  tg T 5 x0 <|
  nm (uR R x0 0 (some x0)) fun R2 =>
  nm (uR R2 x0 1 (U 0)) fun R3 =>
  nm (uR R3 x0 2 (U 1)) fun R4 =>
  if x4 = (ii 0) then
    nm (uR R4 x0 1 none) fun R6 =>
    nm (uR R6 x0 3 none) fun R7 =>
    nm (uR R7 x0 0 none) fun R8 =>
    if x3 = (ii 0) then
      nm (uR R8 x0 2 none) fun R10 =>
      some R10
    else
      some R8
  else
    none
/- java/lang/Exception.<init>(Ljava/lang/String;Ljava/lang/Throwable;ZZ)V -/
def fJ4_init_rX4_n12 (U : (Nat → Option Nat)) (T : xT) (R : xR) (x0 : Nat) (x3 : Int32) (x4 : Int32) : Option (xR) :=
  (fJ3_init_2_rX4_n12 U T R x0 x3 x4).bind fun R1 =>
  some R1
/- LostLanes$Broken.<init>()V -/
def fX4_init (U : (Nat → Option Nat)) (T : xT) (R : xR) (x0 : Nat) : Option (xR) :=
  (fJ4_init_rX4_n12 U T R x0 (ii 0) (ii 0)).bind fun R1 =>
  some R1
/- LostLanes$Setting.<init>()V -/
def fX3_init_b20 (U : (Nat → Option Nat)) (T : xT) (N : xT) (Z : Nat) (S : Nat) (R : xR) (z0 : Nat) (z1 : Nat) : Option (xT × xT × Nat × Nat × xR) :=
  tg T 4 z0 <|
  nm (uR R z0 1 (some z1)) fun R2 =>
  some (T, N, Z, S, R2)
def fX3_init_b8 (U : (Nat → Option Nat)) (T : xT) (N : xT) (Z : Nat) (S : Nat) (R : xR) (x0 : Nat) (z0 : Nat) (z1 : Nat) : Option (xT × xT × Nat × Nat × xR) :=
  (fX4_init U T R z1).bind fun R1 =>
  tg T 4 z0 <|
  nm (uR R1 z0 0 (some z1)) fun R4 =>
  nm (uT T Z 103) fun T5 =>
  nm (uT N Z ((ii 19)).toNatClampNeg) fun N6 =>
  nm (Z + 1) fun Z7 =>
  nm (S + ((ii 19)).toNatClampNeg) fun S8 =>
  fX3_init_b20 U T5 N6 Z7 S8 R4 x0 Z
def fX3_init (U : (Nat → Option Nat)) (T : xT) (N : xT) (Z : Nat) (S : Nat) (R : xR) (x0 : Nat) : Option (xT × xT × Nat × Nat × xR) :=
  nm (uT T Z 5) fun T1 =>
  nm (Z + 1) fun Z2 =>
  nm (S + 6) fun S3 =>
  fX3_init_b8 U T1 N Z2 S3 R x0 x0 Z
/- LostLanes$Number.of(LLostLanes$Setting;)J -/
def fX11_of (T : xT) (I : xI) (x0 : Nat) (x1 : Nat) : Option (Int64) :=
  tg T 10 x0 <|
  some (((I x0 0)).toInt64)
/- LostLanes$Value.of(LLostLanes$Setting;)J -/
def fX12_of (T : xT) (N : xT) (I : xI) (L : xL) (R : xR) (x0 : Nat) (x1 : Nat) : Option (Int64) :=
  tg T 4 x1 <|
  (R x1 1).bind fun a2 =>
  tg T 11 x0 <|
  rA T N 103 a2 (I x0 0) fun j4 =>
  some (L a2 j4)
/- LostLanes$Two.of(LLostLanes$Setting;)J -/
def fX13_of_b117 (rc : xT → xT → xI → xL → xR → Nat → Nat → Option ((Nat ⊕ Int64))) (T : xT) (N : xT) (I : xI) (L : xL) (R : xR) (x1 : Nat) (z0 : Int64) : Option ((Nat ⊕ Int64)) :=
  if (jj 1000000000) < z0 then
    tg T 4 x1 <|
    (R x1 0).bind fun a3 =>
    tg T 5 a3 <|
    some (.inl a3)
  else
    if (-1000000000 : Int64) ≤ z0 then
      some (.inr z0)
    else
      tg T 4 x1 <|
      (R x1 0).bind fun a7 =>
      tg T 5 a7 <|
      some (.inl a7)
def fX13_of_b49 (rc : xT → xT → xI → xL → xR → Nat → Nat → Option ((Nat ⊕ Int64))) (T : xT) (N : xT) (I : xI) (L : xL) (R : xR) (x0 : Nat) (x1 : Nat) (x2 : Int64) (x4 : Int64) : Option ((Nat ⊕ Int64)) :=
  tg T 12 x0 <|
  if (I x0 0) = (ii 43) then
    fX13_of_b117 rc T N I L R x1 (x2 + x4)
  else
    if (I x0 0) = (ii 45) then
      fX13_of_b117 rc T N I L R x1 (x2 - x4)
    else
      if (I x0 0) = (ii 42) then
        fX13_of_b117 rc T N I L R x1 (x2 * x4)
      else
        if (I x0 0) = (ii 47) then
          chk (decide (¬ x4 = (jj 0))) <|
          fX13_of_b117 rc T N I L R x1 (x2 / x4)
        else
          chk (decide (¬ x4 = (jj 0))) <|
          fX13_of_b117 rc T N I L R x1 (x2 - x2 / x4 * x4)
def fX13_of_b37 (rc : xT → xT → xI → xL → xR → Nat → Nat → Option ((Nat ⊕ Int64))) (T : xT) (N : xT) (I : xI) (L : xL) (R : xR) (x0 : Nat) (x1 : Nat) (x2 : Int64) (x4 : Int64) : Option ((Nat ⊕ Int64)) :=
  if x4 = (jj 0) then
    tg T 4 x1 <|
    (R x1 0).bind fun a3 =>
    tg T 5 a3 <|
    some (.inl a3)
  else
    fX13_of_b49 rc T N I L R x0 x1 x2 x4
def fX13_of (rc : xT → xT → xI → xL → xR → Nat → Nat → Option ((Nat ⊕ Int64))) (T : xT) (N : xT) (I : xI) (L : xL) (R : xR) (x0 : Nat) (x1 : Nat) : Option ((Nat ⊕ Int64)) :=
  tg T 12 x0 <|
  (R x0 1).bind fun a2 =>
  (rc T N I L R a2 x1).bind fun r3 =>
  xc r3 (fun a5 =>
    tg T 5 a5 <|
    some (.inl a5)
  ) fun v6 =>
    (R x0 2).bind fun a9 =>
    (rc T N I L R a9 x1).bind fun r10 =>
    xc r10 (fun a12 =>
      tg T 5 a12 <|
      some (.inl a12)
    ) fun v13 =>
      if (I x0 0) = (ii 47) then
        fX13_of_b37 rc T N I L R x0 x1 v6 v13
      else
        if (I x0 0) = (ii 37) then
          fX13_of_b37 rc T N I L R x0 x1 v6 v13
        else
          fX13_of_b49 rc T N I L R x0 x1 v6 v13
/- LostLanes$Sum.of(LLostLanes$Setting;)J -/
def fSum_of : Nat → xT → xT → xI → xL → xR → Nat → Nat → Option ((Nat ⊕ Int64))
  | 0, _, _, _, _, _, _, _ => none
  | d + 1, T, N, I, L, R, a, b =>
    if T a = 10 then (fX11_of T I a b).bind fun v => some (.inr v) else
    if T a = 11 then (fX12_of T N I L R a b).bind fun v => some (.inr v) else
    if T a = 12 then fX13_of (fSum_of d) T N I L R a b else
    none
/- LostLanes$Compare.is(LLostLanes$Setting;)Z -/
def fX15_is (T : xT) (N : xT) (I : xI) (L : xL) (R : xR) (x0 : Nat) (x1 : Nat) : Option ((Nat ⊕ Int32)) :=
  tg T 13 x0 <|
  (R x0 1).bind fun a2 =>
  (fSum_of 64 T N I L R a2 x1).bind fun r3 =>
  xc r3 (fun a5 =>
    tg T 5 a5 <|
    some (.inl a5)
  ) fun v6 =>
    (R x0 2).bind fun a9 =>
    (fSum_of 64 T N I L R a9 x1).bind fun r10 =>
    xc r10 (fun a12 =>
      tg T 5 a12 <|
      some (.inl a12)
    ) fun v13 =>
      if (I x0 0) = (ii 60) then
        if v13 ≤ v6 then
          some (.inr (ii 0))
        else
          some (.inr (ii 1))
      else
        if (I x0 0) = (ii 62) then
          if v6 ≤ v13 then
            some (.inr (ii 0))
          else
            some (.inr (ii 1))
        else
          if v6 = v13 then
            some (.inr (ii 1))
          else
            some (.inr (ii 0))
/- LostLanes$Not.is(LLostLanes$Setting;)Z -/
def fX16_is (rc : xT → xT → xI → xL → xR → Nat → Nat → Option ((Nat ⊕ Int32))) (T : xT) (N : xT) (I : xI) (L : xL) (R : xR) (x0 : Nat) (x1 : Nat) : Option ((Nat ⊕ Int32)) :=
  tg T 14 x0 <|
  (R x0 0).bind fun a2 =>
  (rc T N I L R a2 x1).bind fun r3 =>
  xc r3 (fun a5 =>
    tg T 5 a5 <|
    some (.inl a5)
  ) fun v6 =>
    if v6 = (ii 0) then
      some (.inr (ii 1))
    else
      some (.inr (ii 0))
/- java/util/ArrayList.size()I -/
def fJ2_size (T : xT) (I : xI) (x0 : Nat) : Option (Int32) :=
  tg T 19 x0 <|
  some (I x0 2)
/- jdk/internal/util/Preconditions.checkIndex(IILjava/util/function/BiFunction;)I -/
def fJ6_checkIndex_n3 (x0 : Int32) (x1 : Int32) : Option (Int32) :=
  if x0 < (ii 0) then
    none
  else
    if x0 < x1 then
      some x0
    else
      none
/- java/util/Objects.checkIndex(II)I -/
def fJ5_checkIndex (x0 : Int32) (x1 : Int32) : Option (Int32) :=
  (fJ6_checkIndex_n3 x0 x1).bind fun r1 =>
  some r1
/- java/util/ArrayList.elementData(I)Ljava/lang/Object; -/
def fJ2_elementData (T : xT) (N : xT) (R : xR) (x0 : Nat) (x1 : Int32) : Option (Nat) :=
  tg T 19 x0 <|
  (R x0 1).bind fun a2 =>
  rA T N 104 a2 x1 fun j3 =>
  (R a2 j3).bind fun a4 =>
  some a4
/- java/util/ArrayList.get(I)Ljava/lang/Object; -/
def fJ2_get (T : xT) (N : xT) (I : xI) (R : xR) (x0 : Nat) (x1 : Int32) : Option (Nat) :=
  tg T 19 x0 <|
  (fJ5_checkIndex x1 (I x0 2)).bind fun r2 =>
  (fJ2_elementData T N R x0 x1).bind fun r4 =>
  some r4
/- LostLanes$Several.is(LLostLanes$Setting;)Z -/
def fX17_is_b2 (nf : Nat) (rc : xT → xT → xI → xL → xR → Nat → Nat → Option ((Nat ⊕ Int32))) (T : xT) (N : xT) (I : xI) (L : xL) (R : xR) : Nat → Nat → Nat → Int32 → Option ((Nat ⊕ Int32))
  | 0, _, _, _ => none
  | k + 1, x0, x1, x2 =>
    tg T 15 x0 <|
    (R x0 1).bind fun a2 =>
    tg T 19 a2 <|
    (fJ2_size T I a2).bind fun r3 =>
    if r3 ≤ x2 then
      chk (zb (I x0 0)) <|
      some (.inr (I x0 0))
    else
      (fJ2_get T N I R a2 x2).bind fun r8 =>
      chk (isTe (T r8)) <|
      (rc T N I L R r8 x1).bind fun r11 =>
      xc r11 (fun a13 =>
        tg T 5 a13 <|
        some (.inl a13)
      ) fun v14 =>
        if v14 = (I x0 0) then
          nm (x2 + (ii 1)) fun u18 =>
          fX17_is_b2 nf rc T N I L R k x0 x1 u18
        else
          if (I x0 0) = (ii 0) then
            some (.inr (ii 1))
          else
            some (.inr (ii 0))
def fX17_is (nf : Nat) (rc : xT → xT → xI → xL → xR → Nat → Nat → Option ((Nat ⊕ Int32))) (T : xT) (N : xT) (I : xI) (L : xL) (R : xR) (x0 : Nat) (x1 : Nat) : Option ((Nat ⊕ Int32)) :=
  fX17_is_b2 nf rc T N I L R nf x0 x1 (ii 0)
/- LostLanes$Test.is(LLostLanes$Setting;)Z -/
def fTest_is (nf : Nat) : Nat → xT → xT → xI → xL → xR → Nat → Nat → Option ((Nat ⊕ Int32))
  | 0, _, _, _, _, _, _, _ => none
  | d + 1, T, N, I, L, R, a, b =>
    if T a = 13 then fX15_is T N I L R a b else
    if T a = 14 then fX16_is (fTest_is nf d) T N I L R a b else
    if T a = 15 then fX17_is nf (fTest_is nf d) T N I L R a b else
    none
/- LostLanes$Clause.tells(LLostLanes$Setting;)J -/
def fX9_tells_b22 (nf : Nat) (T : xT) (N : xT) (I : xI) (L : xL) (R : xR) (x0 : Nat) (x1 : Nat) : Option (Int64) :=
  tg T 9 x0 <|
  oc (R x0 1) (
    some (jj 1)
  ) fun a2 =>
    (fSum_of 64 T N I L R a2 x1).bind fun r3 =>
    xc r3 (fun a5 =>
      tg T 5 a5 <|
      some (-4000000000 : Int64)
    ) fun v6 =>
      some v6
def fX9_tells (nf : Nat) (T : xT) (N : xT) (I : xI) (L : xL) (R : xR) (x0 : Nat) (x1 : Nat) : Option (Int64) :=
  tg T 9 x0 <|
  oc (R x0 2) (
    fX9_tells_b22 nf T N I L R x0 x1
  ) fun a2 =>
    (fTest_is nf 40 T N I L R a2 x1).bind fun r3 =>
    xc r3 (fun a5 =>
      tg T 5 a5 <|
      some (-4000000000 : Int64)
    ) fun v6 =>
      if v6 = (ii 0) then
        some (-4000000000 : Int64)
      else
        fX9_tells_b22 nf T N I L R x0 x1
/- LostLanes$Clause.<init>(I)V -/
def fX9_init (T : xT) (I : xI) (x0 : Nat) (x1 : Int32) : Option (xI) :=
  tg T 9 x0 <|
  nm (uI I x0 0 x1) fun I2 =>
  some I2
/- LostLanes$Sum.<init>()V -/
def fX10_init_rX11 (x0 : Nat) : Option (Unit) :=
  some ()
/- LostLanes$Number.<init>(I)V -/
def fX11_init (T : xT) (I : xI) (x0 : Nat) (x1 : Int32) : Option (xI) :=
  (fX10_init_rX11 x0).bind fun _ =>
  tg T 10 x0 <|
  nm (uI I x0 0 x1) fun I3 =>
  some I3
/- LostLanes$Sum.<init>()V -/
def fX10_init_rX12 (x0 : Nat) : Option (Unit) :=
  some ()
/- LostLanes$Value.<init>(I)V -/
def fX12_init (T : xT) (I : xI) (x0 : Nat) (x1 : Int32) : Option (xI) :=
  (fX10_init_rX12 x0).bind fun _ =>
  tg T 11 x0 <|
  nm (uI I x0 0 x1) fun I3 =>
  some I3
/- LostLanes$Sum.<init>()V -/
def fX10_init_rX13 (x0 : Nat) : Option (Unit) :=
  some ()
/- LostLanes$Two.<init>(CLLostLanes$Sum;LLostLanes$Sum;)V -/
def fX13_init (T : xT) (I : xI) (R : xR) (x0 : Nat) (x1 : Int32) (x2 : Nat) (x3 : Nat) : Option (xI × xR) :=
  (fX10_init_rX13 x0).bind fun _ =>
  tg T 12 x0 <|
  chk (chb x1) <|
  nm (uI I x0 0 x1) fun I4 =>
  nm (uR R x0 1 (some x2)) fun R5 =>
  nm (uR R5 x0 2 (some x3)) fun R6 =>
  some (I4, R6)
/- LostLanes$Test.<init>()V -/
def fX14_init_rX15 (x0 : Nat) : Option (Unit) :=
  some ()
/- LostLanes$Compare.<init>(CLLostLanes$Sum;LLostLanes$Sum;)V -/
def fX15_init (T : xT) (I : xI) (R : xR) (x0 : Nat) (x1 : Int32) (x2 : Nat) (x3 : Nat) : Option (xI × xR) :=
  (fX14_init_rX15 x0).bind fun _ =>
  tg T 13 x0 <|
  chk (chb x1) <|
  nm (uI I x0 0 x1) fun I4 =>
  nm (uR R x0 1 (some x2)) fun R5 =>
  nm (uR R5 x0 2 (some x3)) fun R6 =>
  some (I4, R6)
/- LostLanes$Test.<init>()V -/
def fX14_init_rX16 (x0 : Nat) : Option (Unit) :=
  some ()
/- LostLanes$Not.<init>(LLostLanes$Test;)V -/
def fX16_init (T : xT) (R : xR) (x0 : Nat) (x1 : Nat) : Option (xR) :=
  (fX14_init_rX16 x0).bind fun _ =>
  tg T 14 x0 <|
  nm (uR R x0 0 (some x1)) fun R3 =>
  some R3
/- LostLanes$Test.<init>()V -/
def fX14_init_rX17 (x0 : Nat) : Option (Unit) :=
  some ()
/- java/util/AbstractCollection.<init>()V -/
def fJ0_init_rJ2 (x0 : Nat) : Option (Unit) :=
  some ()
/- java/util/AbstractList.<init>()V -/
def fJ1_init_rJ2 (T : xT) (I : xI) (x0 : Nat) : Option (xI) :=
  (fJ0_init_rJ2 x0).bind fun _ =>
  tg T 19 x0 <|
  nm (uI I x0 0 (ii 0)) fun I3 =>
  some I3
/- java/util/ArrayList.<init>(I)V -/
def fJ2_init_b13 (T : xT) (N : xT) (Z : Nat) (S : Nat) (I : xI) (R : xR) (z0 : Nat) (z1 : Nat) : Option (xT × xT × Nat × Nat × xI × xR) :=
  tg T 19 z0 <|
  nm (uR R z0 1 (some z1)) fun R2 =>
  some (T, N, Z, S, I, R2)
def fJ2_init (T : xT) (N : xT) (Z : Nat) (S : Nat) (I : xI) (R : xR) (x0 : Nat) (x1 : Int32) : Option (xT × xT × Nat × Nat × xI × xR) :=
  (fJ1_init_rJ2 T I x0).bind fun I1 =>
  if x1 ≤ (ii 0) then
    if x1 = (ii 0) then
      none
    else
      none
  else
    chk (szk x1) <|
    nm (uT T Z 104) fun T6 =>
    nm (uT N Z (x1).toNatClampNeg) fun N7 =>
    nm (Z + 1) fun Z8 =>
    nm (S + (x1).toNatClampNeg) fun S9 =>
    fJ2_init_b13 T6 N7 Z8 S9 I1 R x0 Z
/- LostLanes$Several.<init>(Z)V -/
def fX17_init_b13 (T : xT) (N : xT) (Z : Nat) (S : Nat) (I : xI) (R : xR) (x0 : Nat) (x1 : Int32) (z0 : Nat) (z1 : Nat) : Option (xT × xT × Nat × Nat × xI × xR) :=
  tg T 15 z0 <|
  nm (uR R z0 1 (some z1)) fun R2 =>
  tg T 15 x0 <|
  chk (zb x1) <|
  nm (uI I x0 0 x1) fun I5 =>
  some (T, N, Z, S, I5, R2)
def fX17_init_b8 (T : xT) (N : xT) (Z : Nat) (S : Nat) (I : xI) (R : xR) (x0 : Nat) (x1 : Int32) (z0 : Nat) (z1 : Nat) : Option (xT × xT × Nat × Nat × xI × xR) :=
  b6 (fJ2_init T N Z S I R z1 (ii 2)) fun T1 N2 Z3 S4 I5 R6 =>
  fX17_init_b13 T1 N2 Z3 S4 I5 R6 x0 x1 z0 z1
def fX17_init (T : xT) (N : xT) (Z : Nat) (S : Nat) (I : xI) (R : xR) (x0 : Nat) (x1 : Int32) : Option (xT × xT × Nat × Nat × xI × xR) :=
  (fX14_init_rX17 x0).bind fun _ =>
  nm (uT T Z 19) fun T2 =>
  nm (Z + 1) fun Z3 =>
  nm (S + 3) fun S4 =>
  fX17_init_b8 T2 N Z3 S4 I R x0 x1 x0 Z
/- LostLanes$Order.<init>(I)V -/
def fX18_init (T : xT) (I : xI) (x0 : Nat) (x1 : Int32) : Option (xI) :=
  tg T 16 x0 <|
  nm (uI I x0 3 (ii 1)) fun I2 =>
  nm (uI I2 x0 0 x1) fun I3 =>
  some I3
/- LostLanes$Order.isNow(LLostLanes$Setting;)Z -/
def fX18_isNow (nf : Nat) (T : xT) (N : xT) (I : xI) (L : xL) (R : xR) (x0 : Nat) (x1 : Nat) : Option (Int32) :=
  tg T 16 x0 <|
  oc (R x0 4) (
    some (ii 1)
  ) fun a2 =>
    (fTest_is nf 40 T N I L R a2 x1).bind fun r3 =>
    xc r3 (fun a5 =>
      tg T 5 a5 <|
      some (ii 0)
    ) fun v6 =>
      if v6 = (ii 0) then
        some (ii 0)
      else
        some (ii 1)
/- LostLanes$Order.told(LLostLanes$Sum;LLostLanes$Setting;)I -/
def fX18_told (T : xT) (N : xT) (I : xI) (L : xL) (R : xR) (x0 : Nat) (x1 : Nat) : Option (Int32) :=
  (fSum_of 64 T N I L R x0 x1).bind fun r1 =>
  xc r1 (fun a3 =>
    tg T 5 a3 <|
    some (-1 : Int32)
  ) fun v4 =>
    if v4 < (jj 0) then
      some (-1 : Int32)
    else
      if v4 < (jj 1000000) then
        some ((v4).toInt32)
      else
        some (-1 : Int32)
/- LostLanes$Law.told(ILLostLanes$Setting;)J -/
def fX19_told_b7 (nf : Nat) (T : xT) (N : xT) (I : xI) (L : xL) (R : xR) : Nat → Nat → Int32 → Nat → Int64 → Int32 → Option (Int64)
  | 0, _, _, _, _, _ => none
  | k + 1, x0, x1, x2, x3, x5 =>
    tg T 17 x0 <|
    (R x0 0).bind fun a2 =>
    tg T 19 a2 <|
    (fJ2_size T I a2).bind fun r3 =>
    if r3 ≤ x5 then
      some x3
    else
      (fJ2_get T N I R a2 x5).bind fun r7 =>
      tg T 9 r7 <|
      if (I r7 0) = x1 then
        (fJ2_get T N I R a2 x5).bind fun r11 =>
        tg T 9 r11 <|
        (fX9_tells nf T N I L R r11 x2).bind fun r14 =>
        if r14 = (-4000000000 : Int64) then
          nm (x5 + (ii 1)) fun u17 =>
          fX19_told_b7 nf T N I L R k x0 x1 x2 x3 u17
        else
          nm (x5 + (ii 1)) fun u18 =>
          fX19_told_b7 nf T N I L R k x0 x1 x2 r14 u18
      else
        nm (x5 + (ii 1)) fun u19 =>
        fX19_told_b7 nf T N I L R k x0 x1 x2 x3 u19
def fX19_told (nf : Nat) (T : xT) (N : xT) (I : xI) (L : xL) (R : xR) (x0 : Nat) (x1 : Int32) (x2 : Nat) : Option (Int64) :=
  fX19_told_b7 nf T N I L R nf x0 x1 x2 (-4000000000 : Int64) (ii 0)
/- LostLanes$Law.<init>(Ljava/util/ArrayList;)V -/
def fX19_init (T : xT) (R : xR) (x0 : Nat) (x1 : Nat) : Option (xR) :=
  tg T 17 x0 <|
  nm (uR R x0 0 (some x1)) fun R2 =>
  some R2
/- LostLanes$State.<init>()V -/
def fX1_init_b71 (T : xT) (N : xT) (Z : Nat) (S : Nat) (I : xI) (R : xR) (x0 : Nat) (z0 : Nat) (z1 : Nat) : Option (xT × xT × Nat × Nat × xI × xR) :=
  tg T 2 z0 <|
  nm (uR R z0 7 (some z1)) fun R2 =>
  tg T 2 x0 <|
  nm (uI I x0 11 (ii 1)) fun I4 =>
  nm (uI I4 x0 13 (-1 : Int32)) fun I5 =>
  some (T, N, Z, S, I5, R2)
def fX1_init_b66 (T : xT) (N : xT) (Z : Nat) (S : Nat) (I : xI) (R : xR) (x0 : Nat) (z0 : Nat) (z1 : Nat) : Option (xT × xT × Nat × Nat × xI × xR) :=
  b6 (fJ2_init T N Z S I R z1 (ii 2)) fun T1 N2 Z3 S4 I5 R6 =>
  fX1_init_b71 T1 N2 Z3 S4 I5 R6 x0 z0 z1
def fX1_init_b59 (T : xT) (N : xT) (Z : Nat) (S : Nat) (I : xI) (R : xR) (x0 : Nat) (z0 : Nat) (z1 : Nat) : Option (xT × xT × Nat × Nat × xI × xR) :=
  tg T 2 z0 <|
  nm (uR R z0 6 (some z1)) fun R2 =>
  nm (uT T Z 19) fun T3 =>
  nm (Z + 1) fun Z4 =>
  nm (S + 3) fun S5 =>
  fX1_init_b66 T3 N Z4 S5 I R2 x0 x0 Z
def fX1_init_b51 (T : xT) (N : xT) (Z : Nat) (S : Nat) (I : xI) (R : xR) (x0 : Nat) (z0 : Nat) (z1 : Nat) : Option (xT × xT × Nat × Nat × xI × xR) :=
  tg T 2 z0 <|
  nm (uR R z0 5 (some z1)) fun R2 =>
  nm (uT T Z 100) fun T3 =>
  nm (uT N Z ((ii 6)).toNatClampNeg) fun N4 =>
  nm (Z + 1) fun Z5 =>
  nm (S + ((ii 6)).toNatClampNeg) fun S6 =>
  fX1_init_b59 T3 N4 Z5 S6 I R2 x0 x0 Z
def fX1_init_b44 (T : xT) (N : xT) (Z : Nat) (S : Nat) (I : xI) (R : xR) (x0 : Nat) (z0 : Nat) (z1 : Nat) : Option (xT × xT × Nat × Nat × xI × xR) :=
  tg T 2 z0 <|
  nm (uR R z0 4 (some z1)) fun R2 =>
  nm (uT T Z 100) fun T3 =>
  nm (uT N Z ((ii 4)).toNatClampNeg) fun N4 =>
  nm (Z + 1) fun Z5 =>
  nm (S + ((ii 4)).toNatClampNeg) fun S6 =>
  fX1_init_b51 T3 N4 Z5 S6 I R2 x0 x0 Z
def fX1_init_b36 (T : xT) (N : xT) (Z : Nat) (S : Nat) (I : xI) (R : xR) (x0 : Nat) (z0 : Nat) (z1 : Nat) : Option (xT × xT × Nat × Nat × xI × xR) :=
  tg T 2 z0 <|
  nm (uR R z0 3 (some z1)) fun R2 =>
  nm (uT T Z 100) fun T3 =>
  nm (uT N Z ((ii 10)).toNatClampNeg) fun N4 =>
  nm (Z + 1) fun Z5 =>
  nm (S + ((ii 10)).toNatClampNeg) fun S6 =>
  fX1_init_b44 T3 N4 Z5 S6 I R2 x0 x0 Z
def fX1_init_b28 (T : xT) (N : xT) (Z : Nat) (S : Nat) (I : xI) (R : xR) (x0 : Nat) (z0 : Nat) (z1 : Nat) : Option (xT × xT × Nat × Nat × xI × xR) :=
  tg T 2 z0 <|
  nm (uR R z0 2 (some z1)) fun R2 =>
  nm (uT T Z 100) fun T3 =>
  nm (uT N Z ((ii 10)).toNatClampNeg) fun N4 =>
  nm (Z + 1) fun Z5 =>
  nm (S + ((ii 10)).toNatClampNeg) fun S6 =>
  fX1_init_b36 T3 N4 Z5 S6 I R2 x0 x0 Z
def fX1_init_b20 (T : xT) (N : xT) (Z : Nat) (S : Nat) (I : xI) (R : xR) (x0 : Nat) (z0 : Nat) (z1 : Nat) : Option (xT × xT × Nat × Nat × xI × xR) :=
  tg T 2 z0 <|
  nm (uR R z0 1 (some z1)) fun R2 =>
  nm (uT T Z 100) fun T3 =>
  nm (uT N Z ((ii 10)).toNatClampNeg) fun N4 =>
  nm (Z + 1) fun Z5 =>
  nm (S + ((ii 10)).toNatClampNeg) fun S6 =>
  fX1_init_b28 T3 N4 Z5 S6 I R2 x0 x0 Z
def fX1_init_b12 (T : xT) (N : xT) (Z : Nat) (S : Nat) (I : xI) (R : xR) (x0 : Nat) (z0 : Nat) (z1 : Nat) : Option (xT × xT × Nat × Nat × xI × xR) :=
  tg T 2 z0 <|
  nm (uR R z0 0 (some z1)) fun R2 =>
  nm (uT T Z 100) fun T3 =>
  nm (uT N Z ((ii 10)).toNatClampNeg) fun N4 =>
  nm (Z + 1) fun Z5 =>
  nm (S + ((ii 10)).toNatClampNeg) fun S6 =>
  fX1_init_b20 T3 N4 Z5 S6 I R2 x0 x0 Z
def fX1_init_b8 (T : xT) (N : xT) (Z : Nat) (S : Nat) (I : xI) (R : xR) (x0 : Nat) (z0 : Nat) (z1 : Nat) : Option (xT × xT × Nat × Nat × xI × xR) :=
  b5 (fX2_init T N Z S R z1) fun T1 N2 Z3 S4 R5 =>
  fX1_init_b12 T1 N2 Z3 S4 I R5 x0 z0 z1
def fX1_init (T : xT) (N : xT) (Z : Nat) (S : Nat) (I : xI) (R : xR) (x0 : Nat) : Option (xT × xT × Nat × Nat × xI × xR) :=
  nm (uT T Z 3) fun T1 =>
  nm (Z + 1) fun Z2 =>
  nm (S + 4) fun S3 =>
  fX1_init_b8 T1 N Z2 S3 I R x0 x0 Z
/- java/util/ArrayList.clear()V -/
def fJ2_clear_b27 (nf : Nat) (T : xT) (N : xT) : Nat → xI → xR → Nat → Int32 → Int32 → Option (xI × xR)
  | 0, _, _, _, _, _ => none
  | k + 1, I, R, x1, x2, x3 =>
    if x2 ≤ x3 then
      some (I, R)
    else
      rA T N 104 x1 x3 fun j2 =>
      nm (uR R x1 j2 none) fun R3 =>
      nm (x3 + (ii 1)) fun u4 =>
      fJ2_clear_b27 nf T N k I R3 x1 x2 u4
def fJ2_clear (nf : Nat) (T : xT) (N : xT) (I : xI) (R : xR) (x0 : Nat) : Option (xI × xR) :=
  tg T 19 x0 <|
  nm (uI I x0 0 ((I x0 0) + (ii 1))) fun I2 =>
  (R x0 1).bind fun a3 =>
  nm (I2 x0 2) fun u4 =>
  nm (uI I2 x0 2 (ii 0)) fun I5 =>
  fJ2_clear_b27 nf T N nf I5 R a3 u4 (ii 0)
/- java/util/Arrays.copyOf([Ljava/lang/Object;ILjava/lang/Class;)[Ljava/lang/Object; -/
def fJ12_copyOf_2_nm3_b10 (T : xT) (N : xT) (Z : Nat) (S : Nat) (R : xR) (x0 : Nat) (x1 : Int32) (z0 : Nat) : Option (Nat × xT × xT × Nat × Nat × xR) :=
  tg T 104 x0 <|
  tg T 104 z0 <|
  chk (cpk N x0 (ii 0) z0 (ii 0) (if x1 < (Int32.ofNat (N x0)) then x1 else (Int32.ofNat (N x0)))) <|
  chk (cpo T R x0 ((ii 0)).toNatClampNeg ((if x1 < (Int32.ofNat (N x0)) then x1 else (Int32.ofNat (N x0)))).toNatClampNeg) <|
  nm (cpR R x0 ((ii 0)).toNatClampNeg z0 ((ii 0)).toNatClampNeg ((if x1 < (Int32.ofNat (N x0)) then x1 else (Int32.ofNat (N x0)))).toNatClampNeg) fun R5 =>
  some (z0, T, N, Z, S, R5)
def fJ12_copyOf_2_nm3 (T : xT) (N : xT) (Z : Nat) (S : Nat) (R : xR) (x0 : Nat) (x1 : Int32) : Option (Nat × xT × xT × Nat × Nat × xR) :=
  chk (szk x1) <|
  nm (uT T Z 104) fun T2 =>
  nm (uT N Z (x1).toNatClampNeg) fun N3 =>
  nm (Z + 1) fun Z4 =>
  nm (S + (x1).toNatClampNeg) fun S5 =>
  fJ12_copyOf_2_nm3_b10 T2 N3 Z4 S5 R x0 x1 Z
/- java/util/Arrays.copyOf([Ljava/lang/Object;I)[Ljava/lang/Object; -/
def fJ12_copyOf_b9 (T : xT) (N : xT) (Z : Nat) (S : Nat) (R : xR) (z0 : Nat) : Option (Nat × xT × xT × Nat × Nat × xR) :=
  some (z0, T, N, Z, S, R)
def fJ12_copyOf (T : xT) (N : xT) (Z : Nat) (S : Nat) (R : xR) (x0 : Nat) (x1 : Int32) : Option (Nat × xT × xT × Nat × Nat × xR) :=
  tg T 104 x0 <|
  b6 (fJ12_copyOf_2_nm3 T N Z S R x0 x1) fun r2 T3 N4 Z5 S6 R7 =>
  fJ12_copyOf_b9 T3 N4 Z5 S6 R7 r2
/- java/util/ArrayList.toArray()[Ljava/lang/Object; -/
def fJ2_toArray_b11 (T : xT) (N : xT) (Z : Nat) (S : Nat) (I : xI) (R : xR) (z0 : Nat) : Option (Nat × xT × xT × Nat × Nat × xR) :=
  some (z0, T, N, Z, S, R)
def fJ2_toArray (T : xT) (N : xT) (Z : Nat) (S : Nat) (I : xI) (R : xR) (x0 : Nat) : Option (Nat × xT × xT × Nat × Nat × xR) :=
  tg T 19 x0 <|
  (R x0 1).bind fun a2 =>
  b6 (fJ12_copyOf T N Z S R a2 (I x0 2)) fun r3 T4 N5 Z6 S7 R8 =>
  fJ2_toArray_b11 T4 N5 Z6 S7 I R8 r3
/- jdk/internal/util/ArraysSupport.hugeLength(II)I -/
def fJ11_hugeLength (x0 : Int32) (x1 : Int32) : Option (Int32) :=
  nm (x0 + x1) fun u1 =>
  if (ii 0) ≤ u1 then
    if (ii 2147483639) < u1 then
      some u1
    else
      some (ii 2147483639)
  else
    none
/- jdk/internal/util/ArraysSupport.newLength(III)I -/
def fJ11_newLength (x0 : Int32) (x1 : Int32) (x2 : Int32) : Option (Int32) :=
  nm (x0 + (if x1 < x2 then x2 else x1)) fun u1 =>
  if u1 ≤ (ii 0) then
    (fJ11_hugeLength x0 x1).bind fun r3 =>
    some r3
  else
    if (ii 2147483639) < u1 then
      (fJ11_hugeLength x0 x1).bind fun r6 =>
      some r6
    else
      some u1
/- java/util/ArrayList.grow(I)[Ljava/lang/Object; -/
def fJ2_grow_b40 (T : xT) (N : xT) (Z : Nat) (S : Nat) (R : xR) (z0 : Nat) (z1 : Nat) : Option (Nat × xT × xT × Nat × Nat × xR) :=
  tg T 19 z0 <|
  nm (uR R z0 1 (some z1)) fun R2 =>
  some (z1, T, N, Z, S, R2)
def fJ2_grow (T : xT) (N : xT) (Z : Nat) (S : Nat) (R : xR) (x0 : Nat) (x1 : Int32) : Option (Nat × xT × xT × Nat × Nat × xR) :=
  tg T 19 x0 <|
  (R x0 1).bind fun a2 =>
  tg T 104 a2 <|
  nm (Int32.ofNat (N a2)) fun u4 =>
  if (ii 0) < u4 then
    (fJ11_newLength u4 (x1 - u4) (u4 >>> ((ii 1) &&& ii 31))).bind fun r6 =>
    b6 (fJ12_copyOf T N Z S R a2 r6) fun r8 T9 N10 Z11 S12 R13 =>
    fJ2_grow_b40 T9 N10 Z11 S12 R13 x0 r8
  else
    none
/- java/util/ArrayList.addAll(Ljava/util/Collection;)Z -/
def fJ2_addAll_b56 (T : xT) (N : xT) (Z : Nat) (S : Nat) (I : xI) (R : xR) (x0 : Nat) (x2 : Nat) (x3 : Int32) (x4 : Nat) (x5 : Int32) : Option (Int32 × xT × xT × Nat × Nat × xI × xR) :=
  tg T 104 x2 <|
  tg T 104 x4 <|
  chk (cpk N x2 (ii 0) x4 x5 x3) <|
  chk (cpo T R x2 ((ii 0)).toNatClampNeg (x3).toNatClampNeg) <|
  nm (cpR R x2 ((ii 0)).toNatClampNeg x4 (x5).toNatClampNeg (x3).toNatClampNeg) fun R5 =>
  tg T 19 x0 <|
  nm (uI I x0 2 (x5 + x3)) fun I7 =>
  some ((ii 1), T, N, Z, S, I7, R5)
def fJ2_addAll_b54 (T : xT) (N : xT) (Z : Nat) (S : Nat) (I : xI) (R : xR) (x0 : Nat) (x2 : Nat) (x3 : Int32) (x5 : Int32) (z0 : Nat) : Option (Int32 × xT × xT × Nat × Nat × xI × xR) :=
  fJ2_addAll_b56 T N Z S I R x0 x2 x3 z0 x5
def fJ2_addAll_b6 (T : xT) (N : xT) (Z : Nat) (S : Nat) (I : xI) (R : xR) (x0 : Nat) (z0 : Nat) : Option (Int32 × xT × xT × Nat × Nat × xI × xR) :=
  tg T 19 x0 <|
  nm (uI I x0 0 ((I x0 0) + (ii 1))) fun I2 =>
  tg T 104 z0 <|
  nm (Int32.ofNat (N z0)) fun u4 =>
  if u4 = (ii 0) then
    some ((ii 0), T, N, Z, S, I2, R)
  else
    (R x0 1).bind fun a6 =>
    tg T 104 a6 <|
    nm (I2 x0 2) fun u8 =>
    if u4 ≤ ((Int32.ofNat (N a6)) - (I2 x0 2)) then
      fJ2_addAll_b56 T N Z S I2 R x0 z0 u4 a6 u8
    else
      b6 (fJ2_grow T N Z S R x0 (u8 + u4)) fun r10 T11 N12 Z13 S14 R15 =>
      fJ2_addAll_b54 T11 N12 Z13 S14 I2 R15 x0 z0 u4 u8 r10
def fJ2_addAll (T : xT) (N : xT) (Z : Nat) (S : Nat) (I : xI) (R : xR) (x0 : Nat) (x1 : Nat) : Option (Int32 × xT × xT × Nat × Nat × xI × xR) :=
  tg T 19 x1 <|
  b6 (fJ2_toArray T N Z S I R x1) fun r1 T2 N3 Z4 S5 R6 =>
  fJ2_addAll_b6 T2 N3 Z4 S5 I R6 x0 r1
/- LostLanes$State.takes(LLostLanes$State;)V -/
def fX1_takes_b95 (nf : Nat) (T : xT) (N : xT) (Z : Nat) (S : Nat) (I : xI) (R : xR) (x0 : Nat) (x1 : Nat) (z0 : Int32) : Option (xT × xT × Nat × Nat × xI × xR) :=
  tg T 2 x1 <|
  tg T 2 x0 <|
  nm (uI I x0 8 (I x1 8)) fun I3 =>
  nm (uI I3 x0 9 (I3 x1 9)) fun I4 =>
  nm (uI I4 x0 10 (I4 x1 10)) fun I5 =>
  nm (uI I5 x0 11 (I5 x1 11)) fun I6 =>
  nm (uI I6 x0 12 (I6 x1 12)) fun I7 =>
  nm (uI I7 x0 13 (I7 x1 13)) fun I8 =>
  some (T, N, Z, S, I8, R)
def fX1_takes (nf : Nat) (T : xT) (N : xT) (Z : Nat) (S : Nat) (I : xI) (R : xR) (x0 : Nat) (x1 : Nat) : Option (xT × xT × Nat × Nat × xI × xR) :=
  tg T 2 x0 <|
  (R x0 0).bind fun a2 =>
  tg T 2 x1 <|
  (R x1 0).bind fun a4 =>
  tg T 3 a2 <|
  (fX2_takes T N I R a2 a4).bind fun I5 =>
  (R x0 1).bind fun a8 =>
  (R x1 1).bind fun a9 =>
  (fX2_rows T N I5 a8 a9).bind fun I10 =>
  (R x0 2).bind fun a12 =>
  (R x1 2).bind fun a13 =>
  (fX2_rows T N I10 a12 a13).bind fun I14 =>
  (R x0 3).bind fun a16 =>
  (R x1 3).bind fun a17 =>
  (fX2_rows T N I14 a16 a17).bind fun I18 =>
  (R x0 4).bind fun a20 =>
  (R x1 4).bind fun a21 =>
  (fX2_rows T N I18 a20 a21).bind fun I22 =>
  (R x0 5).bind fun a24 =>
  (R x1 5).bind fun a25 =>
  (fX2_rows T N I22 a24 a25).bind fun I26 =>
  (R x0 6).bind fun a28 =>
  (R x1 6).bind fun a29 =>
  (fX2_rows T N I26 a28 a29).bind fun I30 =>
  (R x0 7).bind fun a32 =>
  tg T 19 a32 <|
  b2 (fJ2_clear nf T N I30 R a32) fun I33 R34 =>
  (R34 x0 7).bind fun a37 =>
  (R34 x1 7).bind fun a38 =>
  tg T 19 a37 <|
  b7 (fJ2_addAll T N Z S I33 R34 a37 a38) fun r39 T40 N41 Z42 S43 I44 R45 =>
  fX1_takes_b95 nf T40 N41 Z42 S43 I44 R45 x0 x1 r39
/- LostLanes$State.isAt(II)Z -/
def fX1_isAt (T : xT) (N : xT) (I : xI) (R : xR) (x0 : Nat) (x1 : Int32) (x2 : Int32) : Option (Int32) :=
  tg T 2 x0 <|
  (R x0 1).bind fun a2 =>
  rA T N 100 a2 x1 fun j3 =>
  if (I a2 j3) = x2 then
    some (ii 1)
  else
    (R x0 2).bind fun a5 =>
    rA T N 100 a5 x1 fun j6 =>
    if (I a5 j6) = x2 then
      some (ii 1)
    else
      some (ii 0)
/- LostLanes$State.otherEnd(II)I -/
def fX1_otherEnd (T : xT) (N : xT) (I : xI) (R : xR) (x0 : Nat) (x1 : Int32) (x2 : Int32) : Option (Int32) :=
  tg T 2 x0 <|
  (R x0 1).bind fun a2 =>
  rA T N 100 a2 x1 fun j3 =>
  if (I a2 j3) = x2 then
    (R x0 2).bind fun a5 =>
    rA T N 100 a5 x1 fun j6 =>
    some (I a5 j6)
  else
    some (I a2 j3)
theorem hsX2_init : yX2_init.cls ≠ "java/lang/invoke/MethodHandle" ∧ yX2_init.cls ≠ "java/lang/invoke/VarHandle" ∧ (parseMethodDescriptor yX2_init.desc).map (fun d => d.parameters.length) = some 0 := by decide +kernel
theorem hsX2_rows : yX2_rows.cls ≠ "java/lang/invoke/MethodHandle" ∧ yX2_rows.cls ≠ "java/lang/invoke/VarHandle" ∧ (parseMethodDescriptor yX2_rows.desc).map (fun d => d.parameters.length) = some 2 := by decide +kernel
theorem hsX2_takes : yX2_takes.cls ≠ "java/lang/invoke/MethodHandle" ∧ yX2_takes.cls ≠ "java/lang/invoke/VarHandle" ∧ (parseMethodDescriptor yX2_takes.desc).map (fun d => d.parameters.length) = some 1 := by decide +kernel
theorem hsX2_namedOf : yX2_namedOf.cls ≠ "java/lang/invoke/MethodHandle" ∧ yX2_namedOf.cls ≠ "java/lang/invoke/VarHandle" ∧ (parseMethodDescriptor yX2_namedOf.desc).map (fun d => d.parameters.length) = some 1 := by decide +kernel
theorem hsJ3_init_2_rX4_n12 : yJ3_init_2.cls ≠ "java/lang/invoke/MethodHandle" ∧ yJ3_init_2.cls ≠ "java/lang/invoke/VarHandle" ∧ (parseMethodDescriptor yJ3_init_2.desc).map (fun d => d.parameters.length) = some 4 := by decide +kernel
theorem hsJ4_init_rX4_n12 : yJ4_init.cls ≠ "java/lang/invoke/MethodHandle" ∧ yJ4_init.cls ≠ "java/lang/invoke/VarHandle" ∧ (parseMethodDescriptor yJ4_init.desc).map (fun d => d.parameters.length) = some 4 := by decide +kernel
theorem hsX4_init : yX4_init.cls ≠ "java/lang/invoke/MethodHandle" ∧ yX4_init.cls ≠ "java/lang/invoke/VarHandle" ∧ (parseMethodDescriptor yX4_init.desc).map (fun d => d.parameters.length) = some 0 := by decide +kernel
theorem hsX3_init : yX3_init.cls ≠ "java/lang/invoke/MethodHandle" ∧ yX3_init.cls ≠ "java/lang/invoke/VarHandle" ∧ (parseMethodDescriptor yX3_init.desc).map (fun d => d.parameters.length) = some 0 := by decide +kernel
theorem hsX11_of : yX11_of.cls ≠ "java/lang/invoke/MethodHandle" ∧ yX11_of.cls ≠ "java/lang/invoke/VarHandle" ∧ (parseMethodDescriptor yX11_of.desc).map (fun d => d.parameters.length) = some 1 := by decide +kernel
theorem hsX12_of : yX12_of.cls ≠ "java/lang/invoke/MethodHandle" ∧ yX12_of.cls ≠ "java/lang/invoke/VarHandle" ∧ (parseMethodDescriptor yX12_of.desc).map (fun d => d.parameters.length) = some 1 := by decide +kernel
theorem hsX13_of : yX13_of.cls ≠ "java/lang/invoke/MethodHandle" ∧ yX13_of.cls ≠ "java/lang/invoke/VarHandle" ∧ (parseMethodDescriptor yX13_of.desc).map (fun d => d.parameters.length) = some 1 := by decide +kernel
def Run_Sum_of (l : Launch) (D : va_G) (dA : Nat → ClassId) (s0 fr lo : Nat) (f : xT → xT → xI → xL → xR → Nat → Nat → Option ((Nat ⊕ Int64))) : Prop := ∀ {p : Program} {e : Env} {Rm : Room} {s : State} {m : MethodId} {args : Array Value} {below : List Frame} {meth : Method} {c : Code} {H : Heap} {locs : List Loc} {cells slots : Nat} {cc : ByteArray} {pc nL : Nat} {ls : Array Slot} {rest : List Value} {own : String} {T N : xT} {Z : Nat} {I : xI} {L : xL} {R : xR} {a b index : Nat} {r : (Nat ⊕ Int64)}, Cx D dA s0 p m c cc nL s args own meth → Iv D dA s0 s T N Z I L R H locs → f T N I L R a b = some r → Cond.methodLink own index ⟨"LostLanes$Sum", "of", "(LLostLanes$Setting;)J"⟩ ∈ lw_all → (fr + 1 ≤ Rm.frames ∧ lo + 60 ≤ Rm.locals) → ls.size = nL → (rest.map fun v => v.category).sum ≤ 8 → decode cc pc = .ok (.invokevirtual index, 3) → (cells ≤ Rm.cells ∧ slots ≤ Rm.slots) → vx_Run p l e Rm s m args below meth c H locs cells slots 0 0 (F0 m pc ls (.ref b :: .ref a :: rest)) rest (yQ D dA s0 (rL r) T N Z I L R [.ref a, .ref b].toArray) (yX D dA s0 (rL r) T N Z I L R) (fun q => s0 ≤ q)
theorem hsX15_is : yX15_is.cls ≠ "java/lang/invoke/MethodHandle" ∧ yX15_is.cls ≠ "java/lang/invoke/VarHandle" ∧ (parseMethodDescriptor yX15_is.desc).map (fun d => d.parameters.length) = some 1 := by decide +kernel
theorem hsX16_is : yX16_is.cls ≠ "java/lang/invoke/MethodHandle" ∧ yX16_is.cls ≠ "java/lang/invoke/VarHandle" ∧ (parseMethodDescriptor yX16_is.desc).map (fun d => d.parameters.length) = some 1 := by decide +kernel
theorem hsJ2_size : yJ2_size.cls ≠ "java/lang/invoke/MethodHandle" ∧ yJ2_size.cls ≠ "java/lang/invoke/VarHandle" ∧ (parseMethodDescriptor yJ2_size.desc).map (fun d => d.parameters.length) = some 0 := by decide +kernel
theorem hsJ6_checkIndex_n3 : yJ6_checkIndex.cls ≠ "java/lang/invoke/MethodHandle" ∧ yJ6_checkIndex.cls ≠ "java/lang/invoke/VarHandle" ∧ (parseMethodDescriptor yJ6_checkIndex.desc).map (fun d => d.parameters.length) = some 3 := by decide +kernel
theorem hsJ5_checkIndex : yJ5_checkIndex.cls ≠ "java/lang/invoke/MethodHandle" ∧ yJ5_checkIndex.cls ≠ "java/lang/invoke/VarHandle" ∧ (parseMethodDescriptor yJ5_checkIndex.desc).map (fun d => d.parameters.length) = some 2 := by decide +kernel
theorem hsJ2_elementData : yJ2_elementData.cls ≠ "java/lang/invoke/MethodHandle" ∧ yJ2_elementData.cls ≠ "java/lang/invoke/VarHandle" ∧ (parseMethodDescriptor yJ2_elementData.desc).map (fun d => d.parameters.length) = some 1 := by decide +kernel
theorem hsJ2_get : yJ2_get.cls ≠ "java/lang/invoke/MethodHandle" ∧ yJ2_get.cls ≠ "java/lang/invoke/VarHandle" ∧ (parseMethodDescriptor yJ2_get.desc).map (fun d => d.parameters.length) = some 1 := by decide +kernel
theorem hsX17_is : yX17_is.cls ≠ "java/lang/invoke/MethodHandle" ∧ yX17_is.cls ≠ "java/lang/invoke/VarHandle" ∧ (parseMethodDescriptor yX17_is.desc).map (fun d => d.parameters.length) = some 1 := by decide +kernel
def Run_Test_is (l : Launch) (D : va_G) (dA : Nat → ClassId) (s0 fr lo : Nat) (f : xT → xT → xI → xL → xR → Nat → Nat → Option ((Nat ⊕ Int32))) : Prop := ∀ {p : Program} {e : Env} {Rm : Room} {s : State} {m : MethodId} {args : Array Value} {below : List Frame} {meth : Method} {c : Code} {H : Heap} {locs : List Loc} {cells slots : Nat} {cc : ByteArray} {pc nL : Nat} {ls : Array Slot} {rest : List Value} {own : String} {T N : xT} {Z : Nat} {I : xI} {L : xL} {R : xR} {a b index : Nat} {r : (Nat ⊕ Int32)}, Cx D dA s0 p m c cc nL s args own meth → Iv D dA s0 s T N Z I L R H locs → f T N I L R a b = some r → Cond.methodLink own index ⟨"LostLanes$Test", "is", "(LLostLanes$Setting;)Z"⟩ ∈ lw_all → (fr + 1 ≤ Rm.frames ∧ lo + 60 ≤ Rm.locals) → ls.size = nL → (rest.map fun v => v.category).sum ≤ 8 → decode cc pc = .ok (.invokevirtual index, 3) → (cells ≤ Rm.cells ∧ slots ≤ Rm.slots) → vx_Run p l e Rm s m args below meth c H locs cells slots 0 0 (F0 m pc ls (.ref b :: .ref a :: rest)) rest (yQ D dA s0 (rI r) T N Z I L R [.ref a, .ref b].toArray) (yX D dA s0 (rI r) T N Z I L R) (fun q => s0 ≤ q)
theorem hsX9_tells : yX9_tells.cls ≠ "java/lang/invoke/MethodHandle" ∧ yX9_tells.cls ≠ "java/lang/invoke/VarHandle" ∧ (parseMethodDescriptor yX9_tells.desc).map (fun d => d.parameters.length) = some 1 := by decide +kernel
theorem hsX9_init : yX9_init.cls ≠ "java/lang/invoke/MethodHandle" ∧ yX9_init.cls ≠ "java/lang/invoke/VarHandle" ∧ (parseMethodDescriptor yX9_init.desc).map (fun d => d.parameters.length) = some 1 := by decide +kernel
theorem hsX10_init_rX11 : yX10_init.cls ≠ "java/lang/invoke/MethodHandle" ∧ yX10_init.cls ≠ "java/lang/invoke/VarHandle" ∧ (parseMethodDescriptor yX10_init.desc).map (fun d => d.parameters.length) = some 0 := by decide +kernel
theorem hsX11_init : yX11_init.cls ≠ "java/lang/invoke/MethodHandle" ∧ yX11_init.cls ≠ "java/lang/invoke/VarHandle" ∧ (parseMethodDescriptor yX11_init.desc).map (fun d => d.parameters.length) = some 1 := by decide +kernel
theorem hsX10_init_rX12 : yX10_init.cls ≠ "java/lang/invoke/MethodHandle" ∧ yX10_init.cls ≠ "java/lang/invoke/VarHandle" ∧ (parseMethodDescriptor yX10_init.desc).map (fun d => d.parameters.length) = some 0 := by decide +kernel
theorem hsX12_init : yX12_init.cls ≠ "java/lang/invoke/MethodHandle" ∧ yX12_init.cls ≠ "java/lang/invoke/VarHandle" ∧ (parseMethodDescriptor yX12_init.desc).map (fun d => d.parameters.length) = some 1 := by decide +kernel
theorem hsX10_init_rX13 : yX10_init.cls ≠ "java/lang/invoke/MethodHandle" ∧ yX10_init.cls ≠ "java/lang/invoke/VarHandle" ∧ (parseMethodDescriptor yX10_init.desc).map (fun d => d.parameters.length) = some 0 := by decide +kernel
theorem hsX13_init : yX13_init.cls ≠ "java/lang/invoke/MethodHandle" ∧ yX13_init.cls ≠ "java/lang/invoke/VarHandle" ∧ (parseMethodDescriptor yX13_init.desc).map (fun d => d.parameters.length) = some 3 := by decide +kernel
theorem hsX14_init_rX15 : yX14_init.cls ≠ "java/lang/invoke/MethodHandle" ∧ yX14_init.cls ≠ "java/lang/invoke/VarHandle" ∧ (parseMethodDescriptor yX14_init.desc).map (fun d => d.parameters.length) = some 0 := by decide +kernel
theorem hsX15_init : yX15_init.cls ≠ "java/lang/invoke/MethodHandle" ∧ yX15_init.cls ≠ "java/lang/invoke/VarHandle" ∧ (parseMethodDescriptor yX15_init.desc).map (fun d => d.parameters.length) = some 3 := by decide +kernel
theorem hsX14_init_rX16 : yX14_init.cls ≠ "java/lang/invoke/MethodHandle" ∧ yX14_init.cls ≠ "java/lang/invoke/VarHandle" ∧ (parseMethodDescriptor yX14_init.desc).map (fun d => d.parameters.length) = some 0 := by decide +kernel
theorem hsX16_init : yX16_init.cls ≠ "java/lang/invoke/MethodHandle" ∧ yX16_init.cls ≠ "java/lang/invoke/VarHandle" ∧ (parseMethodDescriptor yX16_init.desc).map (fun d => d.parameters.length) = some 1 := by decide +kernel
theorem hsX14_init_rX17 : yX14_init.cls ≠ "java/lang/invoke/MethodHandle" ∧ yX14_init.cls ≠ "java/lang/invoke/VarHandle" ∧ (parseMethodDescriptor yX14_init.desc).map (fun d => d.parameters.length) = some 0 := by decide +kernel
theorem hsJ0_init_rJ2 : yJ0_init.cls ≠ "java/lang/invoke/MethodHandle" ∧ yJ0_init.cls ≠ "java/lang/invoke/VarHandle" ∧ (parseMethodDescriptor yJ0_init.desc).map (fun d => d.parameters.length) = some 0 := by decide +kernel
theorem hsJ1_init_rJ2 : yJ1_init.cls ≠ "java/lang/invoke/MethodHandle" ∧ yJ1_init.cls ≠ "java/lang/invoke/VarHandle" ∧ (parseMethodDescriptor yJ1_init.desc).map (fun d => d.parameters.length) = some 0 := by decide +kernel
theorem hsJ2_init : yJ2_init.cls ≠ "java/lang/invoke/MethodHandle" ∧ yJ2_init.cls ≠ "java/lang/invoke/VarHandle" ∧ (parseMethodDescriptor yJ2_init.desc).map (fun d => d.parameters.length) = some 1 := by decide +kernel
theorem hsX17_init : yX17_init.cls ≠ "java/lang/invoke/MethodHandle" ∧ yX17_init.cls ≠ "java/lang/invoke/VarHandle" ∧ (parseMethodDescriptor yX17_init.desc).map (fun d => d.parameters.length) = some 1 := by decide +kernel
theorem hsX18_init : yX18_init.cls ≠ "java/lang/invoke/MethodHandle" ∧ yX18_init.cls ≠ "java/lang/invoke/VarHandle" ∧ (parseMethodDescriptor yX18_init.desc).map (fun d => d.parameters.length) = some 1 := by decide +kernel
theorem hsX18_isNow : yX18_isNow.cls ≠ "java/lang/invoke/MethodHandle" ∧ yX18_isNow.cls ≠ "java/lang/invoke/VarHandle" ∧ (parseMethodDescriptor yX18_isNow.desc).map (fun d => d.parameters.length) = some 1 := by decide +kernel
theorem hsX18_told : yX18_told.cls ≠ "java/lang/invoke/MethodHandle" ∧ yX18_told.cls ≠ "java/lang/invoke/VarHandle" ∧ (parseMethodDescriptor yX18_told.desc).map (fun d => d.parameters.length) = some 2 := by decide +kernel
theorem hsX19_told : yX19_told.cls ≠ "java/lang/invoke/MethodHandle" ∧ yX19_told.cls ≠ "java/lang/invoke/VarHandle" ∧ (parseMethodDescriptor yX19_told.desc).map (fun d => d.parameters.length) = some 2 := by decide +kernel
theorem hsX19_init : yX19_init.cls ≠ "java/lang/invoke/MethodHandle" ∧ yX19_init.cls ≠ "java/lang/invoke/VarHandle" ∧ (parseMethodDescriptor yX19_init.desc).map (fun d => d.parameters.length) = some 1 := by decide +kernel
theorem hsX1_init : yX1_init.cls ≠ "java/lang/invoke/MethodHandle" ∧ yX1_init.cls ≠ "java/lang/invoke/VarHandle" ∧ (parseMethodDescriptor yX1_init.desc).map (fun d => d.parameters.length) = some 0 := by decide +kernel
theorem hsJ2_clear : yJ2_clear.cls ≠ "java/lang/invoke/MethodHandle" ∧ yJ2_clear.cls ≠ "java/lang/invoke/VarHandle" ∧ (parseMethodDescriptor yJ2_clear.desc).map (fun d => d.parameters.length) = some 0 := by decide +kernel
theorem hsJ12_copyOf_2_nm3 : yJ12_copyOf_2.cls ≠ "java/lang/invoke/MethodHandle" ∧ yJ12_copyOf_2.cls ≠ "java/lang/invoke/VarHandle" ∧ (parseMethodDescriptor yJ12_copyOf_2.desc).map (fun d => d.parameters.length) = some 3 := by decide +kernel
theorem hsJ12_copyOf : yJ12_copyOf.cls ≠ "java/lang/invoke/MethodHandle" ∧ yJ12_copyOf.cls ≠ "java/lang/invoke/VarHandle" ∧ (parseMethodDescriptor yJ12_copyOf.desc).map (fun d => d.parameters.length) = some 2 := by decide +kernel
theorem hsJ2_toArray : yJ2_toArray.cls ≠ "java/lang/invoke/MethodHandle" ∧ yJ2_toArray.cls ≠ "java/lang/invoke/VarHandle" ∧ (parseMethodDescriptor yJ2_toArray.desc).map (fun d => d.parameters.length) = some 0 := by decide +kernel
theorem hsJ11_hugeLength : yJ11_hugeLength.cls ≠ "java/lang/invoke/MethodHandle" ∧ yJ11_hugeLength.cls ≠ "java/lang/invoke/VarHandle" ∧ (parseMethodDescriptor yJ11_hugeLength.desc).map (fun d => d.parameters.length) = some 2 := by decide +kernel
theorem hsJ11_newLength : yJ11_newLength.cls ≠ "java/lang/invoke/MethodHandle" ∧ yJ11_newLength.cls ≠ "java/lang/invoke/VarHandle" ∧ (parseMethodDescriptor yJ11_newLength.desc).map (fun d => d.parameters.length) = some 3 := by decide +kernel
theorem hsJ2_grow : yJ2_grow.cls ≠ "java/lang/invoke/MethodHandle" ∧ yJ2_grow.cls ≠ "java/lang/invoke/VarHandle" ∧ (parseMethodDescriptor yJ2_grow.desc).map (fun d => d.parameters.length) = some 1 := by decide +kernel
theorem hsJ2_addAll : yJ2_addAll.cls ≠ "java/lang/invoke/MethodHandle" ∧ yJ2_addAll.cls ≠ "java/lang/invoke/VarHandle" ∧ (parseMethodDescriptor yJ2_addAll.desc).map (fun d => d.parameters.length) = some 1 := by decide +kernel
theorem hsX1_takes : yX1_takes.cls ≠ "java/lang/invoke/MethodHandle" ∧ yX1_takes.cls ≠ "java/lang/invoke/VarHandle" ∧ (parseMethodDescriptor yX1_takes.desc).map (fun d => d.parameters.length) = some 1 := by decide +kernel
theorem hsX1_isAt : yX1_isAt.cls ≠ "java/lang/invoke/MethodHandle" ∧ yX1_isAt.cls ≠ "java/lang/invoke/VarHandle" ∧ (parseMethodDescriptor yX1_isAt.desc).map (fun d => d.parameters.length) = some 2 := by decide +kernel
theorem hsX1_otherEnd : yX1_otherEnd.cls ≠ "java/lang/invoke/MethodHandle" ∧ yX1_otherEnd.cls ≠ "java/lang/invoke/VarHandle" ∧ (parseMethodDescriptor yX1_otherEnd.desc).map (fun d => d.parameters.length) = some 2 := by decide +kernel
