/-! the law: functions; printed by gen.py -/
/- LostLanesLaw.law([I)Z -/
def fL_law_b1270 (nf : Nat) (xs : Nat → Int32) (Ln : Nat) (kk18 : xT → xT → Nat → Nat → xI → xL → xR → Nat → Nat → Int32 → Option (Int32 × xT × xT × Nat × Nat × xI × xL × xR)) (U : (Nat → Option Nat)) (T : xT) (N : xT) (Z : Nat) (S : Nat) (I : xI) (L : xL) (R : xR) (x1 : Nat) (x2 : Nat) (x3 : Int32) (z0 : Int32) : Option (Int32 × xT × xT × Nat × Nat × xI × xL × xR) :=
  chk (inb (x3 + (ii 1)) Ln) <|
  tg T 6 x2 <|
  b2 (fX5_back nf T N I R x2 (xs ((x3 + (ii 1))).toNatClampNeg)) fun r2 I3 =>
  if z0 = r2 then
    nm (x3 + (ii 6)) fun u7 =>
    kk18 T N Z S I3 L R x1 x2 u7
  else
    some ((ii 0), T, N, Z, S, I3, L, R)
def fL_law_b1247 (nf : Nat) (xs : Nat → Int32) (Ln : Nat) (kk18 : xT → xT → Nat → Nat → xI → xL → xR → Nat → Nat → Int32 → Option (Int32 × xT × xT × Nat × Nat × xI × xL × xR)) (U : (Nat → Option Nat)) (T : xT) (N : xT) (Z : Nat) (S : Nat) (I : xI) (L : xL) (R : xR) (x1 : Nat) (x2 : Nat) (x3 : Int32) (z0 : Int32) : Option (Int32 × xT × xT × Nat × Nat × xI × xL × xR) :=
  chk (inb (x3 + (ii 1)) Ln) <|
  tg T 6 x2 <|
  b2 (fX5_image nf T N I R x2 (xs ((x3 + (ii 1))).toNatClampNeg)) fun r2 I3 =>
  if z0 = r2 then
    nm (x3 + (ii 6)) fun u7 =>
    kk18 T N Z S I3 L R x1 x2 u7
  else
    some ((ii 0), T, N, Z, S, I3, L, R)
def fL_law_b577 (nf : Nat) (xs : Nat → Int32) (Ln : Nat) (kk18 : xT → xT → Nat → Nat → xI → xL → xR → Nat → Nat → Int32 → Option (Int32 × xT × xT × Nat × Nat × xI × xL × xR)) (U : (Nat → Option Nat)) (T : xT) (N : xT) (Z : Nat) (S : Nat) (I : xI) (L : xL) (R : xR) (x1 : Nat) (x2 : Nat) (x3 : Int32) (z0 : Int32) : Option (Int32 × xT × xT × Nat × Nat × xI × xL × xR) :=
  tg T 6 x2 <|
  b3 (fX5_orders nf T N I L R x2) fun r1 I2 L3 =>
  if z0 = r1 then
    nm (x3 + (ii 6)) fun u7 =>
    kk18 T N Z S I2 L3 R x1 x2 u7
  else
    some ((ii 0), T, N, Z, S, I2, L3, R)
def fL_law_b564 (nf : Nat) (xs : Nat → Int32) (Ln : Nat) (kk18 : xT → xT → Nat → Nat → xI → xL → xR → Nat → Nat → Int32 → Option (Int32 × xT × xT × Nat × Nat × xI × xL × xR)) (U : (Nat → Option Nat)) (T : xT) (N : xT) (Z : Nat) (S : Nat) (I : xI) (L : xL) (R : xR) (x1 : Nat) (x2 : Nat) (x3 : Int32) (z0 : Int32) : Option (Int32 × xT × xT × Nat × Nat × xI × xL × xR) :=
  tg T 6 x2 <|
  b3 (fX5_law nf T N I L R x2) fun r1 I2 L3 =>
  if z0 = r1 then
    nm (x3 + (ii 6)) fun u7 =>
    kk18 T N Z S I2 L3 R x1 x2 u7
  else
    some ((ii 0), T, N, Z, S, I2, L3, R)
def fL_law_b18 (nf : Nat) (xs : Nat → Int32) (Ln : Nat) (U : (Nat → Option Nat)) : Nat → xT → xT → Nat → Nat → xI → xL → xR → Nat → Nat → Int32 → Option (Int32 × xT × xT × Nat × Nat × xI × xL × xR)
  | 0, _, _, _, _, _, _, _, _, _, _ => none
  | k + 1, T, N, Z, S, I, L, R, x1, x2, x3 =>
    if ((Int32.ofNat Ln) - (ii 6)) < x3 then
      some ((ii 1), T, N, Z, S, I, L, R)
    else
      chk (inb x3 Ln) <|
      if ((xs (x3).toNatClampNeg) &&& (ii 63)) = (ii 0) then
        chk (inb (x3 + (ii 1)) Ln) <|
        chk (inb (x3 + (ii 2)) Ln) <|
        chk (inb (x3 + (ii 3)) Ln) <|
        chk (inb (x3 + (ii 4)) Ln) <|
        tg T 1 x1 <|
        b2 (fX0_lane T N I R x1 (xs ((x3 + (ii 1))).toNatClampNeg) (xs ((x3 + (ii 2))).toNatClampNeg) (xs ((x3 + (ii 3))).toNatClampNeg) (xs ((x3 + (ii 4))).toNatClampNeg)) fun r8 I9 =>
        chk (inb (x3 + (ii 1)) Ln) <|
        chk (inb (x3 + (ii 2)) Ln) <|
        chk (inb (x3 + (ii 3)) Ln) <|
        chk (inb (x3 + (ii 4)) Ln) <|
        tg T 6 x2 <|
        b2 (fX5_lane T N I9 R x2 (xs ((x3 + (ii 1))).toNatClampNeg) (xs ((x3 + (ii 2))).toNatClampNeg) (xs ((x3 + (ii 3))).toNatClampNeg) (xs ((x3 + (ii 4))).toNatClampNeg)) fun r16 I17 =>
        if r8 = r16 then
          nm (x3 + (ii 6)) fun u21 =>
          fL_law_b18 nf xs Ln U k T N Z S I17 L R x1 x2 u21
        else
          some ((ii 0), T, N, Z, S, I17, L, R)
      else
      if ((xs (x3).toNatClampNeg) &&& (ii 63)) = (ii 1) then
        chk (inb (x3 + (ii 1)) Ln) <|
        chk (inb (x3 + (ii 2)) Ln) <|
        tg T 1 x1 <|
        (fX0_at T N I R x1 (xs ((x3 + (ii 1))).toNatClampNeg) (xs ((x3 + (ii 2))).toNatClampNeg)).bind fun r25 =>
        chk (inb (x3 + (ii 1)) Ln) <|
        chk (inb (x3 + (ii 2)) Ln) <|
        tg T 6 x2 <|
        b2 (fX5_at T N I R x2 (xs ((x3 + (ii 1))).toNatClampNeg) (xs ((x3 + (ii 2))).toNatClampNeg)) fun r30 I31 =>
        if r25 = r30 then
          nm (x3 + (ii 6)) fun u35 =>
          fL_law_b18 nf xs Ln U k T N Z S I31 L R x1 x2 u35
        else
          some ((ii 0), T, N, Z, S, I31, L, R)
      else
      if ((xs (x3).toNatClampNeg) &&& (ii 63)) = (ii 2) then
        chk (inb (x3 + (ii 1)) Ln) <|
        chk (inb (x3 + (ii 2)) Ln) <|
        tg T 1 x1 <|
        b2 (fX0_child T N I R x1 (xs ((x3 + (ii 1))).toNatClampNeg) (xs ((x3 + (ii 2))).toNatClampNeg)) fun r39 I40 =>
        chk (inb (x3 + (ii 1)) Ln) <|
        chk (inb (x3 + (ii 2)) Ln) <|
        tg T 6 x2 <|
        b2 (fX5_child T N I40 R x2 (xs ((x3 + (ii 1))).toNatClampNeg) (xs ((x3 + (ii 2))).toNatClampNeg)) fun r45 I46 =>
        if r39 = r45 then
          nm (x3 + (ii 6)) fun u50 =>
          fL_law_b18 nf xs Ln U k T N Z S I46 L R x1 x2 u50
        else
          some ((ii 0), T, N, Z, S, I46, L, R)
      else
      if ((xs (x3).toNatClampNeg) &&& (ii 63)) = (ii 3) then
        chk (inb (x3 + (ii 1)) Ln) <|
        chk (inb (x3 + (ii 2)) Ln) <|
        tg T 1 x1 <|
        b3 (fX0_of nf T N I L R x1 (xs ((x3 + (ii 1))).toNatClampNeg) (xs ((x3 + (ii 2))).toNatClampNeg)) fun r54 I55 L56 =>
        chk (inb (x3 + (ii 1)) Ln) <|
        chk (inb (x3 + (ii 2)) Ln) <|
        tg T 6 x2 <|
        b3 (fX5_of nf T N I55 L56 R x2 (xs ((x3 + (ii 1))).toNatClampNeg) (xs ((x3 + (ii 2))).toNatClampNeg)) fun r61 I62 L63 =>
        if r54 = r61 then
          nm (x3 + (ii 6)) fun u67 =>
          fL_law_b18 nf xs Ln U k T N Z S I62 L63 R x1 x2 u67
        else
          some ((ii 0), T, N, Z, S, I62, L63, R)
      else
      if ((xs (x3).toNatClampNeg) &&& (ii 63)) = (ii 4) then
        chk (inb (x3 + (ii 1)) Ln) <|
        chk (inb (x3 + (ii 2)) Ln) <|
        chk (inb (x3 + (ii 3)) Ln) <|
        tg T 1 x1 <|
        b2 (fX0_asks nf T N I L R x1 (xs ((x3 + (ii 1))).toNatClampNeg) (xs ((x3 + (ii 2))).toNatClampNeg) (xs ((x3 + (ii 3))).toNatClampNeg)) fun r72 L73 =>
        chk (inb (x3 + (ii 1)) Ln) <|
        chk (inb (x3 + (ii 2)) Ln) <|
        chk (inb (x3 + (ii 3)) Ln) <|
        tg T 6 x2 <|
        b3 (fX5_asks nf T N I L73 R x2 (xs ((x3 + (ii 1))).toNatClampNeg) (xs ((x3 + (ii 2))).toNatClampNeg) (xs ((x3 + (ii 3))).toNatClampNeg)) fun r79 I80 L81 =>
        if r72 = r79 then
          nm (x3 + (ii 6)) fun u85 =>
          fL_law_b18 nf xs Ln U k T N Z S I80 L81 R x1 x2 u85
        else
          some ((ii 0), T, N, Z, S, I80, L81, R)
      else
      if ((xs (x3).toNatClampNeg) &&& (ii 63)) = (ii 5) then
        chk (inb (x3 + (ii 1)) Ln) <|
        chk (inb (x3 + (ii 2)) Ln) <|
        tg T 1 x1 <|
        b2 (fX0_terms T N I R x1 (xs ((x3 + (ii 1))).toNatClampNeg) (xs ((x3 + (ii 2))).toNatClampNeg)) fun r89 I90 =>
        chk (inb (x3 + (ii 1)) Ln) <|
        chk (inb (x3 + (ii 2)) Ln) <|
        tg T 6 x2 <|
        b2 (fX5_terms T N I90 R x2 (xs ((x3 + (ii 1))).toNatClampNeg) (xs ((x3 + (ii 2))).toNatClampNeg)) fun r95 I96 =>
        if r89 = r95 then
          nm (x3 + (ii 6)) fun u100 =>
          fL_law_b18 nf xs Ln U k T N Z S I96 L R x1 x2 u100
        else
          some ((ii 0), T, N, Z, S, I96, L, R)
      else
      if ((xs (x3).toNatClampNeg) &&& (ii 63)) = (ii 6) then
        chk (inb (x3 + (ii 1)) Ln) <|
        chk (inb (x3 + (ii 2)) Ln) <|
        chk (inb (x3 + (ii 3)) Ln) <|
        chk (inb (x3 + (ii 4)) Ln) <|
        chk (inb (x3 + (ii 5)) Ln) <|
        tg T 1 x1 <|
        b2 (fX0_feed nf T N I R x1 (xs ((x3 + (ii 1))).toNatClampNeg) (xs ((x3 + (ii 2))).toNatClampNeg) (xs ((x3 + (ii 3))).toNatClampNeg) (xs ((x3 + (ii 4))).toNatClampNeg) (xs ((x3 + (ii 5))).toNatClampNeg)) fun r107 I108 =>
        chk (inb (x3 + (ii 1)) Ln) <|
        chk (inb (x3 + (ii 2)) Ln) <|
        chk (inb (x3 + (ii 3)) Ln) <|
        chk (inb (x3 + (ii 4)) Ln) <|
        chk (inb (x3 + (ii 5)) Ln) <|
        tg T 6 x2 <|
        b2 (fX5_feed nf T N I108 R x2 (xs ((x3 + (ii 1))).toNatClampNeg) (xs ((x3 + (ii 2))).toNatClampNeg) (xs ((x3 + (ii 3))).toNatClampNeg) (xs ((x3 + (ii 4))).toNatClampNeg) (xs ((x3 + (ii 5))).toNatClampNeg)) fun r116 I117 =>
        if r107 = r116 then
          nm (x3 + (ii 6)) fun u121 =>
          fL_law_b18 nf xs Ln U k T N Z S I117 L R x1 x2 u121
        else
          some ((ii 0), T, N, Z, S, I117, L, R)
      else
      if ((xs (x3).toNatClampNeg) &&& (ii 63)) = (ii 7) then
        chk (inb (x3 + (ii 1)) Ln) <|
        tg T 1 x1 <|
        b2 (fX0_end T I x1 (xs ((x3 + (ii 1))).toNatClampNeg)) fun r124 I125 =>
        chk (inb (x3 + (ii 1)) Ln) <|
        tg T 6 x2 <|
        b2 (fX5_end T I125 x2 (xs ((x3 + (ii 1))).toNatClampNeg)) fun r129 I130 =>
        if r124 = r129 then
          nm (x3 + (ii 6)) fun u134 =>
          fL_law_b18 nf xs Ln U k T N Z S I130 L R x1 x2 u134
        else
          some ((ii 0), T, N, Z, S, I130, L, R)
      else
      if ((xs (x3).toNatClampNeg) &&& (ii 63)) = (ii 8) then
        tg T 1 x1 <|
        b2 (fX0_row nf T N I R x1) fun r136 I137 =>
        tg T 6 x2 <|
        b2 (fX5_row nf T N I137 R x2) fun r140 I141 =>
        if r136 = r140 then
          nm (x3 + (ii 6)) fun u145 =>
          fL_law_b18 nf xs Ln U k T N Z S I141 L R x1 x2 u145
        else
          some ((ii 0), T, N, Z, S, I141, L, R)
      else
      if ((xs (x3).toNatClampNeg) &&& (ii 63)) = (ii 9) then
        tg T 1 x1 <|
        (fX0_gravel T I x1).bind fun r147 =>
        tg T 6 x2 <|
        b2 (fX5_gravel T I x2) fun r150 I151 =>
        if r147 = r150 then
          nm (x3 + (ii 6)) fun u155 =>
          fL_law_b18 nf xs Ln U k T N Z S I151 L R x1 x2 u155
        else
          some ((ii 0), T, N, Z, S, I151, L, R)
      else
      if ((xs (x3).toNatClampNeg) &&& (ii 63)) = (ii 10) then
        tg T 1 x1 <|
        b7 (fX0_law nf U T N Z S I L R x1) fun r157 T158 N159 Z160 S161 I162 R163 =>
        fL_law_b564 nf xs Ln (fL_law_b18 nf xs Ln U k) U T158 N159 Z160 S161 I162 L R163 x1 x2 x3 r157
      else
      if ((xs (x3).toNatClampNeg) &&& (ii 63)) = (ii 11) then
        tg T 1 x1 <|
        b8 (fX0_orders nf U T N Z S I L R x1) fun r167 T168 N169 Z170 S171 I172 L173 R174 =>
        fL_law_b577 nf xs Ln (fL_law_b18 nf xs Ln U k) U T168 N169 Z170 S171 I172 L173 R174 x1 x2 x3 r167
      else
      if ((xs (x3).toNatClampNeg) &&& (ii 63)) = (ii 12) then
        tg T 1 x1 <|
        (fX0_fault T I x1).bind fun r178 =>
        tg T 6 x2 <|
        b2 (fX5_fault T I x2) fun r181 I182 =>
        if r178 = r181 then
          nm (x3 + (ii 6)) fun u186 =>
          fL_law_b18 nf xs Ln U k T N Z S I182 L R x1 x2 u186
        else
          some ((ii 0), T, N, Z, S, I182, L, R)
      else
      if ((xs (x3).toNatClampNeg) &&& (ii 63)) = (ii 13) then
        tg T 1 x1 <|
        (fX0_stopped T I x1).bind fun r188 =>
        tg T 6 x2 <|
        b2 (fX5_stopped T I x2) fun r191 I192 =>
        if r188 = r191 then
          nm (x3 + (ii 6)) fun u196 =>
          fL_law_b18 nf xs Ln U k T N Z S I192 L R x1 x2 u196
        else
          some ((ii 0), T, N, Z, S, I192, L, R)
      else
      if ((xs (x3).toNatClampNeg) &&& (ii 63)) = (ii 14) then
        chk (inb (x3 + (ii 1)) Ln) <|
        tg T 1 x1 <|
        b2 (fX0_force T N I R x1 (xs ((x3 + (ii 1))).toNatClampNeg)) fun r199 I200 =>
        chk (inb (x3 + (ii 1)) Ln) <|
        tg T 6 x2 <|
        b2 (fX5_force T N I200 R x2 (xs ((x3 + (ii 1))).toNatClampNeg)) fun r204 I205 =>
        if r199 = r204 then
          nm (x3 + (ii 6)) fun u209 =>
          fL_law_b18 nf xs Ln U k T N Z S I205 L R x1 x2 u209
        else
          some ((ii 0), T, N, Z, S, I205, L, R)
      else
      if ((xs (x3).toNatClampNeg) &&& (ii 63)) = (ii 15) then
        chk (inb (x3 + (ii 1)) Ln) <|
        tg T 1 x1 <|
        b4 (fX0_wander nf T N I L R x1 (xs ((x3 + (ii 1))).toNatClampNeg)) fun r212 I213 L214 R215 =>
        chk (inb (x3 + (ii 1)) Ln) <|
        tg T 6 x2 <|
        b3 (fX5_wander nf T N I213 L214 R215 x2 (xs ((x3 + (ii 1))).toNatClampNeg)) fun r219 I220 L221 =>
        if r212 = r219 then
          nm (x3 + (ii 6)) fun u225 =>
          fL_law_b18 nf xs Ln U k T N Z S I220 L221 R215 x1 x2 u225
        else
          some ((ii 0), T, N, Z, S, I220, L221, R215)
      else
      if ((xs (x3).toNatClampNeg) &&& (ii 63)) = (ii 16) then
        chk (inb (x3 + (ii 1)) Ln) <|
        tg T 1 x1 <|
        b4 (fX0_cry nf T N I L R x1 (xs ((x3 + (ii 1))).toNatClampNeg)) fun r228 I229 L230 R231 =>
        chk (inb (x3 + (ii 1)) Ln) <|
        tg T 6 x2 <|
        b3 (fX5_cry nf T N I229 L230 R231 x2 (xs ((x3 + (ii 1))).toNatClampNeg)) fun r235 I236 L237 =>
        if r228 = r235 then
          nm (x3 + (ii 6)) fun u241 =>
          fL_law_b18 nf xs Ln U k T N Z S I236 L237 R231 x1 x2 u241
        else
          some ((ii 0), T, N, Z, S, I236, L237, R231)
      else
      if ((xs (x3).toNatClampNeg) &&& (ii 63)) = (ii 17) then
        chk (inb (x3 + (ii 1)) Ln) <|
        chk (inb (x3 + (ii 2)) Ln) <|
        tg T 1 x1 <|
        b3 (fX0_lead nf T N I R x1 (xs ((x3 + (ii 1))).toNatClampNeg) (xs ((x3 + (ii 2))).toNatClampNeg)) fun r245 I246 R247 =>
        chk (inb (x3 + (ii 1)) Ln) <|
        chk (inb (x3 + (ii 2)) Ln) <|
        tg T 6 x2 <|
        b2 (fX5_lead nf T N I246 R247 x2 (xs ((x3 + (ii 1))).toNatClampNeg) (xs ((x3 + (ii 2))).toNatClampNeg)) fun r252 I253 =>
        if r245 = r252 then
          nm (x3 + (ii 6)) fun u257 =>
          fL_law_b18 nf xs Ln U k T N Z S I253 L R247 x1 x2 u257
        else
          some ((ii 0), T, N, Z, S, I253, L, R247)
      else
      if ((xs (x3).toNatClampNeg) &&& (ii 63)) = (ii 18) then
        tg T 1 x1 <|
        b4 (fX0_pass nf T N I L R x1) fun r259 I260 L261 R262 =>
        tg T 6 x2 <|
        b3 (fX5_pass nf T N I260 L261 R262 x2) fun r265 I266 L267 =>
        if r259 = r265 then
          nm (x3 + (ii 6)) fun u271 =>
          fL_law_b18 nf xs Ln U k T N Z S I266 L267 R262 x1 x2 u271
        else
          some ((ii 0), T, N, Z, S, I266, L267, R262)
      else
      if ((xs (x3).toNatClampNeg) &&& (ii 63)) = (ii 19) then
        tg T 1 x1 <|
        b2 (fX0_undo T N I R x1) fun r273 I274 =>
        tg T 6 x2 <|
        b2 (fX5_undo nf T N I274 R x2) fun r277 I278 =>
        if r273 = r277 then
          nm (x3 + (ii 6)) fun u282 =>
          fL_law_b18 nf xs Ln U k T N Z S I278 L R x1 x2 u282
        else
          some ((ii 0), T, N, Z, S, I278, L, R)
      else
      if ((xs (x3).toNatClampNeg) &&& (ii 63)) = (ii 20) then
        chk (inb (x3 + (ii 1)) Ln) <|
        chk (inb (x3 + (ii 2)) Ln) <|
        tg T 1 x1 <|
        b3 (fX0_where nf T N I L R x1 (xs ((x3 + (ii 1))).toNatClampNeg) (xs ((x3 + (ii 2))).toNatClampNeg)) fun r286 I287 L288 =>
        chk (inb (x3 + (ii 1)) Ln) <|
        chk (inb (x3 + (ii 2)) Ln) <|
        tg T 6 x2 <|
        b3 (fX5_where nf T N I287 L288 R x2 (xs ((x3 + (ii 1))).toNatClampNeg) (xs ((x3 + (ii 2))).toNatClampNeg)) fun r293 I294 L295 =>
        if r286 = r293 then
          nm (x3 + (ii 6)) fun u299 =>
          fL_law_b18 nf xs Ln U k T N Z S I294 L295 R x1 x2 u299
        else
          some ((ii 0), T, N, Z, S, I294, L295, R)
      else
      if ((xs (x3).toNatClampNeg) &&& (ii 63)) = (ii 21) then
        chk (inb (x3 + (ii 1)) Ln) <|
        chk (inb (x3 + (ii 2)) Ln) <|
        tg T 1 x1 <|
        b2 (fX0_far nf T N I R x1 (xs ((x3 + (ii 1))).toNatClampNeg) (xs ((x3 + (ii 2))).toNatClampNeg)) fun r303 I304 =>
        chk (inb (x3 + (ii 1)) Ln) <|
        chk (inb (x3 + (ii 2)) Ln) <|
        tg T 6 x2 <|
        b2 (fX5_far nf T N I304 R x2 (xs ((x3 + (ii 1))).toNatClampNeg) (xs ((x3 + (ii 2))).toNatClampNeg)) fun r309 I310 =>
        if r303 = r309 then
          nm (x3 + (ii 6)) fun u314 =>
          fL_law_b18 nf xs Ln U k T N Z S I310 L R x1 x2 u314
        else
          some ((ii 0), T, N, Z, S, I310, L, R)
      else
      if ((xs (x3).toNatClampNeg) &&& (ii 63)) = (ii 22) then
        chk (inb (x3 + (ii 1)) Ln) <|
        chk (inb (x3 + (ii 2)) Ln) <|
        tg T 1 x1 <|
        b3 (fX0_found nf T N I L R x1 (xs ((x3 + (ii 1))).toNatClampNeg) (xs ((x3 + (ii 2))).toNatClampNeg)) fun r318 I319 L320 =>
        chk (inb (x3 + (ii 1)) Ln) <|
        chk (inb (x3 + (ii 2)) Ln) <|
        tg T 6 x2 <|
        b3 (fX5_found nf T N I319 L320 R x2 (xs ((x3 + (ii 1))).toNatClampNeg) (xs ((x3 + (ii 2))).toNatClampNeg)) fun r325 I326 L327 =>
        if r318 = r325 then
          nm (x3 + (ii 6)) fun u331 =>
          fL_law_b18 nf xs Ln U k T N Z S I326 L327 R x1 x2 u331
        else
          some ((ii 0), T, N, Z, S, I326, L327, R)
      else
      if ((xs (x3).toNatClampNeg) &&& (ii 63)) = (ii 23) then
        chk (inb (x3 + (ii 1)) Ln) <|
        tg T 1 x1 <|
        b3 (fX0_post nf T N I L R x1 (xs ((x3 + (ii 1))).toNatClampNeg)) fun r334 I335 L336 =>
        chk (inb (x3 + (ii 1)) Ln) <|
        tg T 6 x2 <|
        b3 (fX5_post nf T N I335 L336 R x2 (xs ((x3 + (ii 1))).toNatClampNeg)) fun r340 I341 L342 =>
        if r334 = r340 then
          nm (x3 + (ii 6)) fun u346 =>
          fL_law_b18 nf xs Ln U k T N Z S I341 L342 R x1 x2 u346
        else
          some ((ii 0), T, N, Z, S, I341, L342, R)
      else
      if ((xs (x3).toNatClampNeg) &&& (ii 63)) = (ii 24) then
        chk (inb (x3 + (ii 1)) Ln) <|
        chk (inb (x3 + (ii 2)) Ln) <|
        tg T 1 x1 <|
        b2 (fX0_posts nf T N I R x1 (xs ((x3 + (ii 1))).toNatClampNeg) (xs ((x3 + (ii 2))).toNatClampNeg)) fun r350 I351 =>
        chk (inb (x3 + (ii 1)) Ln) <|
        chk (inb (x3 + (ii 2)) Ln) <|
        tg T 6 x2 <|
        b2 (fX5_posts nf T N I351 R x2 (xs ((x3 + (ii 1))).toNatClampNeg) (xs ((x3 + (ii 2))).toNatClampNeg)) fun r356 I357 =>
        if r350 = r356 then
          nm (x3 + (ii 6)) fun u361 =>
          fL_law_b18 nf xs Ln U k T N Z S I357 L R x1 x2 u361
        else
          some ((ii 0), T, N, Z, S, I357, L, R)
      else
      if ((xs (x3).toNatClampNeg) &&& (ii 63)) = (ii 25) then
        chk (inb (x3 + (ii 1)) Ln) <|
        tg T 1 x1 <|
        b3 (fX0_again nf T N I L R x1 (xs ((x3 + (ii 1))).toNatClampNeg)) fun r364 I365 L366 =>
        chk (inb (x3 + (ii 1)) Ln) <|
        tg T 6 x2 <|
        b3 (fX5_again nf T N I365 L366 R x2 (xs ((x3 + (ii 1))).toNatClampNeg)) fun r370 I371 L372 =>
        if r364 = r370 then
          nm (x3 + (ii 6)) fun u376 =>
          fL_law_b18 nf xs Ln U k T N Z S I371 L372 R x1 x2 u376
        else
          some ((ii 0), T, N, Z, S, I371, L372, R)
      else
      if ((xs (x3).toNatClampNeg) &&& (ii 63)) = (ii 26) then
        chk (inb (x3 + (ii 1)) Ln) <|
        tg T 1 x1 <|
        b2 (fX0_hear T N I R x1 (xs ((x3 + (ii 1))).toNatClampNeg)) fun r379 I380 =>
        chk (inb (x3 + (ii 1)) Ln) <|
        tg T 6 x2 <|
        b2 (fX5_hear T N I380 R x2 (xs ((x3 + (ii 1))).toNatClampNeg)) fun r384 I385 =>
        if r379 = r384 then
          nm (x3 + (ii 6)) fun u389 =>
          fL_law_b18 nf xs Ln U k T N Z S I385 L R x1 x2 u389
        else
          some ((ii 0), T, N, Z, S, I385, L, R)
      else
      if ((xs (x3).toNatClampNeg) &&& (ii 63)) = (ii 27) then
        tg T 1 x1 <|
        b2 (fX0_forget T I R x1) fun r391 I392 =>
        tg T 6 x2 <|
        b2 (fX5_forget T N I392 R x2) fun r395 I396 =>
        if r391 = r395 then
          nm (x3 + (ii 6)) fun u400 =>
          fL_law_b18 nf xs Ln U k T N Z S I396 L R x1 x2 u400
        else
          some ((ii 0), T, N, Z, S, I396, L, R)
      else
      if ((xs (x3).toNatClampNeg) &&& (ii 63)) = (ii 28) then
        chk (inb (x3 + (ii 1)) Ln) <|
        tg T 1 x1 <|
        b2 (fX0_gone nf T N I R x1 (xs ((x3 + (ii 1))).toNatClampNeg)) fun r403 I404 =>
        chk (inb (x3 + (ii 1)) Ln) <|
        tg T 6 x2 <|
        b2 (fX5_gone nf T N I404 R x2 (xs ((x3 + (ii 1))).toNatClampNeg)) fun r408 I409 =>
        if r403 = r408 then
          nm (x3 + (ii 6)) fun u413 =>
          fL_law_b18 nf xs Ln U k T N Z S I409 L R x1 x2 u413
        else
          some ((ii 0), T, N, Z, S, I409, L, R)
      else
      if ((xs (x3).toNatClampNeg) &&& (ii 63)) = (ii 29) then
        chk (inb (x3 + (ii 1)) Ln) <|
        tg T 1 x1 <|
        (fX0_named nf T N I R x1 (xs ((x3 + (ii 1))).toNatClampNeg)).bind fun r416 =>
        chk (inb (x3 + (ii 1)) Ln) <|
        tg T 6 x2 <|
        b2 (fX5_named nf T N I R x2 (xs ((x3 + (ii 1))).toNatClampNeg)) fun r420 I421 =>
        if r416 = r420 then
          nm (x3 + (ii 6)) fun u425 =>
          fL_law_b18 nf xs Ln U k T N Z S I421 L R x1 x2 u425
        else
          some ((ii 0), T, N, Z, S, I421, L, R)
      else
      if ((xs (x3).toNatClampNeg) &&& (ii 63)) = (ii 30) then
        chk (inb (x3 + (ii 1)) Ln) <|
        chk (inb (x3 + (ii 2)) Ln) <|
        chk (inb (x3 + (ii 3)) Ln) <|
        tg T 1 x1 <|
        b2 (fX0_letter nf T N I R x1 (xs ((x3 + (ii 1))).toNatClampNeg) (xs ((x3 + (ii 2))).toNatClampNeg) (xs ((x3 + (ii 3))).toNatClampNeg)) fun r430 I431 =>
        chk (inb (x3 + (ii 1)) Ln) <|
        chk (inb (x3 + (ii 2)) Ln) <|
        chk (inb (x3 + (ii 3)) Ln) <|
        tg T 6 x2 <|
        b2 (fX5_letter nf T N I431 R x2 (xs ((x3 + (ii 1))).toNatClampNeg) (xs ((x3 + (ii 2))).toNatClampNeg) (xs ((x3 + (ii 3))).toNatClampNeg)) fun r437 I438 =>
        if r430 = r437 then
          nm (x3 + (ii 6)) fun u442 =>
          fL_law_b18 nf xs Ln U k T N Z S I438 L R x1 x2 u442
        else
          some ((ii 0), T, N, Z, S, I438, L, R)
      else
      if ((xs (x3).toNatClampNeg) &&& (ii 63)) = (ii 31) then
        chk (inb (x3 + (ii 1)) Ln) <|
        tg T 1 x1 <|
        b2 (fX0_apart nf T N I R x1 (xs ((x3 + (ii 1))).toNatClampNeg)) fun r445 I446 =>
        chk (inb (x3 + (ii 1)) Ln) <|
        tg T 6 x2 <|
        b2 (fX5_apart nf T N I446 R x2 (xs ((x3 + (ii 1))).toNatClampNeg)) fun r450 I451 =>
        if r445 = r450 then
          nm (x3 + (ii 6)) fun u455 =>
          fL_law_b18 nf xs Ln U k T N Z S I451 L R x1 x2 u455
        else
          some ((ii 0), T, N, Z, S, I451, L, R)
      else
      if ((xs (x3).toNatClampNeg) &&& (ii 63)) = (ii 32) then
        tg T 1 x1 <|
        (fX0_alike nf T N I R x1).bind fun r457 =>
        tg T 6 x2 <|
        b2 (fX5_alike nf T N I R x2) fun r460 I461 =>
        if r457 = r460 then
          nm (x3 + (ii 6)) fun u465 =>
          fL_law_b18 nf xs Ln U k T N Z S I461 L R x1 x2 u465
        else
          some ((ii 0), T, N, Z, S, I461, L, R)
      else
      if ((xs (x3).toNatClampNeg) &&& (ii 63)) = (ii 33) then
        tg T 1 x1 <|
        b2 (fX0_round nf T N I R x1) fun r467 I468 =>
        tg T 6 x2 <|
        b2 (fX5_round nf T N I468 R x2) fun r471 I472 =>
        if r467 = r471 then
          nm (x3 + (ii 6)) fun u476 =>
          fL_law_b18 nf xs Ln U k T N Z S I472 L R x1 x2 u476
        else
          some ((ii 0), T, N, Z, S, I472, L, R)
      else
      if ((xs (x3).toNatClampNeg) &&& (ii 63)) = (ii 34) then
        tg T 1 x1 <|
        (fX0_dead nf T N I R x1).bind fun r478 =>
        tg T 6 x2 <|
        b2 (fX5_dead nf T N I R x2) fun r481 I482 =>
        if r478 = r481 then
          nm (x3 + (ii 6)) fun u486 =>
          fL_law_b18 nf xs Ln U k T N Z S I482 L R x1 x2 u486
        else
          some ((ii 0), T, N, Z, S, I482, L, R)
      else
      if ((xs (x3).toNatClampNeg) &&& (ii 63)) = (ii 35) then
        chk (inb (x3 + (ii 1)) Ln) <|
        chk (inb (x3 + (ii 2)) Ln) <|
        tg T 1 x1 <|
        b2 (fX0_few nf T N I L R x1 (xs ((x3 + (ii 1))).toNatClampNeg) (xs ((x3 + (ii 2))).toNatClampNeg)) fun r490 L491 =>
        chk (inb (x3 + (ii 1)) Ln) <|
        chk (inb (x3 + (ii 2)) Ln) <|
        tg T 6 x2 <|
        b3 (fX5_few nf T N I L491 R x2 (xs ((x3 + (ii 1))).toNatClampNeg) (xs ((x3 + (ii 2))).toNatClampNeg)) fun r496 I497 L498 =>
        if r490 = r496 then
          nm (x3 + (ii 6)) fun u502 =>
          fL_law_b18 nf xs Ln U k T N Z S I497 L498 R x1 x2 u502
        else
          some ((ii 0), T, N, Z, S, I497, L498, R)
      else
      if ((xs (x3).toNatClampNeg) &&& (ii 63)) = (ii 36) then
        chk (inb (x3 + (ii 1)) Ln) <|
        chk (inb (x3 + (ii 2)) Ln) <|
        tg T 1 x1 <|
        b3 (fX0_compare nf T N I L R x1 (xs ((x3 + (ii 1))).toNatClampNeg) (xs ((x3 + (ii 2))).toNatClampNeg)) fun r506 I507 L508 =>
        chk (inb (x3 + (ii 1)) Ln) <|
        chk (inb (x3 + (ii 2)) Ln) <|
        tg T 6 x2 <|
        b3 (fX5_compare nf T N I507 L508 R x2 (xs ((x3 + (ii 1))).toNatClampNeg) (xs ((x3 + (ii 2))).toNatClampNeg)) fun r513 I514 L515 =>
        if r506 = r513 then
          nm (x3 + (ii 6)) fun u519 =>
          fL_law_b18 nf xs Ln U k T N Z S I514 L515 R x1 x2 u519
        else
          some ((ii 0), T, N, Z, S, I514, L515, R)
      else
      if ((xs (x3).toNatClampNeg) &&& (ii 63)) = (ii 37) then
        chk (inb (x3 + (ii 1)) Ln) <|
        chk (inb (x3 + (ii 2)) Ln) <|
        tg T 1 x1 <|
        b3 (fX0_decades nf T N I L R x1 (xs ((x3 + (ii 1))).toNatClampNeg) (xs ((x3 + (ii 2))).toNatClampNeg)) fun r523 I524 L525 =>
        chk (inb (x3 + (ii 1)) Ln) <|
        chk (inb (x3 + (ii 2)) Ln) <|
        tg T 6 x2 <|
        b3 (fX5_decades nf T N I524 L525 R x2 (xs ((x3 + (ii 1))).toNatClampNeg) (xs ((x3 + (ii 2))).toNatClampNeg)) fun r530 I531 L532 =>
        if r523 = r530 then
          nm (x3 + (ii 6)) fun u536 =>
          fL_law_b18 nf xs Ln U k T N Z S I531 L532 R x1 x2 u536
        else
          some ((ii 0), T, N, Z, S, I531, L532, R)
      else
      if ((xs (x3).toNatClampNeg) &&& (ii 63)) = (ii 38) then
        chk (inb (x3 + (ii 1)) Ln) <|
        chk (inb (x3 + (ii 2)) Ln) <|
        tg T 1 x1 <|
        (fX0_drawn T N I R x1 (xs ((x3 + (ii 1))).toNatClampNeg) (xs ((x3 + (ii 2))).toNatClampNeg)).bind fun r540 =>
        chk (inb (x3 + (ii 1)) Ln) <|
        chk (inb (x3 + (ii 2)) Ln) <|
        tg T 6 x2 <|
        b2 (fX5_drawn T N I R x2 (xs ((x3 + (ii 1))).toNatClampNeg) (xs ((x3 + (ii 2))).toNatClampNeg)) fun r545 I546 =>
        if r540 = r545 then
          nm (x3 + (ii 6)) fun u550 =>
          fL_law_b18 nf xs Ln U k T N Z S I546 L R x1 x2 u550
        else
          some ((ii 0), T, N, Z, S, I546, L, R)
      else
      if ((xs (x3).toNatClampNeg) &&& (ii 63)) = (ii 39) then
        chk (inb (x3 + (ii 1)) Ln) <|
        tg T 1 x1 <|
        b7 (fX0_image nf T N Z S I R x1 (xs ((x3 + (ii 1))).toNatClampNeg)) fun r553 T554 N555 Z556 S557 I558 R559 =>
        fL_law_b1247 nf xs Ln (fL_law_b18 nf xs Ln U k) U T554 N555 Z556 S557 I558 L R559 x1 x2 x3 r553
      else
      if ((xs (x3).toNatClampNeg) &&& (ii 63)) = (ii 40) then
        chk (inb (x3 + (ii 1)) Ln) <|
        tg T 1 x1 <|
        b7 (fX0_back nf T N Z S I R x1 (xs ((x3 + (ii 1))).toNatClampNeg)) fun r564 T565 N566 Z567 S568 I569 R570 =>
        fL_law_b1270 nf xs Ln (fL_law_b18 nf xs Ln U k) U T565 N566 Z567 S568 I569 L R570 x1 x2 x3 r564
      else
      if ((xs (x3).toNatClampNeg) &&& (ii 63)) = (ii 41) then
        chk (inb (x3 + (ii 1)) Ln) <|
        tg T 1 x1 <|
        (fX0_count nf T N I R x1 (xs ((x3 + (ii 1))).toNatClampNeg)).bind fun r575 =>
        chk (inb (x3 + (ii 1)) Ln) <|
        tg T 6 x2 <|
        b2 (fX5_count nf T N I R x2 (xs ((x3 + (ii 1))).toNatClampNeg)) fun r579 I580 =>
        if r575 = r579 then
          nm (x3 + (ii 6)) fun u584 =>
          fL_law_b18 nf xs Ln U k T N Z S I580 L R x1 x2 u584
        else
          some ((ii 0), T, N, Z, S, I580, L, R)
      else
      if ((xs (x3).toNatClampNeg) &&& (ii 63)) = (ii 42) then
        tg T 1 x1 <|
        (fX0_status T I x1).bind fun r586 =>
        tg T 6 x2 <|
        b2 (fX5_status T I x2) fun r589 I590 =>
        if r586 = r589 then
          nm (x3 + (ii 6)) fun u594 =>
          fL_law_b18 nf xs Ln U k T N Z S I590 L R x1 x2 u594
        else
          some ((ii 0), T, N, Z, S, I590, L, R)
      else
      nm (x3 + (ii 6)) fun u595 =>
      fL_law_b18 nf xs Ln U k T N Z S I L R x1 x2 u595
def fL_law_b15 (nf : Nat) (xs : Nat → Int32) (Ln : Nat) (U : (Nat → Option Nat)) (T : xT) (N : xT) (Z : Nat) (S : Nat) (I : xI) (L : xL) (R : xR) (x1 : Nat) (z0 : Nat) : Option (Int32 × xT × xT × Nat × Nat × xI × xL × xR) :=
  fL_law_b18 nf xs Ln U nf T N Z S I L R x1 z0 (ii 0)
def fL_law_b11 (nf : Nat) (xs : Nat → Int32) (Ln : Nat) (U : (Nat → Option Nat)) (T : xT) (N : xT) (Z : Nat) (S : Nat) (I : xI) (L : xL) (R : xR) (x1 : Nat) (z0 : Nat) : Option (Int32 × xT × xT × Nat × Nat × xI × xL × xR) :=
  b7 (fX5_init T N Z S I L R z0) fun T1 N2 Z3 S4 I5 L6 R7 =>
  fL_law_b15 nf xs Ln U T1 N2 Z3 S4 I5 L6 R7 x1 z0
def fL_law_b7 (nf : Nat) (xs : Nat → Int32) (Ln : Nat) (U : (Nat → Option Nat)) (T : xT) (N : xT) (Z : Nat) (S : Nat) (I : xI) (L : xL) (R : xR) (z0 : Nat) : Option (Int32 × xT × xT × Nat × Nat × xI × xL × xR) :=
  nm (uT T Z 6) fun T1 =>
  nm (Z + 1) fun Z2 =>
  nm (S + 58) fun S3 =>
  fL_law_b11 nf xs Ln U T1 N Z2 S3 I L R z0 Z
def fL_law_b3 (nf : Nat) (xs : Nat → Int32) (Ln : Nat) (U : (Nat → Option Nat)) (T : xT) (N : xT) (Z : Nat) (S : Nat) (I : xI) (L : xL) (R : xR) (z0 : Nat) : Option (Int32 × xT × xT × Nat × Nat × xI × xL × xR) :=
  b6 (fX0_init nf U T N Z S I R z0) fun T1 N2 Z3 S4 I5 R6 =>
  fL_law_b7 nf xs Ln U T1 N2 Z3 S4 I5 L R6 z0
def fL_law (nf : Nat) (xs : Nat → Int32) (Ln : Nat) (U : (Nat → Option Nat)) (T : xT) (N : xT) (Z : Nat) (S : Nat) (I : xI) (L : xL) (R : xR) : Option (Int32 × xT × xT × Nat × Nat × xI × xL × xR) :=
  nm (uT T Z 1) fun T1 =>
  nm (Z + 1) fun Z2 =>
  nm (S + 28) fun S3 =>
  fL_law_b3 nf xs Ln U T1 N Z2 S3 I L R Z

