/-! FROM THE LAW'S ENTRY: classes, statics and texts, as the Statement gives them; what the law's function must answer; printed by start.py -/
def byT : List (List Int32) := [[116, 117, 114, 110, 115], [115, 97, 121, 115], [98, 97, 114, 115], [91], [93], [99, 104, 105, 108, 100], [97, 103, 101], [108, 97, 110, 101], [108, 111, 110, 103], [115, 105, 103, 104, 116], [99, 111, 114, 110, 101, 114], [108, 97, 115, 116], [104, 111, 117, 114], [109, 111, 111, 100], [104, 111, 117, 114], [100, 111, 110, 101], [108, 97, 116, 101, 115, 116], [110, 97, 109, 101, 100], [107, 105, 100, 115], [97, 116], [112, 108, 97, 116, 101], [42], [47], [37], [43], [45], [105, 102], [110, 111, 116], [40], [41], [60], [62], [61], [97, 110, 100], [111, 114], [119, 97, 110, 100, 101, 114], [99, 114, 121], [108, 101, 97, 100], [112, 97, 115, 115], [116, 111], [116, 105, 109, 101, 115], [105, 102], [59]]
def poT : List Nat := [97, 106, 114, 122, 127, 132, 141, 148, 156, 164, 173, 183, 191, 199, 207, 216, 224, 234, 243, 251, 257, 266, 271, 276, 281, 286, 291, 297, 304, 309, 314, 319, 324, 329, 336, 342, 352, 359, 367, 375, 381, 390, 397]
def tmT (k : Nat) : Term := .string ((stT.getD k ("", 0, "")).1) ((stT.getD k ("", 0, "")).2.1)
def cdT (k : Nat) : List Cond := [.exactly (tmT k) "java/lang/String", .eq (.field (tmT k) "java/lang/String" "coder" "B") (.int 0), .arrayOf (.field (tmT k) "java/lang/String" "value" "[B") .byte, .eq (.length (.field (tmT k) "java/lang/String" "value" "[B")) (.int (Int32.ofNat (byT.getD k []).length))] ++ (List.range (byT.getD k []).length).map (fun j => .eq (.elem (.field (tmT k) "java/lang/String" "value" "[B") (.int (Int32.ofNat j))) (.int ((byT.getD k []).getD j 0)))
set_option maxRecDepth 100000 in
theorem cdT_in : (List.range 43).all (fun k => decide (((flatC (Jvm.Cond.and given_1 narrow_1)).drop (poT.getD k 0)).take (4 + (byT.getD k []).length) = cdT k)) = true := by decide +kernel
theorem cdT_mem {k : Nat} (hk : k < 43) {c : Cond} (hc : c ∈ cdT k) : c ∈ flatC (Jvm.Cond.and given_1 narrow_1) := by
  have h := of_decide_eq_true (List.all_eq_true.mp cdT_in k (List.mem_range.mpr hk))
  rw [← h] at hc
  exact List.mem_of_mem_drop (List.mem_of_mem_take hc)
theorem byT_sm : (List.range 43).all (fun k => decide ((byT.getD k []).length < 2 ^ 31)) = true := by decide +kernel
set_option maxRecDepth 100000
theorem st_refs : ∀ k, k < 43 → Cond.stringRef (stT.getD k ("", 0, "")).1 (stT.getD k ("", 0, "")).2.1 (stT.getD k ("", 0, "")).2.2 ∈ lw_tbl := by
  intro k hk
  match k, hk with
  | 0, _ => exact q794
  | 1, _ => exact q847
  | 2, _ => exact q848
  | 3, _ => exact q915
  | 4, _ => exact q924
  | 5, _ => exact q968
  | 6, _ => exact q975
  | 7, _ => exact q976
  | 8, _ => exact q977
  | 9, _ => exact q978
  | 10, _ => exact q979
  | 11, _ => exact q980
  | 12, _ => exact q981
  | 13, _ => exact q982
  | 14, _ => exact q986
  | 15, _ => exact q990
  | 16, _ => exact q991
  | 17, _ => exact q992
  | 18, _ => exact q993
  | 19, _ => exact q994
  | 20, _ => exact q999
  | 21, _ => exact q1010
  | 22, _ => exact q1011
  | 23, _ => exact q1012
  | 24, _ => exact q1029
  | 25, _ => exact q1030
  | 26, _ => exact q1031
  | 27, _ => exact q1054
  | 28, _ => exact q1061
  | 29, _ => exact q1063
  | 30, _ => exact q1064
  | 31, _ => exact q1065
  | 32, _ => exact q1066
  | 33, _ => exact q1096
  | 34, _ => exact q1125
  | 35, _ => exact q1130
  | 36, _ => exact q1134
  | 37, _ => exact q1135
  | 38, _ => exact q1136
  | 39, _ => exact q1174
  | 40, _ => exact q1179
  | 41, _ => exact q1183
  | 42, _ => exact q1188
  | k + 43, hk => omega
theorem st_prim {A : Array Value} {s : State} {ty : FieldType} (h : (Cond.arrayClass ty).before A s = true) : ∃ cA, ArrOfT s cA ty ∧ s.vm.findClass ("[" ++ ty.toString) = some cA := by
  obtain ⟨c, k, comp, h1, h2, h3⟩ := Cond.arrayClass_spec h
  exact ⟨c, fun n z => ⟨fun k h => (by cases h), k, h2, comp, h3⟩, h1⟩
theorem st_obj {A : Array Value} {s : State} {C : String} (h : (Cond.arrayOver (.object C)).before A s = true) : ∃ cA, ArrOfT s cA (.object C) ∧ va_RA s cA (.object C) := by
  obtain ⟨comp, c, k, h1, h2, h3, h4, h5⟩ := Cond.arrayOver_spec h
  exact ⟨c, fun n z => ⟨fun k h => (by cases h), k, h3, comp, h4⟩, k, comp, h3, h4, h1, h5⟩
def StrC (s : State) (a t : Nat) : Prop := ∃ cell : Cell, s.heap[a]? = some cell ∧ cell.vm ≠ .unknown ∧ cell.vm.isStatics = false ∧ s.vm.findClass "java/lang/String" = some cell.cls ∧ (∃ cf k i f, s.fieldFound? "java/lang/String" "value" "[B" = some (cf, k, i, f) ∧ f.isStatic = false ∧ cell.slots[f.slot]? = some (.ref t)) ∧ ∃ cf k i f, s.fieldFound? "java/lang/String" "coder" "B" = some (cf, k, i, f) ∧ f.isStatic = false ∧ cell.slots[f.slot]? = some (.int 0)
theorem st_str {args : Array Value} {s : State} {tm : Term} {bs : List Int32} (hN : bs.length < 2 ^ 31) (hex : (Cond.exactly tm "java/lang/String").before args s = true) (hco : (Cond.eq (.field tm "java/lang/String" "coder" "B") (.int 0)).before args s = true)
    (har : (Cond.arrayOf (.field tm "java/lang/String" "value" "[B") .byte).before args s = true) (hle : (Cond.eq (.length (.field tm "java/lang/String" "value" "[B")) (.int (Int32.ofNat bs.length))).before args s = true)
    (hel : ∀ j : Nat, j < bs.length → (Cond.eq (.elem (.field tm "java/lang/String" "value" "[B") (.int (Int32.ofNat j))) (.int (bs.getD j 0))).before args s = true) :
    ∃ a t : Nat, tm.eval args s none [] s = some (.ref a) ∧ StrC s a t ∧ va_T .byte t bs.length (fun j => .int (bs.getD j 0)) (fun q => s.heap.size ≤ q) s s.heap := by
  have hA : ∀ a : Nat, a < s.heap.size → ¬ (fun q => s.heap.size ≤ q) a := fun a h => Nat.not_le.mpr h
  obtain ⟨a, c, cA, kA, q1, q2, q3, q4, q5, q6, -⟩ := Cond.exactly_spec (args := args) (first := s) (o := none) (s := s) (idx := []) (t := tm) (cls := "java/lang/String") hex
  obtain ⟨t, ht, hT⟩ := va_Tof (f := fun j => .int (bs.getD j 0)) (A := fun q => s.heap.size ≤ q) hN har (va_eqt hle) (fun j hj => va_eqt (hel j hj)) hA
  obtain ⟨cf1, k1, i1, f1, c1, a1, a2, a3, a4, a5, -⟩ := vk_OFof (A := fun q => s.heap.size ≤ q) q1 (va_eqt hco) hA
  obtain ⟨cf2, k2, i2, f2, c2, b1, b2, b3, b4, b5, -⟩ := vk_OFof (A := fun q => s.heap.size ≤ q) q1 ht hA
  cases a3.symm.trans q3
  cases b3.symm.trans q3
  exact ⟨a, t, q1, ⟨_, q3, a4, q5, by rw [q6]; exact q2, ⟨cf2, k2, i2, f2, b1, b2, b5⟩, ⟨cf1, k1, i1, f1, a1, a2, a5⟩⟩, hT⟩
theorem st_apart {s : State} (hfit : heapFits s = true) {a t n : Nat} {f : Nat → Value} {A : Nat → Prop} (h1 : StrC s a t) (h2 : va_T .byte a n f A s s.heap) : False := by
  obtain ⟨cell, g1, g2, g3, -, ⟨cf, k, i, fl, -, -, g5⟩, -⟩ := h1
  obtain ⟨cell', e1, e2, -⟩ := h2
  cases e1.symm.trans g1
  obtain ⟨hst, kk, e3, comp, e4⟩ := e2
  obtain ⟨ha, he⟩ := Array.getElem?_eq_some_iff.mp g1
  have h3 := (Array.all_eq_true_iff_forall_mem.mp hfit) _ (Array.getElem_mem ha)
  rw [he] at h3
  have hi : fl.slot < cell.slots.size := (Array.getElem?_eq_some_iff.mp g5).1
  have h4 := (List.all_eq_true.mp h3) fl.slot (List.mem_range.mpr hi)
  rw [g5] at h4
  have h5 : s.slotType? cell.cls cell.vm fl.slot = some .byte := by
    unfold State.slotType?
    rw [e3]
    cases hv : cell.vm <;> first | exact absurd hv (hst _) | simp [e4]
  have h6 : s.fitsSlot cell.cls cell.vm fl.slot (.ref t) = true := h4
  unfold State.fitsSlot at h6
  rw [h5] at h6
  exact absurd h6 (by simp [fits])
def StrAt (U : Nat → Option Nat) (T N : xT) (I : xI) (R : xR) (k : Nat) (tx : List Int32) : Prop := ∃ a b, U (100 + k) = some a ∧ T a = 20 ∧ I a 1 = 0 ∧ R a 0 = some b ∧ T b = 107 ∧ N b = tx.length ∧ ∀ j, j < tx.length → I b j = tx.getD j 0
/-- what the law's function may take for granted of the start -/
def StartOK (U : Nat → Option Nat) (T N : xT) (Z : Nat) (I : xI) (L : xL) (R : xR) : Prop := (∀ a, T a ≠ 0 → T a = 20 ∨ T a = 107) ∧ (∀ k, k < 43 → StrAt U T N I R k (byT.getD k [])) ∧ ∀ a, Z ≤ a → T a = 0 ∧ I a = (fun _ => 0) ∧ L a = (fun _ => 0) ∧ R a = (fun _ => none)
theorem st_two (P Q : Nat → Prop) : ∃ T0 : Nat → Nat, (∀ a, P a → T0 a = 20) ∧ (∀ a, ¬ P a → Q a → T0 a = 107) ∧ ∀ a, T0 a ≠ 0 → (T0 a = 20 ∧ P a) ∨ (T0 a = 107 ∧ Q a) := by
  classical
  refine ⟨fun a => if P a then 20 else if Q a then 107 else 0, fun a h => if_pos h, fun a h1 h2 => (if_neg h1).trans (if_pos h2), fun a ha => ?_⟩
  by_cases h1 : P a
  · exact Or.inl ⟨if_pos h1, h1⟩
  · by_cases h2 : Q a
    · exact Or.inr ⟨(if_neg h1).trans (if_pos h2), h2⟩
    · exact absurd ((if_neg h1).trans (if_neg h2)) ha
theorem nat_i32 {n : Nat} (h : n < 2 ^ 31) : (Int32.ofNat n).toNatClampNeg = n := by
  show ((Int32.ofNat n).toInt).toNat = n
  rw [Int32.toInt_ofNat_of_lt h]
  rfl
set_option maxHeartbeats 4000000 in
theorem law_start {p : Program} {e : Env} {s : State} {m : MethodId} {below : List Frame} {meth : Method} {c : Code} (l : Launch) {nf b Ln : Nat} {xs : Nat → Int32} (hx : p.tables.exec = Jvm.exec) (hb : c.code = code) (hr : meth.sig.returnType = ret) (hml : c.maxLocals = 4) (hown : s.vm.findClass RL = some m.cls) (hts : ∀ w ∈ lw_tbl, w.before #[Value.ref b] s = true) (hX : va_X b Ln xs s s.heap) (hbl : b < s.heap.size) (hlocks : meth.locks = false) (hgv : (Jvm.Cond.and given_1 narrow_1).before #[Value.ref b] s = true) (hfit : heapFits s = true)
    (hP : ∀ (U : Nat → Option Nat) (T N : xT) (Z : Nat) (I : xI) (L : xL) (R : xR), StartOK U T N Z I L R → ∃ To No Zo So Io Lo Ro, fL_law nf xs Ln U T N Z 0 I L R = some (1, To, No, Zo, So, Io, Lo, Ro) ∧ Zo ≤ Z + 1200128 ∧ So ≤ 5501098) :
    W p l e room_1 s m #[Value.ref b] below meth c s.heap [] 0 0 (fun t => ∃ o, t.status = .running ∧ Ended t below o ∧ o = .returned (some (.int 1)) ∧ Framed s o t [] 1200128 5501098) (entryFrame m ([Value.ref b] : List Value).toArray 4) := by
  have hall : ∀ w ∈ lw_all, w.before #[Value.ref b] s = true := fun w h => hts w (lw_all_tbl h)
  have hs := flat_of_before _ hgv
  have hA : ∀ a : Nat, a < s.heap.size → ¬ (fun q => s.heap.size ≤ q) a := fun a h => Nat.not_le.mpr h
  obtain ⟨c0, i0, k0⟩ := u_known (C := RX0) (T := TX0) (N := 28) (n := 28) hall in_X0 (hall _ q156)
  obtain ⟨c1, i1, k1⟩ := u_known (C := RX1) (T := TX1) (N := 14) (n := 14) hall in_X1 (hall _ q164)
  obtain ⟨c2, i2, k2⟩ := u_known (C := RX2) (T := TX2) (N := 4) (n := 4) hall in_X2 (hall _ q170)
  obtain ⟨c3, i3, k3⟩ := u_known (C := RX3) (T := TX3) (N := 2) (n := 2) hall in_X3 (hall _ q283)
  obtain ⟨c4, i4, k4⟩ := u_known (C := RX4) (T := TX4) (N := 6) (n := 6) hall in_X4 (hall _ q289)
  obtain ⟨c5, i5, k5⟩ := u_known (C := RX5) (T := TX5) (N := 58) (n := 58) hall in_X5 (hall _ q1494)
  obtain ⟨c6, i6, k6⟩ := u_known (C := RX7) (T := TX7) (N := 8) (n := 8) hall in_X7 (hall _ q729)
  obtain ⟨c7, i7, k7⟩ := u_known (C := RX8) (T := TX8) (N := 7) (n := 7) hall in_X8 (hall _ q856)
  obtain ⟨c8, i8, k8⟩ := u_known (C := RX9) (T := TX9) (N := 3) (n := 3) hall in_X9 (hall _ q879)
  obtain ⟨c9, i9, k9⟩ := u_known (C := RX11) (T := TX11) (N := 1) (n := 1) hall in_X11 (hall _ q944)
  obtain ⟨c10, i10, k10⟩ := u_known (C := RX12) (T := TX12) (N := 1) (n := 1) hall in_X12 (hall _ q1001)
  obtain ⟨c11, i11, k11⟩ := u_known (C := RX13) (T := TX13) (N := 3) (n := 3) hall in_X13 (hall _ q1014)
  obtain ⟨c12, i12, k12⟩ := u_known (C := RX15) (T := TX15) (N := 3) (n := 3) hall in_X15 (hall _ q1068)
  obtain ⟨c13, i13, k13⟩ := u_known (C := RX16) (T := TX16) (N := 1) (n := 1) hall in_X16 (hall _ q1087)
  obtain ⟨c14, i14, k14⟩ := u_known (C := RX17) (T := TX17) (N := 2) (n := 2) hall in_X17 (hall _ q1098)
  obtain ⟨c15, i15, k15⟩ := u_known (C := RX18) (T := TX18) (N := 5) (n := 5) hall in_X18 (hall _ q1144)
  obtain ⟨c16, i16, k16⟩ := u_known (C := RX19) (T := TX19) (N := 1) (n := 1) hall in_X19 (hall _ q1189)
  obtain ⟨c17, i17, k17⟩ := u_known (C := RX20) (T := TX20) (N := 8) (n := 8) hall in_X20 (hall _ q1423)
  obtain ⟨c18, i18, k18⟩ := u_known (C := RJ2) (T := TJ2) (N := 3) (n := 3) hall in_J2 (hall _ q194)
  obtain ⟨a0, ar0, an0⟩ := st_prim (hall _ q192)
  obtain ⟨a1, ar1, an1⟩ := st_prim (hall _ q348)
  obtain ⟨a2, ar2, an2⟩ := st_prim (hall _ q1696)
  obtain ⟨a3, ar3, an3⟩ := st_prim (hall _ q359)
  obtain ⟨a4, ar4, an4⟩ := st_obj (hts _ q206)
  obtain ⟨a5, ar5, an5⟩ := st_obj (hts _ q278)
  obtain ⟨a6, ar6, an6⟩ := st_obj (hts _ q280)
  have hstr : ∀ k : Nat, ∃ q : Nat × Nat, k < 43 → (tmT k).eval #[Value.ref b] s none [] s = some (.ref q.1) ∧ StrC s q.1 q.2 ∧ va_T .byte q.2 (byT.getD k []).length (fun j => .int ((byT.getD k []).getD j 0)) (fun q => s.heap.size ≤ q) s s.heap := by
    intro k
    by_cases hk : k < 43
    · have hm : ∀ c ∈ cdT k, c.before #[Value.ref b] s = true := fun c hc => hs c (cdT_mem hk hc)
      obtain ⟨a, t, h1, h2, h3⟩ := st_str (args := #[Value.ref b]) (s := s) (tm := tmT k) (bs := byT.getD k []) (of_decide_eq_true (List.all_eq_true.mp byT_sm k (List.mem_range.mpr hk))) (hm _ (by simp [cdT])) (hm _ (by simp [cdT])) (hm _ (by simp [cdT])) (hm _ (by simp [cdT])) (fun j hj => hm _ (List.mem_append_right _ (List.mem_map.mpr ⟨j, List.mem_range.mpr hj, rfl⟩)))
      exact ⟨(a, t), fun _ => ⟨h1, h2, h3⟩⟩
    · exact ⟨(0, 0), fun h => absurd h hk⟩
  obtain ⟨ad, had⟩ := Classical.axiomOfChoice hstr
  have hne : ∀ k, k < 43 → ∀ j, j < 43 → (ad k).2 ≠ (ad j).1 := fun k hk j hj e => st_apart hfit (had j hj).2.1 (e ▸ (had k hk).2.2)
  have hbc : ∀ k : Nat, ∃ c : ClassId, ArrOfT s c .byte ∧ (k < 43 → ∀ cell, s.heap[(ad k).2]? = some cell → cell.cls = c) := by
    intro k
    by_cases hk : k < 43
    · obtain ⟨cell, e1, ⟨-, kk, e3, comp, e4⟩, -⟩ := (had k hk).2.2
      exact ⟨cell.cls, fun n z => ⟨fun k h => (by cases h), kk, e3, comp, e4⟩, fun _ c2 h => by cases h.symm.trans e1; rfl⟩
    · exact ⟨a1, ar1, fun h => absurd h hk⟩
  obtain ⟨bc, hbc⟩ := Classical.axiomOfChoice hbc
  obtain ⟨u0, hu0⟩ : ∃ u : Nat, va_Z "java/lang/Throwable" "UNASSIGNED_STACK" "[Ljava/lang/StackTraceElement;" (va_rf (if u = 0 then none else some (u - 1))) (fun q => s.heap.size ≤ q) s s.heap := by
    rcases va_Zqof (A := fun q => s.heap.size ≤ q) (hts _ q313) (hall _ q126) (hs (.isRef (.static "java/lang/Throwable" "UNASSIGNED_STACK" "[Ljava/lang/StackTraceElement;")) (by decide +kernel)) hA with h | ⟨t, h⟩
    · exact ⟨0, h⟩
    · exact ⟨t + 1, h⟩
  obtain ⟨u1, hu1⟩ : ∃ u : Nat, va_Z "java/lang/Throwable" "SUPPRESSED_SENTINEL" "Ljava/util/List;" (va_rf (if u = 0 then none else some (u - 1))) (fun q => s.heap.size ≤ q) s s.heap := by
    rcases va_Zqof (A := fun q => s.heap.size ≤ q) (hts _ q315) (hall _ q126) (hs (.isRef (.static "java/lang/Throwable" "SUPPRESSED_SENTINEL" "Ljava/util/List;")) (by decide +kernel)) hA with h | ⟨t, h⟩
    · exact ⟨0, h⟩
    · exact ⟨t + 1, h⟩
  obtain ⟨u2, hu2⟩ : ∃ u : Nat, va_Z "jdk/internal/util/Preconditions" "SIOOBE_FORMATTER" "Ljava/util/function/BiFunction;" (va_rf (if u = 0 then none else some (u - 1))) (fun q => s.heap.size ≤ q) s s.heap := by
    rcases va_Zqof (A := fun q => s.heap.size ≤ q) (hts _ q826) (hall _ q131) (hs (.isRef (.static "jdk/internal/util/Preconditions" "SIOOBE_FORMATTER" "Ljava/util/function/BiFunction;")) (by decide +kernel)) hA with h | ⟨t, h⟩
    · exact ⟨0, h⟩
    · exact ⟨t + 1, h⟩
  have hcs := va_Zof (A := fun q => s.heap.size ≤ q) (hts _ q810) (hall _ q135) (va_eqi (hs (.eq (.static "java/lang/String" "COMPACT_STRINGS" "Z") (.int 1)) (by decide +kernel))) hA
  obtain ⟨mi, hmi⟩ := va_Mi.of (hs (.isRef (.mirror "[Ljava/lang/Object;")) (by decide +kernel))
  have hfw : va_Fw "java/util/ArrayList" xTA yTA s := va_Fw.of (A := #[Value.ref b]) (hts _ q482) (hts _ q481) (hts _ q487) (hts _ q485) (hts _ q483)
  obtain ⟨cell0, z1, z2, z3, z4, ⟨cf1, kf1, if1, fv, y1, y2, y3⟩, ⟨cf2, kf2, if2, fc, w1, w2, w3⟩⟩ := (had 0 (by decide)).2.1
  obtain ⟨D, hD1, hD2⟩ : ∃ D : va_G, (∀ (c : Nat) (q : vw_C), clT[c]? = some q → u_Kn s q.1 q.2.1 q.2.2 (D.1 c) (D.2 c)) ∧ (D.1 19 = cell0.cls ∧ D.2 19 0 = fv.slot ∧ D.2 19 1 = fc.slot) := by
    refine ⟨(fun k => ([c0, c1, c2, c3, c4, c5, c6, c7, c8, c9, c10, c11, c12, c13, c14, c15, c16, c17, c18, cell0.cls] : List ClassId).getD k 0, fun k => ([i0, i1, i2, i3, i4, i5, i6, i7, i8, i9, i10, i11, i12, i13, i14, i15, i16, i17, i18, fun j => if j = 0 then fv.slot else fc.slot] : List (Nat → Nat)).getD k (fun _ => 0)), ?_, rfl, rfl, rfl⟩
    intro c q hq
    match c, hq with
    | 0, hq => cases hq; exact k0
    | 1, hq => cases hq; exact k1
    | 2, hq => cases hq; exact k2
    | 3, hq => cases hq; exact k3
    | 4, hq => cases hq; exact k4
    | 5, hq => cases hq; exact k5
    | 6, hq => cases hq; exact k6
    | 7, hq => cases hq; exact k7
    | 8, hq => cases hq; exact k8
    | 9, hq => cases hq; exact k9
    | 10, hq => cases hq; exact k10
    | 11, hq => cases hq; exact k11
    | 12, hq => cases hq; exact k12
    | 13, hq => cases hq; exact k13
    | 14, hq => cases hq; exact k14
    | 15, hq => cases hq; exact k15
    | 16, hq => cases hq; exact k16
    | 17, hq => cases hq; exact k17
    | 18, hq => cases hq; exact k18
    | c + 19, hq => exact absurd hq (by simp [clT])
  obtain ⟨dA, hd0, hd1, hd2, hd3, hd4, hd5, hd6, hd7, hd8, hd9, hd10, hd11, hd12⟩ : ∃ dA : Nat → ClassId, dA 0 = a0 ∧ dA 1 = a1 ∧ dA 2 = a2 ∧ dA 3 = a3 ∧ dA 4 = a4 ∧ dA 5 = a5 ∧ dA 6 = a6 ∧ dA 250 = mi ∧ dA 200 = u0 ∧ dA 201 = u1 ∧ dA 202 = u2 ∧ (∀ k, k < 43 → dA (300 + k) = (ad k).1 + 1) ∧ ∀ i, dA (1000 + i) = bc i := by
    refine ⟨fun k => if 1000 ≤ k then bc (k - 1000) else if 300 ≤ k then (ad (k - 300)).1 + 1 else if k = 250 then mi else if k = 200 then u0 else if k = 201 then u1 else if k = 202 then u2 else ([a0, a1, a2, a3, a4, a5, a6] : List ClassId).getD k 0, rfl, rfl, rfl, rfl, rfl, rfl, rfl, rfl, rfl, rfl, rfl, ?_, ?_⟩
    · intro k hk
      show (if 1000 ≤ 300 + k then _ else if 300 ≤ 300 + k then _ else _) = _
      rw [if_neg (by omega), if_pos (by omega), Nat.add_sub_cancel_left]
    · intro i
      show (if 1000 ≤ 1000 + i then _ else _) = _
      rw [if_pos (by omega), Nat.add_sub_cancel_left]
  have hS : xS D s := ⟨by rw [hD2.1]; exact z4, ⟨cf1, kf1, if1, fv, y1, y2, hD2.2.1.symm⟩, ⟨cf2, kf2, if2, fc, w1, w2, hD2.2.2.symm⟩⟩
  have hK : xK D dA s := by
    refine ⟨⟨hD1, fun k q hq => ?_⟩, hS, fun i => by rw [hd12]; exact (hbc i).1⟩
    match k, hq with
    | 0, hq => cases hq; rw [hd0]; exact ⟨ar0, an0⟩
    | 1, hq => cases hq; rw [hd1]; exact ⟨ar1, an1⟩
    | 2, hq => cases hq; rw [hd2]; exact ⟨ar2, an2⟩
    | 3, hq => cases hq; rw [hd3]; exact ⟨ar3, an3⟩
    | 4, hq => cases hq; rw [hd4]; exact ⟨ar4, an4⟩
    | 5, hq => cases hq; rw [hd5]; exact ⟨ar5, an5⟩
    | 6, hq => cases hq; rw [hd6]; exact ⟨ar6, an6⟩
    | k + 7, hq => exact absurd hq (by simp [tysT])
  have hN : xN s := by
    refine ⟨fun w hw hn => va_Nw.of (isNW_tab hn) (hts w hw), fun k h4 h7 C hC => ?_⟩
    rcases (show k = 4 ∨ k = 5 ∨ k = 6 by omega) with h | h | h <;> subst h <;> cases hC
    · exact va_AO.of (hts _ q206)
    · exact va_AO.of (hts _ q278)
    · exact va_AO.of (hts _ q280)
  have hsv : ∀ k, k < 43 → sv dA (100 + k) = some (ad k).1 := by
    intro k hk
    unfold sv
    rw [show 200 + (100 + k) = 300 + k by omega, hd11 k hk, if_neg (Nat.succ_ne_zero _), Nat.add_sub_cancel]
  have hZ : xZ dA s.heap.size s s.heap := by
    refine ⟨⟨?_, ?_, ?_, hcs⟩, by rw [hd7]; exact hmi, hfw, fun k w hk => ?_⟩
    · unfold sv; rw [show 200 + 0 = 200 from rfl, hd8]; exact hu0
    · unfold sv; rw [show 200 + 1 = 201 from rfl, hd9]; exact hu1
    · unfold sv; rw [show 200 + 2 = 202 from rfl, hd10]; exact hu2
    · have hk2 : k < 43 := (List.getElem?_eq_some_iff.mp hk).1
      have e : stT.getD k ("", 0, "") = w := by rw [List.getD_eq_getElem?_getD, hk]; rfl
      refine ⟨_, hsv k hk2, ?_⟩
      have h1 := st_refs k hk2
      have h2 := (had k hk2).1
      unfold tmT at h2
      rw [e] at h1 h2
      exact vk_R.of (A := #[Value.ref b]) (hts _ h1) h2
  obtain ⟨T0, hT1, hT2, hT3⟩ : ∃ T0 : Nat → Nat, (∀ k, k < 43 → T0 (ad k).1 = 20) ∧ (∀ k, k < 43 → T0 (ad k).2 = 107) ∧ ∀ a, T0 a ≠ 0 → (T0 a = 20 ∧ ∃ k, k < 43 ∧ a = (ad k).1) ∨ (T0 a = 107 ∧ ∃ k, k < 43 ∧ a = (ad k).2) := by
    obtain ⟨T0, t1, t2, t3⟩ := st_two (fun a => ∃ k, k < 43 ∧ a = (ad k).1) (fun a => ∃ k, k < 43 ∧ a = (ad k).2)
    exact ⟨T0, fun k hk => t1 _ ⟨k, hk, rfl⟩, fun k hk => t2 _ (fun ⟨j, hj, h⟩ => hne k hk j hj h) ⟨k, hk, rfl⟩, t3⟩
  obtain ⟨I0, hI0⟩ : ∃ I0 : xI, ∀ a j, I0 a j = match s.heap[a]? with
      | some cq => (match cq.slots[if T0 a = 20 then fc.slot else j]? with
        | some (.int v) => v
        | _ => 0)
      | none => 0 := ⟨fun a j => match s.heap[a]? with
      | some cq => (match cq.slots[if T0 a = 20 then fc.slot else j]? with
        | some (.int v) => v
        | _ => 0)
      | none => 0, fun _ _ => rfl⟩
  obtain ⟨R0, hR0⟩ : ∃ R0 : xR, ∀ a j, R0 a j = match s.heap[a]? with
      | some cq => (match cq.slots[fv.slot]? with
        | some (.ref v) => some v
        | _ => none)
      | none => none := ⟨fun a j => match s.heap[a]? with
      | some cq => (match cq.slots[fv.slot]? with
        | some (.ref v) => some v
        | _ => none)
      | none => none, fun _ _ => rfl⟩
  obtain ⟨N0, hN0⟩ : ∃ N0 : xT, ∀ a, N0 a = match s.heap[a]? with
      | some cq => cq.slots.size.toInt32.toNatClampNeg
      | none => 0 := ⟨fun a => match s.heap[a]? with
      | some cq => cq.slots.size.toInt32.toNatClampNeg
      | none => 0, fun _ => rfl⟩
  have hlen : ∀ k, k < 43 → N0 (ad k).2 = (byT.getD k []).length := by
    intro k hk
    obtain ⟨cell, e1, -, -, e4, e5, -⟩ := (had k hk).2.2
    have hsm := of_decide_eq_true (List.all_eq_true.mp byT_sm k (List.mem_range.mpr hk))
    rw [hN0, e1]
    show cell.slots.size.toInt32.toNatClampNeg = _
    rw [e5]
    exact nat_i32 hsm
  have hstrC : ∀ k, k < 43 → ∃ cell : Cell, s.heap[(ad k).1]? = some cell ∧ cell.vm ≠ .unknown ∧ cell.vm.isStatics = false ∧ cell.cls = D.1 19 ∧ cell.slots[fv.slot]? = some (.ref (ad k).2) ∧ cell.slots[fc.slot]? = some (.int 0) := by
    intro k hk
    obtain ⟨cell, g1, g2, g3, g4, ⟨cg, kg, ig, fg, g5, g6, g7⟩, ⟨ch, kh, ih, fh, g8, g9, g10⟩⟩ := (had k hk).2.1
    have e1 : fg = fv := by
      have := g5.symm.trans y1
      simp only [Option.some.injEq, Prod.mk.injEq] at this
      exact this.2.2.2
    have e2 : fh = fc := by
      have := g8.symm.trans w1
      simp only [Option.some.injEq, Prod.mk.injEq] at this
      exact this.2.2.2
    subst e1 e2
    exact ⟨cell, g1, g2, g3, by rw [hD2.1]; exact Option.some.inj (g4.symm.trans z4), g7, g10⟩
  have hout : ∀ a, s.heap.size ≤ a → T0 a = 0 := by
    intro a ha
    by_cases h : T0 a = 0
    · exact h
    · exfalso
      rcases hT3 a h with ⟨-, k, hk, he⟩ | ⟨-, k, hk, he⟩
      · obtain ⟨cell, g1, -⟩ := hstrC k hk
        have := (Array.getElem?_eq_some_iff.mp g1).1
        omega
      · obtain ⟨cell, g1, -⟩ := (had k hk).2.2
        have := (Array.getElem?_eq_some_iff.mp g1).1
        omega
  have hnil : ∀ a, s.heap.size ≤ a → T0 a = 0 ∧ I0 a = (fun _ => 0) ∧ (fun (_ : Nat) (_ : Nat) => (0 : Int64)) a = (fun _ => 0) ∧ R0 a = (fun _ => none) := by
    intro a ha
    have h1 : s.heap[a]? = none := Array.getElem?_eq_none ha
    exact ⟨hout a ha, funext fun j => by rw [hI0, h1], rfl, funext fun j => by rw [hR0, h1]⟩
  have hIstr : ∀ k, k < 43 → ∀ j, I0 (ad k).1 j = 0 := by
    intro k hk j
    obtain ⟨cell, g1, -, -, -, -, g6⟩ := hstrC k hk
    rw [hI0, g1]
    show (match cell.slots[if T0 (ad k).1 = 20 then fc.slot else j]? with
        | some (.int v) => v
        | _ => 0) = _
    rw [if_pos (hT1 k hk), g6]
  have hRstr : ∀ k, k < 43 → R0 (ad k).1 0 = some (ad k).2 := by
    intro k hk
    obtain ⟨cell, g1, -, -, -, g5, -⟩ := hstrC k hk
    rw [hR0, g1]
    show (match cell.slots[fv.slot]? with
        | some (.ref v) => some v
        | _ => none) = _
    rw [g5]
  have hIby : ∀ k, k < 43 → ∀ j, j < (byT.getD k []).length → I0 (ad k).2 j = (byT.getD k []).getD j 0 := by
    intro k hk j hj
    obtain ⟨cell, g1, -, -, -, -, g6, -⟩ := (had k hk).2.2
    rw [hI0, g1]
    show (match cell.slots[if T0 (ad k).2 = 20 then fc.slot else j]? with
        | some (.int v) => v
        | _ => 0) = _
    rw [if_neg (by rw [hT2 k hk]; decide), g6 j hj]
  have hRep : Rep D dA s.heap.size T0 N0 s.heap.size I0 (fun _ _ => 0) R0 s.heap := by
    refine ⟨fun a ha => ?_, rfl, Nat.le_refl _, fun a ha => ?_, hnil⟩
    · rcases hT3 a ha with ⟨ht, k, hk, he⟩ | ⟨ht, k, hk, he⟩
      · obtain ⟨cell, g1, g2, g3, g4, g5, g6⟩ := hstrC k hk
        subst he
        unfold xAt
        rw [if_pos ht]
        exact ⟨cell, g1, g2, g3, g4, by rw [hD2.2.1, hRstr k hk]; exact g5, by rw [hD2.2.2, hIstr k hk]; exact g6⟩
      · obtain ⟨cell, g1, g2, g3, g4, g5, g6, -⟩ := (had k hk).2.2
        subst he
        unfold xAt
        rw [if_neg (by rw [ht]; decide), if_pos ht, hlen k hk]
        refine ⟨cell, g1, g3, ?_, ⟨k, by rw [hd12]; exact (hbc k).2 hk cell g1⟩, g4, g5, fun j hj => by rw [hIby k hk j hj]; exact g6 j hj⟩
        cases hv : cell.vm <;> first | rfl | exact absurd hv (g2.1 _)
    · rcases hT3 a ha with ⟨ht, -⟩ | ⟨ht, -⟩
      · exact Or.inr (Or.inl ht)
      · exact Or.inr (Or.inr ht)
  obtain ⟨To, No, Zo, So, Io, Lo, Ro, hf, hZo, hSo⟩ := hP (sv dA) T0 N0 s.heap.size I0 (fun _ _ => 0) R0 ⟨fun a ha => (hT3 a ha).imp (fun h => h.1) (fun h => h.1), fun k hk => ⟨(ad k).1, (ad k).2, hsv k hk, hT1 k hk, hIstr k hk 1, hRstr k hk, hT2 k hk, hlen k hk, hIby k hk⟩, hnil⟩
  have hl := lv_entry [Value.ref b] (n := 4) (Nat.le_of_ble_eq_true rfl)
  rw [lg_entry_eq]
  have hw := wL_law_e (nf := nf) (kc := 1200128) (ks := 5501098) (cells := 0) (slots := 0) (l := l) (e := e) (below := below) (sb := b) (Ln := Ln) (xs := xs) (args := #[Value.ref b]) (D := D) (dA := dA) (s0 := s.heap.size) (H := s.heap) (locs := []) (⟨⟨hx, hb, hml, hown, hall⟩, hK, hN, hlocks, hZ⟩ : Cx D dA s.heap.size p m c cL_law 4 s #[Value.ref b] RL meth) hr ⟨hX, hbl, rfl⟩ hf ⟨hRep, fun _ _ => rfl, fun _ h => by cases h⟩ hl ⟨by omega, by omega⟩
  intro T hT X0
  obtain ⟨t, q1, o, q2, q3, q4, J, q5, q6⟩ := hw T hT X0
  exact ⟨t, q1, o, q2, q3, q4.1, q5.1, q5.2.1, State.sameButNew.drop_fresh (L := []) (J := J) q5.2.2 q6⟩
