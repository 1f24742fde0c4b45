/-! MY KIT, 2: the functions' heap against the machine's; a row an instruction that touches it -/
def fval (ty : FieldType) (i : Int32) (l : Int64) (r : Option Nat) : Value := match ty with
  | .long => .long l
  | .object _ => va_rf r
  | .array _ => va_rf r
  | .float => .float 0
  | .double => .double 0
  | _ => .int i
def aty : Nat → FieldType := fun k => match k with
  | 0 => .int
  | 1 => .byte
  | 2 => .boolean
  | 3 => .long
  | 4 => .object "java/lang/Object"
  | 5 => .object "LostLanes$State"
  | 6 => .object "LostLanes$Table"
  | _ => .byte
def xAt (D : va_G) (dA : Nat → ClassId) (t n : Nat) (fi : Nat → Int32) (fl : Nat → Int64) (fr : Nat → Option Nat) (a : Nat) (H : Heap) : Prop :=
  if t = 20 then ∃ cell : Cell, H[a]? = some cell ∧ cell.vm ≠ .unknown ∧ cell.vm.isStatics = false ∧ cell.cls = D.1 19 ∧ cell.slots[D.2 19 0]? = some (va_rf (fr 0)) ∧ cell.slots[D.2 19 1]? = some (.int (fi 1))
  else if t = 107 then ∃ cell : Cell, H[a]? = some cell ∧ cell.vm ≠ .unknown ∧ cell.vm.isStatics = false ∧ (∃ i, cell.cls = dA (1000 + i)) ∧ n ≤ cell.slots.size ∧ cell.slots.size.toInt32 = Int32.ofNat n ∧ ∀ j, j < n → cell.slots[j]? = some (.int (fi j))
  else if t < 100 then ∃ q : vw_C, clT[t - 1]? = some q ∧ t_OB a (D.1 (t - 1)) q.2.2 (D.2 (t - 1)) H (fun k => fval (tyT (t - 1) k) (fi k) (fl k) (fr k))
  else H[a]? = some (arrV (dA (t - 100)) n (fun j => fval (aty (t - 100)) (fi j) (fl j) (fr j)))
theorem xAt_o {D : va_G} {dA : Nat → ClassId} {t n : Nat} {fi : Nat → Int32} {fl : Nat → Int64} {fr : Nat → Option Nat} {a : Nat} {H : Heap} (h1 : t < 100) (h2 : t ≠ 20) : xAt D dA t n fi fl fr a H = ∃ q : vw_C, clT[t - 1]? = some q ∧ t_OB a (D.1 (t - 1)) q.2.2 (D.2 (t - 1)) H (fun k => fval (tyT (t - 1) k) (fi k) (fl k) (fr k)) := by
  unfold xAt
  rw [if_neg h2, if_neg (by omega), if_pos h1]
theorem xAt_a {D : va_G} {dA : Nat → ClassId} {t n : Nat} {fi : Nat → Int32} {fl : Nat → Int64} {fr : Nat → Option Nat} {a : Nat} {H : Heap} (h1 : 100 ≤ t) (h2 : t ≠ 107) : xAt D dA t n fi fl fr a H = (H[a]? = some (arrV (dA (t - 100)) n (fun j => fval (aty (t - 100)) (fi j) (fl j) (fr j)))) := by
  unfold xAt
  rw [if_neg (by omega), if_neg h2, if_neg (by omega)]
def Rep (D : va_G) (dA : Nat → ClassId) (s0 : Nat) (T N : xT) (Z : Nat) (I : xI) (L : xL) (R : xR) (H : Heap) : Prop :=
  (∀ a, T a ≠ 0 → xAt D dA (T a) (N a) (I a) (L a) (R a) a H) ∧ H.size = Z ∧ s0 ≤ Z ∧ (∀ a, T a ≠ 0 → s0 ≤ a ∨ T a = 20 ∨ T a = 107) ∧ ∀ a, Z ≤ a → T a = 0 ∧ I a = (fun _ => 0) ∧ L a = (fun _ => 0) ∧ R a = (fun _ => none)
def tysT (dA : Nat → ClassId) : List (ClassId × FieldType) := [(dA 0, aty 0), (dA 1, aty 1), (dA 2, aty 2), (dA 3, aty 3), (dA 4, aty 4), (dA 5, aty 5), (dA 6, aty 6)]
def xS (D : va_G) (s : State) : Prop := s.vm.findClass "java/lang/String" = some (D.1 19) ∧ (∃ cf k i f, s.fieldFound? "java/lang/String" "value" "[B" = some (cf, k, i, f) ∧ f.isStatic = false ∧ f.slot = D.2 19 0) ∧ ∃ cf k i f, s.fieldFound? "java/lang/String" "coder" "B" = some (cf, k, i, f) ∧ f.isStatic = false ∧ f.slot = D.2 19 1
theorem xS.moved {D : va_G} {u U : State} (hvm : u.vm.Alike U.vm) (h : xS D u) : xS D U := by
  obtain ⟨h1, ⟨cf, k, i, f, a1, a2, a3⟩, ⟨cf2, k2, i2, f2, b1, b2, b3⟩⟩ := h
  obtain ⟨k', hi', -⟩ := State.fieldFound?_setVm hvm a1
  obtain ⟨k2', hi2', -⟩ := State.fieldFound?_setVm hvm b1
  exact ⟨by rw [hvm.findClass]; exact h1, ⟨cf, k', i, f, hi', a2, a3⟩, ⟨cf2, k2', i2, f2, hi2', b2, b3⟩⟩
def xK (D : va_G) (dA : Nat → ClassId) (s : State) : Prop := va_K D clT (tysT dA) s ∧ xS D s ∧ ∀ i, ArrOfT s (dA (1000 + i)) .byte
theorem xK.moved {D : va_G} {dA : Nat → ClassId} {u U : State} (hvm : u.vm.Alike U.vm) (h : xK D dA u) : xK D dA U := ⟨va_K.moved hvm h.1, h.2.1.moved hvm, fun i => arrOfT_moved hvm (h.2.2 i)⟩
def isNW (w : Cond) : Bool := match w with
  | .fieldLinkNest _ _ _ _ _ _ => true
  | .methodLinkNest _ _ _ _ => true
  | .castable _ _ => true
  | .declares _ => true
  | _ => false
def xN (s : State) : Prop := (∀ w ∈ lw_tbl, isNW w = true → va_Nw w s) ∧ ∀ k, 4 ≤ k → k < 7 → ∀ C, aty k = .object C → va_AO C s
theorem isNW_tab {w : Cond} (h : isNW w = true) : w.onTables = true := by
  cases w <;> first | rfl | (exact absurd h (by simp [isNW]))
theorem xN.warm {s U : State} (hW : s.WarmedH U.vm) (h : xN s) : xN U := by
  refine ⟨fun w hw hn => ?_, fun k h4 h7 C hC => va_AO.moved hW.alike (h.2 k h4 h7 C hC)⟩
  have h1 := h.1 w hw hn
  cases w <;> first | exact va_Nw.warmF hW h1 | exact va_Nw.warmM hW h1 | exact va_Nw.warmC hW h1 | exact va_Nw.warmD hW h1 | (exact absurd hn (by simp [isNW]))
theorem xN.same {s U : State} (hv : s.vm = U.vm) (h : xN s) : xN U := ⟨fun w hw hn => (h.1 w hw hn).same (isNW_tab hn) hv, fun k h4 h7 C hC => va_AO.moved (by rw [hv]; exact Vm.Alike.refl _) (h.2 k h4 h7 C hC)⟩
theorem xN.use {s : State} {args : Array Value} (h : xN s) {w : Cond} (hw : w ∈ lw_tbl) (hn : isNW w = true) : w.before args s = true := (h.1 w hw hn).use (isNW_tab hn)
/-! static fields of the JDK that are read, as they stand below s0 -/
def sv (dA : Nat → ClassId) (k : Nat) : Option Nat := if dA (200 + k) = 0 then none else some (dA (200 + k) - 1)
def yTA : MethodName := ⟨"java/util/ArrayList", "toArray", "()[Ljava/lang/Object;"⟩
def xTA : MethodName := ⟨"java/util/Collection", "toArray", "()[Ljava/lang/Object;"⟩
def xZ (dA : Nat → ClassId) (s0 : Nat) (U : State) (H : Heap) : Prop :=
  (va_Z "java/lang/Throwable" "UNASSIGNED_STACK" "[Ljava/lang/StackTraceElement;" (va_rf (sv dA 0)) (fun q => s0 ≤ q) U H ∧ va_Z "java/lang/Throwable" "SUPPRESSED_SENTINEL" "Ljava/util/List;" (va_rf (sv dA 1)) (fun q => s0 ≤ q) U H ∧ va_Z "jdk/internal/util/Preconditions" "SIOOBE_FORMATTER" "Ljava/util/function/BiFunction;" (va_rf (sv dA 2)) (fun q => s0 ≤ q) U H ∧ va_Z "java/lang/String" "COMPACT_STRINGS" "Z" (.int 1) (fun q => s0 ≤ q) U H)
  ∧ va_Mi "[Ljava/lang/Object;" (dA 250) U ∧ va_Fw "java/util/ArrayList" xTA yTA U ∧ ∀ k w, stT[k]? = some w → ∃ q, sv dA (100 + k) = some q ∧ vk_R w.1 w.2.1 w.2.2 q U
theorem xZ.moved {dA : Nat → ClassId} {s0 : Nat} {u U : State} {H : Heap} (hW : u.WarmedH U.vm) (h : xZ dA s0 u H) : xZ dA s0 U H := ⟨⟨h.1.1.moved hW.alike, h.1.2.1.moved hW.alike, h.1.2.2.1.moved hW.alike, h.1.2.2.2.moved hW.alike⟩, h.2.1.moved hW.alike, va_Fw.moved (by decide) hW.alike h.2.2.1, fun k w hk => (h.2.2.2 k w hk).imp fun q g => ⟨g.1, g.2.warm hW⟩⟩
theorem xZ.same {dA : Nat → ClassId} {s0 : Nat} {u U : State} {H : Heap} (hv : U.vm = u.vm) (h : xZ dA s0 u H) : xZ dA s0 U H := by
  have hA : u.vm.Alike U.vm := by rw [hv]; exact Vm.Alike.refl _
  exact ⟨⟨h.1.1.moved hA, h.1.2.1.moved hA, h.1.2.2.1.moved hA, h.1.2.2.2.moved hA⟩, h.2.1.moved hA, va_Fw.moved (by decide) hA h.2.2.1, fun k w hk => (h.2.2.2 k w hk).imp fun q g => ⟨g.1, g.2.same hv⟩⟩
theorem xZ.kept {dA : Nat → ClassId} {s0 : Nat} {U : State} {H H1 : Heap} (h : xZ dA s0 U H) (hq : ∀ q, q < s0 → H1[q]? = H[q]?) : xZ dA s0 U H1 :=
  ⟨⟨h.1.1.kept (fun a _ ha => hq a (by omega)), h.1.2.1.kept (fun a _ ha => hq a (by omega)), h.1.2.2.1.kept (fun a _ ha => hq a (by omega)), h.1.2.2.2.kept (fun a _ ha => hq a (by omega))⟩, h.2⟩
def xIn (D : va_G) (dA : Nat → ClassId) (s0 : Nat) (T N : xT) (Z : Nat) (I : xI) (L : xL) (R : xR) (U : State) : Prop := Rep D dA s0 T N Z I L R U.heap ∧ xK D dA U ∧ xN U ∧ xZ dA s0 U U.heap
def xQ (D : va_G) (dA : Nat → ClassId) (s0 : Nat) (v : Option Value) (T N : xT) (Z : Nat) (I : xI) (L : xL) (R : xR) : Array Value → State → Outcome → State → Prop := fun _ st o t =>
  o = .returned v ∧ Rep D dA s0 T N Z I L R t.heap ∧ ∀ q, q < s0 → t.heap[q]? = st.heap[q]?
def XMet (l : Launch) (D : va_G) (dA : Nat → ClassId) (s0 : Nat) (y : MethodName) (ws : List Cond) (fr lo : Nat) (av : List Value) (T N : xT) (Z : Nat) (I : xI) (L : xL) (R : xR) (v : Option Value) (T' N' : xT) (Z' : Nat) (I' : xI) (L' : xL) (R' : xR) (mc ms : Nat) : Prop :=
  Met l y ws { frames := fr, cells := mc, slots := ms, locals := lo } (va_Pc av (xIn D dA s0 T N Z I L R)) (xQ D dA s0 v T' N' Z' I' L' R') mc ms (fun q => s0 ≤ q)
def Cx (D : va_G) (dA : Nat → ClassId) (s0 : Nat) (p : Program) (m : MethodId) (c : Code) (cc : ByteArray) (nL : Nat) (s : State) (args : Array Value) (own : String) (meth : Method) : Prop :=
  CallFix p m c cc nL s args lw_all own ∧ xK D dA s ∧ xN s ∧ meth.locks = false ∧ xZ dA s0 s s.heap
def Iv (D : va_G) (dA : Nat → ClassId) (s0 : Nat) (s : State) (T N : xT) (Z : Nat) (I : xI) (L : xL) (R : xR) (H : Heap) (locs : List Loc) : Prop :=
  Rep D dA s0 T N Z I L R H ∧ (∀ q, q < s0 → H[q]? = s.heap[q]?) ∧ ∀ z ∈ locs, s0 ≤ z.base
def ClOK (ci : Nat) (C : String) (Tf : u_T) (Nf : Nat) : Prop :=
  clT[ci]? = some (C, Tf, Nf) ∧ (∀ w ∈ u_ws C Tf Nf, w ∈ lw_all) ∧ ci < 19 ∧ (∀ k, k < Nf → parseFieldDescriptor (Tf k).2.2.1 = some (tyT ci k)) ∧ (∀ a, a < Nf → ∀ b, b < Nf → a ≠ b → (Tf a).2.1 ≠ (Tf b).2.1)
theorem xAt.kept {D : va_G} {dA : Nat → ClassId} {t n : Nat} {fi : Nat → Int32} {fl : Nat → Int64} {fr : Nat → Option Nat} {a : Nat} {H H1 : Heap} (h : xAt D dA t n fi fl fr a H) (hq : H1[a]? = H[a]?) : xAt D dA t n fi fl fr a H1 := by
  by_cases h20 : t = 20
  · unfold xAt at h ⊢
    rw [if_pos h20] at h ⊢
    rw [hq]
    exact h
  by_cases h107 : t = 107
  · unfold xAt at h ⊢
    rw [if_neg h20, if_pos h107] at h ⊢
    rw [hq]
    exact h
  by_cases ht : t < 100
  · rw [xAt_o ht h20] at h ⊢
    obtain ⟨q, h1, h2⟩ := h
    exact ⟨q, h1, h2.kept hq⟩
  · rw [xAt_a (by omega) h107] at h ⊢
    rw [hq]
    exact h
theorem xAt.lt {D : va_G} {dA : Nat → ClassId} {t n : Nat} {fi : Nat → Int32} {fl : Nat → Int64} {fr : Nat → Option Nat} {a : Nat} {H : Heap} (h : xAt D dA t n fi fl fr a H) : a < H.size := by
  by_cases h20 : t = 20
  · unfold xAt at h
    rw [if_pos h20] at h
    obtain ⟨cell, h2, -⟩ := h
    exact (Array.getElem?_eq_some_iff.mp h2).1
  by_cases h107 : t = 107
  · unfold xAt at h
    rw [if_neg h20, if_pos h107] at h
    obtain ⟨cell, h2, -⟩ := h
    exact (Array.getElem?_eq_some_iff.mp h2).1
  by_cases ht : t < 100
  · rw [xAt_o ht h20] at h
    obtain ⟨q, h1, cell, h2, -⟩ := h
    exact (Array.getElem?_eq_some_iff.mp h2).1
  · rw [xAt_a (by omega) h107] at h
    exact (Array.getElem?_eq_some_iff.mp h).1
section XR
variable {p : Program} {l : Launch} {e : Env} {Rm : Room} {s : State} {m : MethodId} {args : Array Value} {below : List Frame} {meth : Method} {c : Code} {H : Heap} {locs : List Loc} {cells slots : Nat} {Q : State → Prop}
variable {cc : ByteArray} {pc nL : Nat} {ls : Array Slot} {rest : List Value} {own : String} {D : va_G} {dA : Nat → ClassId} {s0 : Nat} {T N : xT} {Z : Nat} {I : xI} {L : xL} {R : xR}
theorem Rep.obj (h : Rep D dA s0 T N Z I L R H) {a ci : Nat} (ht : T a = ci + 1) (hci : ci < 19) : ∃ q : vw_C, clT[ci]? = some q ∧ t_OB a (D.1 ci) q.2.2 (D.2 ci) H (fun k => fval (tyT ci k) (I a k) (L a k) (R a k)) := by
  have h1 := h.1 a (by rw [ht]; omega)
  rw [xAt_o (by rw [ht]; omega) (by rw [ht]; omega), ht, Nat.add_sub_cancel] at h1
  exact h1
theorem Rep.arr (h : Rep D dA s0 T N Z I L R H) {a k : Nat} (ht : T a = 100 + k) (hk : k ≠ 7 := by decide) : H[a]? = some (arrV (dA k) (N a) (fun j => fval (aty k) (I a j) (L a j) (R a j))) := by
  have h1 := h.1 a (by rw [ht]; omega)
  rw [xAt_a (by rw [ht]; omega) (by rw [ht]; omega), ht, Nat.add_sub_cancel_left] at h1
  exact h1
theorem Rep.set (h : Rep D dA s0 T N Z I L R H) {a : Nat} {H1 : Heap} {I' : xI} {L' : xL} {R' : xR} (hz : H1.size = H.size) (ho : ∀ q, q ≠ a → H1[q]? = H[q]?) (hs : ∀ b, b ≠ a → I' b = I b ∧ L' b = L b ∧ R' b = R b) (hc : xAt D dA (T a) (N a) (I' a) (L' a) (R' a) a H1) : Rep D dA s0 T N Z I' L' R' H1 := by
  refine ⟨fun b hb => ?_, by rw [hz]; exact h.2.1, h.2.2.1, h.2.2.2.1, fun b hb => ?_⟩
  rotate_left
  · have hne : b ≠ a := by
      have h1 := hc.lt
      have h2 := h.2.1
      omega
    obtain ⟨e1, e2, e3⟩ := hs b hne
    rw [e1, e2, e3]
    exact h.2.2.2.2 b hb
  by_cases hba : b = a
  · subst hba; exact hc
  · obtain ⟨e1, e2, e3⟩ := hs b hba
    rw [e1, e2, e3]
    exact (h.1 b hb).kept (ho b hba)
theorem Iv.put (V : Iv D dA s0 s T N Z I L R H locs) {a k : Nat} {H1 : Heap} {I' : xI} {L' : xL} {R' : xR} (hz : H1.size = H.size) (ho : ∀ q, q ≠ a → H1[q]? = H[q]?) (ha : s0 ≤ a) (hR : Rep D dA s0 T N Z I' L' R' H1) : Iv D dA s0 s T N Z I' L' R' H1 (locs ++ [⟨a, k⟩]) := by
  refine ⟨hR, fun q hq => ?_, fun z hz => ?_⟩
  · rw [ho q (by omega)]; exact V.2.1 q hq
  · rcases List.mem_append.mp hz with h | h
    · exact V.2.2 z h
    · rw [List.mem_singleton.mp h]; exact ha
theorem Rep.ownd (h : Rep D dA s0 T N Z I L R H) {a : Nat} (h0 : T a ≠ 0) (h1 : T a ≠ 20) (h2 : T a ≠ 107) : s0 ≤ a := by
  rcases h.2.2.2.1 a h0 with q | q | q
  · exact q
  · exact absurd q h1
  · exact absurd q h2
theorem x_get (X : Cx D dA s0 p m c cc nL s args own meth) (V : Iv D dA s0 s T N Z I L R H locs) {a ci index Nf : Nat} {C : String} {Tf : u_T} (ok : ClOK ci C Tf Nf) (ht : T a = ci + 1) (k : Nat) (hk : k < Nf) (hlink : Cond.fieldLink own index (Tf k).1 (Tf k).2.1 (Tf k).2.2.1 ∈ lw_all) {v : Value} (hv : fval (tyT ci k) (I a k) (L a k) (R a k) = v) (hdg : decode cc pc = .ok (.getfield index, 3))
    (kk : W p l e Rm s m args below meth c H locs cells slots Q (F0 m (pc + 3) ls (v :: rest))) : W p l e Rm s m args below meth c H locs cells slots Q (F0 m pc ls (.ref a :: rest)) := by
  obtain ⟨⟨hx, hb, hml, hown, hts⟩, hK, -, -, -⟩ := X
  obtain ⟨hc, hin, hci, hty, hnm⟩ := ok
  obtain ⟨r, h1, cell, q1, q2, q3, q4⟩ := V.1.obj ht hci
  have hr : r = (C, Tf, Nf) := Option.some.inj (h1.symm.trans hc)
  subst hr
  obtain ⟨hS, hfc, kC, hkC, hkind⟩ := hK.1.1 ci _ hc
  obtain ⟨cf, kf, fi, f, hi, hsl⟩ := hS k hk
  refine W.getf hx hb hown (hts _ hlink) hi (u_facts hfc hkC (u_lays hts hin hk) hi).1 q1 (by rw [q3]; exact fun h => by cases h) (v := v) ?_ rfl rfl hdg kk
  rw [hsl, q4 k hk]
  exact congrArg some hv
theorem x_getN (X : Cx D dA s0 p m c cc nL s args own meth) (V : Iv D dA s0 s T N Z I L R H locs) {a ci index Nf : Nat} {C host : String} {Tf : u_T} (ok : ClOK ci C Tf Nf) (ht : T a = ci + 1) (k : Nat) (hk : k < Nf) (hlink : Cond.fieldLinkNest own index (Tf k).1 (Tf k).2.1 (Tf k).2.2.1 host ∈ lw_tbl) {v : Value} (hv : fval (tyT ci k) (I a k) (L a k) (R a k) = v) (hdg : decode cc pc = .ok (.getfield index, 3))
    (kk : W p l e Rm s m args below meth c H locs cells slots Q (F0 m (pc + 3) ls (v :: rest))) : W p l e Rm s m args below meth c H locs cells slots Q (F0 m pc ls (.ref a :: rest)) := by
  obtain ⟨⟨hx, hb, hml, hown, hts⟩, hK, hN, -, -⟩ := X
  obtain ⟨hc, hin, hci, hty, hnm⟩ := ok
  obtain ⟨r, h1, cell, q1, q2, q3, q4⟩ := V.1.obj ht hci
  have hr : r = (C, Tf, Nf) := Option.some.inj (h1.symm.trans hc)
  subst hr
  obtain ⟨hS, hfc, kC, hkC, hkind⟩ := hK.1.1 ci _ hc
  obtain ⟨cf, kf, fi, f, hi, hsl⟩ := hS k hk
  refine va_Wgetf hx hb hown (hN.use hlink rfl) hi (u_facts hfc hkC (u_lays hts hin hk) hi).1 q1 (by rw [q3]; exact fun h => by cases h) (v := v) ?_ rfl rfl hdg kk
  rw [hsl, q4 k hk]
  exact congrArg some hv
theorem x_setcell {ci Nf k : Nat} {C : String} {Tf : u_T} {v : Value} {a : Nat} {cell : Cell} {H1 : Heap} {I' : xI} {L' : xL} {R' : xR} (hc : clT[ci]? = some (C, Tf, Nf)) (hci : ci < 19) (ht : T a = ci + 1) (hap : ∀ x y, x < Nf → y < Nf → x ≠ y → (D.2 ci) x ≠ (D.2 ci) y) (hk : k < Nf) (q2 : cell.cls = D.1 ci) (q3 : cell.vm = .none)
    (q4 : ∀ j, j < Nf → cell.slots[D.2 ci j]? = some (fval (tyT ci j) (I a j) (L a j) (R a j))) (hw : ∀ j, j < Nf → fval (tyT ci j) (I' a j) (L' a j) (R' a j) = updV (fun j => fval (tyT ci j) (I a j) (L a j) (R a j)) k v j) (e1 : H1[a]? = some (cell.setSlot (D.2 ci k) v)) : xAt D dA (T a) (N a) (I' a) (L' a) (R' a) a H1 := by
  rw [xAt_o (by rw [ht]; omega) (by rw [ht]; omega), ht, Nat.add_sub_cancel]
  refine ⟨_, hc, t_OB.to (V := updV (fun j => fval (tyT ci j) (I a j) (L a j) (R a j)) k v) ⟨_, e1, q2, q3, t_set q4 hap hk v⟩ (fun j hj => (hw j hj).symm)⟩
theorem x_putG (X : Cx D dA s0 p m c cc nL s args own meth) (V : Iv D dA s0 s T N Z I L R H locs) {a ci index Nf : Nat} {C : String} {Tf : u_T} (ok : ClOK ci C Tf Nf) (h19 : ci ≠ 19) (ht : T a = ci + 1) (k : Nat) (hk : k < Nf) (hlink : Cond.fieldLink own index (Tf k).1 (Tf k).2.1 (Tf k).2.2.1 ∈ lw_all) (hfin : (Tf k).2.2.2 = false ∨ ((Tf k).2.2.2 = true ∧ meth.name = "<init>" ∧ (Tf k).1 = own)) {v : Value} {I' : xI} {L' : xL} {R' : xR}
    (hn : narrow (tyT ci k) v = v) (hfit : fits (tyT ci k) v = true) (hs : ∀ b, b ≠ a → I' b = I b ∧ L' b = L b ∧ R' b = R b) (hw : ∀ j, j < Nf → fval (tyT ci j) (I' a j) (L' a j) (R' a j) = updV (fun j => fval (tyT ci j) (I a j) (L a j) (R a j)) k v j) (hdg : decode cc pc = .ok (.putfield index, 3))
    (kk : ∀ (H1 : Heap) (locs1 : List Loc), Iv D dA s0 s T N Z I' L' R' H1 locs1 → W p l e Rm s m args below meth c H1 locs1 cells slots Q (F0 m (pc + 3) ls rest)) : W p l e Rm s m args below meth c H locs cells slots Q (F0 m pc ls (v :: .ref a :: rest)) := by
  obtain ⟨⟨hx, hb, hml, hown, hts⟩, hK, -, -, -⟩ := X
  obtain ⟨hc, hin, hci, hty, hnm⟩ := ok
  have ha : s0 ≤ a := V.1.ownd (by rw [ht]; omega) (by rw [ht]; omega) (by rw [ht]; omega)
  have hap := va_apart (own := own) hts hin (tyT ci) hty hnm hK.1 hc
  obtain ⟨r, h1, cell, q1, q2, q3, q4⟩ := V.1.obj ht hci
  have hr : r = (C, Tf, Nf) := Option.some.inj (h1.symm.trans hc)
  subst hr
  obtain ⟨hS, hfc, kC, hkC, hkind⟩ := hK.1.1 ci _ hc
  obtain ⟨cf, kf, fi, f, hi, hsl⟩ := hS k hk
  have hlay := hts _ (hin _ (u_in_lay hk))
  have hst := (u_facts hfc hkC (u_lays hts hin hk) hi).1
  rcases hfin with hfin | ⟨hfin, hini, hdecl⟩
  · unfold u_lay at hlay
    rw [if_neg (by rw [hfin]; decide)] at hlay
    have h6 := u_store hfc hkC hkind hlay hi (hty k hk) hn hfit
    refine W.putK hx hb (f := f) ⟨hown, hts _ hlink, ⟨_, _, _, hi⟩, hst⟩ (by rw [q2]; exact h6) q1 q3 (by rw [hsl]; exact k2_hasslot (q4 k hk)) rfl rfl hdg fun H' e1 e2 e3 => ?_
    rw [hsl] at e1 ⊢
    exact kk H' _ (V.put e2 e3 ha (V.1.set e2 e3 hs (x_setcell hc hci ht hap hk q2 q3 q4 hw e1)))
  · unfold u_lay at hlay
    rw [if_pos hfin] at hlay
    have hcf : m.cls = cf := by
      obtain ⟨_, _, c', _, _, _, -, -, hf', -, -, -, hown2, -⟩ := Cond.laysFinal_spec hlay
      have e1 : c' = cf := by have := hi.symm.trans hf'; simp at this; exact this.1.symm
      rw [hdecl] at hown2
      rw [← e1]; exact Option.some.inj (hown.symm.trans hown2)
    have h6 := u_fits hfc hkC hkind (Or.inr hlay) hi (hty k hk) hn hfit
    refine W.putFinK hx hb hown (hts _ hlink) hi hst hcf hini (by rw [q2]; exact h6) q1 q3 (by rw [hsl]; exact k2_hasslot (q4 k hk)) rfl rfl hdg fun H' e1 e2 e3 => ?_
    rw [hsl] at e1 ⊢
    exact kk H' _ (V.put e2 e3 ha (V.1.set e2 e3 hs (x_setcell hc hci ht hap hk q2 q3 q4 hw e1)))
theorem x_putNG (X : Cx D dA s0 p m c cc nL s args own meth) (V : Iv D dA s0 s T N Z I L R H locs) {a ci index Nf : Nat} {C host : String} {Tf : u_T} (ok : ClOK ci C Tf Nf) (h19 : ci ≠ 19) (ht : T a = ci + 1) (k : Nat) (hk : k < Nf) (hlink : Cond.fieldLinkNest own index (Tf k).1 (Tf k).2.1 (Tf k).2.2.1 host ∈ lw_tbl) (hfin : (Tf k).2.2.2 = false) {v : Value} {I' : xI} {L' : xL} {R' : xR}
    (hn : narrow (tyT ci k) v = v) (hfit : fits (tyT ci k) v = true) (hs : ∀ b, b ≠ a → I' b = I b ∧ L' b = L b ∧ R' b = R b) (hw : ∀ j, j < Nf → fval (tyT ci j) (I' a j) (L' a j) (R' a j) = updV (fun j => fval (tyT ci j) (I a j) (L a j) (R a j)) k v j) (hdg : decode cc pc = .ok (.putfield index, 3))
    (kk : ∀ (H1 : Heap) (locs1 : List Loc), Iv D dA s0 s T N Z I' L' R' H1 locs1 → W p l e Rm s m args below meth c H1 locs1 cells slots Q (F0 m (pc + 3) ls rest)) : W p l e Rm s m args below meth c H locs cells slots Q (F0 m pc ls (v :: .ref a :: rest)) := by
  obtain ⟨⟨hx, hb, hml, hown, hts⟩, hK, hN, -, -⟩ := X
  obtain ⟨hc, hin, hci, hty, hnm⟩ := ok
  have ha : s0 ≤ a := V.1.ownd (by rw [ht]; omega) (by rw [ht]; omega) (by rw [ht]; omega)
  have hap := va_apart (own := own) hts hin (tyT ci) hty hnm hK.1 hc
  obtain ⟨r, h1, cell, q1, q2, q3, q4⟩ := V.1.obj ht hci
  have hr : r = (C, Tf, Nf) := Option.some.inj (h1.symm.trans hc)
  subst hr
  obtain ⟨hS, hfc, kC, hkC, hkind⟩ := hK.1.1 ci _ hc
  obtain ⟨cf, kf, fi, f, hi, hsl⟩ := hS k hk
  have hlay := hts _ (hin _ (u_in_lay hk))
  have hst := (u_facts hfc hkC (u_lays hts hin hk) hi).1
  unfold u_lay at hlay
  rw [if_neg (by rw [hfin]; decide)] at hlay
  have h6 := u_store hfc hkC hkind hlay hi (hty k hk) hn hfit
  refine va_WputK hx hb hown (hN.use hlink rfl) hi hst (by rw [q2]; exact h6) q1 q3 (by rw [hsl]; exact k2_hasslot (q4 k hk)) rfl rfl hdg fun H' e1 e2 e3 => ?_
  rw [hsl] at e1 ⊢
  exact kk H' _ (V.put e2 e3 ha (V.1.set e2 e3 hs (x_setcell hc hci ht hap hk q2 q3 q4 hw e1)))
/-! what a store writes, seen by the functions -/
theorem ws_i {ci a k : Nat} {x : Int32} {I' : xI} (hI : I' = uI I a k x) (hk : ∀ i l r, fval (tyT ci k) i l r = .int i) : (∀ b, b ≠ a → I' b = I b ∧ L b = L b ∧ R b = R b) ∧ ∀ j, fval (tyT ci j) (I' a j) (L a j) (R a j) = updV (fun j => fval (tyT ci j) (I a j) (L a j) (R a j)) k (.int x) j := by
  subst hI
  refine ⟨fun b hb => ⟨by simp [uI, hb], rfl, rfl⟩, fun j => ?_⟩
  by_cases hj : j = k
  · subst hj; simp [uI, upd, updV, hk]
  · simp [uI, upd, updV, hj]
theorem ws_l {ci a k : Nat} {x : Int64} {L' : xL} (hI : L' = uL L a k x) (hk : ∀ i l r, fval (tyT ci k) i l r = .long l) : (∀ b, b ≠ a → I b = I b ∧ L' b = L b ∧ R b = R b) ∧ ∀ j, fval (tyT ci j) (I a j) (L' a j) (R a j) = updV (fun j => fval (tyT ci j) (I a j) (L a j) (R a j)) k (.long x) j := by
  subst hI
  refine ⟨fun b hb => ⟨rfl, by simp [uL, hb], rfl⟩, fun j => ?_⟩
  by_cases hj : j = k
  · subst hj; simp [uL, vp_updL, updV, hk]
  · simp [uL, vp_updL, updV, hj]
theorem ws_r {ci a k : Nat} {x : Option Nat} {R' : xR} (hI : R' = uR R a k x) (hk : ∀ i l r, fval (tyT ci k) i l r = va_rf r) : (∀ b, b ≠ a → I b = I b ∧ L b = L b ∧ R' b = R b) ∧ ∀ j, fval (tyT ci j) (I a j) (L a j) (R' a j) = updV (fun j => fval (tyT ci j) (I a j) (L a j) (R a j)) k (va_rf x) j := by
  subst hI
  refine ⟨fun b hb => ⟨rfl, rfl, by simp [uR, hb]⟩, fun j => ?_⟩
  by_cases hj : j = k
  · subst hj; simp [uR, va_up, updV, hk]
  · simp [uR, va_up, updV, hj]
theorem x_puti (X : Cx D dA s0 p m c cc nL s args own meth) (V : Iv D dA s0 s T N Z I L R H locs) {a ci index Nf : Nat} {C : String} {Tf : u_T} (ok : ClOK ci C Tf Nf) (h19 : ci ≠ 19) (ht : T a = ci + 1) (k : Nat) (hk : k < Nf) (hlink : Cond.fieldLink own index (Tf k).1 (Tf k).2.1 (Tf k).2.2.1 ∈ lw_all) (hfin : (Tf k).2.2.2 = false ∨ ((Tf k).2.2.2 = true ∧ meth.name = "<init>" ∧ (Tf k).1 = own)) {x : Int32} {I' : xI} (hI : I' = uI I a k x) (hty : ∀ i l r, fval (tyT ci k) i l r = .int i)
    (hn : narrow (tyT ci k) (.int x) = .int x) (hfit : fits (tyT ci k) (.int x) = true) (hdg : decode cc pc = .ok (.putfield index, 3))
    (kk : ∀ (H1 : Heap) (locs1 : List Loc), Iv D dA s0 s T N Z I' L R H1 locs1 → W p l e Rm s m args below meth c H1 locs1 cells slots Q (F0 m (pc + 3) ls rest)) : W p l e Rm s m args below meth c H locs cells slots Q (F0 m pc ls (.int x :: .ref a :: rest)) :=
  x_putG X V ok h19 ht k hk hlink hfin hn hfit (ws_i hI hty).1 (fun j _ => (ws_i hI hty).2 j) hdg kk
theorem x_putl (X : Cx D dA s0 p m c cc nL s args own meth) (V : Iv D dA s0 s T N Z I L R H locs) {a ci index Nf : Nat} {C : String} {Tf : u_T} (ok : ClOK ci C Tf Nf) (h19 : ci ≠ 19) (ht : T a = ci + 1) (k : Nat) (hk : k < Nf) (hlink : Cond.fieldLink own index (Tf k).1 (Tf k).2.1 (Tf k).2.2.1 ∈ lw_all) (hfin : (Tf k).2.2.2 = false ∨ ((Tf k).2.2.2 = true ∧ meth.name = "<init>" ∧ (Tf k).1 = own)) {x : Int64} {L' : xL} (hI : L' = uL L a k x) (hty : ∀ i l r, fval (tyT ci k) i l r = .long l)
    (hn : narrow (tyT ci k) (.long x) = .long x) (hfit : fits (tyT ci k) (.long x) = true) (hdg : decode cc pc = .ok (.putfield index, 3))
    (kk : ∀ (H1 : Heap) (locs1 : List Loc), Iv D dA s0 s T N Z I L' R H1 locs1 → W p l e Rm s m args below meth c H1 locs1 cells slots Q (F0 m (pc + 3) ls rest)) : W p l e Rm s m args below meth c H locs cells slots Q (F0 m pc ls (.long x :: .ref a :: rest)) :=
  x_putG X V ok h19 ht k hk hlink hfin hn hfit (ws_l hI hty).1 (fun j _ => (ws_l hI hty).2 j) hdg kk
theorem x_putr (X : Cx D dA s0 p m c cc nL s args own meth) (V : Iv D dA s0 s T N Z I L R H locs) {a ci index Nf : Nat} {C : String} {Tf : u_T} (ok : ClOK ci C Tf Nf) (h19 : ci ≠ 19) (ht : T a = ci + 1) (k : Nat) (hk : k < Nf) (hlink : Cond.fieldLink own index (Tf k).1 (Tf k).2.1 (Tf k).2.2.1 ∈ lw_all) (hfin : (Tf k).2.2.2 = false ∨ ((Tf k).2.2.2 = true ∧ meth.name = "<init>" ∧ (Tf k).1 = own)) {x : Option Nat} {R' : xR} (hI : R' = uR R a k x) (hty : ∀ i l r, fval (tyT ci k) i l r = va_rf r)
    {v : Value} (hv : v = va_rf x) (hn : narrow (tyT ci k) v = v) (hfit : fits (tyT ci k) v = true) (hdg : decode cc pc = .ok (.putfield index, 3))
    (kk : ∀ (H1 : Heap) (locs1 : List Loc), Iv D dA s0 s T N Z I L R' H1 locs1 → W p l e Rm s m args below meth c H1 locs1 cells slots Q (F0 m (pc + 3) ls rest)) : W p l e Rm s m args below meth c H locs cells slots Q (F0 m pc ls (v :: .ref a :: rest)) := by
  subst hv
  exact x_putG X V ok h19 ht k hk hlink hfin hn hfit (ws_r hI hty).1 (fun j _ => (ws_r hI hty).2 j) hdg kk
theorem x_putNi (X : Cx D dA s0 p m c cc nL s args own meth) (V : Iv D dA s0 s T N Z I L R H locs) {a ci index Nf : Nat} {C host : String} {Tf : u_T} (ok : ClOK ci C Tf Nf) (h19 : ci ≠ 19) (ht : T a = ci + 1) (k : Nat) (hk : k < Nf) (hlink : Cond.fieldLinkNest own index (Tf k).1 (Tf k).2.1 (Tf k).2.2.1 host ∈ lw_tbl) (hfin : (Tf k).2.2.2 = false) {x : Int32} {I' : xI} (hI : I' = uI I a k x) (hty : ∀ i l r, fval (tyT ci k) i l r = .int i)
    (hn : narrow (tyT ci k) (.int x) = .int x) (hfit : fits (tyT ci k) (.int x) = true) (hdg : decode cc pc = .ok (.putfield index, 3))
    (kk : ∀ (H1 : Heap) (locs1 : List Loc), Iv D dA s0 s T N Z I' L R H1 locs1 → W p l e Rm s m args below meth c H1 locs1 cells slots Q (F0 m (pc + 3) ls rest)) : W p l e Rm s m args below meth c H locs cells slots Q (F0 m pc ls (.int x :: .ref a :: rest)) :=
  x_putNG X V ok h19 ht k hk hlink hfin hn hfit (ws_i hI hty).1 (fun j _ => (ws_i hI hty).2 j) hdg kk
theorem x_putNr (X : Cx D dA s0 p m c cc nL s args own meth) (V : Iv D dA s0 s T N Z I L R H locs) {a ci index Nf : Nat} {C host : String} {Tf : u_T} (ok : ClOK ci C Tf Nf) (h19 : ci ≠ 19) (ht : T a = ci + 1) (k : Nat) (hk : k < Nf) (hlink : Cond.fieldLinkNest own index (Tf k).1 (Tf k).2.1 (Tf k).2.2.1 host ∈ lw_tbl) (hfin : (Tf k).2.2.2 = false) {x : Option Nat} {R' : xR} (hI : R' = uR R a k x) (hty : ∀ i l r, fval (tyT ci k) i l r = va_rf r)
    {v : Value} (hv : v = va_rf x) (hn : narrow (tyT ci k) v = v) (hfit : fits (tyT ci k) v = true) (hdg : decode cc pc = .ok (.putfield index, 3))
    (kk : ∀ (H1 : Heap) (locs1 : List Loc), Iv D dA s0 s T N Z I L R' H1 locs1 → W p l e Rm s m args below meth c H1 locs1 cells slots Q (F0 m (pc + 3) ls rest)) : W p l e Rm s m args below meth c H locs cells slots Q (F0 m pc ls (v :: .ref a :: rest)) := by
  subst hv
  exact x_putNG X V ok h19 ht k hk hlink hfin hn hfit (ws_r hI hty).1 (fun j _ => (ws_r hI hty).2 j) hdg kk
/-! arrays -/
theorem x_iald (X : Cx D dA s0 p m c cc nL s args own meth) (V : Iv D dA s0 s T N Z I L R H locs) {a j : Nat} {i : Int32} (ht : T a = 100) (hi : inb i (N a) = true) (hj : j = i.toNatClampNeg) (hdg : decode cc pc = .ok (.iaload, 1))
    (kk : W p l e Rm s m args below meth c H locs cells slots Q (F0 m (pc + 1) ls (.int (I a j) :: rest))) : W p l e Rm s m args below meth c H locs cells slots Q (F0 m pc ls (.int i :: .ref a :: rest)) := by
  subst hj
  exact W.iald (v := .int (I a i.toNatClampNeg)) X.1.1 X.1.2.1 (V.1.arr (k := 0) ht) ((X.2.1.1.2 0 _ rfl).1 _ _) (fun q => by cases q) (by rw [arrV_size]; exact inb_vp hi) (by rw [arrV_read _ _ (inb_lt hi)]; rfl) rfl rfl hdg kk
theorem x_bald (X : Cx D dA s0 p m c cc nL s args own meth) (V : Iv D dA s0 s T N Z I L R H locs) {a j : Nat} {i : Int32} (ht : T a = 101) (hi : inb i (N a) = true) (hj : j = i.toNatClampNeg) (hdg : decode cc pc = .ok (.baload, 1))
    (kk : W p l e Rm s m args below meth c H locs cells slots Q (F0 m (pc + 1) ls (.int (I a j) :: rest))) : W p l e Rm s m args below meth c H locs cells slots Q (F0 m pc ls (.int i :: .ref a :: rest)) := by
  subst hj
  exact W.bald (v := .int (I a i.toNatClampNeg)) X.1.1 X.1.2.1 (V.1.arr (k := 1) ht) ((X.2.1.1.2 1 _ rfl).1 _ _) (fun q => by cases q) (by rw [arrV_size]; exact inb_vp hi) (by rw [arrV_read _ _ (inb_lt hi)]; rfl) rfl rfl hdg kk
theorem Rep.txt (h : Rep D dA s0 T N Z I L R H) {a : Nat} (ht : T a = 107) : ∃ cell : Cell, H[a]? = some cell ∧ cell.vm ≠ .unknown ∧ cell.vm.isStatics = false ∧ (∃ i, cell.cls = dA (1000 + i)) ∧ N a ≤ cell.slots.size ∧ cell.slots.size.toInt32 = Int32.ofNat (N a) ∧ ∀ j, j < N a → cell.slots[j]? = some (.int (I a j)) := by
  have h1 := h.1 a (by rw [ht]; omega)
  unfold xAt at h1
  rw [if_neg (by rw [ht]; omega), if_pos ht] at h1
  exact h1
theorem Rep.str (h : Rep D dA s0 T N Z I L R H) {a : Nat} (ht : T a = 20) : ∃ cell : Cell, H[a]? = some cell ∧ cell.vm ≠ .unknown ∧ cell.vm.isStatics = false ∧ cell.cls = D.1 19 ∧ cell.slots[D.2 19 0]? = some (va_rf (R a 0)) ∧ cell.slots[D.2 19 1]? = some (.int (I a 1)) := by
  have h1 := h.1 a (by rw [ht]; omega)
  unfold xAt at h1
  rw [if_pos ht] at h1
  exact h1
theorem x_isA7 (X : Cx D dA s0 p m c cc nL s args own meth) {cell : Cell} (h1 : cell.vm.isStatics = false) (h2 : ∃ i, cell.cls = dA (1000 + i)) : s.isArrayOf cell .byte := by
  obtain ⟨i, h2⟩ := h2
  obtain ⟨-, k, hk, comp, hkind⟩ := X.2.1.2.2 i 0 (fun _ => .null)
  exact ⟨fun z hz => (by rw [hz] at h1; exact absurd h1 (by simp [VmData.isStatics])), k, (by rw [h2]; exact hk), comp, hkind⟩
theorem x_bald7 (X : Cx D dA s0 p m c cc nL s args own meth) (V : Iv D dA s0 s T N Z I L R H locs) {a j : Nat} {i : Int32} (ht : T a = 107) (hi : inb i (N a) = true) (hj : j = i.toNatClampNeg) (hdg : decode cc pc = .ok (.baload, 1))
    (kk : W p l e Rm s m args below meth c H locs cells slots Q (F0 m (pc + 1) ls (.int (I a j) :: rest))) : W p l e Rm s m args below meth c H locs cells slots Q (F0 m pc ls (.int i :: .ref a :: rest)) := by
  subst hj
  obtain ⟨cell, g1, g2, g3, g4, g5, g6, g7⟩ := V.1.txt ht
  have hlt := inb_lt hi
  exact W.bald (v := .int (I a i.toNatClampNeg)) X.1.1 X.1.2.1 g1 (x_isA7 X g3 g4) g2 (fun q => inb_vp hi (q.imp id (fun z => by omega))) (g7 _ hlt) rfl rfl hdg kk
theorem x_alen7 (X : Cx D dA s0 p m c cc nL s args own meth) (V : Iv D dA s0 s T N Z I L R H locs) {a : Nat} (ht : T a = 107) (hdg : decode cc pc = .ok (.arraylength, 1))
    (kk : W p l e Rm s m args below meth c H locs cells slots Q (F0 m (pc + 1) ls (.int (Int32.ofNat (N a)) :: rest))) : W p l e Rm s m args below meth c H locs cells slots Q (F0 m pc ls (.ref a :: rest)) := by
  obtain ⟨cell, g1, g2, g3, g4, g5, g6, g7⟩ := V.1.txt ht
  exact W.alen (n := Int32.ofNat (N a)) X.1.1 X.1.2.1 g1 (x_isA7 X g3 g4) g6 rfl rfl hdg kk
theorem x_zald (X : Cx D dA s0 p m c cc nL s args own meth) (V : Iv D dA s0 s T N Z I L R H locs) {a j : Nat} {i : Int32} (ht : T a = 102) (hi : inb i (N a) = true) (hj : j = i.toNatClampNeg) (hdg : decode cc pc = .ok (.baload, 1))
    (kk : W p l e Rm s m args below meth c H locs cells slots Q (F0 m (pc + 1) ls (.int (I a j) :: rest))) : W p l e Rm s m args below meth c H locs cells slots Q (F0 m pc ls (.int i :: .ref a :: rest)) := by
  subst hj
  exact W.zald (v := .int (I a i.toNatClampNeg)) X.1.1 X.1.2.1 (V.1.arr (k := 2) ht) ((X.2.1.1.2 2 _ rfl).1 _ _) (fun q => by cases q) (by rw [arrV_size]; exact inb_vp hi) (by rw [arrV_read _ _ (inb_lt hi)]; rfl) rfl rfl hdg kk
theorem x_lald (X : Cx D dA s0 p m c cc nL s args own meth) (V : Iv D dA s0 s T N Z I L R H locs) {a j : Nat} {i : Int32} (ht : T a = 103) (hi : inb i (N a) = true) (hj : j = i.toNatClampNeg) (hdg : decode cc pc = .ok (.laload, 1))
    (kk : W p l e Rm s m args below meth c H locs cells slots Q (F0 m (pc + 1) ls (.long (L a j) :: rest))) : W p l e Rm s m args below meth c H locs cells slots Q (F0 m pc ls (.int i :: .ref a :: rest)) := by
  subst hj
  exact W.lald (v := .long (L a i.toNatClampNeg)) X.1.1 X.1.2.1 (V.1.arr (k := 3) ht) ((X.2.1.1.2 3 _ rfl).1 _ _) (fun q => by cases q) (by rw [arrV_size]; exact inb_vp hi) (by rw [arrV_read _ _ (inb_lt hi)]; rfl) rfl rfl hdg kk
/-- an array's cell behind a store -/
theorem x_setarr {a j k : Nat} {x : Value} {H1 : Heap} {I' : xI} {L' : xL} {R' : xR} (ht : T a = 100 + k) (hk7 : k ≠ 7 := by decide) (hw : ∀ q, fval (aty k) (I' a q) (L' a q) (R' a q) = updV (fun q => fval (aty k) (I a q) (L a q) (R a q)) j x q) (e1 : H1[a]? = some ((arrV (dA k) (N a) (fun q => fval (aty k) (I a q) (L a q) (R a q))).setSlot j x)) : xAt D dA (T a) (N a) (I' a) (L' a) (R' a) a H1 := by
  rw [xAt_a (by rw [ht]; omega) (by rw [ht]; omega), ht, Nat.add_sub_cancel_left, e1, arrV_store]
  congr 2
  funext q
  exact (hw q).symm
theorem x_iast (X : Cx D dA s0 p m c cc nL s args own meth) (V : Iv D dA s0 s T N Z I L R H locs) {a j : Nat} {i x : Int32} {I' : xI} (ht : T a = 100) (hi : inb i (N a) = true) (hj : j = i.toNatClampNeg) (hI : I' = uI I a j x) (hdg : decode cc pc = .ok (.iastore, 1))
    (kk : ∀ (H1 : Heap) (locs1 : List Loc), Iv D dA s0 s T N Z I' L R H1 locs1 → W p l e Rm s m args below meth c H1 locs1 cells slots Q (F0 m (pc + 1) ls rest)) : W p l e Rm s m args below meth c H locs cells slots Q (F0 m pc ls (.int x :: .int i :: .ref a :: rest)) := by
  subst hj
  have ha : s0 ≤ a := V.1.ownd (by rw [ht]; omega) (by rw [ht]; omega) (by rw [ht]; omega)
  refine W.iast X.1.1 X.1.2.1 (V.1.arr (k := 0) ht) ((X.2.1.1.2 0 _ rfl).1 _ _) (fun q => by cases q) (by rw [arrV_size]; exact inb_vp hi) rfl rfl hdg fun H1 e1 z oq => ?_
  refine kk H1 _ (V.put z oq ha (V.1.set z oq (fun b hb => ⟨by subst hI; simp [uI, hb], rfl, rfl⟩) (x_setarr (k := 0) ht (by decide) (fun q => ?_) e1)))
  subst hI
  by_cases hq : q = i.toNatClampNeg
  · subst hq; simp [uI, upd, updV, fval, aty]
  · simp [uI, upd, updV, hq]
theorem x_bast (X : Cx D dA s0 p m c cc nL s args own meth) (V : Iv D dA s0 s T N Z I L R H locs) {a j : Nat} {i x : Int32} {I' : xI} (ht : T a = 101) (hi : inb i (N a) = true) (hj : j = i.toNatClampNeg) (hI : I' = uI I a j x.toInt8.toInt32) (hdg : decode cc pc = .ok (.bastore, 1))
    (kk : ∀ (H1 : Heap) (locs1 : List Loc), Iv D dA s0 s T N Z I' L R H1 locs1 → W p l e Rm s m args below meth c H1 locs1 cells slots Q (F0 m (pc + 1) ls rest)) : W p l e Rm s m args below meth c H locs cells slots Q (F0 m pc ls (.int x :: .int i :: .ref a :: rest)) := by
  subst hj
  have ha : s0 ≤ a := V.1.ownd (by rw [ht]; omega) (by rw [ht]; omega) (by rw [ht]; omega)
  refine W.bast X.1.1 X.1.2.1 (V.1.arr (k := 1) ht) ((X.2.1.1.2 1 _ rfl).1 _ _) (fun q => by cases q) (by rw [arrV_size]; exact inb_vp hi) rfl rfl hdg fun H1 e1 z oq => ?_
  refine kk H1 _ (V.put z oq ha (V.1.set z oq (fun b hb => ⟨by subst hI; simp [uI, hb], rfl, rfl⟩) (x_setarr (k := 1) ht (by decide) (fun q => ?_) e1)))
  subst hI
  by_cases hq : q = i.toNatClampNeg
  · subst hq; simp [uI, upd, updV, fval, aty, narrow]
  · simp [uI, upd, updV, hq]
theorem x_zast (X : Cx D dA s0 p m c cc nL s args own meth) (V : Iv D dA s0 s T N Z I L R H locs) {a j : Nat} {i x : Int32} {I' : xI} (ht : T a = 102) (hi : inb i (N a) = true) (hj : j = i.toNatClampNeg) (hx1 : zb x = true) (hI : I' = uI I a j x) (hdg : decode cc pc = .ok (.bastore, 1))
    (kk : ∀ (H1 : Heap) (locs1 : List Loc), Iv D dA s0 s T N Z I' L R H1 locs1 → W p l e Rm s m args below meth c H1 locs1 cells slots Q (F0 m (pc + 1) ls rest)) : W p l e Rm s m args below meth c H locs cells slots Q (F0 m pc ls (.int x :: .int i :: .ref a :: rest)) := by
  subst hj
  have ha : s0 ≤ a := V.1.ownd (by rw [ht]; omega) (by rw [ht]; omega) (by rw [ht]; omega)
  refine W.zast X.1.1 X.1.2.1 (V.1.arr (k := 2) ht) ((X.2.1.1.2 2 _ rfl).1 _ _) (fun q => by cases q) (by rw [arrV_size]; exact inb_vp hi) rfl rfl hdg fun H1 e1 z oq => ?_
  refine kk H1 _ (V.put z oq ha (V.1.set z oq (fun b hb => ⟨by subst hI; simp [uI, hb], rfl, rfl⟩) (x_setarr (k := 2) ht (by decide) (fun q => ?_) e1)))
  subst hI
  by_cases hq : q = i.toNatClampNeg
  · subst hq
    have hz := zb_n hx1
    simp [uI, upd, updV, fval, aty, hz]
  · simp [uI, upd, updV, hq]
theorem x_last (X : Cx D dA s0 p m c cc nL s args own meth) (V : Iv D dA s0 s T N Z I L R H locs) {a j : Nat} {i : Int32} {x : Int64} {L' : xL} (ht : T a = 103) (hi : inb i (N a) = true) (hj : j = i.toNatClampNeg) (hI : L' = uL L a j x) (hdg : decode cc pc = .ok (.lastore, 1))
    (kk : ∀ (H1 : Heap) (locs1 : List Loc), Iv D dA s0 s T N Z I L' R H1 locs1 → W p l e Rm s m args below meth c H1 locs1 cells slots Q (F0 m (pc + 1) ls rest)) : W p l e Rm s m args below meth c H locs cells slots Q (F0 m pc ls (.long x :: .int i :: .ref a :: rest)) := by
  subst hj
  have ha : s0 ≤ a := V.1.ownd (by rw [ht]; omega) (by rw [ht]; omega) (by rw [ht]; omega)
  refine W.last X.1.1 X.1.2.1 (V.1.arr (k := 3) ht) ((X.2.1.1.2 3 _ rfl).1 _ _) (fun q => by cases q) (by rw [arrV_size]; exact inb_vp hi) rfl rfl hdg fun H1 e1 z oq => ?_
  refine kk H1 _ (V.put z oq ha (V.1.set z oq (fun b hb => ⟨rfl, by subst hI; simp [uL, hb], rfl⟩) (x_setarr (k := 3) ht (by decide) (fun q => ?_) e1)))
  subst hI
  by_cases hq : q = i.toNatClampNeg
  · subst hq; simp [uL, vp_updL, updV, fval, aty]
  · simp [uL, vp_updL, updV, hq]
theorem x_alen (X : Cx D dA s0 p m c cc nL s args own meth) (V : Iv D dA s0 s T N Z I L R H locs) {a k : Nat} (ht : T a = 100 + k) (hk : k < 7) (hdg : decode cc pc = .ok (.arraylength, 1))
    (kk : W p l e Rm s m args below meth c H locs cells slots Q (F0 m (pc + 1) ls (.int (Int32.ofNat (N a)) :: rest))) : W p l e Rm s m args below meth c H locs cells slots Q (F0 m pc ls (.ref a :: rest)) := by
  have hty : (tysT dA)[k]? = some (dA k, aty k) := by
    rcases (show k = 0 ∨ k = 1 ∨ k = 2 ∨ k = 3 ∨ k = 4 ∨ k = 5 ∨ k = 6 by omega) with h | h | h | h | h | h | h <;> (subst h; rfl)
  exact W.alen (n := Int32.ofNat (N a)) X.1.1 X.1.2.1 (V.1.arr ht (by omega)) ((X.2.1.1.2 k _ hty).1 _ _) (by rw [arrV_size]) rfl rfl hdg kk
/-! ends -/
theorem x_ret (V : Iv D dA s0 s T N Z I L R H locs) {v : Option Value} {a : Array Value} : ∀ t : State, t.heap = H → s.WarmedH t.vm → xQ D dA s0 v T N Z I L R a s (.returned v) t := fun t ht _ => ⟨rfl, by rw [ht]; exact V.1, by rw [ht]; exact V.2.1⟩
theorem x_iret (X : Cx D dA s0 p m c cc nL s args own meth) (V : Iv D dA s0 s T N Z I L R H locs) {v : Int32} (hr : meth.sig.returnType = some .int) (hdg : decode cc pc = .ok (.ireturn, 1)) : W p l e Rm s m args below meth c H locs cells slots (MQ below (xQ D dA s0 (some (.int v)) T N Z I L R) args s cells slots (fun q => s0 ≤ q)) (F0 m pc ls [.int v]) :=
  W.iret X.1.1 X.1.2.1 hr (x_ret V) V.2.2 hdg X.2.2.2.1
theorem x_zret (X : Cx D dA s0 p m c cc nL s args own meth) (V : Iv D dA s0 s T N Z I L R H locs) {v : Int32} (hr : meth.sig.returnType = some .boolean) (hz : zb v = true) (hdg : decode cc pc = .ok (.ireturn, 1)) : W p l e Rm s m args below meth c H locs cells slots (MQ below (xQ D dA s0 (some (.int v)) T N Z I L R) args s cells slots (fun q => s0 ≤ q)) (F0 m pc ls [.int v]) :=
  W.zret X.1.1 X.1.2.1 hr (zb_n hz) (x_ret V) V.2.2 hdg X.2.2.2.1
theorem x_lret (X : Cx D dA s0 p m c cc nL s args own meth) (V : Iv D dA s0 s T N Z I L R H locs) {v : Int64} (hr : meth.sig.returnType = some .long) (hdg : decode cc pc = .ok (.lreturn, 1)) : W p l e Rm s m args below meth c H locs cells slots (MQ below (xQ D dA s0 (some (.long v)) T N Z I L R) args s cells slots (fun q => s0 ≤ q)) (F0 m pc ls [.long v]) :=
  W.lret X.1.1 X.1.2.1 hr (x_ret V) V.2.2 hdg X.2.2.2.1
theorem x_vret (X : Cx D dA s0 p m c cc nL s args own meth) (V : Iv D dA s0 s T N Z I L R H locs) (hr : meth.sig.returnType = none) (hdg : decode cc pc = .ok (.return_, 1)) : W p l e Rm s m args below meth c H locs cells slots (MQ below (xQ D dA s0 none T N Z I L R) args s cells slots (fun q => s0 ≤ q)) (F0 m pc ls []) :=
  W.vret X.1.1 X.1.2.1 hr (x_ret V) V.2.2 hdg X.2.2.2.1
theorem x_aret (X : Cx D dA s0 p m c cc nL s args own meth) (V : Iv D dA s0 s T N Z I L R H locs) {v : Nat} {rt : FieldType} (hr : meth.sig.returnType = some rt) (hrt : (∃ n, rt = .object n) ∨ ∃ t, rt = .array t) (hdg : decode cc pc = .ok (.areturn, 1)) : W p l e Rm s m args below meth c H locs cells slots (MQ below (xQ D dA s0 (some (.ref v)) T N Z I L R) args s cells slots (fun q => s0 ≤ q)) (F0 m pc ls [.ref v]) :=
  W.aret X.1.1 X.1.2.1 hr hrt (Or.inr ⟨v, rfl⟩) (x_ret V) V.2.2 hdg X.2.2.2.1
/-! calls -/
theorem x_blind {av : List Value} : FrameBlind (va_Pc av (xIn D dA s0 T N Z I L R)) := fun a U g mk q => ⟨q.1, q.2.1, xK.moved (u := U) (U := U.calling g mk a) (Vm.Alike.refl U.vm) q.2.2.1, xN.same (s := U) (U := U.calling g mk a) rfl q.2.2.2.1, xZ.same (u := U) (U := U.calling g mk a) rfl q.2.2.2.2⟩
theorem x_pre (X : Cx D dA s0 p m c cc nL s args own meth) (V : Iv D dA s0 s T N Z I L R H locs) {av : List Value} : ∀ U : State, U.heap = H → s.WarmedH U.vm → va_Pc av (xIn D dA s0 T N Z I L R) av.toArray U := fun U hU hW => ⟨rfl, by rw [hU]; exact V.1, xK.moved hW.alike X.2.1, X.2.2.1.warm hW, by rw [hU]; exact (X.2.2.2.2.kept V.2.1).moved hW⟩
variable {T' N' : xT} {Z' : Nat} {I' : xI} {L' : xL} {R' : xR} {mc ms : Nat} {v : Option Value}
theorem x_after {st0 : List Value} {a : Array Value} (hr : va_Run p l e Rm s m args below meth c H locs cells slots mc ms (F0 m pc ls st0) rest (xQ D dA s0 v T' N' Z' I' L' R' a) (fun q => s0 ≤ q)) (V : Iv D dA s0 s T N Z I L R H locs)
    (kk : ∀ (H1 : Heap) (locs1 : List Loc), Iv D dA s0 s T' N' Z' I' L' R' H1 locs1 → W p l e Rm s m args below meth c H1 locs1 (cells + mc) (slots + ms) Q (F0 m (pc + 3) ls (v.toList ++ rest))) : W p l e Rm s m args below meth c H locs cells slots Q (F0 m pc ls st0) := by
  intro Tq hT X
  obtain ⟨v', st₀, t, T1, L1, h0, X', hL, e1, e2, ⟨hv, hrep, hbel⟩, st⟩ := hr Tq hT X
  cases hv
  obtain ⟨t2, a1, b1⟩ := kk T1.heap (locs ++ L1) ⟨by rw [e1]; exact hrep, fun q hq => by rw [e1, hbel q hq, h0]; exact V.2.1 q hq, fun z hz => by
    rcases List.mem_append.mp hz with h | h
    · exact V.2.2 z h
    · exact hL z h⟩ T1 rfl X'
  exact ⟨t2, st t2 a1, b1⟩
variable {y : MethodName} {bytes : ByteArray} {maxL index n fr lo b ci Nf : Nat} {ret : Option FieldType} {As : List Value} {C : String} {Tf : u_T} {st0 : List Value}
theorem x_recv (X : Cx D dA s0 p m c cc nL s args own meth) (V : Iv D dA s0 s T N Z I L R H locs) (ok : ClOK ci C Tf Nf) (hb : T b = ci + 1) : ∃ cell : Cell, H[b]? = some cell ∧ cell.vm.isStatics = false ∧ s.vm.findClass C = some cell.cls := by
  obtain ⟨r, h1, cell, q1, q2, q3, q4⟩ := V.1.obj hb ok.2.2.1
  exact ⟨cell, q1, by rw [q3]; rfl, by rw [q2]; exact (X.2.1.1.1 ci _ ok.1).2.1⟩
theorem x_callV (X : Cx D dA s0 p m c cc nL s args own meth) (V : Iv D dA s0 s T N Z I L R H locs) (hM : XMet l D dA s0 y (ws_ y bytes maxL ret) fr lo (.ref b :: As) T N Z I L R v T' N' Z' I' L' R' mc ms) (ok : ClOK ci C Tf Nf) (hb : T b = ci + 1)
    (h1 : Cond.methodLink own index y ∈ lw_all) (h2 : Cond.instanceMethod y ∈ lw_all) (h3 : Cond.selects C y y ∈ lw_all) (h4 : Cond.initialized C ∈ lw_all) (h5 : Cond.code y bytes maxL ret ∈ lw_all)
    (hd : y.cls = C ∧ y.cls ≠ "java/lang/invoke/MethodHandle" ∧ y.cls ≠ "java/lang/invoke/VarHandle" ∧ (parseMethodDescriptor y.desc).map (fun d => d.parameters.length) = some n) (hR : fr + 1 ≤ Rm.frames ∧ 8 + (maxL + 11) + lo ≤ Rm.locals)
    (hn : As.length = n) (hsize : ls.size = nL) (hst : st0 = As.reverse ++ .ref b :: rest) (hW : (rest.map fun v => v.category).sum ≤ 8) (hdg : decode cc pc = .ok (.invokevirtual index, 3)) (hf : cells + mc ≤ Rm.cells ∧ slots + ms ≤ Rm.slots)
    (kk : ∀ (H1 : Heap) (locs1 : List Loc), Iv D dA s0 s T' N' Z' I' L' R' H1 locs1 → W p l e Rm s m args below meth c H1 locs1 (cells + mc) (slots + ms) Q (F0 m (pc + 3) ls (v.toList ++ rest))) : W p l e Rm s m args below meth c H locs cells slots Q (F0 m pc ls st0) :=
  x_after (va_runV X.1 hM (cwV n X.1.2.2.2.2 (lw_V h1 h2 h3 h4 h5) rfl rfl rfl hd hR) ⟨x_blind, x_recv X V ok hb, x_pre X V⟩ rfl hn hsize hst (lv_room hW) hdg hf) V kk
theorem x_callS (X : Cx D dA s0 p m c cc nL s args own meth) (V : Iv D dA s0 s T N Z I L R H locs) (hM : XMet l D dA s0 y (ws_ y bytes maxL ret) fr lo As T N Z I L R v T' N' Z' I' L' R' mc ms)
    (h1 : Cond.methodLink own index y ∈ lw_all) (h2 : Cond.static y ∈ lw_all) (h3 : Cond.initialized y.cls ∈ lw_all) (h4 : Cond.code y bytes maxL ret ∈ lw_all)
    (hd : y.cls ≠ "java/lang/invoke/MethodHandle" ∧ y.cls ≠ "java/lang/invoke/VarHandle" ∧ (parseMethodDescriptor y.desc).map (fun d => d.parameters.length) = some n) (hR : fr + 1 ≤ Rm.frames ∧ 8 + (maxL + 11) + lo ≤ Rm.locals)
    (hn : As.length = n) (hsize : ls.size = nL) (hst : st0 = As.reverse ++ rest) (hW : (rest.map fun v => v.category).sum ≤ 8) (hdg : decode cc pc = .ok (.invokestatic index, 3)) (hf : cells + mc ≤ Rm.cells ∧ slots + ms ≤ Rm.slots)
    (kk : ∀ (H1 : Heap) (locs1 : List Loc), Iv D dA s0 s T' N' Z' I' L' R' H1 locs1 → W p l e Rm s m args below meth c H1 locs1 (cells + mc) (slots + ms) Q (F0 m (pc + 3) ls (v.toList ++ rest))) : W p l e Rm s m args below meth c H locs cells slots Q (F0 m pc ls st0) :=
  x_after (va_runS X.1 hM (va_cwS n X.1.2.2.2.2 (lw_S h1 h2 h3 h4) rfl rfl rfl hd hR) ⟨x_blind, x_pre X V⟩ rfl hn hsize hst (lv_room hW) hdg hf) V kk
theorem x_callI (X : Cx D dA s0 p m c cc nL s args own meth) (V : Iv D dA s0 s T N Z I L R H locs) (hM : XMet l D dA s0 y (ws_ y bytes maxL none) fr lo (.ref b :: As) T N Z I L R v T' N' Z' I' L' R' mc ms)
    (h1 : Cond.methodLink own index y ∈ lw_all) (h2 : Cond.instanceMethod y ∈ lw_all) (h3 : Cond.initialized y.cls ∈ lw_all) (h4 : Cond.code y bytes maxL none ∈ lw_all) (hy : y.name = "<init>")
    (hd : y.cls ≠ "java/lang/invoke/MethodHandle" ∧ y.cls ≠ "java/lang/invoke/VarHandle" ∧ (parseMethodDescriptor y.desc).map (fun d => d.parameters.length) = some n) (hR : fr + 1 ≤ Rm.frames ∧ 8 + (maxL + 11) + lo ≤ Rm.locals)
    (hn : As.length = n) (hsize : ls.size = nL) (hst : st0 = As.reverse ++ .ref b :: rest) (hW : (rest.map fun v => v.category).sum ≤ 8) (hdg : decode cc pc = .ok (.invokespecial index, 3)) (hf : cells + mc ≤ Rm.cells ∧ slots + ms ≤ Rm.slots)
    (kk : ∀ (H1 : Heap) (locs1 : List Loc), Iv D dA s0 s T' N' Z' I' L' R' H1 locs1 → W p l e Rm s m args below meth c H1 locs1 (cells + mc) (slots + ms) Q (F0 m (pc + 3) ls (v.toList ++ rest))) : W p l e Rm s m args below meth c H locs cells slots Q (F0 m pc ls st0) :=
  x_after (va_runI X.1 hM (cwI n X.1.2.2.2.2 (lw_meth h4) rfl rfl rfl (X.1.2.2.2.2 _ h3) (X.1.2.2.2.2 _ h1) (X.1.2.2.2.2 _ h2) hy hd hR) ⟨x_blind, x_pre X V⟩ rfl hn hsize hst (lv_room hW) hdg hf) V kk
/-- calls that make no cells -/
theorem x_callV0 (X : Cx D dA s0 p m c cc nL s args own meth) (V : Iv D dA s0 s T N Z I L R H locs) (hM : XMet l D dA s0 y (ws_ y bytes maxL ret) fr lo (.ref b :: As) T N Z I L R v T' N' Z' I' L' R' 0 0) (ok : ClOK ci C Tf Nf) (hb : T b = ci + 1)
    (h1 : Cond.methodLink own index y ∈ lw_all) (h2 : Cond.instanceMethod y ∈ lw_all) (h3 : Cond.selects C y y ∈ lw_all) (h4 : Cond.initialized C ∈ lw_all) (h5 : Cond.code y bytes maxL ret ∈ lw_all)
    (hd : y.cls = C ∧ y.cls ≠ "java/lang/invoke/MethodHandle" ∧ y.cls ≠ "java/lang/invoke/VarHandle" ∧ (parseMethodDescriptor y.desc).map (fun d => d.parameters.length) = some n) (hR : fr + 1 ≤ Rm.frames ∧ 8 + (maxL + 11) + lo ≤ Rm.locals)
    (hn : As.length = n) (hsize : ls.size = nL) (hst : st0 = As.reverse ++ .ref b :: rest) (hW : (rest.map fun v => v.category).sum ≤ 8) (hdg : decode cc pc = .ok (.invokevirtual index, 3)) (hf : cells ≤ Rm.cells ∧ slots ≤ Rm.slots)
    (kk : ∀ (H1 : Heap) (locs1 : List Loc), Iv D dA s0 s T' N' Z' I' L' R' H1 locs1 → W p l e Rm s m args below meth c H1 locs1 cells slots Q (F0 m (pc + 3) ls (v.toList ++ rest))) : W p l e Rm s m args below meth c H locs cells slots Q (F0 m pc ls st0) :=
  x_callV X V hM ok hb h1 h2 h3 h4 h5 hd hR hn hsize hst hW hdg hf kk
theorem x_callS0 (X : Cx D dA s0 p m c cc nL s args own meth) (V : Iv D dA s0 s T N Z I L R H locs) (hM : XMet l D dA s0 y (ws_ y bytes maxL ret) fr lo As T N Z I L R v T' N' Z' I' L' R' 0 0)
    (h1 : Cond.methodLink own index y ∈ lw_all) (h2 : Cond.static y ∈ lw_all) (h3 : Cond.initialized y.cls ∈ lw_all) (h4 : Cond.code y bytes maxL ret ∈ lw_all)
    (hd : y.cls ≠ "java/lang/invoke/MethodHandle" ∧ y.cls ≠ "java/lang/invoke/VarHandle" ∧ (parseMethodDescriptor y.desc).map (fun d => d.parameters.length) = some n) (hR : fr + 1 ≤ Rm.frames ∧ 8 + (maxL + 11) + lo ≤ Rm.locals)
    (hn : As.length = n) (hsize : ls.size = nL) (hst : st0 = As.reverse ++ rest) (hW : (rest.map fun v => v.category).sum ≤ 8) (hdg : decode cc pc = .ok (.invokestatic index, 3)) (hf : cells ≤ Rm.cells ∧ slots ≤ Rm.slots)
    (kk : ∀ (H1 : Heap) (locs1 : List Loc), Iv D dA s0 s T' N' Z' I' L' R' H1 locs1 → W p l e Rm s m args below meth c H1 locs1 cells slots Q (F0 m (pc + 3) ls (v.toList ++ rest))) : W p l e Rm s m args below meth c H locs cells slots Q (F0 m pc ls st0) :=
  x_callS X V hM h1 h2 h3 h4 hd hR hn hsize hst hW hdg hf kk
/-! a contract out of the walk of a body -/
theorem x_start (hown : y.cls = own) (hy : plainName y.cls = true) {av : List Value} (hlen : (lg_sl av).length ≤ maxL) {lv : List (Nat × Value)} (hlv : lv_args 0 av = lv)
    (body : ∀ (p : Program) (e : Env) (s : State) (m : MethodId) (below : List Frame) (meth : Method) (c : Code) (ls : Array Slot), Cx D dA s0 p m c bytes maxL s av.toArray own meth → meth.sig.returnType = ret → meth.name = y.name → Iv D dA s0 s T N Z I L R s.heap [] → lv_has ls maxL lv →
      W p l e { frames := fr, cells := mc, slots := ms, locals := lo } s m av.toArray below meth c s.heap [] 0 0 (MQ below (xQ D dA s0 v T' N' Z' I' L' R') av.toArray s mc ms (fun q => s0 ≤ q)) (F0 m 0 ls [])) : XMet l D dA s0 y (ws_ y bytes maxL ret) fr lo av T N Z I L R v T' N' Z' I' L' R' mc ms := by
  subst hlv
  refine Met.ofW (cc := bytes) (maxL := maxL) (ret := ret) hy rfl ?_
  intro p e s m args below meth c s₁ B hml hv
  obtain ⟨rfl, hRep, hK, hN, hZs⟩ := hv
  have hts := atoms_spec (ws := ws_ y bytes maxL ret) B.pre
  have hl := lv_entry av (n := maxL) hlen
  rw [lg_entry_eq]
  exact body p e s m below meth c _ ⟨⟨B.exec, B.bytes, hml, by rw [← hown]; exact findClass_of_methodNamed B.named, fun w h => hts w (List.mem_cons_of_mem _ h)⟩, hK, hN, B.notSynchronized, hZs⟩ B.returns (name_of_methodNamed B.named B.method).1 ⟨hRep, fun _ _ => rfl, fun _ h => by cases h⟩ hl
/-! small rows over the kit's -/
theorem x_topi {x y : Int32} (h : y = x) (k : W p l e Rm s m args below meth c H locs cells slots Q (F0 m pc ls (.int y :: rest))) : W p l e Rm s m args below meth c H locs cells slots Q (F0 m pc ls (.int x :: rest)) := h ▸ k
theorem x_topl {x y : Int64} (h : y = x) (k : W p l e Rm s m args below meth c H locs cells slots Q (F0 m pc ls (.long y :: rest))) : W p l e Rm s m args below meth c H locs cells slots Q (F0 m pc ls (.long x :: rest)) := h ▸ k
theorem x_topr {x : Option Nat} {a : Nat} (h : x = some a) (k : W p l e Rm s m args below meth c H locs cells slots Q (F0 m pc ls (.ref a :: rest))) : W p l e Rm s m args below meth c H locs cells slots Q (F0 m pc ls (va_rf x :: rest)) := by
  subst h; exact k
theorem x_topn {x : Option Nat} (h : x = none) (k : W p l e Rm s m args below meth c H locs cells slots Q (F0 m pc ls (.null :: rest))) : W p l e Rm s m args below meth c H locs cells slots Q (F0 m pc ls (va_rf x :: rest)) := by
  subst h; exact k
theorem lg_lt {x y : Int64} : lg_cmp x y < 0 ↔ x < y := by
  unfold lg_cmp
  by_cases h1 : x > y
  · rw [if_pos h1]
    exact ⟨fun h => absurd h (by decide), fun h => absurd h (by rw [Int64.lt_iff_toInt_lt] at *; rw [gt_iff_lt, Int64.lt_iff_toInt_lt] at h1; omega)⟩
  · rw [if_neg h1]
    by_cases h2 : x = y
    · rw [if_pos h2]
      exact ⟨fun h => absurd h (by decide), fun h => absurd h (by rw [Int64.lt_iff_toInt_lt, h2]; omega)⟩
    · rw [if_neg h2]
      refine ⟨fun _ => ?_, fun _ => by decide⟩
      rw [Int64.lt_iff_toInt_lt]
      rw [gt_iff_lt, Int64.lt_iff_toInt_lt] at h1
      have h3 : x.toInt ≠ y.toInt := fun h => h2 (Int64.toInt_inj.mp h)
      omega
theorem lg_gt {x y : Int64} : 0 < lg_cmp x y ↔ y < x := by
  unfold lg_cmp
  by_cases h1 : x > y
  · rw [if_pos h1]
    exact ⟨fun _ => h1, fun _ => by decide⟩
  · rw [if_neg h1]
    by_cases h2 : x = y
    · rw [if_pos h2]
      exact ⟨fun h => absurd h (by decide), fun h => absurd h h1⟩
    · rw [if_neg h2]
      exact ⟨fun h => absurd h (by decide), fun h => absurd h h1⟩
theorem lg_eq {x y : Int64} : lg_cmp x y = 0 ↔ x = y := by
  unfold lg_cmp
  by_cases h1 : x > y
  · rw [if_pos h1]
    exact ⟨fun h => absurd h (by decide), fun h => absurd h1 (by rw [h, gt_iff_lt, Int64.lt_iff_toInt_lt]; omega)⟩
  · rw [if_neg h1]
    by_cases h2 : x = y
    · rw [if_pos h2]
      exact ⟨fun _ => h2, fun _ => rfl⟩
    · rw [if_neg h2]
      exact ⟨fun h => absurd h (by decide), fun h => absurd h h2⟩
theorem i64_le {x y : Int64} : ¬ y < x ↔ x ≤ y := by
  rw [Int64.lt_iff_toInt_lt, Int64.le_iff_toInt_le]; omega
theorem i32_le {x y : Int32} : ¬ y < x ↔ x ≤ y := by
  rw [Int32.lt_iff_toInt_lt, Int32.le_iff_toInt_le]; omega
variable {off : Int} {tgt : Nat}
theorem lc_lt (hx : p.tables.exec = Jvm.exec) (hb : c.code = cc) {x y : Int64} (d1 : decode cc pc = .ok (.lcmp, 1)) (d2 : decode cc (pc + 1) = .ok (.ifCond .lt off, 3)) (ht : ((pc + 1 : Nat) : Int) + off = (tgt : Int))
    (kt : x < y → W p l e Rm s m args below meth c H locs cells slots Q (F0 m tgt ls rest)) (kf : ¬ x < y → W p l e Rm s m args below meth c H locs cells slots Q (F0 m (pc + 4) ls rest)) : W p l e Rm s m args below meth c H locs cells slots Q (F0 m pc ls (.long y :: .long x :: rest)) :=
  W.lcmp hx hb d1 (lv_if_lt hx hb d2 ht (fun h => kt (lg_lt.mp h)) (fun h => kf (fun q => h (lg_lt.mpr q))))
theorem lc_ge (hx : p.tables.exec = Jvm.exec) (hb : c.code = cc) {x y : Int64} (d1 : decode cc pc = .ok (.lcmp, 1)) (d2 : decode cc (pc + 1) = .ok (.ifCond .ge off, 3)) (ht : ((pc + 1 : Nat) : Int) + off = (tgt : Int))
    (kt : y ≤ x → W p l e Rm s m args below meth c H locs cells slots Q (F0 m tgt ls rest)) (kf : ¬ y ≤ x → W p l e Rm s m args below meth c H locs cells slots Q (F0 m (pc + 4) ls rest)) : W p l e Rm s m args below meth c H locs cells slots Q (F0 m pc ls (.long y :: .long x :: rest)) :=
  W.lcmp hx hb d1 (lv_if_ge hx hb d2 ht (fun h => kt (i64_le.mp (fun q => (i32_le.mpr h) (lg_lt.mpr q)))) (fun h => kf (fun q => h (i32_le.mp (fun z => (i64_le.mpr q) (lg_lt.mp z))))))
theorem lc_gt (hx : p.tables.exec = Jvm.exec) (hb : c.code = cc) {x y : Int64} (d1 : decode cc pc = .ok (.lcmp, 1)) (d2 : decode cc (pc + 1) = .ok (.ifCond .gt off, 3)) (ht : ((pc + 1 : Nat) : Int) + off = (tgt : Int))
    (kt : y < x → W p l e Rm s m args below meth c H locs cells slots Q (F0 m tgt ls rest)) (kf : ¬ y < x → W p l e Rm s m args below meth c H locs cells slots Q (F0 m (pc + 4) ls rest)) : W p l e Rm s m args below meth c H locs cells slots Q (F0 m pc ls (.long y :: .long x :: rest)) :=
  W.lcmp hx hb d1 (lv_if_gt hx hb d2 ht (fun h => kt (lg_gt.mp h)) (fun h => kf (fun q => h (lg_gt.mpr q))))
theorem lc_le (hx : p.tables.exec = Jvm.exec) (hb : c.code = cc) {x y : Int64} (d1 : decode cc pc = .ok (.lcmp, 1)) (d2 : decode cc (pc + 1) = .ok (.ifCond .le off, 3)) (ht : ((pc + 1 : Nat) : Int) + off = (tgt : Int))
    (kt : x ≤ y → W p l e Rm s m args below meth c H locs cells slots Q (F0 m tgt ls rest)) (kf : ¬ x ≤ y → W p l e Rm s m args below meth c H locs cells slots Q (F0 m (pc + 4) ls rest)) : W p l e Rm s m args below meth c H locs cells slots Q (F0 m pc ls (.long y :: .long x :: rest)) :=
  W.lcmp hx hb d1 (lv_if_le hx hb d2 ht (fun h => kt (i64_le.mp (fun q => (i32_le.mpr h) (lg_gt.mpr q)))) (fun h => kf (fun q => h (i32_le.mp (fun z => (i64_le.mpr q) (lg_gt.mp z))))))
theorem lc_eq (hx : p.tables.exec = Jvm.exec) (hb : c.code = cc) {x y : Int64} (d1 : decode cc pc = .ok (.lcmp, 1)) (d2 : decode cc (pc + 1) = .ok (.ifCond .eq off, 3)) (ht : ((pc + 1 : Nat) : Int) + off = (tgt : Int))
    (kt : x = y → W p l e Rm s m args below meth c H locs cells slots Q (F0 m tgt ls rest)) (kf : ¬ x = y → W p l e Rm s m args below meth c H locs cells slots Q (F0 m (pc + 4) ls rest)) : W p l e Rm s m args below meth c H locs cells slots Q (F0 m pc ls (.long y :: .long x :: rest)) :=
  W.lcmp hx hb d1 (lv_if_eq hx hb d2 ht (fun h => kt (lg_eq.mp h)) (fun h => kf (fun q => h (lg_eq.mpr q))))
theorem lc_ne (hx : p.tables.exec = Jvm.exec) (hb : c.code = cc) {x y : Int64} (d1 : decode cc pc = .ok (.lcmp, 1)) (d2 : decode cc (pc + 1) = .ok (.ifCond .ne off, 3)) (ht : ((pc + 1 : Nat) : Int) + off = (tgt : Int))
    (kt : ¬ x = y → W p l e Rm s m args below meth c H locs cells slots Q (F0 m tgt ls rest)) (kf : x = y → W p l e Rm s m args below meth c H locs cells slots Q (F0 m (pc + 4) ls rest)) : W p l e Rm s m args below meth c H locs cells slots Q (F0 m pc ls (.long y :: .long x :: rest)) :=
  W.lcmp hx hb d1 (lv_if_ne hx hb d2 ht (fun h => kt (fun q => h (lg_eq.mpr q))) (fun h => kf (lg_eq.mp h)))
theorem x_tswIn (hx : p.tables.exec = Jvm.exec) (hb : c.code = cc) {dflt lo9 hi9 : Int} {offs : Array Int} {len : Nat} {x w : Int32} (h : x = w) (hdg : decode cc pc = .ok (.tableswitch dflt lo9 hi9 offs, len)) (h1 : ¬ w.toInt < lo9) (h2 : ¬ hi9 < w.toInt) (ho : offs[(w.toInt - lo9).toNat]? = some off) (ht : (pc : Int) + off = (tgt : Int))
    (k : W p l e Rm s m args below meth c H locs cells slots Q (F0 m tgt ls rest)) : W p l e Rm s m args below meth c H locs cells slots Q (F0 m pc ls (.int x :: rest)) := by
  subst h
  exact lv_tableIn hx hb hdg h1 h2 ho ht k
end XR
