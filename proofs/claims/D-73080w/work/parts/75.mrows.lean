/-! PLAIN LAND, 25: the model: what is told, along which lane -/
/-- the model's heap but for what the telling leaves behind -/
def mSc (m : Nat) (I I' : xI) (L L' : xL) : Prop := (∀ a, a ≠ m → I' a = I a) ∧ (∀ j, j ≠ 34 → j ≠ 38 → I' m j = I m j) ∧ (∀ a, a ≠ m → a ≠ m + 18 → a ≠ m + 20 → L' a = L a) ∧ (∀ j, j ≠ 39 → j ≠ 40 → L' m j = L m j)
theorem mSc_refl (m : Nat) (I : xI) (L : xL) : mSc m I I L L := ⟨fun _ _ => rfl, fun _ _ _ => rfl, fun _ _ _ _ => rfl, fun _ _ _ => rfl⟩
theorem mSc_trans {m : Nat} {I I1 I2 : xI} {L L1 L2 : xL} (h1 : mSc m I I1 L L1) (h2 : mSc m I1 I2 L1 L2) : mSc m I I2 L L2 :=
  ⟨fun a ha => (h2.1 a ha).trans (h1.1 a ha), fun j a b => (h2.2.1 j a b).trans (h1.2.1 j a b), fun a x y z => (h2.2.2.1 a x y z).trans (h1.2.2.1 a x y z), fun j a b => (h2.2.2.2 j a b).trans (h1.2.2.2 j a b)⟩
/-- what the model is told, at every heap whose texts are these -/
def MTold (nf m : Nat) (D : Laws) (T N : xT) (R : xR) (tx : Nat → Int32) : Prop :=
  ∀ (I : xI) (L : xL) (n k H : Nat), (∀ i, (i = 3 ∨ 76 ≤ i) → i < 5476 → I (m + 2) i = tx i) → I m 20 = ii 0 → rOK (I (m + 2)) n k H → H ≤ 2000 →
    ∀ (h ch : Nat) (lane : Int32) (wo : Int64), h < 3 → ch < k → (lane = -1 ∨ ∃ l, l < n ∧ lane = ii l) →
      ∃ I' L', fX5_tells nf T N I L R m (ii h) (ii ch) lane wo = some ((toldG D (I (m + 2)) h ch lane).getD wo, I', L') ∧ mSc m I I' L L'
section
variable {T N : xT} {R : xR} {I : xI} {L : xL} {m n k nf H : Nat} {D : Laws} {g tx : Nat → Int32}
/-- all that the lemmas below take of the heap -/
def mH (m : Nat) (g tx : Nat → Int32) (I : xI) : Prop := I (m + 2) = g ∧ (∀ i, (i = 3 ∨ 76 ≤ i) → i < 5476 → g i = tx i) ∧ I m 20 = ii 0
theorem mH_sc {I' : xI} {L' : xL} (h : mH m g tx I) (hs : mSc m I I' L L') : mH m g tx I' := ⟨(hs.1 _ (by omega)).trans h.1, h.2.1, (hs.2.1 20 (by omega) (by omega)).trans h.2.2⟩
theorem m_turns (hT : MTold nf m D T N R tx) (hM : MSh m T N R) (hh : mH m g tx I) (ho : rOK g n k H) (hH : H ≤ 2000) {ch : Nat} (hch : ch < k) :
    ∃ I' L', fX5_turnsTo nf T N I L R m (ii ch) = some (ii (turnG D g ch), I', L') ∧ mSc m I I' L L' := by
  obtain ⟨rfl, h2, h3⟩ := hh
  obtain ⟨I', L', e, hs⟩ := hT I L n k H h2 h3 ho hH 0 ch (-1) (jj 0) (by omega) hch (Or.inl rfl)
  refine ⟨I', L', ?_, hs⟩
  unfold fX5_turnsTo
  simp (disch := omega) only [↓nm_v, ↓tg, ↓rA, ↓chk_if, ↓reduceIte, inb_ii, ii_nat, ii_add, and_self, bi_zb, if_bi, if_bi1, ii_leT, ii_leF, ii_ltT, ii_ltF, ii_eqF, ii_m1F, ↓mb_2 hM, ↓mb_3 hM, ↓mb_4 hM, ↓mb_5 hM, ↓mb_6 hM, ↓mb_7 hM, ↓mb_9 hM, ↓mb_10 hM, ↓mb_12 hM, ↓mb_22 hM, ↓mb_24 hM, ↓mb_25 hM, ↓mb_27 hM, ↓mb_28 hM, ↓mb_31 hM, ↓mb_32 hM, ↓mb_33 hM, ↓mb_35 hM, ↓mb_36 hM, ↓mb_37 hM, ↓mb_41 hM, ↓mb_42 hM, ↓mb_43 hM, ↓mb_44 hM, ↓mb_45 hM, ↓mb_46 hM, ↓mb_47 hM, ↓mb_48 hM, ↓mb_49 hM, ↓mb_55 hM, hM, ↓b3_of e, ↓bn_of (m_bounded ((toldG D (I (m + 2)) 0 ch (-1)).getD (jj 0)) (show 99 < 1000 by omega))]
  unfold turnG orN
  cases toldG D (I (m + 2)) 0 ch (-1) with
  | none => rw [Option.getD_none, clp_id (by omega) (by omega)]
  | some x => rfl
theorem m_says (hT : MTold nf m D T N R tx) (hM : MSh m T N R) (hh : mH m g tx I) (ho : rOK g n k H) (hH : H ≤ 2000) {ch l : Nat} (hch : ch < k) (hl : l < n) :
    ∃ I' L', fX5_saysOf nf T N I L R m (ii ch) (ii l) = some (ii (sayG D g ch l), I', L') ∧ mSc m I I' L L' := by
  have hn := ho.1.2.1
  have e3 := ho.2.2.2.2.2.2.2.2.2.1 l hl
  obtain ⟨rfl, h2, h3⟩ := hh
  obtain ⟨I', L', e, hs⟩ := hT I L n k H h2 h3 ho hH 1 ch (ii l) (jj (na (I (m + 2)) (56 + l))) (by omega) hch (Or.inr ⟨l, hl, rfl⟩)
  refine ⟨I', L', ?_, hs⟩
  have e4 := e3.1
  unfold fX5_saysOf
  simp (disch := omega) only [↓nm_v, ↓tg, ↓rA, ↓chk_if, ↓reduceIte, inb_ii, ii_nat, ii_add, and_self, bi_zb, if_bi, if_bi1, ii_leT, ii_leF, ii_ltT, ii_ltF, ii_eqF, ii_m1F, ↓mb_2 hM, ↓mb_3 hM, ↓mb_4 hM, ↓mb_5 hM, ↓mb_6 hM, ↓mb_7 hM, ↓mb_9 hM, ↓mb_10 hM, ↓mb_12 hM, ↓mb_22 hM, ↓mb_24 hM, ↓mb_25 hM, ↓mb_27 hM, ↓mb_28 hM, ↓mb_31 hM, ↓mb_32 hM, ↓mb_33 hM, ↓mb_35 hM, ↓mb_36 hM, ↓mb_37 hM, ↓mb_41 hM, ↓mb_42 hM, ↓mb_43 hM, ↓mb_44 hM, ↓mb_45 hM, ↓mb_46 hM, ↓mb_47 hM, ↓mb_48 hM, ↓mb_49 hM, ↓mb_55 hM, hM, e4, ii_64, ↓b3_of e, ↓bn_of (m_bounded ((toldG D (I (m + 2)) 1 ch (ii l)).getD (jj (na (I (m + 2)) (56 + l)))) (show 19 < 1000 by omega))]
  unfold sayG orN
  cases toldG D (I (m + 2)) 1 ch (ii l) with
  | none => rw [Option.getD_none, clp_id (by omega) (by omega)]
  | some x => rfl
/-- bars tell one, or nothing -/
def bar1 (D : Laws) : Prop := ∀ j v x, D j 2 v = some x → x = jj 1
theorem m_isBarred (h1 : bar1 D) (hT : MTold nf m D T N R tx) (hM : MSh m T N R) (hh : mH m g tx I) (ho : rOK g n k H) (hH : H ≤ 2000) {ch l : Nat} (hch : ch < k) (hl : l < n) :
    ∃ I' L', fX5_isBarred nf T N I L R m (ii ch) (ii l) = some (bi (barG D g ch l), I', L') ∧ mSc m I I' L L' := by
  obtain ⟨rfl, h2, h3⟩ := hh
  obtain ⟨I', L', e, hs⟩ := hT I L n k H h2 h3 ho hH 2 ch (ii l) (jj 0) (by omega) hch (Or.inr ⟨l, hl, rfl⟩)
  refine ⟨I', L', ?_, hs⟩
  have hx : ∀ x, toldG D (I (m + 2)) 2 ch (ii l) = some x → x = jj 1 := by
    intro x hx
    unfold toldG at hx
    split at hx
    · cases hx
    · exact h1 _ _ _ hx
  unfold fX5_isBarred barG
  generalize toldG D (I (m + 2)) 2 ch (ii l) = o at hx e ⊢
  have z : (jj 0 = jj 1) = False := eq_false (by decide)
  cases o with
  | none => simp (disch := omega) only [↓nm_v, ↓tg, ↓rA, ↓chk_if, ↓reduceIte, inb_ii, ii_nat, ii_add, and_self, bi_zb, if_bi, if_bi1, ii_leT, ii_leF, ii_ltT, ii_ltF, ii_eqF, ii_m1F, ↓mb_2 hM, ↓mb_3 hM, ↓mb_4 hM, ↓mb_5 hM, ↓mb_6 hM, ↓mb_7 hM, ↓mb_9 hM, ↓mb_10 hM, ↓mb_12 hM, ↓mb_22 hM, ↓mb_24 hM, ↓mb_25 hM, ↓mb_27 hM, ↓mb_28 hM, ↓mb_31 hM, ↓mb_32 hM, ↓mb_33 hM, ↓mb_35 hM, ↓mb_36 hM, ↓mb_37 hM, ↓mb_41 hM, ↓mb_42 hM, ↓mb_43 hM, ↓mb_44 hM, ↓mb_45 hM, ↓mb_46 hM, ↓mb_47 hM, ↓mb_48 hM, ↓mb_49 hM, ↓mb_55 hM, hM, ↓b3_of e, Option.getD_none, z]; rfl
  | some x =>
    have := hx x rfl
    subst this
    simp (disch := omega) only [↓nm_v, ↓tg, ↓rA, ↓chk_if, ↓reduceIte, inb_ii, ii_nat, ii_add, and_self, bi_zb, if_bi, if_bi1, ii_leT, ii_leF, ii_ltT, ii_ltF, ii_eqF, ii_m1F, ↓mb_2 hM, ↓mb_3 hM, ↓mb_4 hM, ↓mb_5 hM, ↓mb_6 hM, ↓mb_7 hM, ↓mb_9 hM, ↓mb_10 hM, ↓mb_12 hM, ↓mb_22 hM, ↓mb_24 hM, ↓mb_25 hM, ↓mb_27 hM, ↓mb_28 hM, ↓mb_31 hM, ↓mb_32 hM, ↓mb_33 hM, ↓mb_35 hM, ↓mb_36 hM, ↓mb_37 hM, ↓mb_41 hM, ↓mb_42 hM, ↓mb_43 hM, ↓mb_44 hM, ↓mb_45 hM, ↓mb_46 hM, ↓mb_47 hM, ↓mb_48 hM, ↓mb_49 hM, ↓mb_55 hM, hM, ↓b3_of e, Option.getD_some]
    rfl
theorem m_canGo (h1 : bar1 D) (hT : MTold nf m D T N R tx) (hM : MSh m T N R) (hh : mH m g tx I) (ho : rOK g n k H) (hH : H ≤ 2000) {ch l : Nat} (hch : ch < k) (hl : l < n) :
    ∃ I' L', fX5_canGo nf T N I L R m (ii ch) (ii l) = some (bi (canG D g ch l), I', L') ∧ mSc m I I' L L' := by
  have hn := ho.1.2.1
  have hk := ho.1.2.2.2
  obtain ⟨I', L', e, hs⟩ := m_isBarred (L := L) h1 hT hM hh ho hH hch hl
  have hg := hh.1
  have eat : fX5_ends T N I R m (ii l) (g (18 + ch)) = some (bi (decide (g (26 + l) = g (18 + ch)) || decide (g (36 + l) = g (18 + ch)))) := by
    unfold fX5_ends
    simp (disch := omega) only [↓nm_v, ↓tg, ↓rA, ↓chk_if, ↓reduceIte, inb_ii, ii_nat, ii_add, and_self, bi_zb, if_bi, if_bi1, ii_leT, ii_leF, ii_ltT, ii_ltF, ii_eqF, ii_m1F, ↓mb_2 hM, ↓mb_3 hM, ↓mb_4 hM, ↓mb_5 hM, ↓mb_6 hM, ↓mb_7 hM, ↓mb_9 hM, ↓mb_10 hM, ↓mb_12 hM, ↓mb_22 hM, ↓mb_24 hM, ↓mb_25 hM, ↓mb_27 hM, ↓mb_28 hM, ↓mb_31 hM, ↓mb_32 hM, ↓mb_33 hM, ↓mb_35 hM, ↓mb_36 hM, ↓mb_37 hM, ↓mb_41 hM, ↓mb_42 hM, ↓mb_43 hM, ↓mb_44 hM, ↓mb_45 hM, ↓mb_46 hM, ↓mb_47 hM, ↓mb_48 hM, ↓mb_49 hM, ↓mb_55 hM, hM, hg]
    by_cases p1 : g (26 + l) = g (18 + ch) <;> by_cases p2 : g (36 + l) = g (18 + ch) <;> simp [p1, p2, bi]
  unfold fX5_canGo canG
  cases p1 : (decide (g (26 + l) = g (18 + ch)) || decide (g (36 + l) = g (18 + ch))) with
  | false =>
    refine ⟨I, L, ?_, mSc_refl _ _ _⟩
    simp (disch := omega) only [↓nm_v, ↓tg, ↓rA, ↓chk_if, ↓reduceIte, inb_ii, ii_nat, ii_add, and_self, bi_zb, if_bi, if_bi1, ii_leT, ii_leF, ii_ltT, ii_ltF, ii_eqF, ii_m1F, ↓mb_2 hM, ↓mb_3 hM, ↓mb_4 hM, ↓mb_5 hM, ↓mb_6 hM, ↓mb_7 hM, ↓mb_9 hM, ↓mb_10 hM, ↓mb_12 hM, ↓mb_22 hM, ↓mb_24 hM, ↓mb_25 hM, ↓mb_27 hM, ↓mb_28 hM, ↓mb_31 hM, ↓mb_32 hM, ↓mb_33 hM, ↓mb_35 hM, ↓mb_36 hM, ↓mb_37 hM, ↓mb_41 hM, ↓mb_42 hM, ↓mb_43 hM, ↓mb_44 hM, ↓mb_45 hM, ↓mb_46 hM, ↓mb_47 hM, ↓mb_48 hM, ↓mb_49 hM, ↓mb_55 hM, hM, hg, ↓bn_of eat, p1, Bool.false_eq_true]
    rfl
  | true =>
    refine ⟨I', L', ?_, hs⟩
    cases p2 : barG D g ch l with
    | true => simp (disch := omega) only [↓nm_v, ↓tg, ↓rA, ↓chk_if, ↓reduceIte, inb_ii, ii_nat, ii_add, and_self, bi_zb, if_bi, if_bi1, ii_leT, ii_leF, ii_ltT, ii_ltF, ii_eqF, ii_m1F, ↓mb_2 hM, ↓mb_3 hM, ↓mb_4 hM, ↓mb_5 hM, ↓mb_6 hM, ↓mb_7 hM, ↓mb_9 hM, ↓mb_10 hM, ↓mb_12 hM, ↓mb_22 hM, ↓mb_24 hM, ↓mb_25 hM, ↓mb_27 hM, ↓mb_28 hM, ↓mb_31 hM, ↓mb_32 hM, ↓mb_33 hM, ↓mb_35 hM, ↓mb_36 hM, ↓mb_37 hM, ↓mb_41 hM, ↓mb_42 hM, ↓mb_43 hM, ↓mb_44 hM, ↓mb_45 hM, ↓mb_46 hM, ↓mb_47 hM, ↓mb_48 hM, ↓mb_49 hM, ↓mb_55 hM, hM, hg, ↓bn_of eat, p1, ↓b3_of e, p2]; rfl
    | false => simp (disch := omega) only [↓nm_v, ↓tg, ↓rA, ↓chk_if, ↓reduceIte, inb_ii, ii_nat, ii_add, and_self, bi_zb, if_bi, if_bi1, ii_leT, ii_leF, ii_ltT, ii_ltF, ii_eqF, ii_m1F, ↓mb_2 hM, ↓mb_3 hM, ↓mb_4 hM, ↓mb_5 hM, ↓mb_6 hM, ↓mb_7 hM, ↓mb_9 hM, ↓mb_10 hM, ↓mb_12 hM, ↓mb_22 hM, ↓mb_24 hM, ↓mb_25 hM, ↓mb_27 hM, ↓mb_28 hM, ↓mb_31 hM, ↓mb_32 hM, ↓mb_33 hM, ↓mb_35 hM, ↓mb_36 hM, ↓mb_37 hM, ↓mb_41 hM, ↓mb_42 hM, ↓mb_43 hM, ↓mb_44 hM, ↓mb_45 hM, ↓mb_46 hM, ↓mb_47 hM, ↓mb_48 hM, ↓mb_49 hM, ↓mb_55 hM, hM, hg, ↓bn_of eat, p1, ↓b3_of e, p2, Bool.false_eq_true]; rfl
/-- along which lane: the model -/
theorem m_laneOf (h1 : bar1 D) (hT : MTold nf m D T N R tx) (hM : MSh m T N R) (hh : mH m g tx I) (ho : rOK g n k H) (hH : H ≤ 2000) (hnf : 70 < nf) {ch : Nat} (hch : ch < k) :
    ∃ I' L', fX5_laneOf nf T N I L R m (ii ch) = some (laneG D g n ch, I', L') ∧ mSc m I I' L L' := by
  have hn := ho.1.2.1
  have hk := ho.1.2.2.2
  have hg0 := ho.1.1
  have hcl := cntG_le D g ch n
  have loop2 : ∀ (w : Nat), w < 100 → ∀ J M, mH m g tx J → ∃ I' L', fX5_laneOf_b57 nf T N R nf J M m (ii ch) (ii w) (-1) (ii 0) = some (pickG D g ch w n, I', L') ∧ mSc m J I' M L' := by
    intro w hw J M hJ
    have := loop_rel (fun q (p : xI × xL) l => fX5_laneOf_b57 nf T N R q p.1 p.2 m (ii ch) (ii w - ii (cntG D g ch l)) (pickG D g ch w l) (ii l)) (fun _ p => mSc m J p.1 M p.2) n (fun p => some (pickG D g ch w n, p.1, p.2)) ?_ ?_ n 0 (J, M) nf (by omega) (by omega) (mSc_refl _ _ _)
    · obtain ⟨p, e, hp⟩ := this
      refine ⟨p.1, p.2, ?_, hp⟩
      refine Eq.trans ?_ e
      show _ = fX5_laneOf_b57 nf T N R nf J M m (ii ch) (ii w - ii 0) (-1) (ii 0)
      rw [ii_sub (Nat.zero_le _)]
      rfl
    · rintro q ⟨J1, M1⟩ l hl hp
      have hp : mSc m J J1 M M1 := hp
      have hJ1 := mH_sc hJ hp
      obtain ⟨J2, M2, e, hs⟩ := m_canGo (L := M1) h1 hT hM hJ1 ho hH hch hl
      refine ⟨(J2, M2), ?_, mSc_trans hp hs⟩
      have hg := hJ1.1
      have hc2 := cntG_le D g ch l
      show fX5_laneOf_b57 nf T N R (q + 1) J1 M1 m (ii ch) (ii w - ii (cntG D g ch l)) (pickG D g ch w l) (ii l) = fX5_laneOf_b57 nf T N R q J2 M2 m (ii ch) (ii w - ii (cntG D g ch (l + 1))) (pickG D g ch w (l + 1)) (ii (l + 1))
      rw [fX5_laneOf_b57, cntG_s, pickG_s]
      have es : (ii w - ii (cntG D g ch l)).toInt = (w : Int) - (cntG D g ch l : Int) := by
        rw [Int32.toInt_sub, ii_toInt (by omega), ii_toInt (by omega)]
        apply Int.bmod_eq_of_le <;> omega
      have es2 : ii w - ii (cntG D g ch l) + (-1 : Int32) = ii w - ii (cntG D g ch l + 1) := by
        rw [← ii_add, show (-1 : Int32) = -ii 1 by decide, ← Int32.sub_eq_add_neg, Int32.sub_sub]
      cases p1 : canG D g ch l with
      | false =>
        simp (disch := omega) only [↓nm_v, ↓tg, ↓rA, ↓chk_if, ↓reduceIte, inb_ii, ii_nat, ii_add, and_self, bi_zb, if_bi, if_bi1, ii_leT, ii_leF, ii_ltT, ii_ltF, ii_eqF, ii_m1F, ↓mb_2 hM, ↓mb_3 hM, ↓mb_4 hM, ↓mb_5 hM, ↓mb_6 hM, ↓mb_7 hM, ↓mb_9 hM, ↓mb_10 hM, ↓mb_12 hM, ↓mb_22 hM, ↓mb_24 hM, ↓mb_25 hM, ↓mb_27 hM, ↓mb_28 hM, ↓mb_31 hM, ↓mb_32 hM, ↓mb_33 hM, ↓mb_35 hM, ↓mb_36 hM, ↓mb_37 hM, ↓mb_41 hM, ↓mb_42 hM, ↓mb_43 hM, ↓mb_44 hM, ↓mb_45 hM, ↓mb_46 hM, ↓mb_47 hM, ↓mb_48 hM, ↓mb_49 hM, ↓mb_55 hM, hM, hg, hg0, ↓b3_of e, p1, Bool.false_eq_true, false_and]
        rfl
      | true =>
        by_cases p2 : cntG D g ch l = w
        · have e0 : (ii w - ii (cntG D g ch l) = ii 0) = True := eq_true (by rw [← Int32.toInt_inj, es, ii_0]; omega)
          rw [p2] at e0 es2
          simp (disch := omega) only [↓nm_v, ↓tg, ↓rA, ↓chk_if, ↓reduceIte, inb_ii, ii_nat, ii_add, and_self, bi_zb, if_bi, if_bi1, ii_leT, ii_leF, ii_ltT, ii_ltF, ii_eqF, ii_m1F, ↓mb_2 hM, ↓mb_3 hM, ↓mb_4 hM, ↓mb_5 hM, ↓mb_6 hM, ↓mb_7 hM, ↓mb_9 hM, ↓mb_10 hM, ↓mb_12 hM, ↓mb_22 hM, ↓mb_24 hM, ↓mb_25 hM, ↓mb_27 hM, ↓mb_28 hM, ↓mb_31 hM, ↓mb_32 hM, ↓mb_33 hM, ↓mb_35 hM, ↓mb_36 hM, ↓mb_37 hM, ↓mb_41 hM, ↓mb_42 hM, ↓mb_43 hM, ↓mb_44 hM, ↓mb_45 hM, ↓mb_46 hM, ↓mb_47 hM, ↓mb_48 hM, ↓mb_49 hM, ↓mb_55 hM, hM, hg, hg0, ↓b3_of e, p1, p2, e0, es2]
          rfl
        · have e0 : (ii w - ii (cntG D g ch l) = ii 0) = False := eq_false (by rw [← Int32.toInt_inj, es, ii_0]; omega)
          simp (disch := omega) only [↓nm_v, ↓tg, ↓rA, ↓chk_if, ↓reduceIte, inb_ii, ii_nat, ii_add, and_self, bi_zb, if_bi, if_bi1, ii_leT, ii_leF, ii_ltT, ii_ltF, ii_eqF, ii_m1F, ↓mb_2 hM, ↓mb_3 hM, ↓mb_4 hM, ↓mb_5 hM, ↓mb_6 hM, ↓mb_7 hM, ↓mb_9 hM, ↓mb_10 hM, ↓mb_12 hM, ↓mb_22 hM, ↓mb_24 hM, ↓mb_25 hM, ↓mb_27 hM, ↓mb_28 hM, ↓mb_31 hM, ↓mb_32 hM, ↓mb_33 hM, ↓mb_35 hM, ↓mb_36 hM, ↓mb_37 hM, ↓mb_41 hM, ↓mb_42 hM, ↓mb_43 hM, ↓mb_44 hM, ↓mb_45 hM, ↓mb_46 hM, ↓mb_47 hM, ↓mb_48 hM, ↓mb_49 hM, ↓mb_55 hM, hM, hg, hg0, ↓b3_of e, p1, e0, p2, es2, and_false]
          rfl
    · rintro q ⟨J1, M1⟩ hp
      have hp : mSc m J J1 M M1 := hp
      have hg := (mH_sc hJ hp).1
      show fX5_laneOf_b57 nf T N R (q + 1) J1 M1 m (ii ch) (ii w - ii (cntG D g ch n)) (pickG D g ch w n) (ii n) = _
      rw [fX5_laneOf_b57]
      simp (disch := omega) only [↓nm_v, ↓tg, ↓rA, ↓chk_if, ↓reduceIte, inb_ii, ii_nat, ii_add, and_self, bi_zb, if_bi, if_bi1, ii_leT, ii_leF, ii_ltT, ii_ltF, ii_eqF, ii_m1F, ↓mb_2 hM, ↓mb_3 hM, ↓mb_4 hM, ↓mb_5 hM, ↓mb_6 hM, ↓mb_7 hM, ↓mb_9 hM, ↓mb_10 hM, ↓mb_12 hM, ↓mb_22 hM, ↓mb_24 hM, ↓mb_25 hM, ↓mb_27 hM, ↓mb_28 hM, ↓mb_31 hM, ↓mb_32 hM, ↓mb_33 hM, ↓mb_35 hM, ↓mb_36 hM, ↓mb_37 hM, ↓mb_41 hM, ↓mb_42 hM, ↓mb_43 hM, ↓mb_44 hM, ↓mb_45 hM, ↓mb_46 hM, ↓mb_47 hM, ↓mb_48 hM, ↓mb_49 hM, ↓mb_55 hM, hM, hg, hg0]
  have loop1 := loop_rel (fun q (p : xI × xL) l => fX5_laneOf_b4 nf T N R q p.1 p.2 m (ii ch) (ii (cntG D g ch l)) (ii l)) (fun _ p => mSc m I p.1 L p.2) n (fun p => if cntG D g ch n = 0 then some ((-1 : Int32), p.1, p.2) else b3 (fX5_turnsTo nf T N p.1 p.2 R m (ii ch)) fun r6 I7 L8 => fX5_laneOf_b57 nf T N R nf I7 L8 m (ii ch) (r6 - r6 / ii (cntG D g ch n) * ii (cntG D g ch n)) (-1 : Int32) (ii 0)) ?_ ?_ n 0 (I, L) nf (by omega) (by omega) (mSc_refl _ _ _)
  · obtain ⟨⟨J, M⟩, e, hp⟩ := loop1
    unfold fX5_laneOf laneG
    rw [show fX5_laneOf_b4 nf T N R nf I L m (ii ch) (ii 0) (ii 0) = _ from e]
    have hp : mSc m I J L M := hp
    by_cases q : cntG D g ch n = 0
    · rw [if_pos q, if_pos q]
      exact ⟨J, M, rfl, hp⟩
    · rw [if_neg q, if_neg q]
      obtain ⟨J2, M2, e2, hs2⟩ := m_turns (L := M) hT hM (mH_sc hh hp) ho hH hch
      have htl := turn_le D g ch
      have hm := Nat.mod_lt (turnG D g ch) (show 0 < cntG D g ch n by omega)
      obtain ⟨J3, M3, e3, hs3⟩ := loop2 (turnG D g ch % cntG D g ch n) (by omega) J2 M2 (mH_sc (mH_sc hh hp) hs2)
      refine ⟨J3, M3, ?_, mSc_trans hp (mSc_trans hs2 hs3)⟩
      rw [e2, b3_e, ii_rem (by omega) (by omega), e3]
  · rintro q ⟨J1, M1⟩ l hl hp
    have hp : mSc m I J1 L M1 := hp
    have hJ1 := mH_sc hh hp
    obtain ⟨J2, M2, e, hs⟩ := m_canGo (L := M1) h1 hT hM hJ1 ho hH hch hl
    refine ⟨(J2, M2), ?_, mSc_trans hp hs⟩
    have hg := hJ1.1
    show fX5_laneOf_b4 nf T N R (q + 1) J1 M1 m (ii ch) (ii (cntG D g ch l)) (ii l) = fX5_laneOf_b4 nf T N R q J2 M2 m (ii ch) (ii (cntG D g ch (l + 1))) (ii (l + 1))
    rw [fX5_laneOf_b4, cntG_s]
    cases p1 : canG D g ch l with
    | false => simp (disch := omega) only [↓nm_v, ↓tg, ↓rA, ↓chk_if, ↓reduceIte, inb_ii, ii_nat, ii_add, and_self, bi_zb, if_bi, if_bi1, ii_leT, ii_leF, ii_ltT, ii_ltF, ii_eqF, ii_m1F, ↓mb_2 hM, ↓mb_3 hM, ↓mb_4 hM, ↓mb_5 hM, ↓mb_6 hM, ↓mb_7 hM, ↓mb_9 hM, ↓mb_10 hM, ↓mb_12 hM, ↓mb_22 hM, ↓mb_24 hM, ↓mb_25 hM, ↓mb_27 hM, ↓mb_28 hM, ↓mb_31 hM, ↓mb_32 hM, ↓mb_33 hM, ↓mb_35 hM, ↓mb_36 hM, ↓mb_37 hM, ↓mb_41 hM, ↓mb_42 hM, ↓mb_43 hM, ↓mb_44 hM, ↓mb_45 hM, ↓mb_46 hM, ↓mb_47 hM, ↓mb_48 hM, ↓mb_49 hM, ↓mb_55 hM, hM, hg, hg0, ↓b3_of e, p1, Bool.false_eq_true]; rfl
    | true => simp (disch := omega) only [↓nm_v, ↓tg, ↓rA, ↓chk_if, ↓reduceIte, inb_ii, ii_nat, ii_add, and_self, bi_zb, if_bi, if_bi1, ii_leT, ii_leF, ii_ltT, ii_ltF, ii_eqF, ii_m1F, ↓mb_2 hM, ↓mb_3 hM, ↓mb_4 hM, ↓mb_5 hM, ↓mb_6 hM, ↓mb_7 hM, ↓mb_9 hM, ↓mb_10 hM, ↓mb_12 hM, ↓mb_22 hM, ↓mb_24 hM, ↓mb_25 hM, ↓mb_27 hM, ↓mb_28 hM, ↓mb_31 hM, ↓mb_32 hM, ↓mb_33 hM, ↓mb_35 hM, ↓mb_36 hM, ↓mb_37 hM, ↓mb_41 hM, ↓mb_42 hM, ↓mb_43 hM, ↓mb_44 hM, ↓mb_45 hM, ↓mb_46 hM, ↓mb_47 hM, ↓mb_48 hM, ↓mb_49 hM, ↓mb_55 hM, hM, hg, hg0, ↓b3_of e, p1]; rfl
  · rintro q ⟨J1, M1⟩ hp
    have hp : mSc m I J1 L M1 := hp
    have hg := (mH_sc hh hp).1
    show fX5_laneOf_b4 nf T N R (q + 1) J1 M1 m (ii ch) (ii (cntG D g ch n)) (ii n) = _
    rw [fX5_laneOf_b4]
    by_cases p : cntG D g ch n = 0
    · simp (disch := omega) only [↓nm_v, ↓tg, ↓rA, ↓chk_if, ↓reduceIte, inb_ii, ii_nat, ii_add, and_self, bi_zb, if_bi, if_bi1, ii_leT, ii_leF, ii_ltT, ii_ltF, ii_eqF, ii_m1F, ↓mb_2 hM, ↓mb_3 hM, ↓mb_4 hM, ↓mb_5 hM, ↓mb_6 hM, ↓mb_7 hM, ↓mb_9 hM, ↓mb_10 hM, ↓mb_12 hM, ↓mb_22 hM, ↓mb_24 hM, ↓mb_25 hM, ↓mb_27 hM, ↓mb_28 hM, ↓mb_31 hM, ↓mb_32 hM, ↓mb_33 hM, ↓mb_35 hM, ↓mb_36 hM, ↓mb_37 hM, ↓mb_41 hM, ↓mb_42 hM, ↓mb_43 hM, ↓mb_44 hM, ↓mb_45 hM, ↓mb_46 hM, ↓mb_47 hM, ↓mb_48 hM, ↓mb_49 hM, ↓mb_55 hM, hM, hg, hg0, p]
    · have p' : (ii (cntG D g ch n) = ii 0) = False := eq_false (fun h => p ((ii_eq (by omega) (by omega)).mp h))
      simp (disch := omega) only [↓nm_v, ↓tg, ↓rA, ↓chk_if, ↓reduceIte, inb_ii, ii_nat, ii_add, and_self, bi_zb, if_bi, if_bi1, ii_leT, ii_leF, ii_ltT, ii_ltF, ii_eqF, ii_m1F, ↓mb_2 hM, ↓mb_3 hM, ↓mb_4 hM, ↓mb_5 hM, ↓mb_6 hM, ↓mb_7 hM, ↓mb_9 hM, ↓mb_10 hM, ↓mb_12 hM, ↓mb_22 hM, ↓mb_24 hM, ↓mb_25 hM, ↓mb_27 hM, ↓mb_28 hM, ↓mb_31 hM, ↓mb_32 hM, ↓mb_33 hM, ↓mb_35 hM, ↓mb_36 hM, ↓mb_37 hM, ↓mb_41 hM, ↓mb_42 hM, ↓mb_43 hM, ↓mb_44 hM, ↓mb_45 hM, ↓mb_46 hM, ↓mb_47 hM, ↓mb_48 hM, ↓mb_49 hM, ↓mb_55 hM, hM, hg, hg0, p, p', not_false_eq_true, decide_true]
end
