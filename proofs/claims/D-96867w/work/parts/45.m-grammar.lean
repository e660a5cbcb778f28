/-! the grammar of texts, read from above (rd), as one function of the tape -/
abbrev TS : Type := Nat × Nat × Int32 × Int32 × Int32
/-- the next token -/
def stp (tp : Nat → Int32) (L : Nat) (t : TS) : TS := goT tp L t.1 t.2.2.2.1 t.2.2.2.2
def keyW (key : Int32) : CS := (fun _ _ => key, fun _ _ => 0, fun _ _ => none, fun _ => none, 0, fun _ => none, fun _ _ => 0, fun _ _ => none, fun _ _ => 0, fun _ _ => 0)
def nmK (key x : Int32) : Int32 := v_X3_nameOf (keyW key) x
theorem nm_C (C : CS) (x : Int32) : v_X3_nameOf C x = nmK (C.1 1 15) x := rfl
def tokW (t v : Int32) : CS := (fun _ k => if k = 12 then t else v, fun _ _ => 0, fun _ _ => none, fun _ => none, 0, fun _ => none, fun _ _ => 0, fun _ _ => none, fun _ _ => 0, fun _ _ => 0)
/-- the sign between two parts here, 0: none -/
def sgT (t : TS) : Int32 := v_X3_signHere (tokW t.2.2.1 t.2.2.2.1)
/-- a number's or a name's sign here -/
def ptT (key : Int32) (t : TS) : Option Int32 := if t.2.2.1 = 2 then some t.2.2.2.1 else if t.2.2.1 = 1 ∧ t.1 = t.2.1 + 1 ∧ ¬ nmK key t.2.2.2.1 < 0 then some (10000 + nmK key t.2.2.2.1) else none
def rk (o : Int32) : Nat := (v_X3_rank o).toNatClampNeg
theorem rk_spec (o : Int32) : v_X3_rank o = nI (rk o) ∧ 1 ≤ rk o ∧ rk o ≤ 6 := by
  unfold rk v_X3_rank
  split
  · decide
  · split
    · decide
    · split
      · split
        · split <;> decide
        · decide
      · decide
/-- E (level 1: or), 2: and, 3: test, 4: plus, 5: times, 6: part; with what stands on the left already, or none. Answers: whether it is one, its signs, how many numbers and names, the token behind it (or at the fault); none: too little fuel -/
def rd (tp : Nat → Int32) (L : Nat) (key : Int32) : Nat → Nat → Option (List Int32 × Nat) → Nat → Nat → TS → Option (Bool × List Int32 × Nat × TS)
  | 0, _, _, _, _, _ => none
  | n + 1, k, none, nots, pars, t =>
    if k = 6 then
      match ptT key t with
      | some x => some (true, [x], 1, stp tp L t)
      | none =>
        if t.2.2.1 = 3 ∧ t.2.2.2.1 = 33 ∧ nots < 8 then
          match rd tp L key n 6 none (nots + 1) pars (stp tp L t) with
          | some (true, c, a, t2) => some (true, c ++ [-10], a, t2)
          | r => r
        else if t.2.2.1 = 3 ∧ t.2.2.2.1 = 40 ∧ pars < 8 then
          match rd tp L key n 1 none nots (pars + 1) (stp tp L t) with
          | some (true, c, a, t2) => if t2.2.2.1 = 3 ∧ t2.2.2.2.1 = 41 then some (true, c, a, stp tp L t2) else some (false, [], 0, t2)
          | r => r
        else some (false, [], 0, t)
    else
      match rd tp L key n (k + 1) none nots pars t with
      | some (true, c, a, t2) => rd tp L key n k (some (c, a)) nots pars t2
      | r => r
  | n + 1, k, some (c, a), nots, pars, t =>
    if ¬ sgT t = 0 ∧ rk (sgT t) = k then
      match rd tp L key n (k + 1) none nots pars (stp tp L t) with
      | some (true, c2, a2, t2) => if k = 3 then some (true, c ++ c2 ++ [sgT t], a + a2, t2) else rd tp L key n k (some (c ++ c2 ++ [sgT t], a + a2)) nots pars t2
      | r => r
    else some (true, c, a, t)
/-- tokens lie in order -/
def tsOk (L : Nat) (t : TS) : Prop := t.2.1 ≤ t.1 ∧ t.1 ≤ L ∧ (¬ t.2.2.1 = 0 → t.2.1 < t.1)
theorem goT_ok {tp : Nat → Int32} {L p : Nat} (v e : Int32) (h : p ≤ L) : tsOk L (goT tp L p v e) ∧ p ≤ (goT tp L p v e).2.1 := by
  have hq := spn_le (P := isSp) (tp := tp) h
  unfold goT
  generalize spn isSp tp L p = q at hq
  simp only []
  by_cases h1 : q = L
  · rw [if_pos h1]
    exact ⟨⟨Nat.le_refl _, hq.2, fun z => absurd rfl z⟩, hq.1⟩
  · rw [if_neg h1]
    by_cases h2 : isL (tp q) = true
    · rw [if_pos h2]
      have e2 := spn_step (P := isL) (tp := tp) (L := L) (p := q) (by omega) h2
      have b2 := spn_le (P := isL) (tp := tp) (L := L) (p := q + 1) (by omega)
      exact ⟨⟨by show q ≤ spn isL tp L q; omega, by show spn isL tp L q ≤ L; omega, fun _ => by show q < spn isL tp L q; omega⟩, hq.1⟩
    · rw [if_neg h2]
      by_cases h3 : isF (tp q) = true
      · rw [if_pos h3]
        have e2 := spn_step (P := isF) (tp := tp) (L := L) (p := q) (by omega) h3
        have b2 := spn_le (P := isF) (tp := tp) (L := L) (p := q + 1) (by omega)
        exact ⟨⟨by show q ≤ spn isF tp L q; omega, by show spn isF tp L q ≤ L; omega, fun _ => by show q < spn isF tp L q; omega⟩, hq.1⟩
      · rw [if_neg h3]
        exact ⟨⟨by show q ≤ q + 1; omega, by show q + 1 ≤ L; omega, fun _ => by show q < q + 1; omega⟩, hq.1⟩
theorem stp_ok {tp : Nat → Int32} {L : Nat} {t : TS} (h : tsOk L t) : tsOk L (stp tp L t) ∧ t.1 ≤ (stp tp L t).2.1 := goT_ok _ _ h.2.1
/-- the reader stands at token t -/
def tkOk (C : CS) (t : TS) : Prop := C.1 1 10 = nI t.1 ∧ C.1 1 11 = nI t.2.1 ∧ C.1 1 12 = t.2.2.1 ∧ C.1 1 13 = t.2.2.2.1 ∧ C.1 1 14 = t.2.2.2.2
theorem go_tk {C D : CS} {L : Nat} {t : TS} (hL : L ≤ 96) (h9 : C.1 1 9 = nI L) (ht : tkOk C t) (hs : tsOk L t) (h : q_X3_go C D) : tkOk D (stp (C.2.1 43) L t) ∧ gEq C D := by
  have e : goC C = stp (C.2.1 43) L t := by
    unfold goC stp
    have := hs.2.1
    rw [h9, ht.1, ht.2.2.2.1, ht.2.2.2.2, cl_k (by omega), cl_k (by omega)]
  rw [← e]
  exact ⟨h.2, h.1⟩
theorem go_p {C : CS} {L : Nat} {t : TS} (hL : L ≤ 96) (h9 : C.1 1 9 = nI L) (ht : tkOk C t) (hs : tsOk L t) : p_X3_go C := ⟨L, t.1, h9, hL, ht.1, hs.2.1⟩
theorem sg_C {C : CS} {t : TS} (h : tkOk C t) : v_X3_signHere C = sgT t := by
  unfold v_X3_signHere sgT
  rw [h.2.2.1, h.2.2.2.1]
  rfl
theorem pt_C {C : CS} {t : TS} {L : Nat} (hL : L ≤ 96) (h : tkOk C t) (hs : tsOk L t) : ptS C = ptT (C.1 1 15) t := by
  unfold ptS ptT
  have h1 := hs.1
  have h2 := hs.2.1
  rw [h.1, h.2.1, h.2.2.1, h.2.2.2.1, nm_C]
  have z : (nI t.1 - nI t.2.1 = 1) ↔ t.1 = t.2.1 + 1 := by
    rw [pk_sub h1, show (1 : Int32) = nI 1 from rfl, nI_eq (by omega) (by omega)]
    omega
  by_cases c1 : t.2.2.1 = 2
  · rw [if_pos c1, if_pos c1]
  · rw [if_neg c1, if_neg c1]
    by_cases c2 : t.2.2.1 = 1 ∧ t.1 = t.2.1 + 1 ∧ ¬ nmK (C.1 1 15) t.2.2.2.1 < 0
    · rw [if_pos c2, if_pos ⟨c2.1, z.mpr c2.2.1, c2.2.2⟩]
    · rw [if_neg c2, if_neg (fun y => c2 ⟨y.1, z.mp y.2.1, y.2.2⟩)]
/-- all but what the reader of an E writes is as it was -/
def pEq (C D : CS) : Prop := D.2.2 = C.2.2 ∧ (∀ j k, ¬ (j = 1 ∧ ((10 ≤ k ∧ k ≤ 14) ∨ k = 19 ∨ k = 20 ∨ k = 22)) → D.1 j k = C.1 j k) ∧ ∀ j, j ≠ 46 → j ≠ 47 → j ≠ 48 → D.2.1 j = C.2.1 j
theorem pEq.go {C D E : CS} (h : pEq C D) (g : gEq D E) : pEq C E := ⟨by rw [g.1]; exact h.1, fun j k hk => (g.2 j k (fun z => hk ⟨z.1, Or.inl z.2⟩)).trans (h.2.1 j k hk), fun j h1 h2 h3 => by rw [g.1]; exact h.2.2 j h1 h2 h3⟩
theorem pEq.se {C D E : CS} (h : pEq C D) (g : sEq D E) : pEq C E := ⟨g.1.trans h.1, fun j k hk => (g.2.1 j k (fun z => hk ⟨z.1, by omega⟩)).trans (h.2.1 j k hk), fun j h1 h2 h3 => (g.2.2 j h1).trans (h.2.2 j h1 h2 h3)⟩
theorem pEq.wi {C D : CS} (h : pEq C D) (k : Nat) (v : Int32) (hk : k = 19 ∨ k = 20 ∨ k = 22) : pEq C (wI D 1 k v) := by
  refine ⟨h.1, fun j q hq => ?_, h.2.2⟩
  rw [← h.2.1 j q hq]
  simp only [wI, up2]
  rw [if_neg (fun z => hq ⟨z.1, by omega⟩)]
theorem pEq.wa {C D : CS} (h : pEq C D) (j i : Nat) (v : Int32) (hj : j = 46 ∨ j = 47 ∨ j = 48) : pEq C (wA D j i v) :=
  ⟨h.1, h.2.1, fun q h1 h2 h3 => by rw [wA_ne _ _ _ (by omega)]; exact h.2.2 q h1 h2 h3⟩
theorem pEq.rf (C : CS) : pEq C C := ⟨rfl, fun _ _ _ => rfl, fun _ _ _ _ => rfl⟩
/-- where signs wait, written, counted; at which token -/
def syS (C0 : CS) (L : Nat) (C : CS) (S O : List Int32) (a : Nat) (t : TS) : Prop := pEq C0 C ∧ stOk C S O ∧ C.1 1 20 = nI a ∧ tkOk C t ∧ tsOk L t ∧ S.length + O.length < t.2.1 ∧ a ≤ t.2.1
theorem st_push {C D E : CS} {S O : List Int32} {o : Int32} (h : stOk C S O) (hb : S.length < 96) (e1 : D = wA C 47 (Int32.toNatClampNeg (C.1 1 22)) o) (e2 : E = wI D 1 22 (D.1 1 22 + 1)) : stOk E (o :: S) O := by
  obtain ⟨h1, h2, h3, h4⟩ := h
  rw [h1, cl_k (by omega)] at e1
  refine ⟨?_, ?_, ?_, ?_⟩
  · rw [e2, wI_s, e1]; show C.1 1 22 + 1 = _; rw [h1]; exact nI_1 _
  · rw [e2, wI_2, e1, wA_row]
    refine ⟨by unfold upd; rw [if_pos rfl], stk_up h2 (fun i hi => ?_)⟩
    unfold upd; rw [if_neg (by omega)]
  · rw [e2, wI_n _ _ _ _ (by decide), e1]; exact h3
  · rw [e2, wI_2, e1, wA_ne _ _ _ (by decide)]; exact h4
theorem tk_wi {C : CS} {t : TS} (h : tkOk C t) (k : Nat) (v : Int32) (hk : ¬ (10 ≤ k ∧ k ≤ 14)) : tkOk (wI C 1 k v) t :=
  ⟨by rw [wI_n _ _ _ _ (by omega)]; exact h.1, by rw [wI_n _ _ _ _ (by omega)]; exact h.2.1, by rw [wI_n _ _ _ _ (by omega)]; exact h.2.2.1, by rw [wI_n _ _ _ _ (by omega)]; exact h.2.2.2.1, by rw [wI_n _ _ _ _ (by omega)]; exact h.2.2.2.2⟩
theorem tk_se {C D : CS} {t : TS} (h : tkOk C t) (g : sEq C D) : tkOk D t :=
  ⟨by rw [g.2.1 1 10 (by omega)]; exact h.1, by rw [g.2.1 1 11 (by omega)]; exact h.2.1, by rw [g.2.1 1 12 (by omega)]; exact h.2.2.1, by rw [g.2.1 1 13 (by omega)]; exact h.2.2.2.1, by rw [g.2.1 1 14 (by omega)]; exact h.2.2.2.2⟩
theorem sy_L {C0 C : CS} {L : Nat} {S O : List Int32} {a : Nat} {t : TS} (h9 : C0.1 1 9 = nI L) (h : syS C0 L C S O a t) : C.1 1 9 = nI L ∧ C.2.1 43 = C0.2.1 43 ∧ C.1 1 15 = C0.1 1 15 :=
  ⟨(h.1.2.1 1 9 (by omega)).trans h9, h.1.2.2 43 (by decide) (by decide) (by decide), h.1.2.1 1 15 (by omega)⟩
/-- behind a token that is taken -/
theorem sy_go {C0 C D : CS} {L : Nat} {S O : List Int32} {a : Nat} {t : TS} (hL : L ≤ 96) (h9 : C0.1 1 9 = nI L) (hp : pEq C0 C) (hst : stOk C S O) (ha : C.1 1 20 = nI a) (ht : tkOk C t) (hs : tsOk L t) (hn : ¬ t.2.2.1 = 0) (hb : S.length + O.length < t.2.1 + 1) (hb2 : a ≤ t.2.1 + 1) (h : q_X3_go C D) : syS C0 L D S O a (stp (C0.2.1 43) L t) ∧ D.2.1 48 = C.2.1 48 := by
  have e9 : C.1 1 9 = nI L := (hp.2.1 1 9 (by omega)).trans h9
  have e43 : C.2.1 43 = C0.2.1 43 := hp.2.2 43 (by decide) (by decide) (by decide)
  obtain ⟨g1, g2⟩ := go_tk hL e9 ht hs h
  rw [e43] at g1
  obtain ⟨k1, k2⟩ := stp_ok (tp := C0.2.1 43) hs
  have k3 := hs.2.2 hn
  obtain ⟨s1, s2, s3, s4⟩ := hst
  refine ⟨⟨hp.go g2, ⟨?_, ?_, ?_, ?_⟩, ?_, g1, k1, by omega, by omega⟩, by rw [g2.1]⟩
  · rw [g2.2 1 22 (by omega)]; exact s1
  · rw [g2.1]; exact s2
  · rw [g2.2 1 19 (by omega)]; exact s3
  · rw [g2.1]; exact s4
  · rw [g2.2 1 20 (by omega)]; exact ha
theorem cf_X3_takesE : CfV yX3_takesE "TwoGuildsModel" cX3_takesE 5 (some .boolean) 0 := ⟨⟨by decide, by decide, by decide⟩, q75, q1743, q1742, qs65⟩
def p_X3_takesE (C : CS) : Prop := ∃ L t, C.1 1 9 = nI L ∧ L ≤ 96 ∧ tkOk C t ∧ tsOk L t ∧ 0 < t.2.1
def wp_X3_takesE_j268 (Post : Int32 → CS → Prop) (R28 : CS → Int32 → Int32 → Int32 → Prop) (C : CS) (i1 : Int32) (i2 : Int32) (i4 : Int32) : Prop := ∀ r12 : Int32, r12 = (v_X3_rank i4) → 
  ((r12 = 3 → 
    True) ∧
    (¬ r12 = 3 → 
    (((v_X3_rank i4) ≤ 3 → 
        True) ∧
        (¬ (v_X3_rank i4) ≤ 3 → 
        vp_in i1 10 ∧
          (True))) ∧
      (True))) ∧
  (∀ x19 : Int32, x19 = (if r12 = 3 then (1 : Int32) else (if (v_X3_rank i4) ≤ 3 then (0 : Int32) else (if (C.2.1 48 (Int32.toNatClampNeg i1)) = 0 then (0 : Int32) else 1))) → 
  vp_in i1 10 ∧
  (∀ C20 : CS, C20 = (wA C 48 (Int32.toNatClampNeg i1) x19) → 
  ∀ r21 : Int32, r21 = (v_X3_rank i4) → 
  p_X3_settle C20 r21 ∧
  (∀ C22 : CS, q_X3_settle C20 r21 C22 → 
  vp_in (C22.1 1 22) 96 ∧
  (∀ C23 : CS, C23 = (wA C22 47 (Int32.toNatClampNeg (C22.1 1 22)) i4) → 
  ∀ C24 : CS, C24 = (wI C23 1 22 ((C23.1 1 22) + 1)) → 
  p_X3_go C24 ∧
  (∀ C25 : CS, q_X3_go C24 C25 → 
  R28 C25 i1 i2 1)))))
def wp_X3_takesE_j237 (Post : Int32 → CS → Prop) (R28 : CS → Int32 → Int32 → Int32 → Prop) (C : CS) (i1 : Int32) (i2 : Int32) : Prop := ∀ r8 : Int32, r8 = (v_X3_signHere C) → 
  (r8 = 0 → 
  Post 0 C) ∧
  (¬ r8 = 0 → 
  ∀ r10 : Int32, r10 = (v_X3_rank r8) → 
    (r10 = 3 → 
    vp_in i1 10 ∧
      (((C.2.1 48 (Int32.toNatClampNeg i1)) = 0 → 
      wp_X3_takesE_j268 Post R28 C i1 i2 r8) ∧
      (¬ (C.2.1 48 (Int32.toNatClampNeg i1)) = 0 → 
      Post 0 C))) ∧
    (¬ r10 = 3 → 
    wp_X3_takesE_j268 Post R28 C i1 i2 r8))
def wp_X3_takesE_j172 (Post : Int32 → CS → Prop) (R28 : CS → Int32 → Int32 → Int32 → Prop) (C : CS) (i1 : Int32) (i3 : Int32) : Prop := p_X3_notsOpen C ∧
  (∀ r40 : Int32, r40 = (v_X3_notsOpen C) → 
  R28 C i1 r40 i3)
def wp_X3_takesE_j158 (Post : Int32 → CS → Prop) (R28 : CS → Int32 → Int32 → Int32 → Prop) (C : CS) (i1 : Int32) : Prop := p_X3_takesPart C ∧
  (∀ r38 : Int32, r38 = (v_X3_takesPart C) → 
  ∀ C37 : CS, q_X3_takesPart C C37 → 
  (r38 = 0 → 
  Post 0 C37) ∧
  (¬ r38 = 0 → 
  wp_X3_takesE_j172 Post R28 C37 i1 0))
def wp_X3_takesE_j97 (Post : Int32 → CS → Prop) (R28 : CS → Int32 → Int32 → Int32 → Prop) (C : CS) (i1 : Int32) (i3 : Int32) : Prop := ((C.1 1 12) = 3 → 
  ((C.1 1 13) = 40 → 
    (8 ≤ i1 → 
      wp_X3_takesE_j158 Post R28 C i1) ∧
      (¬ 8 ≤ i1 → 
      vp_in (C.1 1 22) 96 ∧
        (∀ C43 : CS, C43 = (wA C 47 (Int32.toNatClampNeg (C.1 1 22)) (-11)) → 
        ∀ C44 : CS, C44 = (wI C43 1 22 ((C43.1 1 22) + 1)) → 
        ∀ x45 : Int32, x45 = (i1 + Int32.ofInt 1) → 
        vp_in x45 10 ∧
        (∀ C46 : CS, C46 = (wA C44 48 (Int32.toNatClampNeg x45) 0) → 
        p_X3_go C46 ∧
        (∀ C47 : CS, q_X3_go C46 C47 → 
        wp_X3_takesE_j172 Post R28 C47 x45 i3))))) ∧
    (¬ (C.1 1 13) = 40 → 
    wp_X3_takesE_j158 Post R28 C i1)) ∧
  (¬ (C.1 1 12) = 3 → 
  wp_X3_takesE_j158 Post R28 C i1)
def wp_X3_takesE_j39 (Post : Int32 → CS → Prop) (R28 : CS → Int32 → Int32 → Int32 → Prop) (C : CS) (i1 : Int32) (i2 : Int32) (i3 : Int32) : Prop := (i3 = 0 → 
  ((C.1 1 12) = 3 → 
    ((C.1 1 13) = 41 → 
      (i1 ≤ 0 → 
        wp_X3_takesE_j237 Post R28 C i1 i2) ∧
        (¬ i1 ≤ 0 → 
        p_X3_settle C 0 ∧
          (∀ C29 : CS, q_X3_settle C 0 C29 → 
          ∀ C30 : CS, C30 = (wI C29 1 22 ((C29.1 1 22) - 1)) → 
          ∀ x31 : Int32, x31 = (i1 + Int32.ofInt (-1)) → 
          p_X3_settle C30 6 ∧
          (∀ C32 : CS, q_X3_settle C30 6 C32 → 
          p_X3_notsOpen C32 ∧
          (∀ r33 : Int32, r33 = (v_X3_notsOpen C32) → 
          p_X3_go C32 ∧
          (∀ C34 : CS, q_X3_go C32 C34 → 
          R28 C34 x31 r33 i3)))))) ∧
      (¬ (C.1 1 13) = 41 → 
      wp_X3_takesE_j237 Post R28 C i1 i2)) ∧
    (¬ (C.1 1 12) = 3 → 
    wp_X3_takesE_j237 Post R28 C i1 i2)) ∧
  (¬ i3 = 0 → 
  ((C.1 1 12) = 3 → 
    ((C.1 1 13) = 33 → 
      (8 ≤ i2 → 
        wp_X3_takesE_j97 Post R28 C i1 i3) ∧
        (¬ 8 ≤ i2 → 
        vp_in (C.1 1 22) 96 ∧
          (∀ C50 : CS, C50 = (wA C 47 (Int32.toNatClampNeg (C.1 1 22)) (-10)) → 
          ∀ C51 : CS, C51 = (wI C50 1 22 ((C50.1 1 22) + 1)) → 
          ∀ x52 : Int32, x52 = (i2 + Int32.ofInt 1) → 
          p_X3_go C51 ∧
          (∀ C53 : CS, q_X3_go C51 C53 → 
          wp_X3_takesE_j172 Post R28 C53 i1 i3)))) ∧
      (¬ (C.1 1 13) = 33 → 
      wp_X3_takesE_j97 Post R28 C i1 i3)) ∧
    (¬ (C.1 1 12) = 3 → 
    wp_X3_takesE_j97 Post R28 C i1 i3))
def wp_X3_takesE_l28 (Post : Int32 → CS → Prop) : Nat → CS → Int32 → Int32 → Int32 → Prop
  | 0, _, _, _, _ => False
  | n + 1, C, i1, i2, i3 => (i3 = 0 → 
  ((C.1 1 12) = 0 → 
    p_X3_settle C 0 ∧
      (∀ C55 : CS, q_X3_settle C 0 C55 → 
      (i1 = 0 → 
      Post 1 C55) ∧
      (¬ i1 = 0 → 
      Post 0 C55))) ∧
    (¬ (C.1 1 12) = 0 → 
    wp_X3_takesE_j39 Post (fun C i1 i2 i3 => wp_X3_takesE_l28 Post n C i1 i2 i3) C i1 i2 i3)) ∧
  (¬ i3 = 0 → 
  wp_X3_takesE_j39 Post (fun C i1 i2 i3 => wp_X3_takesE_l28 Post n C i1 i2 i3) C i1 i2 i3)
def wp_X3_takesE (Post : Int32 → CS → Prop) (C : CS)  : Prop :=
  ∀ C1 : CS, C1 = (wI C 1 19 0) → 
    ∀ C2 : CS, C2 = (wI C1 1 20 0) → 
    ∀ C3 : CS, C3 = (wI C2 1 22 0) → 
    ∀ C4 : CS, C4 = (wA C3 48 0 0) → 
    ∃ m28, wp_X3_takesE_l28 Post m28 C4 0 0 1
set_option maxHeartbeats 4000000 in
set_option maxRecDepth 100000 in
theorem gw_X3_takesE_j268 {w : WD} {x : Cx} (ok : Ok w x cX3_takesE 5 yX3_takesE.cls (some .boolean) (rmL 3 0 0)) {Post : Int32 → CS → Prop} {R28 : CS → Int32 → Int32 → Int32 → Prop} (hR28 : ∀ C (i1 : Int32) (i2 : Int32) (i3 : Int32), R28 C i1 i2 i3 → G w x 5 0 0 (QM w x (fun v C1 => ∃ r : Int32, v = some (.int r) ∧ Post r C1) 0 0) C 28 [(0, .ref (ad w 1)), (1, .int i1), (2, .int i2), (3, .int i3)] []) : ∀ (C : CS) (i1 : Int32) (i2 : Int32) (i4 : Int32), wp_X3_takesE_j268 Post R28 C i1 i2 i4 → G w x 5 0 0 (QM w x (fun v C1 => ∃ r : Int32, v = some (.int r) ∧ Post r C1) 0 0) C 268 [(0, .ref (ad w 1)), (1, .int i1), (2, .int i2), (4, .int i4)] [] := by
  intro C i1 i2 i4 hw
  unfold wp_X3_takesE_j268 at hw
  refine g_aload_n ok 0 dX3_takesE_268 rfl ?_
  refine g_get ok 1 rfl rfl in_X3 23 (by decide) q1382 rfl dX3_takesE_269 ?_
  refine g_iload_n ok 1 dX3_takesE_272 rfl ?_
  refine g_iload ok 3 dX3_takesE_273 rfl ?_
  refine g_callSI ok [.int i4] cf_X3_rank q1756 (mc_X3_rank ok.wo (xL x) C i4) rfl rfl (Nat.le_of_ble_eq_true rfl) ⟨by decide, by decide⟩ ⟨by decide, by decide⟩ dX3_takesE_275 ?_
  refine g_nmI (fun r12 er12 => ?_)
  have hw := hw r12 er12
  refine g_iconst (v := 3) ok dX3_takesE_278 (by decide) ?_
  obtain ⟨hr, hw⟩ := hw
  have kj18 : ∀ x19 : Int32, x19 = (if r12 = 3 then (1 : Int32) else (if (v_X3_rank i4) ≤ 3 then (0 : Int32) else (if (C.2.1 48 (Int32.toNatClampNeg i1)) = 0 then (0 : Int32) else 1))) → G w x 5 0 0 (QM w x (fun v C1 => ∃ r : Int32, v = some (.int r) ∧ Post r C1) 0 0) C 305 [(0, .ref (ad w 1)), (1, .int i1), (2, .int i2), (4, .int i4)] [.int x19, .int i1, .ref (ad w 48)] := by
    intro x19 ex19
    have hw := hw x19 ex19
    obtain ⟨hg, hw⟩ := hw
    refine g_zast ok 48 rfl hg _ rfl (nb_of (by rw [ex19]; exact (ib_ite (Or.inr rfl) (ib_ite (Or.inl rfl) (ib_ite (Or.inl rfl) (Or.inr rfl)))))) dX3_takesE_305 (fun C20 eC20 => ?_)
    have hw := hw C20 eC20
    refine g_aload_n ok 0 dX3_takesE_306 rfl ?_
    refine g_iload ok 3 dX3_takesE_307 rfl ?_
    refine g_callSI ok [.int i4] cf_X3_rank q1756 (mc_X3_rank ok.wo (xL x) C20 i4) rfl rfl (Nat.le_of_ble_eq_true rfl) ⟨by decide, by decide⟩ ⟨by decide, by decide⟩ dX3_takesE_309 ?_
    refine g_nmI (fun r21 er21 => ?_)
    have hw := hw r21 er21
    obtain ⟨hp, hw⟩ := hw
    refine g_callVVR ok [.int r21] cf_X3_settle q1752 (mc_X3_settle ok.wo (xL x) C20 r21 hp) (recvF ok 1 rfl rfl) rfl rfl (Nat.le_of_ble_eq_true rfl) ⟨by decide, by decide⟩ ⟨by decide, by decide⟩ dX3_takesE_312 (fun C22 eC22 => ?_)
    have hw := hw C22 eC22
    refine g_aload_n ok 0 dX3_takesE_315 rfl ?_
    refine g_get ok 1 rfl rfl in_X3 21 (by decide) q1380 rfl dX3_takesE_316 ?_
    refine g_aload_n ok 0 dX3_takesE_319 rfl ?_
    refine g_get ok 1 rfl rfl in_X3 22 (by decide) q1381 rfl dX3_takesE_320 ?_
    refine g_iload ok 3 dX3_takesE_323 rfl ?_
    obtain ⟨hg, hw⟩ := hw
    refine g_iast ok 47 rfl hg _ rfl dX3_takesE_325 (fun C23 eC23 => ?_)
    have hw := hw C23 eC23
    refine g_aload_n ok 0 dX3_takesE_326 rfl ?_
    refine g_dup ok dX3_takesE_327 rfl ?_
    refine g_get ok 1 rfl rfl in_X3 22 (by decide) q1381 rfl dX3_takesE_328 ?_
    refine g_iconst (v := 1) ok dX3_takesE_331 (by decide) ?_
    refine g_iadd ok dX3_takesE_332 ?_
    refine g_putI ok 1 rfl rfl in_X3 tyX3 tyX3_ok nmX3 22 (by decide) q1381 rfl rfl rfl (putV_m rfl) dX3_takesE_333 (fun C24 eC24 => ?_)
    have hw := hw C24 eC24
    refine g_iconst (v := 1) ok dX3_takesE_336 (by decide) ?_
    refine g_istore_n0 ok [(3, .int 1), (0, .ref (ad w 1)), (1, .int i1), (2, .int i2), (4, .int i4)] dX3_takesE_337 (by decide) rfl ?_
    refine g_aload_n ok 1 dX3_takesE_338 rfl ?_
    obtain ⟨hp, hw⟩ := hw
    refine g_callVVR ok [] cf_X3_go q1724 (mc_X3_go ok.wo (xL x) C24 hp) (recvF ok 1 rfl rfl) rfl rfl (Nat.le_of_ble_eq_true rfl) ⟨by decide, by decide⟩ ⟨by decide, by decide⟩ dX3_takesE_339 (fun C25 eC25 => ?_)
    have hw := hw C25 eC25
    refine g_goto (tgt := 28) ok dX3_takesE_342 (by decide) ?_
    refine g_sub [1, 2, 3, 0] [(0, .ref (ad w 1)), (1, .int i1), (2, .int i2), (3, .int 1)] rfl ?_
    exact hR28 C25 i1 i2 1 hw
  have hw := hr
  refine g_icmp_eq (tgt := 300) ok dX3_takesE_279 (by decide) (fun c13 => ?_) (fun c13 => ?_)
  · have hw := hw.1 c13
    refine g_iconst (v := 1) ok dX3_takesE_300 (by decide) ?_
    refine g_goto (tgt := 305) ok dX3_takesE_301 (by decide) ?_
    exact (kj18 _ (by simp only [if_pos c13]))
  · have hw := hw.2 c13
    refine g_iload ok 3 dX3_takesE_282 rfl ?_
    refine g_callSI ok [.int i4] cf_X3_rank q1756 (mc_X3_rank ok.wo (xL x) C i4) rfl rfl (Nat.le_of_ble_eq_true rfl) ⟨by decide, by decide⟩ ⟨by decide, by decide⟩ dX3_takesE_284 ?_
    refine g_iconst (v := 3) ok dX3_takesE_287 (by decide) ?_
    obtain ⟨hr, hw⟩ := hw
    have kj17 : G w x 5 0 0 (QM w x (fun v C1 => ∃ r : Int32, v = some (.int r) ∧ Post r C1) 0 0) C 305 [(0, .ref (ad w 1)), (1, .int i1), (2, .int i2), (4, .int i4)] [.int (if (v_X3_rank i4) ≤ 3 then (0 : Int32) else (if (C.2.1 48 (Int32.toNatClampNeg i1)) = 0 then (0 : Int32) else 1)), .int i1, .ref (ad w 48)] := by
      exact (kj18 _ (by simp only [if_neg c13]))
    have hw := hr
    refine g_icmp_le (tgt := 304) ok dX3_takesE_288 (by decide) (fun c14 => ?_) (fun c14 => ?_)
    · have hw := hw.1 c14
      refine g_iconst (v := 0) ok dX3_takesE_304 (by decide) ?_
      simp only [if_pos c14] at kj17
      exact kj17
    · have hw := hw.2 c14
      refine g_aload_n ok 0 dX3_takesE_291 rfl ?_
      refine g_get ok 1 rfl rfl in_X3 23 (by decide) q1382 rfl dX3_takesE_292 ?_
      refine g_iload_n ok 1 dX3_takesE_295 rfl ?_
      obtain ⟨hg, hw⟩ := hw
      refine g_zald ok 48 rfl hg _ rfl dX3_takesE_296 ?_
      have kj16 : G w x 5 0 0 (QM w x (fun v C1 => ∃ r : Int32, v = some (.int r) ∧ Post r C1) 0 0) C 305 [(0, .ref (ad w 1)), (1, .int i1), (2, .int i2), (4, .int i4)] [.int (if (C.2.1 48 (Int32.toNatClampNeg i1)) = 0 then (0 : Int32) else 1), .int i1, .ref (ad w 48)] := by
        simp only [if_neg c14] at kj17
        exact kj17
      refine g_if_eq (tgt := 304) ok dX3_takesE_297 (by decide) (fun c15 => ?_) (fun c15 => ?_)
      · refine g_iconst (v := 0) ok dX3_takesE_304 (by decide) ?_
        simp only [if_pos c15] at kj16
        exact kj16
      · refine g_iconst (v := 1) ok dX3_takesE_300 (by decide) ?_
        refine g_goto (tgt := 305) ok dX3_takesE_301 (by decide) ?_
        simp only [if_neg c15] at kj16
        exact kj16
set_option maxHeartbeats 4000000 in
set_option maxRecDepth 100000 in
theorem gw_X3_takesE_j237 {w : WD} {x : Cx} (ok : Ok w x cX3_takesE 5 yX3_takesE.cls (some .boolean) (rmL 3 0 0)) {Post : Int32 → CS → Prop} {R28 : CS → Int32 → Int32 → Int32 → Prop} (hR28 : ∀ C (i1 : Int32) (i2 : Int32) (i3 : Int32), R28 C i1 i2 i3 → G w x 5 0 0 (QM w x (fun v C1 => ∃ r : Int32, v = some (.int r) ∧ Post r C1) 0 0) C 28 [(0, .ref (ad w 1)), (1, .int i1), (2, .int i2), (3, .int i3)] []) : ∀ (C : CS) (i1 : Int32) (i2 : Int32), wp_X3_takesE_j237 Post R28 C i1 i2 → G w x 5 0 0 (QM w x (fun v C1 => ∃ r : Int32, v = some (.int r) ∧ Post r C1) 0 0) C 237 [(0, .ref (ad w 1)), (1, .int i1), (2, .int i2)] [] := by
  intro C i1 i2 hw
  unfold wp_X3_takesE_j237 at hw
  refine g_aload_n ok 0 dX3_takesE_237 rfl ?_
  refine g_callVI ok [] cf_X3_signHere q1763 (mc_X3_signHere ok.wo (xL x) C) (recvF ok 1 rfl rfl) rfl rfl (Nat.le_of_ble_eq_true rfl) ⟨by decide, by decide⟩ ⟨by decide, by decide⟩ dX3_takesE_238 ?_
  refine g_nmI (fun r8 er8 => ?_)
  have hw := hw r8 er8
  refine g_istore0 ok [(4, .int r8), (0, .ref (ad w 1)), (1, .int i1), (2, .int i2)] dX3_takesE_241 (by decide) rfl ?_
  refine g_iload ok 0 dX3_takesE_243 rfl ?_
  refine g_if_eq (tgt := 266) ok dX3_takesE_245 (by decide) (fun c9 => ?_) (fun c9 => ?_)
  · have hw := hw.1 c9
    refine g_iconst (v := 0) ok dX3_takesE_266 (by decide) ?_
    exact g_zret ok dX3_takesE_267 (Or.inl rfl) ⟨_, rfl, hw⟩
  · have hw := hw.2 c9
    refine g_iload ok 0 dX3_takesE_248 rfl ?_
    refine g_callSI ok [.int r8] cf_X3_rank q1756 (mc_X3_rank ok.wo (xL x) C r8) rfl rfl (Nat.le_of_ble_eq_true rfl) ⟨by decide, by decide⟩ ⟨by decide, by decide⟩ dX3_takesE_250 ?_
    refine g_nmI (fun r10 er10 => ?_)
    have hw := hw r10 er10
    refine g_iconst (v := 3) ok dX3_takesE_253 (by decide) ?_
    refine g_icmp_ne (tgt := 268) ok dX3_takesE_254 (by decide) (fun c11 => ?_) (fun c11 => ?_)
    · have hw := hw.2 c11
      refine g_sub [1, 2, 3, 0] [(0, .ref (ad w 1)), (1, .int i1), (2, .int i2), (4, .int r8)] rfl ?_
      exact gw_X3_takesE_j268 ok hR28 C i1 i2 r8 hw
    · have hw := hw.1 c11
      refine g_aload_n ok 1 dX3_takesE_257 rfl ?_
      refine g_get ok 1 rfl rfl in_X3 23 (by decide) q1382 rfl dX3_takesE_258 ?_
      refine g_iload_n ok 2 dX3_takesE_261 rfl ?_
      obtain ⟨hg, hw⟩ := hw
      refine g_zald ok 48 rfl hg _ rfl dX3_takesE_262 ?_
      refine g_if_eq (tgt := 268) ok dX3_takesE_263 (by decide) (fun c26 => ?_) (fun c26 => ?_)
      · have hw := hw.1 c26
        refine g_sub [1, 2, 3, 0] [(0, .ref (ad w 1)), (1, .int i1), (2, .int i2), (4, .int r8)] rfl ?_
        exact gw_X3_takesE_j268 ok hR28 C i1 i2 r8 hw
      · have hw := hw.2 c26
        refine g_iconst (v := 0) ok dX3_takesE_266 (by decide) ?_
        exact g_zret ok dX3_takesE_267 (Or.inl rfl) ⟨_, rfl, hw⟩
set_option maxHeartbeats 4000000 in
set_option maxRecDepth 100000 in
theorem gw_X3_takesE_j172 {w : WD} {x : Cx} (ok : Ok w x cX3_takesE 5 yX3_takesE.cls (some .boolean) (rmL 3 0 0)) {Post : Int32 → CS → Prop} {R28 : CS → Int32 → Int32 → Int32 → Prop} (hR28 : ∀ C (i1 : Int32) (i2 : Int32) (i3 : Int32), R28 C i1 i2 i3 → G w x 5 0 0 (QM w x (fun v C1 => ∃ r : Int32, v = some (.int r) ∧ Post r C1) 0 0) C 28 [(0, .ref (ad w 1)), (1, .int i1), (2, .int i2), (3, .int i3)] []) : ∀ (C : CS) (i1 : Int32) (i3 : Int32), wp_X3_takesE_j172 Post R28 C i1 i3 → G w x 5 0 0 (QM w x (fun v C1 => ∃ r : Int32, v = some (.int r) ∧ Post r C1) 0 0) C 172 [(0, .ref (ad w 1)), (1, .int i1), (3, .int i3)] [] := by
  intro C i1 i3 hw
  unfold wp_X3_takesE_j172 at hw
  refine g_aload_n ok 0 dX3_takesE_172 rfl ?_
  obtain ⟨hp, hw⟩ := hw
  refine g_callVI ok [] cf_X3_notsOpen q1759 (mc_X3_notsOpen ok.wo (xL x) C hp) (recvF ok 1 rfl rfl) rfl rfl (Nat.le_of_ble_eq_true rfl) ⟨by decide, by decide⟩ ⟨by decide, by decide⟩ dX3_takesE_173 ?_
  refine g_nmI (fun r40 er40 => ?_)
  have hw := hw r40 er40
  refine g_istore_n0 ok [(2, .int r40), (0, .ref (ad w 1)), (1, .int i1), (3, .int i3)] dX3_takesE_176 (by decide) rfl ?_
  refine g_goto (tgt := 28) ok dX3_takesE_177 (by decide) ?_
  refine g_sub [1, 2, 0, 3] [(0, .ref (ad w 1)), (1, .int i1), (2, .int r40), (3, .int i3)] rfl ?_
  exact hR28 C i1 r40 i3 hw
set_option maxHeartbeats 4000000 in
set_option maxRecDepth 100000 in
theorem gw_X3_takesE_j158 {w : WD} {x : Cx} (ok : Ok w x cX3_takesE 5 yX3_takesE.cls (some .boolean) (rmL 3 0 0)) {Post : Int32 → CS → Prop} {R28 : CS → Int32 → Int32 → Int32 → Prop} (hR28 : ∀ C (i1 : Int32) (i2 : Int32) (i3 : Int32), R28 C i1 i2 i3 → G w x 5 0 0 (QM w x (fun v C1 => ∃ r : Int32, v = some (.int r) ∧ Post r C1) 0 0) C 28 [(0, .ref (ad w 1)), (1, .int i1), (2, .int i2), (3, .int i3)] []) : ∀ (C : CS) (i1 : Int32), wp_X3_takesE_j158 Post R28 C i1 → G w x 5 0 0 (QM w x (fun v C1 => ∃ r : Int32, v = some (.int r) ∧ Post r C1) 0 0) C 158 [(0, .ref (ad w 1)), (1, .int i1)] [] := by
  intro C i1 hw
  unfold wp_X3_takesE_j158 at hw
  refine g_aload_n ok 0 dX3_takesE_158 rfl ?_
  obtain ⟨hp, hw⟩ := hw
  refine g_callVIR ok [] cf_X3_takesPart q1744 (mc_X3_takesPart ok.wo (xL x) C hp) (recvF ok 1 rfl rfl) rfl rfl (Nat.le_of_ble_eq_true rfl) ⟨by decide, by decide⟩ ⟨by decide, by decide⟩ dX3_takesE_159 (fun C37 eC37 => ?_)
  refine g_nmI (fun r38 er38 => ?_)
  have hw := hw r38 er38 C37 eC37
  refine g_if_eq (tgt := 170) ok dX3_takesE_162 (by decide) (fun c39 => ?_) (fun c39 => ?_)
  · have hw := hw.1 c39
    refine g_iconst (v := 0) ok dX3_takesE_170 (by decide) ?_
    exact g_zret ok dX3_takesE_171 (Or.inl rfl) ⟨_, rfl, hw⟩
  · have hw := hw.2 c39
    refine g_iconst (v := 0) ok dX3_takesE_165 (by decide) ?_
    refine g_istore_n0 ok [(3, .int 0), (0, .ref (ad w 1)), (1, .int i1)] dX3_takesE_166 (by decide) rfl ?_
    refine g_goto (tgt := 172) ok dX3_takesE_167 (by decide) ?_
    refine g_sub [1, 2, 0] [(0, .ref (ad w 1)), (1, .int i1), (3, .int 0)] rfl ?_
    exact gw_X3_takesE_j172 ok hR28 C37 i1 0 hw
set_option maxHeartbeats 4000000 in
set_option maxRecDepth 100000 in
theorem gw_X3_takesE_j97 {w : WD} {x : Cx} (ok : Ok w x cX3_takesE 5 yX3_takesE.cls (some .boolean) (rmL 3 0 0)) {Post : Int32 → CS → Prop} {R28 : CS → Int32 → Int32 → Int32 → Prop} (hR28 : ∀ C (i1 : Int32) (i2 : Int32) (i3 : Int32), R28 C i1 i2 i3 → G w x 5 0 0 (QM w x (fun v C1 => ∃ r : Int32, v = some (.int r) ∧ Post r C1) 0 0) C 28 [(0, .ref (ad w 1)), (1, .int i1), (2, .int i2), (3, .int i3)] []) : ∀ (C : CS) (i1 : Int32) (i3 : Int32), wp_X3_takesE_j97 Post R28 C i1 i3 → G w x 5 0 0 (QM w x (fun v C1 => ∃ r : Int32, v = some (.int r) ∧ Post r C1) 0 0) C 97 [(0, .ref (ad w 1)), (1, .int i1), (3, .int i3)] [] := by
  intro C i1 i3 hw
  unfold wp_X3_takesE_j97 at hw
  refine g_aload_n ok 0 dX3_takesE_97 rfl ?_
  refine g_get ok 1 rfl rfl in_X3 12 (by decide) q1371 rfl dX3_takesE_98 ?_
  refine g_iconst (v := 3) ok dX3_takesE_101 (by decide) ?_
  refine g_icmp_ne (tgt := 158) ok dX3_takesE_102 (by decide) (fun c36 => ?_) (fun c36 => ?_)
  · have hw := hw.2 c36
    refine g_sub [0, 1] [(0, .ref (ad w 1)), (1, .int i1)] rfl ?_
    exact gw_X3_takesE_j158 ok hR28 C i1 hw
  · have hw := hw.1 c36
    refine g_aload_n ok 0 dX3_takesE_105 rfl ?_
    refine g_get ok 1 rfl rfl in_X3 13 (by decide) q1372 rfl dX3_takesE_106 ?_
    refine g_bipush (v := 40) ok dX3_takesE_109 (by decide) ?_
    refine g_icmp_ne (tgt := 158) ok dX3_takesE_111 (by decide) (fun c41 => ?_) (fun c41 => ?_)
    · have hw := hw.2 c41
      refine g_sub [0, 1] [(0, .ref (ad w 1)), (1, .int i1)] rfl ?_
      exact gw_X3_takesE_j158 ok hR28 C i1 hw
    · have hw := hw.1 c41
      refine g_iload_n ok 1 dX3_takesE_114 rfl ?_
      refine g_bipush (v := 8) ok dX3_takesE_115 (by decide) ?_
      refine g_icmp_ge (tgt := 158) ok dX3_takesE_117 (by decide) (fun c42 => ?_) (fun c42 => ?_)
      · have hw := hw.1 c42
        refine g_sub [0, 1] [(0, .ref (ad w 1)), (1, .int i1)] rfl ?_
        exact gw_X3_takesE_j158 ok hR28 C i1 hw
      · have hw := hw.2 c42
        refine g_aload_n ok 0 dX3_takesE_120 rfl ?_
        refine g_get ok 1 rfl rfl in_X3 21 (by decide) q1380 rfl dX3_takesE_121 ?_
        refine g_aload_n ok 0 dX3_takesE_124 rfl ?_
        refine g_get ok 1 rfl rfl in_X3 22 (by decide) q1381 rfl dX3_takesE_125 ?_
        refine g_bipush (v := -11) ok dX3_takesE_128 (by decide) ?_
        obtain ⟨hg, hw⟩ := hw
        refine g_iast ok 47 rfl hg _ rfl dX3_takesE_130 (fun C43 eC43 => ?_)
        have hw := hw C43 eC43
        refine g_aload_n ok 0 dX3_takesE_131 rfl ?_
        refine g_dup ok dX3_takesE_132 rfl ?_
        refine g_get ok 1 rfl rfl in_X3 22 (by decide) q1381 rfl dX3_takesE_133 ?_
        refine g_iconst (v := 1) ok dX3_takesE_136 (by decide) ?_
        refine g_iadd ok dX3_takesE_137 ?_
        refine g_putI ok 1 rfl rfl in_X3 tyX3 tyX3_ok nmX3 22 (by decide) q1381 rfl rfl rfl (putV_m rfl) dX3_takesE_138 (fun C44 eC44 => ?_)
        have hw := hw C44 eC44
        refine g_iinc ok 1 (fun z => [(1, .int z), (0, .ref (ad w 1)), (3, .int i3)]) dX3_takesE_141 rfl (by decide) (fun _ => rfl) (fun x45 ex45 => ?_)
        have hw := hw x45 ex45
        refine g_aload_n ok 1 dX3_takesE_144 rfl ?_
        refine g_get ok 1 rfl rfl in_X3 23 (by decide) q1382 rfl dX3_takesE_145 ?_
        refine g_iload_n ok 0 dX3_takesE_148 rfl ?_
        refine g_iconst (v := 0) ok dX3_takesE_149 (by decide) ?_
        obtain ⟨hg, hw⟩ := hw
        refine g_zast ok 48 rfl hg _ rfl (nb_of (Or.inl rfl)) dX3_takesE_150 (fun C46 eC46 => ?_)
        have hw := hw C46 eC46
        refine g_aload_n ok 1 dX3_takesE_151 rfl ?_
        obtain ⟨hp, hw⟩ := hw
        refine g_callVVR ok [] cf_X3_go q1724 (mc_X3_go ok.wo (xL x) C46 hp) (recvF ok 1 rfl rfl) rfl rfl (Nat.le_of_ble_eq_true rfl) ⟨by decide, by decide⟩ ⟨by decide, by decide⟩ dX3_takesE_152 (fun C47 eC47 => ?_)
        have hw := hw C47 eC47
        refine g_goto (tgt := 172) ok dX3_takesE_155 (by decide) ?_
        refine g_sub [1, 0, 2] [(0, .ref (ad w 1)), (1, .int x45), (3, .int i3)] rfl ?_
        exact gw_X3_takesE_j172 ok hR28 C47 x45 i3 hw
set_option maxHeartbeats 4000000 in
set_option maxRecDepth 100000 in
theorem gw_X3_takesE_j39 {w : WD} {x : Cx} (ok : Ok w x cX3_takesE 5 yX3_takesE.cls (some .boolean) (rmL 3 0 0)) {Post : Int32 → CS → Prop} {R28 : CS → Int32 → Int32 → Int32 → Prop} (hR28 : ∀ C (i1 : Int32) (i2 : Int32) (i3 : Int32), R28 C i1 i2 i3 → G w x 5 0 0 (QM w x (fun v C1 => ∃ r : Int32, v = some (.int r) ∧ Post r C1) 0 0) C 28 [(0, .ref (ad w 1)), (1, .int i1), (2, .int i2), (3, .int i3)] []) : ∀ (C : CS) (i1 : Int32) (i2 : Int32) (i3 : Int32), wp_X3_takesE_j39 Post R28 C i1 i2 i3 → G w x 5 0 0 (QM w x (fun v C1 => ∃ r : Int32, v = some (.int r) ∧ Post r C1) 0 0) C 39 [(0, .ref (ad w 1)), (1, .int i1), (2, .int i2), (3, .int i3)] [] := by
  intro C i1 i2 i3 hw
  unfold wp_X3_takesE_j39 at hw
  refine g_iload_n ok 3 dX3_takesE_39 rfl ?_
  refine g_if_eq (tgt := 180) ok dX3_takesE_40 (by decide) (fun c6 => ?_) (fun c6 => ?_)
  · have hw := hw.1 c6
    refine g_aload_n ok 0 dX3_takesE_180 rfl ?_
    refine g_get ok 1 rfl rfl in_X3 12 (by decide) q1371 rfl dX3_takesE_181 ?_
    refine g_iconst (v := 3) ok dX3_takesE_184 (by decide) ?_
    refine g_icmp_ne (tgt := 237) ok dX3_takesE_185 (by decide) (fun c7 => ?_) (fun c7 => ?_)
    · have hw := hw.2 c7
      refine g_sub [0, 1, 2] [(0, .ref (ad w 1)), (1, .int i1), (2, .int i2)] rfl ?_
      exact gw_X3_takesE_j237 ok hR28 C i1 i2 hw
    · have hw := hw.1 c7
      refine g_aload_n ok 0 dX3_takesE_188 rfl ?_
      refine g_get ok 1 rfl rfl in_X3 13 (by decide) q1372 rfl dX3_takesE_189 ?_
      refine g_bipush (v := 41) ok dX3_takesE_192 (by decide) ?_
      refine g_icmp_ne (tgt := 237) ok dX3_takesE_194 (by decide) (fun c27 => ?_) (fun c27 => ?_)
      · have hw := hw.2 c27
        refine g_sub [0, 1, 2] [(0, .ref (ad w 1)), (1, .int i1), (2, .int i2)] rfl ?_
        exact gw_X3_takesE_j237 ok hR28 C i1 i2 hw
      · have hw := hw.1 c27
        refine g_iload_n ok 1 dX3_takesE_197 rfl ?_
        refine g_if_le (tgt := 237) ok dX3_takesE_198 (by decide) (fun c28 => ?_) (fun c28 => ?_)
        · have hw := hw.1 c28
          refine g_sub [0, 1, 2] [(0, .ref (ad w 1)), (1, .int i1), (2, .int i2)] rfl ?_
          exact gw_X3_takesE_j237 ok hR28 C i1 i2 hw
        · have hw := hw.2 c28
          refine g_aload_n ok 0 dX3_takesE_201 rfl ?_
          refine g_iconst (v := 0) ok dX3_takesE_202 (by decide) ?_
          obtain ⟨hp, hw⟩ := hw
          refine g_callVVR ok [.int 0] cf_X3_settle q1752 (mc_X3_settle ok.wo (xL x) C 0 hp) (recvF ok 1 rfl rfl) rfl rfl (Nat.le_of_ble_eq_true rfl) ⟨by decide, by decide⟩ ⟨by decide, by decide⟩ dX3_takesE_203 (fun C29 eC29 => ?_)
          have hw := hw C29 eC29
          refine g_aload_n ok 0 dX3_takesE_206 rfl ?_
          refine g_dup ok dX3_takesE_207 rfl ?_
          refine g_get ok 1 rfl rfl in_X3 22 (by decide) q1381 rfl dX3_takesE_208 ?_
          refine g_iconst (v := 1) ok dX3_takesE_211 (by decide) ?_
          refine g_isub ok dX3_takesE_212 ?_
          refine g_putI ok 1 rfl rfl in_X3 tyX3 tyX3_ok nmX3 22 (by decide) q1381 rfl rfl rfl (putV_m rfl) dX3_takesE_213 (fun C30 eC30 => ?_)
          have hw := hw C30 eC30
          refine g_iinc ok 1 (fun z => [(1, .int z), (0, .ref (ad w 1)), (2, .int i2), (3, .int i3)]) dX3_takesE_216 rfl (by decide) (fun _ => rfl) (fun x31 ex31 => ?_)
          have hw := hw x31 ex31
          refine g_aload_n ok 1 dX3_takesE_219 rfl ?_
          refine g_bipush (v := 6) ok dX3_takesE_220 (by decide) ?_
          obtain ⟨hp, hw⟩ := hw
          refine g_callVVR ok [.int 6] cf_X3_settle q1752 (mc_X3_settle ok.wo (xL x) C30 6 hp) (recvF ok 1 rfl rfl) rfl rfl (Nat.le_of_ble_eq_true rfl) ⟨by decide, by decide⟩ ⟨by decide, by decide⟩ dX3_takesE_222 (fun C32 eC32 => ?_)
          have hw := hw C32 eC32
          refine g_aload_n ok 1 dX3_takesE_225 rfl ?_
          obtain ⟨hp, hw⟩ := hw
          refine g_callVI ok [] cf_X3_notsOpen q1759 (mc_X3_notsOpen ok.wo (xL x) C32 hp) (recvF ok 1 rfl rfl) rfl rfl (Nat.le_of_ble_eq_true rfl) ⟨by decide, by decide⟩ ⟨by decide, by decide⟩ dX3_takesE_226 ?_
          refine g_nmI (fun r33 er33 => ?_)
          have hw := hw r33 er33
          refine g_istore_n0 ok [(2, .int r33), (1, .int x31), (0, .ref (ad w 1)), (3, .int i3)] dX3_takesE_229 (by decide) rfl ?_
          refine g_aload_n ok 2 dX3_takesE_230 rfl ?_
          obtain ⟨hp, hw⟩ := hw
          refine g_callVVR ok [] cf_X3_go q1724 (mc_X3_go ok.wo (xL x) C32 hp) (recvF ok 1 rfl rfl) rfl rfl (Nat.le_of_ble_eq_true rfl) ⟨by decide, by decide⟩ ⟨by decide, by decide⟩ dX3_takesE_231 (fun C34 eC34 => ?_)
          have hw := hw C34 eC34
          refine g_goto (tgt := 28) ok dX3_takesE_234 (by decide) ?_
          refine g_sub [2, 1, 0, 3] [(0, .ref (ad w 1)), (1, .int x31), (2, .int r33), (3, .int i3)] rfl ?_
          exact hR28 C34 x31 r33 i3 hw
  · have hw := hw.2 c6
    refine g_aload_n ok 0 dX3_takesE_43 rfl ?_
    refine g_get ok 1 rfl rfl in_X3 12 (by decide) q1371 rfl dX3_takesE_44 ?_
    refine g_iconst (v := 3) ok dX3_takesE_47 (by decide) ?_
    refine g_icmp_ne (tgt := 97) ok dX3_takesE_48 (by decide) (fun c35 => ?_) (fun c35 => ?_)
    · have hw := hw.2 c35
      refine g_sub [0, 1, 3] [(0, .ref (ad w 1)), (1, .int i1), (3, .int i3)] rfl ?_
      exact gw_X3_takesE_j97 ok hR28 C i1 i3 hw
    · have hw := hw.1 c35
      refine g_aload_n ok 0 dX3_takesE_51 rfl ?_
      refine g_get ok 1 rfl rfl in_X3 13 (by decide) q1372 rfl dX3_takesE_52 ?_
      refine g_bipush (v := 33) ok dX3_takesE_55 (by decide) ?_
      refine g_icmp_ne (tgt := 97) ok dX3_takesE_57 (by decide) (fun c48 => ?_) (fun c48 => ?_)
      · have hw := hw.2 c48
        refine g_sub [0, 1, 3] [(0, .ref (ad w 1)), (1, .int i1), (3, .int i3)] rfl ?_
        exact gw_X3_takesE_j97 ok hR28 C i1 i3 hw
      · have hw := hw.1 c48
        refine g_iload_n ok 2 dX3_takesE_60 rfl ?_
        refine g_bipush (v := 8) ok dX3_takesE_61 (by decide) ?_
        refine g_icmp_ge (tgt := 97) ok dX3_takesE_63 (by decide) (fun c49 => ?_) (fun c49 => ?_)
        · have hw := hw.1 c49
          refine g_sub [0, 1, 3] [(0, .ref (ad w 1)), (1, .int i1), (3, .int i3)] rfl ?_
          exact gw_X3_takesE_j97 ok hR28 C i1 i3 hw
        · have hw := hw.2 c49
          refine g_aload_n ok 0 dX3_takesE_66 rfl ?_
          refine g_get ok 1 rfl rfl in_X3 21 (by decide) q1380 rfl dX3_takesE_67 ?_
          refine g_aload_n ok 0 dX3_takesE_70 rfl ?_
          refine g_get ok 1 rfl rfl in_X3 22 (by decide) q1381 rfl dX3_takesE_71 ?_
          refine g_bipush (v := -10) ok dX3_takesE_74 (by decide) ?_
          obtain ⟨hg, hw⟩ := hw
          refine g_iast ok 47 rfl hg _ rfl dX3_takesE_76 (fun C50 eC50 => ?_)
          have hw := hw C50 eC50
          refine g_aload_n ok 0 dX3_takesE_77 rfl ?_
          refine g_dup ok dX3_takesE_78 rfl ?_
          refine g_get ok 1 rfl rfl in_X3 22 (by decide) q1381 rfl dX3_takesE_79 ?_
          refine g_iconst (v := 1) ok dX3_takesE_82 (by decide) ?_
          refine g_iadd ok dX3_takesE_83 ?_
          refine g_putI ok 1 rfl rfl in_X3 tyX3 tyX3_ok nmX3 22 (by decide) q1381 rfl rfl rfl (putV_m rfl) dX3_takesE_84 (fun C51 eC51 => ?_)
          have hw := hw C51 eC51
          refine g_iinc ok 2 (fun z => [(2, .int z), (0, .ref (ad w 1)), (1, .int i1), (3, .int i3)]) dX3_takesE_87 rfl (by decide) (fun _ => rfl) (fun x52 ex52 => ?_)
          have hw := hw x52 ex52
          refine g_aload_n ok 1 dX3_takesE_90 rfl ?_
          obtain ⟨hp, hw⟩ := hw
          refine g_callVVR ok [] cf_X3_go q1724 (mc_X3_go ok.wo (xL x) C51 hp) (recvF ok 1 rfl rfl) rfl rfl (Nat.le_of_ble_eq_true rfl) ⟨by decide, by decide⟩ ⟨by decide, by decide⟩ dX3_takesE_91 (fun C53 eC53 => ?_)
          have hw := hw C53 eC53
          refine g_goto (tgt := 172) ok dX3_takesE_94 (by decide) ?_
          refine g_sub [1, 2, 3] [(0, .ref (ad w 1)), (1, .int i1), (3, .int i3)] rfl ?_
          exact gw_X3_takesE_j172 ok hR28 C53 i1 i3 hw
set_option maxHeartbeats 4000000 in
set_option maxRecDepth 100000 in
theorem gw_X3_takesE_l28 {w : WD} {x : Cx} (ok : Ok w x cX3_takesE 5 yX3_takesE.cls (some .boolean) (rmL 3 0 0)) {Post : Int32 → CS → Prop} : ∀ (n : Nat) (C : CS) (i1 : Int32) (i2 : Int32) (i3 : Int32), wp_X3_takesE_l28 Post  n C i1 i2 i3 → G w x 5 0 0 (QM w x (fun v C1 => ∃ r : Int32, v = some (.int r) ∧ Post r C1) 0 0) C 28 [(0, .ref (ad w 1)), (1, .int i1), (2, .int i2), (3, .int i3)] [] := by
  intro n
  induction n with
  | zero => intro C i1 i2 i3 hw; exact hw.elim
  | succ n ih =>
    intro C i1 i2 i3 hw
    unfold wp_X3_takesE_l28 at hw
    refine g_iload_n ok 3 dX3_takesE_28 rfl ?_
    refine g_if_ne (tgt := 39) ok dX3_takesE_29 (by decide) (fun c5 => ?_) (fun c5 => ?_)
    · have hw := hw.2 c5
      exact gw_X3_takesE_j39 ok (fun C i1 i2 i3 hw => ih C i1 i2 i3 hw) C i1 i2 i3 hw
    · have hw := hw.1 c5
      refine g_aload_n ok 0 dX3_takesE_32 rfl ?_
      refine g_get ok 1 rfl rfl in_X3 12 (by decide) q1371 rfl dX3_takesE_33 ?_
      refine g_if_eq (tgt := 345) ok dX3_takesE_36 (by decide) (fun c54 => ?_) (fun c54 => ?_)
      · have hw := hw.1 c54
        refine g_aload_n ok 0 dX3_takesE_345 rfl ?_
        refine g_iconst (v := 0) ok dX3_takesE_346 (by decide) ?_
        obtain ⟨hp, hw⟩ := hw
        refine g_callVVR ok [.int 0] cf_X3_settle q1752 (mc_X3_settle ok.wo (xL x) C 0 hp) (recvF ok 1 rfl rfl) rfl rfl (Nat.le_of_ble_eq_true rfl) ⟨by decide, by decide⟩ ⟨by decide, by decide⟩ dX3_takesE_347 (fun C55 eC55 => ?_)
        have hw := hw C55 eC55
        refine g_iload_n ok 1 dX3_takesE_350 rfl ?_
        refine g_if_ne (tgt := 358) ok dX3_takesE_351 (by decide) (fun c56 => ?_) (fun c56 => ?_)
        · have hw := hw.2 c56
          refine g_iconst (v := 0) ok dX3_takesE_358 (by decide) ?_
          exact g_zret ok dX3_takesE_359 (Or.inl rfl) ⟨_, rfl, hw⟩
        · have hw := hw.1 c56
          refine g_iconst (v := 1) ok dX3_takesE_354 (by decide) ?_
          refine g_goto (tgt := 359) ok dX3_takesE_355 (by decide) ?_
          exact g_zret ok dX3_takesE_359 (Or.inr rfl) ⟨_, rfl, hw⟩
      · have hw := hw.2 c54
        exact gw_X3_takesE_j39 ok (fun C i1 i2 i3 hw => ih C i1 i2 i3 hw) C i1 i2 i3 hw
set_option maxHeartbeats 4000000 in
set_option maxRecDepth 100000 in
theorem gw_X3_takesE {w : WD} (wk : wOk w) (l : Launch) (C : CS)  {Post : Int32 → CS → Prop} (hw : wp_X3_takesE Post C ) : MC w l yX3_takesE cX3_takesE 5 (some .boolean) 3 0 0 [.ref (ad w 1)] C (fun v C1 => ∃ r : Int32, v = some (.int r) ∧ Post r C1) := by
  unfold wp_X3_takesE at hw
  refine MC.of wk (by decide) (Nat.le_of_ble_eq_true rfl) (fun x hx ok => ?_)
  subst hx
  show G w x 5 0 0 (QM w x _ 0 0) C 0 [(0, .ref (ad w 1))] []
  refine g_iconst (v := 0) ok dX3_takesE_0 (by decide) ?_
  refine g_istore_n0 ok [(1, .int 0), (0, .ref (ad w 1))] dX3_takesE_1 (by decide) rfl ?_
  refine g_iconst (v := 0) ok dX3_takesE_2 (by decide) ?_
  refine g_istore_n0 ok [(2, .int 0), (1, .int 0), (0, .ref (ad w 1))] dX3_takesE_3 (by decide) rfl ?_
  refine g_iconst (v := 1) ok dX3_takesE_4 (by decide) ?_
  refine g_istore_n0 ok [(3, .int 1), (2, .int 0), (1, .int 0), (0, .ref (ad w 1))] dX3_takesE_5 (by decide) rfl ?_
  refine g_aload_n ok 3 dX3_takesE_6 rfl ?_
  refine g_iconst (v := 0) ok dX3_takesE_7 (by decide) ?_
  refine g_putI ok 1 rfl rfl in_X3 tyX3 tyX3_ok nmX3 19 (by decide) q1378 rfl rfl rfl (putV_m rfl) dX3_takesE_8 (fun C1 eC1 => ?_)
  have hw := hw C1 eC1
  refine g_aload_n ok 3 dX3_takesE_11 rfl ?_
  refine g_iconst (v := 0) ok dX3_takesE_12 (by decide) ?_
  refine g_putI ok 1 rfl rfl in_X3 tyX3 tyX3_ok nmX3 20 (by decide) q1379 rfl rfl rfl (putV_m rfl) dX3_takesE_13 (fun C2 eC2 => ?_)
  have hw := hw C2 eC2
  refine g_aload_n ok 3 dX3_takesE_16 rfl ?_
  refine g_iconst (v := 0) ok dX3_takesE_17 (by decide) ?_
  refine g_putI ok 1 rfl rfl in_X3 tyX3 tyX3_ok nmX3 22 (by decide) q1381 rfl rfl rfl (putV_m rfl) dX3_takesE_18 (fun C3 eC3 => ?_)
  have hw := hw C3 eC3
  refine g_aload_n ok 3 dX3_takesE_21 rfl ?_
  refine g_get ok 1 rfl rfl in_X3 23 (by decide) q1382 rfl dX3_takesE_22 ?_
  refine g_iconst (v := 0) ok dX3_takesE_25 (by decide) ?_
  refine g_iconst (v := 0) ok dX3_takesE_26 (by decide) ?_
  refine g_zast ok 48 rfl (by unfold vp_in; decide) 0 (by decide) (nb_of (Or.inl rfl)) dX3_takesE_27 (fun C4 eC4 => ?_)
  have hw := hw C4 eC4
  refine g_sub [3, 2, 1, 0] [(0, .ref (ad w 1)), (1, .int 0), (2, .int 0), (3, .int 1)] rfl ?_
  obtain ⟨n57, hw⟩ := hw
  exact gw_X3_takesE_l28 ok n57 C4 0 0 1 hw

