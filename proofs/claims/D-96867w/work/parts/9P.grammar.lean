/-! the component's reader: the grammar, its relation -/
/-- what a reader's method may have changed -/
def pE (C C1 : CS) : Prop := C1.2.1 = C.2.1 ∧ C1.2.2.1 = C.2.2.1 ∧ C1.2.2.2.1 = C.2.2.2.1 ∧ C1.2.2.2.2.1 = C.2.2.2.2.1 ∧ (∀ j k, ¬ (j = 0 ∧ 13 ≤ k ∧ k ≤ 19) → C1.1 j k = C.1 j k) ∧ ∀ a tg, cT C a = some tg → cT C1 a = some tg ∧ sameD C1 C a
theorem pE.rf (C : CS) : pE C C := ⟨rfl, rfl, rfl, rfl, fun _ _ _ => rfl, fun _ _ h => ⟨h, fun _ => rfl, fun _ => rfl, fun _ => rfl, fun _ => rfl⟩⟩
theorem pE.tr {C C1 C2 : CS} (h : pE C C1) (h2 : pE C1 C2) : pE C C2 :=
  ⟨h2.1.trans h.1, h2.2.1.trans h.2.1, h2.2.2.1.trans h.2.2.1, h2.2.2.2.1.trans h.2.2.2.1, fun j k q => (h2.2.2.2.2.1 j k q).trans (h.2.2.2.2.1 j k q), fun a tg ht => by
    obtain ⟨a1, a2⟩ := h.2.2.2.2.2 a tg ht
    obtain ⟨b1, b2⟩ := h2.2.2.2.2.2 a tg a1
    exact ⟨b1, a2.tr b2⟩⟩
theorem g0.pE {C C1 : CS} (h : g0 C C1) : pE C C1 :=
  ⟨by rw [h.1], by rw [h.1], by rw [h.1], by rw [h.1], fun j k q => h.2 j k (fun z => q ⟨z.1, z.2.1, by omega⟩), fun a tg ht => ⟨by show C1.2.2.2.2.2.1 a = _; rw [h.1]; exact ht, fun k => by rw [h.1], fun k => by rw [h.1], fun k => by rw [h.1], fun k => by rw [h.1]⟩⟩
theorem pE.wI {C C1 : CS} (h : pE C C1) {k : Nat} (hk : 13 ≤ k ∧ k ≤ 19) (v : Int32) : pE C (wI C1 0 k v) :=
  ⟨h.1, h.2.1, h.2.2.1, h.2.2.2.1, fun j q hq => by rw [wIn (fun z => hq ⟨z.1, by omega⟩)]; exact h.2.2.2.2.1 j q hq, h.2.2.2.2.2⟩
theorem pE.noT {C C1 : CS} (h : pE C C1) {d : Nat} (hd : cT C1 d = none) : cT C d = none := by
  cases e : cT C d with
  | none => rfl
  | some tg =>
    have := (h.2.2.2.2.2 d tg e).1
    rw [hd] at this
    cases this
/-- something new at d -/
theorem pE.nw {C C1 C2 : CS} (h : pE C C1) {d : Nat} (hd : cT C d = none) (h1 : C2.1 = C1.1) (h2 : C2.2.1 = C1.2.1) (h3 : C2.2.2.1 = C1.2.2.1) (h4 : C2.2.2.2.1 = C1.2.2.2.1) (h5 : C2.2.2.2.2.1 = C1.2.2.2.2.1) (h6 : ∀ b, b ≠ d → cT C2 b = cT C1 b ∧ sameD C2 C1 b) : pE C C2 :=
  ⟨h2.trans h.1, h3.trans h.2.1, h4.trans h.2.2.1, h5.trans h.2.2.2.1, fun j k q => by rw [h1]; exact h.2.2.2.2.1 j k q, fun a tg ht => by
    have hne : a ≠ d := fun z => by rw [z, hd] at ht; cases ht
    obtain ⟨a1, a2⟩ := h.2.2.2.2.2 a tg ht
    obtain ⟨b1, b2⟩ := h6 a hne
    exact ⟨b1.trans a1, a2.tr b2⟩⟩
theorem pE.keepX {C C1 : CS} (h : pE C C1) : keepX C C1 := fun a c n ht _ _ => ⟨(h.2.2.2.2.2 a _ ht).1, (h.2.2.2.2.2 a _ ht).2.1, (h.2.2.2.2.2 a _ ht).2.2.1⟩
theorem nw_D {C : CS} {d tg b : Nat} (hb : b ≠ d) : cT (nwC C d tg) b = cT C b ∧ sameD (nwC C d tg) C b := ⟨nwC_Tn hb, fun k => if_neg hb, fun k => if_neg hb, fun _ => rfl, fun _ => rfl⟩
theorem trC.up {C : CS} {key : Int32} : ∀ d a c, trC C key d a c → trC C key (d + 1) a c := by
  intro d
  induction d with
  | zero => intro a c h; exact h.elim
  | succ d ih =>
    intro a c h
    rcases h with h | h | ⟨h1, b, c1, h2, h3, h4⟩ | ⟨h1, b1, b2, c1, c2, h2, h3, h4, h5, h6, h7⟩
    · exact Or.inl h
    · exact Or.inr (Or.inl h)
    · exact Or.inr (Or.inr (Or.inl ⟨h1, b, c1, h2, ih _ _ h3, h4⟩))
    · exact Or.inr (Or.inr (Or.inr ⟨h1, b1, b2, c1, c2, h2, h3, ih _ _ h4, ih _ _ h5, h6, h7⟩))
theorem trC.mono {C : CS} {key : Int32} {a : Nat} {c : List Int32} {d : Nat} (h : trC C key d a c) : ∀ e, d ≤ e → trC C key e a c := by
  intro e he
  induction e with
  | zero => rw [show d = 0 by omega] at h; exact h
  | succ e ih =>
    by_cases q : d = e + 1
    · rw [← q]; exact h
    · exact (ih (by omega)).up
/-- a tree doesn't hang on an object that it doesn't hold: none of its nodes is d, if d's own fields are still empty -/
theorem trC_off {C C1 : CS} {key : Int32} {d e a n : Nat} {c : List Int32} (hd : cT C d = some (10, n)) (h0 : cDR C 101 d = none) (h : trC C key e a c) (hs : ∀ b, b ≠ d → cT C1 b = cT C b ∧ sameD C1 C b) : trC C1 key e a c := by
  induction e generalizing a c with
  | zero => exact h.elim
  | succ e ih =>
    have hne : a ≠ d := by
      intro z
      subst z
      rcases h with ⟨⟨m, h1⟩, -⟩ | ⟨⟨m, h1⟩, -⟩ | ⟨⟨m, h1⟩, -⟩ | ⟨h1, b1, b2, c1, c2, h2, -⟩
      · exact absurd (hd.symm.trans h1) (by simp)
      · exact absurd (hd.symm.trans h1) (by simp)
      · exact absurd (hd.symm.trans h1) (by simp)
      · rw [h0] at h2; cases h2
    obtain ⟨s1, s2⟩ := hs a hne
    have i1 : ∀ k, cDI C1 k a = cDI C k a := s2.1
    have i2 : ∀ k, cDR C1 k a = cDR C k a := s2.2.1
    have iy : ∀ q, isDy C q a → isDy C1 q a := fun q ⟨m, hm⟩ => ⟨m, s1.trans hm⟩
    rcases h with ⟨h1, h2, h3⟩ | ⟨h1, h2, h3⟩ | ⟨h1, b, c1, h2, h3, h4⟩ | ⟨h1, b1, b2, c1, c2, h2, h3, h4, h5, h6, h7⟩
    · exact Or.inl ⟨iy _ h1, by rw [i1]; exact h2, by rw [i1]; exact h3⟩
    · exact Or.inr (Or.inl ⟨iy _ h1, by rw [i1]; exact h2, by rw [i1]; exact h3⟩)
    · exact Or.inr (Or.inr (Or.inl ⟨iy _ h1, b, c1, by rw [i2]; exact h2, ih h3, h4⟩))
    · exact Or.inr (Or.inr (Or.inr ⟨iy _ h1, b1, b2, c1, c2, by rw [i2]; exact h2, by rw [i2]; exact h3, ih h4, ih h5, by rw [i1]; exact h6, by rw [i1]; exact h7⟩))
/-- the reader stands at token t -/
def pS (C : CS) (key : Int32) (L : Nat) (t : TS) (nots pars a : Nat) : Prop := tpO C L ∧ tk0 C t ∧ tsOk L t ∧ (t.2.2.1 = 1 ∨ t.2.2.1 = 2 ∨ t.2.2.1 = 3 → enP t) ∧ tvOk t ∧ C.1 0 17 = nI pars ∧ C.1 0 18 = nI nots ∧ C.1 0 19 = nI a ∧ C.1 0 20 = key ∧ nots ≤ 8 ∧ pars ≤ 8
theorem pS.pre {C : CS} {key : Int32} {L : Nat} {t : TS} {nots pars a : Nat} (h : pS C key L t nots pars a) (ht : t.2.2.1 = 1 ∨ t.2.2.1 = 2 ∨ t.2.2.1 = 3) : p_X0_goesOn C t L := ⟨h.1, h.2.1.1, h.2.1.2.2.1, h.2.2.1.2.1, h.2.2.2.1 ht⟩
theorem pS.go {C C1 : CS} {key : Int32} {L : Nat} {t : TS} {nots pars a : Nat} (h : pS C key L t nots pars a) (hq : q_X0_goesOn C t L C1) : pS C1 key L (stp (C.2.1 43) L t) nots pars a ∧ pE C C1 := by
  obtain ⟨q1, q2, q3⟩ := hq
  obtain ⟨h1, h2, h3, h4, h5, h6, h7, h8, h9⟩ := h
  exact ⟨⟨(q1.tp h1).1, q2, (stp_ok h3).1, q3, goT_v _ _ _ _ _, by rw [q1.2 0 17 (by omega)]; exact h6, by rw [q1.2 0 18 (by omega)]; exact h7, by rw [q1.2 0 19 (by omega)]; exact h8, by rw [q1.2 0 20 (by omega)]; exact h9.1, h9.2⟩, q1.pE⟩
theorem sgT_eq (t : TS) : sgT t = if t.2.2.1 = 3 then sgI t.2.2.2.1 else 0 := by
  unfold sgT
  by_cases h : t.2.2.1 = 3
  · rw [if_pos h, h]; rfl
  · rw [if_neg h]
    unfold v_X3_signHere
    rw [if_neg (show ¬ (tokW t.2.2.1 t.2.2.2.1).1 1 12 = 3 from h)]
theorem isSg {C : CS} {t : TS} (h : tk0 C t) (ch : Int32) : v_X0_isSign C ch = 0 ↔ ¬ (t.2.2.1 = 3 ∧ t.2.2.2.1 = ch) := by
  unfold v_X0_isSign
  rw [h.1]
  by_cases c : t.2.2.1 = 3
  · rw [if_pos c, h.2.2.2 (Or.inr (Or.inr c))]
    by_cases c2 : t.2.2.2.1 = ch
    · rw [if_pos c2]; exact ⟨fun z => absurd z (by decide), fun z => absurd ⟨c, c2⟩ z⟩
    · rw [if_neg c2]; exact ⟨fun _ z => c2 z.2, fun _ => rfl⟩
  · rw [if_neg c]; exact ⟨fun _ z => c z.1, fun _ => rfl⟩
theorem sg_lv (t : TS) : ((¬ sgT t = 0 ∧ rk (sgT t) = 1) ↔ (t.2.2.1 = 3 ∧ t.2.2.2.1 = 124)) ∧ ((¬ sgT t = 0 ∧ rk (sgT t) = 2) ↔ (t.2.2.1 = 3 ∧ t.2.2.2.1 = 38)) ∧ ((¬ sgT t = 0 ∧ rk (sgT t) = 3) ↔ (t.2.2.1 = 3 ∧ (t.2.2.2.1 = 60 ∨ t.2.2.2.1 = 61 ∨ t.2.2.2.1 = 62))) ∧ ((¬ sgT t = 0 ∧ rk (sgT t) = 4) ↔ (t.2.2.1 = 3 ∧ (t.2.2.2.1 = 43 ∨ t.2.2.2.1 = 45))) ∧ ((¬ sgT t = 0 ∧ rk (sgT t) = 5) ↔ (t.2.2.1 = 3 ∧ (t.2.2.2.1 = 42 ∨ t.2.2.2.1 = 47))) := by
  rw [sgT_eq]
  by_cases c : t.2.2.1 = 3
  · simp only [if_pos c, c, true_and]
    generalize t.2.2.2.1 = v
    by_cases z : sgI v = 0
    · have : ¬ v = 38 ∧ ¬ v = 42 ∧ ¬ v = 43 ∧ ¬ v = 45 ∧ ¬ v = 47 ∧ ¬ v = 60 ∧ ¬ v = 61 ∧ ¬ v = 62 ∧ ¬ v = 124 := by
        refine ⟨?_, ?_, ?_, ?_, ?_, ?_, ?_, ?_, ?_⟩ <;> (intro y; rw [y] at z; exact absurd z (by decide +kernel))
      simp [z, this]
    · rcases sgI_is z with h | h | h | h | h | h | h | h | h <;> subst h <;> decide +kernel
  · simp [c]
section SUBS
variable {w : WD} {x : Cx} {cc : ByteArray} {nL : Nat} {own : String} {ret : Option FieldType} {rm : Room} {cells slots : Nat} {Q : State → Prop} {C : CS} {pc : Nat} {lv : List (Nat × Value)} {st : List Value}
theorem gt_widen {a c1 s1 : Nat} {E : Heap → Prop} (h1 : cells ≤ c1) (h2 : slots ≤ s1) (k : GT w x nL c1 s1 Q C pc lv st a E) : GT w x nL cells slots Q C pc lv st a E := by
  intro H locs ls a1 a2 a3 a4 T hT X
  exact k H locs ls a1 a2 a3 a4 T hT { X with same := X.same.mono h1 h2 }
/-- what a method of the reader leaves: the tree of a part -/
def pOkS (C : CS) (key : Int32) (L : Nat) (t : TS) (nots pars a : Nat) (r : Bool × List Int32 × Nat × TS) (d : Nat) (C1 : CS) : Prop := pE C C1 ∧ pS C1 key L r.2.2.2 nots pars (a + r.2.2.1) ∧ ∃ e, e ≤ r.2.2.2.2.1 - t.2.1 ∧ trC C1 key e d r.2.1
/-- .. or a Faulty -/
def pOkF (C : CS) (r : Bool × List Int32 × Nat × TS) (d : Nat) (C1 : CS) : Prop := ∃ C2, pE C C2 ∧ fyE C2 (nI r.2.2.2.2.1) d C1
abbrev wtT : Option FieldType := some (.object "TwoGuilds$Worth")
def PC (w : WD) (l : Launch) (y : MethodName) (code : ByteArray) (nL n : Nat) (key : Int32) (L : Nat) (C : CS) (t : TS) (nots pars a : Nat) (r : Bool × List Int32 × Nat × TS) : Prop :=
  (r.1 = true → MC w l y code nL wtT (n + 12) (r.2.2.2.2.1 - t.2.1) (3 * (r.2.2.2.2.1 - t.2.1)) [.ref (ad w 0)] C (pRR (pOkS C key L t nots pars a r))) ∧
  (r.1 = false → MT w l y code nL wtT (n + 12) (r.2.2.2.2.1 - t.2.1 + 1) (3 * (r.2.2.2.2.1 - t.2.1) + 7) [.ref (ad w 0)] C (fun d C1 _ => pOkF C r d C1))
def PG (w : WD) (l : Launch) (tp : Nat → Int32) (L : Nat) (key : Int32) (y : MethodName) (code : ByteArray) (nL k n : Nat) : Prop :=
  ∀ (C : CS) (t : TS) (nots pars a : Nat) (r : Bool × List Int32 × Nat × TS), C.2.1 43 = tp → pS C key L t nots pars a → rd tp L key n k none nots pars t = some r → PC w l y code nL n key L C t nots pars a r
theorem g_prs (ok : Ok w x cc nL own ret rm) {y : MethodName} {code : ByteArray} {nL2 n L idx : Nat} {key : Int32} {t : TS} {nots pars a : Nat} {r : Bool × List Int32 × Nat × TS} {rest : List Value} (h : PC w (xL x) y code nL2 n key L C t nots pars a r) (cf : CfV y "TwoGuilds" code nL2 wtT 0) (ql : Cond.methodLink own idx y ∈ lw_all) (hw : (rest.map fun v => v.category).sum ≤ 8)
    (hR : n + 12 + 1 ≤ rm.frames ∧ 8 + (nL2 + 11) + 40 * (n + 12) ≤ rm.locals) (hcS : r.1 = true → cells + (r.2.2.2.2.1 - t.2.1) ≤ rm.cells ∧ slots + 3 * (r.2.2.2.2.1 - t.2.1) ≤ rm.slots) (hcF : r.1 = false → cells + (r.2.2.2.2.1 - t.2.1 + 1) ≤ rm.cells ∧ slots + (3 * (r.2.2.2.2.1 - t.2.1) + 7) ≤ rm.slots) (d : decode cc pc = .ok (.invokevirtual idx, 3))
    (kS : r.1 = true → ∀ e C1, pOkS C key L t nots pars a r e C1 → G w x nL (cells + (r.2.2.2.2.1 - t.2.1)) (slots + 3 * (r.2.2.2.2.1 - t.2.1)) Q C1 (pc + 3) lv (.ref e :: rest))
    (kF : r.1 = false → ∀ e C1, pOkF C r e C1 → GT w x nL (cells + (r.2.2.2.2.1 - t.2.1 + 1)) (slots + (3 * (r.2.2.2.2.1 - t.2.1) + 7)) Q C1 pc lv rest e (fun _ => True)) : G w x nL cells slots Q C pc lv (.ref (ad w 0) :: rest) := by
  cases hr : r.1 with
  | true => exact g_callV ok [] cf ql (h.1 hr) (recvF ok 0 rfl rfl) rfl rfl hw hR (hcS hr) d (resRR fun e C1 q => kS hr e C1 q)
  | false =>
    refine g_callVT ok [] cf ql (h.2 hr) (recvF ok 0 rfl rfl) rfl rfl hw hR (hcF hr) d (fun e C1 => ?_)
    intro H locs ls h1 h2 h3 h4
    exact kF hr e C1 h4 H locs ls h1 h2 h3 trivial
end SUBS
