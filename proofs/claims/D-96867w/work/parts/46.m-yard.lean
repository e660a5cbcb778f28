/-! the yard of waiting signs does what the grammar says -/
def bot (k : Nat) : List Int32 → Prop
  | [] => True
  | o :: _ => o = -11 ∨ rk o < k
theorem rk_lt (o : Int32) {l : Nat} (hl : l ≤ 6) : v_X3_rank o < nI l ↔ rk o < l := by
  have h := rk_spec o
  rw [h.1, ← Int32.not_le, nI_leI (by omega) (by omega)]
  omega
theorem sPop_all {l : Nat} (hl : l ≤ 6) {S0 : List Int32} (hb : bot l S0) : ∀ {W O : List Int32}, (∀ o ∈ W, ¬ o = -11 ∧ l ≤ rk o) → sPop (nI l) (W ++ S0) O = (S0, W.reverse ++ O)
  | [], O, _ => by
    match S0, hb with
    | [], _ => rfl
    | o :: S, h =>
      show sPop (nI l) (o :: S) O = _
      rw [sPop]
      by_cases c : o = -11
      · rw [if_pos c]; rfl
      · rw [if_neg c, if_pos ((rk_lt o hl).mpr (h.resolve_left c))]; rfl
  | o :: W, O, h => by
    have h0 := h o (by simp)
    show sPop (nI l) (o :: (W ++ S0)) O = _
    rw [sPop, if_neg h0.1, if_neg (fun z => by have := (rk_lt o hl).mp z; omega), sPop_all hl hb (fun q hq => h q (List.mem_cons_of_mem _ hq))]
    simp
theorem sy_len {C0 C : CS} {L : Nat} {S O : List Int32} {a : Nat} {t : TS} (hL : L ≤ 96) (h : syS C0 L C S O a t) : S.length + O.length < 96 := by
  have h1 := h.2.2.2.2.1.1
  have h2 := h.2.2.2.2.1.2.1
  have h3 := h.2.2.2.2.2.1
  omega
theorem sy_setp {C0 C : CS} {L : Nat} {S O : List Int32} {a : Nat} {t : TS} (hL : L ≤ 96) (h : syS C0 L C S O a t) (l : Int32) : p_X3_settle C l := ⟨S, O, h.2.1, Nat.le_of_lt (sy_len hL h)⟩
theorem sy_set {C0 C D : CS} {L : Nat} {S0 W O : List Int32} {a l : Nat} {t : TS} (hL : L ≤ 96) (h : syS C0 L C (W ++ S0) O a t) (hl : l ≤ 6) (hb : bot l S0) (hW : ∀ o ∈ W, ¬ o = -11 ∧ l ≤ rk o) (q : q_X3_settle C (nI l) D) : syS C0 L D S0 (W.reverse ++ O) a t ∧ D.2.1 48 = C.2.1 48 := by
  have hn := sy_len hL h
  obtain ⟨h1, h2, h3, h4, h5, h6, h7⟩ := h
  have k := q.2 _ _ h2 (Nat.le_of_lt hn)
  rw [sPop_all hl hb hW] at k
  refine ⟨⟨h1.se q.1, k, (q.1.2.1 1 20 (by omega)).trans h3, tk_se h4 q.1, h5, ?_, h7⟩, q.1.2.2 48 (by decide)⟩
  simp only [List.length_append, List.length_reverse] at h6 ⊢
  omega
theorem sy_gop {C0 C : CS} {L : Nat} {S O : List Int32} {a : Nat} {t : TS} (hL : L ≤ 96) (h9 : C0.1 1 9 = nI L) (h : syS C0 L C S O a t) : p_X3_go C := go_p hL (sy_L h9 h).1 h.2.2.2.1 h.2.2.2.2.1
theorem sy_nots {C0 C : CS} {L : Nat} {S O : List Int32} {a : Nat} {t : TS} (hL : L ≤ 96) (h : syS C0 L C S O a t) : p_X3_notsOpen C ∧ v_X3_notsOpen C = nI (S.count (-10)) := by
  have hn := sy_len hL h
  obtain ⟨_, ⟨h1, h2, _⟩, _⟩ := h
  refine ⟨⟨_, h1, by omega⟩, ?_⟩
  unfold v_X3_notsOpen
  rw [h1, cl_k (by omega), cnN_stk h2]
/-- a number or a name is taken -/
theorem sy_part {C0 C C1 : CS} {L j : Nat} {S0 O : List Int32} {a : Nat} {t : TS} {x : Int32} (hL : L ≤ 96) (h9 : C0.1 1 9 = nI L) (h : syS C0 L C (List.replicate j (-10) ++ S0) O a t) (hb : bot 6 S0) (hx : ptT (C0.1 1 15) t = some x) (q : q_X3_takesPart C C1) : syS C0 L C1 S0 (List.replicate j (-10) ++ x :: O) (a + 1) (stp (C0.2.1 43) L t) ∧ C1.2.1 48 = C.2.1 48 := by
  have hn := sy_len hL h
  have e15 := (sy_L h9 h).2.2
  obtain ⟨h1, h2, h3, h4, h5, h6, h7⟩ := h
  have e : ptS C = some x := by rw [pt_C hL h4 h5, e15, hx]
  unfold q_X3_takesPart at q
  rw [e] at q
  obtain ⟨D, q1, q2⟩ := q
  have k1 := ptC_st (x := x) h2 hn
  have hl : (List.replicate j (-10 : Int32) ++ S0).length + (x :: O).length ≤ 96 := by
    rw [List.length_cons]; omega
  have k2 := q1.2 _ _ k1 hl
  rw [show (6 : Int32) = nI 6 from rfl, sPop_all (by decide) hb (fun o ho => by rw [List.eq_of_mem_replicate ho]; decide)] at k2
  have hp : pEq C0 (ptC C x) := ((h1.wa 46 _ x (Or.inl rfl)).wi 19 _ (Or.inl rfl)).wi 20 _ (Or.inr (Or.inl rfl))
  have ht : tkOk (ptC C x) t := tk_wi (tk_wi (C := wA C 46 (C.1 1 19).toNatClampNeg x) h4 _ _ (by decide)) _ _ (by decide)
  have h0 : ¬ t.2.2.1 = 0 := by
    intro z
    unfold ptT at hx
    rw [z, if_neg (by decide), if_neg (fun y => absurd y.1 (by decide))] at hx
    cases hx
  have ha : D.1 1 20 = nI (a + 1) := by
    rw [q1.1.2.1 1 20 (by omega)]
    unfold ptC
    rw [wI_s, h3]
    exact nI_1 _
  have g := sy_go hL h9 (hp.se q1.1) k2 ha (tk_se ht q1.1) h5 h0 (by
    simp only [List.length_append, List.length_reverse, List.length_replicate, List.length_cons] at h6 ⊢
    omega) (by omega) q2
  rw [List.reverse_replicate] at g
  refine ⟨g.1, ?_⟩
  rw [g.2, q1.1.2.2 48 (by decide)]
  unfold ptC
  rw [wI_2, wI_2, wA_ne _ _ _ (by decide)]
def stops (k : Nat) (t : TS) (C : CS) (p : Nat) : Prop := sgT t = 0 ∨ rk (sgT t) < k ∨ (k ≤ 3 ∧ rk (sgT t) = 3 ∧ ¬ C.2.1 48 p = 0)
def isB (x : Int32) : Prop := x = 0 ∨ x = 1
/-- what holds behind a part of level k -/
def cnd (C0 : CS) (L : Nat) (C : CS) (S0 B c : List Int32) (a k p : Nat) (t : TS) (C1 : CS) (W O : List Int32) : Prop :=
  syS C0 L C1 (W ++ S0) O a t ∧ O.reverse ++ W = B ++ c ∧ (∀ o ∈ W, ¬ o = -11 ∧ k ≤ rk o) ∧ (∀ i, i < p ∨ (i = p ∧ 4 ≤ k) → C1.2.1 48 i = C.2.1 48 i) ∧ isB (C1.2.1 48 p) ∧ stops k t C1 p
/-- what is asked of the rest: B what is written ahead, e what is written behind -/
def rsm (Post : Int32 → CS → Prop) (C0 : CS) (L : Nat) (C : CS) (S0 B e : List Int32) (a k p : Nat) (r : Bool × List Int32 × Nat × TS) (n : Nat) : Prop :=
  if r.1 = true then ∀ C1 W O, cnd C0 L C S0 B (r.2.1 ++ e) (a + r.2.2.1) k p r.2.2.2 C1 W O → wp_X3_takesE_l28 Post n C1 (nI p) (nI (S0.count (-10))) 0
  else ∀ X, pEq C0 X → X.1 1 11 = nI r.2.2.2.2.1 → Post 0 X
def yA (Post : Int32 → CS → Prop) (C0 : CS) (L n : Nat) : Prop := ∀ k nots pars t r, rd (C0.2.1 43) L (C0.1 1 15) n k none nots pars t = some r → 1 ≤ k → k ≤ 6 → pars ≤ 8 → ∃ m, ∀ C S0 j O a, syS C0 L C (List.replicate j (-10) ++ S0) O a t → (j = 0 ∨ k = 6) → bot k S0 → nots = j + S0.count (-10) → (k ≤ 3 → C.2.1 48 pars = 0) → isB (C.2.1 48 pars) → ∀ n', rsm Post C0 L C S0 O.reverse (List.replicate j (-10)) a k pars r n' → wp_X3_takesE_l28 Post (n' + m) C (nI pars) (nI nots) 1
def yB (Post : Int32 → CS → Prop) (C0 : CS) (L n : Nat) : Prop := ∀ k nots pars t c a r, rd (C0.2.1 43) L (C0.1 1 15) n k (some (c, a)) nots pars t = some r → 1 ≤ k → k ≤ 5 → pars ≤ 8 → ∃ m, ∀ C S0 W B O a0, syS C0 L C (W ++ S0) O (a0 + a) t → O.reverse ++ W = B ++ c → (∀ o ∈ W, ¬ o = -11 ∧ k ≤ rk o) → bot k S0 → nots = S0.count (-10) → (k = 3 → C.2.1 48 pars = 0) → isB (C.2.1 48 pars) → stops (k + 1) t C pars → ∀ n', rsm Post C0 L C S0 B [] a0 k pars r n' → wp_X3_takesE_l28 Post (n' + m) C (nI pars) (nI nots) 0

