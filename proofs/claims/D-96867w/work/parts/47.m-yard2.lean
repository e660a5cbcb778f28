theorem sg_5 (t : TS) (h : ¬ sgT t = 0) : rk (sgT t) ≤ 5 ∧ ¬ sgT t = -11 ∧ ¬ sgT t = -10 ∧ t.2.2.1 = 3 ∧ ¬ t.2.2.2.1 = 41 := by
  have e : sgT t = v_X3_signHere (tokW t.2.2.1 t.2.2.2.1) := rfl
  unfold v_X3_signHere at e
  have e12 : (tokW t.2.2.1 t.2.2.2.1).1 1 12 = t.2.2.1 := rfl
  have e13 : (tokW t.2.2.1 t.2.2.2.1).1 1 13 = t.2.2.2.1 := rfl
  rw [e12, e13] at e
  generalize sgT t = s at *
  generalize t.2.2.2.1 = v at *
  by_cases c0 : t.2.2.1 = 3
  · rw [if_pos c0] at e
    by_cases c1 : v = 38
    · rw [if_pos c1] at e; subst e; subst c1; exact ⟨by decide, by decide, by decide, c0, by decide⟩
    rw [if_neg c1] at e
    by_cases c1 : v = 42
    · rw [if_pos c1] at e; subst e; subst c1; exact ⟨by decide, by decide, by decide, c0, by decide⟩
    rw [if_neg c1] at e
    by_cases c1 : v = 43
    · rw [if_pos c1] at e; subst e; subst c1; exact ⟨by decide, by decide, by decide, c0, by decide⟩
    rw [if_neg c1] at e
    by_cases c1 : v = 45
    · rw [if_pos c1] at e; subst e; subst c1; exact ⟨by decide, by decide, by decide, c0, by decide⟩
    rw [if_neg c1] at e
    by_cases c1 : v = 47
    · rw [if_pos c1] at e; subst e; subst c1; exact ⟨by decide, by decide, by decide, c0, by decide⟩
    rw [if_neg c1] at e
    by_cases c1 : v = 60
    · rw [if_pos c1] at e; subst e; subst c1; exact ⟨by decide, by decide, by decide, c0, by decide⟩
    rw [if_neg c1] at e
    by_cases c1 : v = 61
    · rw [if_pos c1] at e; subst e; subst c1; exact ⟨by decide, by decide, by decide, c0, by decide⟩
    rw [if_neg c1] at e
    by_cases c1 : v = 62
    · rw [if_pos c1] at e; subst e; subst c1; exact ⟨by decide, by decide, by decide, c0, by decide⟩
    rw [if_neg c1] at e
    by_cases c1 : v = 124
    · rw [if_pos c1] at e; subst e; subst c1; exact ⟨by decide, by decide, by decide, c0, by decide⟩
    rw [if_neg c1] at e
    exact absurd e h
  · rw [if_neg c0] at e
    exact absurd e h
def sy4 (C0 C : CS) (S O : List Int32) (a : Nat) (t : TS) : Prop := pEq C0 C ∧ stOk C S O ∧ C.1 1 20 = nI a ∧ tkOk C t
theorem sy4_wa {C0 C : CS} {S O : List Int32} {a : Nat} {t : TS} (h : sy4 C0 C S O a t) (i : Nat) (v : Int32) : sy4 C0 (wA C 48 i v) S O a t :=
  ⟨h.1.wa 48 i v (by decide), ⟨h.2.1.1, by rw [wA_ne _ _ _ (by decide)]; exact h.2.1.2.1, h.2.1.2.2.1, by rw [wA_ne _ _ _ (by decide)]; exact h.2.1.2.2.2⟩, h.2.2.1, h.2.2.2⟩
theorem sy_wa {C0 C : CS} {L : Nat} {S O : List Int32} {a : Nat} {t : TS} (h : syS C0 L C S O a t) (i : Nat) (v : Int32) : syS C0 L (wA C 48 i v) S O a t := by
  have k := sy4_wa ⟨h.1, h.2.1, h.2.2.1, h.2.2.2.1⟩ i v
  exact ⟨k.1, k.2.1, k.2.2.1, k.2.2.2, h.2.2.2.2⟩
theorem sy4_push {C0 C D E : CS} {L : Nat} {S O : List Int32} {a : Nat} {t : TS} {o : Int32} (hL : L ≤ 96) (h : syS C0 L C S O a t) (e1 : D = wA C 47 (Int32.toNatClampNeg (C.1 1 22)) o) (e2 : E = wI D 1 22 (D.1 1 22 + 1)) : sy4 C0 E (o :: S) O a t ∧ E.2.1 48 = C.2.1 48 := by
  have hn := sy_len hL h
  refine ⟨⟨?_, st_push h.2.1 (by omega) e1 e2, ?_, ?_⟩, ?_⟩
  · rw [e2, e1]; exact (h.1.wa 47 _ o (by decide)).wi 22 _ (by decide)
  · rw [e2, wI_n _ _ _ _ (by decide), e1]; exact h.2.2.1
  · rw [e2, e1]; exact tk_wi (C := wA C 47 (Int32.toNatClampNeg (C.1 1 22)) o) h.2.2.2.1 _ _ (by decide)
  · rw [e2, wI_2, e1, wA_ne _ _ _ (by decide)]
theorem sy_hld {C0 C : CS} {L : Nat} {S O : List Int32} {a : Nat} {t : TS} (hL : L ≤ 96) (h : syS C0 L C S O a t) : vp_in (C.1 1 22) 96 := by
  have hn := sy_len hL h
  rw [h.2.1.1]; exact vp_k (by omega)
theorem sy4_go {C0 C : CS} {L : Nat} {S O : List Int32} {a : Nat} {t : TS} (hL : L ≤ 96) (h9 : C0.1 1 9 = nI L) (h : sy4 C0 C S O a t) (hs : tsOk L t) (hn : ¬ t.2.2.1 = 0) (hb : S.length + O.length < t.2.1 + 1) (hb2 : a ≤ t.2.1 + 1) : p_X3_go C ∧ ∀ D, q_X3_go C D → syS C0 L D S O a (stp (C0.2.1 43) L t) ∧ D.2.1 48 = C.2.1 48 :=
  ⟨go_p hL ((h.1.2.1 1 9 (by omega)).trans h9) h.2.2.2 hs, fun D hq => sy_go hL h9 h.1 h.2.1 h.2.2.1 h.2.2.2 hs hn hb hb2 hq⟩
theorem y_push {Post : Int32 → CS → Prop} {C0 C : CS} {L : Nat} {S0 W O : List Int32} {a k p n : Nat} {t : TS} {i2 : Int32} (hL : L ≤ 96) (h9 : C0.1 1 9 = nI L) (h : syS C0 L C (W ++ S0) O a t) (hs : ¬ sgT t = 0) (hk : rk (sgT t) = k) (hW : ∀ o ∈ W, ¬ o = -11 ∧ k ≤ rk o) (hb : bot k S0) (hp : p ≤ 8) (h3 : k = 3 → C.2.1 48 p = 0) (hi : isB (C.2.1 48 p))
    (nx : ∀ D, syS C0 L D (sgT t :: S0) (W.reverse ++ O) a (stp (C0.2.1 43) L t) → (∀ i, i ≠ p → D.2.1 48 i = C.2.1 48 i) → D.2.1 48 p = (if k = 3 then 1 else if k ≤ 3 then 0 else C.2.1 48 p) → wp_X3_takesE_l28 Post n D (nI p) i2 1) : wp_X3_takesE_l28 Post (n + 1) C (nI p) i2 0 := by
  obtain ⟨f5, f11, f10, ft, fv⟩ := sg_5 t hs
  have e12 := h.2.2.2.1.2.2.1
  have e13 := h.2.2.2.1.2.2.2.1
  have eS := sg_C h.2.2.2.1
  have hk6 := (rk_spec (sgT t)).2
  rw [hk] at hk6
  have ek : v_X3_rank (sgT t) = nI k := by rw [(rk_spec _).1, hk]
  have hcl : (nI p).toNatClampNeg = p := cl_k (by omega)
  have h0 : ¬ t.2.2.1 = 0 := by rw [ft]; decide
  rw [wp_X3_takesE_l28]
  refine ⟨fun _ => ⟨fun z => absurd (e12.symm.trans z) h0, fun _ => ?_⟩, fun z => absurd rfl z⟩
  unfold wp_X3_takesE_j39
  refine ⟨fun _ => ⟨fun _ => ⟨fun z => absurd (e13.symm.trans z) fv, fun _ => ?_⟩, fun z => absurd (e12.trans ft) z⟩, fun z => absurd rfl z⟩
  unfold wp_X3_takesE_j237
  intro r8 e8
  rw [eS] at e8
  subst e8
  refine ⟨fun z => absurd z hs, fun _ => ?_⟩
  intro r10 e10
  rw [ek] at e10
  have k3 : nI k = 3 ↔ k = 3 := by rw [show (3 : Int32) = nI 3 from rfl, nI_eq (by omega) (by omega)]
  have k3l : nI k ≤ 3 ↔ k ≤ 3 := by rw [show (3 : Int32) = nI 3 from rfl, nI_leI (by omega) (by omega)]
  have j : wp_X3_takesE_j268 Post (fun C i1 i2 i3 => wp_X3_takesE_l28 Post n C i1 i2 i3) C (nI p) i2 (sgT t) := by
    unfold wp_X3_takesE_j268
    intro r12 er
    rw [ek] at er
    refine ⟨⟨fun _ => trivial, fun _ => ⟨⟨fun _ => trivial, fun _ => ⟨vp_k (by omega), trivial⟩⟩, trivial⟩⟩, ?_⟩
    intro x19 e19
    refine ⟨vp_k (by omega), ?_⟩
    intro C20 e20 r21 e21
    rw [ek] at e21
    subst e21
    have h20 : syS C0 L C20 (W ++ S0) O a t := by rw [e20]; exact sy_wa h _ _
    refine ⟨sy_setp hL h20 _, ?_⟩
    intro C22 q22
    have g := sy_set hL h20 (by omega) hb hW q22
    refine ⟨sy_hld hL g.1, ?_⟩
    intro C23 e23 C24 e24
    have g2 := sy4_push hL g.1 e23 e24
    have hb1 := h.2.2.2.2.2.1
    have hb2 := h.2.2.2.2.2.2
    have g3 := sy4_go hL h9 g2.1 h.2.2.2.2.1 h0 (by
      simp only [List.length_append, List.length_reverse, List.length_cons] at hb1 ⊢
      omega) (by omega)
    refine ⟨g3.1, ?_⟩
    intro C25 q25
    have g4 := g3.2 _ q25
    have t4 : C25.2.1 48 = upd (C.2.1 48) p x19 := by rw [g4.2, g2.2, g.2, e20, hcl, wA_row]
    refine nx C25 g4.1 (fun i hh => ?_) ?_
    · rw [t4]; unfold upd; rw [if_neg hh]
    · rw [t4]; unfold upd; rw [if_pos rfl, e19, er, ek, hcl]
      by_cases c3 : k = 3
      · rw [if_pos (k3.mpr c3), if_pos c3]
      · rw [if_neg (fun z => c3 (k3.mp z)), if_neg c3]
        by_cases c4 : k ≤ 3
        · rw [if_pos (k3l.mpr c4), if_pos c4]
        · rw [if_neg (fun z => c4 (k3l.mp z)), if_neg c4]
          rcases hi with hi | hi <;> rw [hi] <;> decide
  refine ⟨fun z => ⟨vp_k (by omega), fun _ => j, fun z2 => absurd ?_ z2⟩, fun _ => j⟩
  rw [hcl]
  rw [e10] at z
  exact h3 (k3.mp z)
/-- the end, or a fault, behind a part -/
theorem y_end {Post : Int32 → CS → Prop} {C0 C : CS} {L : Nat} {S O : List Int32} {a p n : Nat} {t : TS} {i2 : Int32} (hL : L ≤ 96) (h : syS C0 L C S O a t) (hp : p ≤ 8) (hst : stops 1 t C p) (h41 : t.2.2.1 = 3 → t.2.2.2.1 = 41 → p = 0) (h0 : t.2.2.1 = 0 → ¬ p = 0) (ps : ∀ X, pEq C0 X → X.1 1 11 = nI t.2.1 → Post 0 X) : wp_X3_takesE_l28 Post (n + 1) C (nI p) i2 0 := by
  have e11 := h.2.2.2.1.2.1
  have e12 := h.2.2.2.1.2.2.1
  have e13 := h.2.2.2.1.2.2.2.1
  have eS := sg_C h.2.2.2.1
  have hcl : (nI p).toNatClampNeg = p := cl_k (by omega)
  have k0 : nI p = 0 ↔ p = 0 := by rw [show (0 : Int32) = nI 0 from rfl, nI_eq (by omega) (by omega)]
  have k0l : nI p ≤ 0 ↔ p ≤ 0 := by rw [show (0 : Int32) = nI 0 from rfl, nI_leI (by omega) (by omega)]
  have j : wp_X3_takesE_j237 Post (fun C i1 i2 i3 => wp_X3_takesE_l28 Post n C i1 i2 i3) C (nI p) i2 := by
    unfold wp_X3_takesE_j237
    intro r8 e8
    rw [eS] at e8
    subst e8
    refine ⟨fun _ => ps C h.1 e11, fun z => ?_⟩
    intro r10 e10
    rw [(rk_spec _).1] at e10
    have hr := (rk_spec (sgT t)).2
    rcases hst with y | y | y
    · exact absurd y z
    · omega
    · rw [y.2.1] at e10
      refine ⟨fun _ => ⟨vp_k (by omega), fun z2 => absurd ?_ y.2.2, fun _ => ps C h.1 e11⟩, fun z2 => absurd e10 z2⟩
      rw [hcl] at z2; exact z2
  rw [wp_X3_takesE_l28]
  refine ⟨fun _ => ⟨fun z => ⟨sy_setp hL h _, fun D q => ⟨fun y => absurd (k0.mp y) (h0 (e12.symm.trans z)), fun _ => ps D (h.1.se q.1) ?_⟩⟩, fun _ => ?_⟩, fun z => absurd rfl z⟩
  · rw [q.1.2.1 1 11 (by omega)]; exact e11
  · unfold wp_X3_takesE_j39
    refine ⟨fun _ => ⟨fun z => ⟨fun z2 => ⟨fun _ => j, fun y => absurd (k0l.mpr (Nat.le_of_eq (h41 (e12.symm.trans z) (e13.symm.trans z2)))) y⟩, fun _ => j⟩, fun _ => j⟩, fun z => absurd rfl z⟩

