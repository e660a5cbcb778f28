theorem st_pop {C : CS} {S O : List Int32} {o : Int32} (h : stOk C (o :: S) O) : stOk (wI C 1 22 (C.1 1 22 - 1)) S O := by
  obtain ⟨h1, h2, h3, h4⟩ := h
  refine ⟨?_, h2.2, ?_, h4⟩
  · rw [wI_s, h1, List.length_cons, show (1 : Int32) = nI 1 from rfl, pk_sub (by omega)]; rfl
  · rw [wI_n _ _ _ _ (by decide)]; exact h3
theorem y_close {Post : Int32 → CS → Prop} {C0 C : CS} {L : Nat} {S0 W O : List Int32} {a j p n : Nat} {t : TS} {i2 : Int32} (hL : L ≤ 96) (h9 : C0.1 1 9 = nI L) (h : syS C0 L C (W ++ -11 :: (List.replicate j (-10) ++ S0)) O a t) (ht : t.2.2.1 = 3) (hv : t.2.2.2.1 = 41) (hW : ∀ o ∈ W, ¬ o = -11) (hb : bot 6 S0) (hp : p + 1 ≤ 8)
    (nx : ∀ D, syS C0 L D S0 (List.replicate j (-10) ++ (W.reverse ++ O)) a (stp (C0.2.1 43) L t) → D.2.1 48 = C.2.1 48 → wp_X3_takesE_l28 Post n D (nI p) (nI (S0.count (-10))) 0) : wp_X3_takesE_l28 Post (n + 1) C (nI (p + 1)) i2 0 := by
  have e12 := h.2.2.2.1.2.2.1
  have e13 := h.2.2.2.1.2.2.2.1
  have h0 : ¬ t.2.2.1 = 0 := by rw [ht]; decide
  have k0l : ¬ nI (p + 1) ≤ 0 := by rw [show (0 : Int32) = nI 0 from rfl, nI_leI (by omega) (by omega)]; omega
  rw [wp_X3_takesE_l28]
  refine ⟨fun _ => ⟨fun z => absurd (e12.symm.trans z) h0, fun _ => ?_⟩, fun z => absurd rfl z⟩
  unfold wp_X3_takesE_j39
  refine ⟨fun _ => ⟨fun _ => ⟨fun _ => ⟨fun z => absurd z k0l, fun _ => ?_⟩, fun z => absurd (e13.trans hv) z⟩, fun z => absurd (e12.trans ht) z⟩, fun z => absurd rfl z⟩
  refine ⟨sy_setp hL h _, ?_⟩
  intro C29 q29 C30 e30 x31 e31
  have g := sy_set (l := 0) hL h (by omega) (Or.inl rfl) (fun o ho => ⟨hW o ho, Nat.zero_le _⟩) q29
  have g30 : syS C0 L C30 (List.replicate j (-10) ++ S0) (W.reverse ++ O) a t := by
    obtain ⟨k1, k2, k3, k4, k5, k6, k7⟩ := g.1
    rw [e30]
    refine ⟨k1.wi 22 _ (by decide), st_pop k2, ?_, tk_wi k4 _ _ (by decide), k5, ?_, k7⟩
    · rw [wI_n _ _ _ _ (by decide)]; exact k3
    · rw [List.length_cons] at k6; omega
  refine ⟨sy_setp hL g30 _, ?_⟩
  intro C32 q32
  have g32 := sy_set (l := 6) hL g30 (by omega) hb (fun o ho => by rw [List.eq_of_mem_replicate ho]; decide) q32
  rw [List.reverse_replicate] at g32
  have n32 := sy_nots hL g32.1
  refine ⟨n32.1, ?_⟩
  intro r33 e33
  refine ⟨sy_gop hL h9 g32.1, ?_⟩
  intro C34 q34
  have k := g32.1
  have hb1 := k.2.2.2.2.2.1
  have hb2 := k.2.2.2.2.2.2
  have g34 := sy_go hL h9 k.1 k.2.1 k.2.2.1 k.2.2.2.1 k.2.2.2.2.1 h0 (by omega) (by omega) q34
  have e48 : C34.2.1 48 = C.2.1 48 := by rw [g34.2, g32.2, e30, wI_2, g.2]
  have ex : x31 = nI p := by rw [e31, om1]; exact pk_m1 p
  rw [ex, e33, n32.2]
  exact nx C34 g34.1 e48
theorem y_not {Post : Int32 → CS → Prop} {C0 C : CS} {L : Nat} {S O : List Int32} {a p n nots : Nat} {t : TS} (hL : L ≤ 96) (h9 : C0.1 1 9 = nI L) (h : syS C0 L C S O a t) (ht : t.2.2.1 = 3) (hv : t.2.2.2.1 = 33) (hn : nots < 8)
    (nx : ∀ D, syS C0 L D (-10 :: S) O a (stp (C0.2.1 43) L t) → D.2.1 48 = C.2.1 48 → wp_X3_takesE_l28 Post n D (nI p) (nI ((-10 :: S).count (-10))) 1) : wp_X3_takesE_l28 Post (n + 1) C (nI p) (nI nots) 1 := by
  have e12 := h.2.2.2.1.2.2.1
  have e13 := h.2.2.2.1.2.2.2.1
  have h0 : ¬ t.2.2.1 = 0 := by rw [ht]; decide
  have k8 : ¬ 8 ≤ nI nots := by rw [show (8 : Int32) = nI 8 from rfl, nI_leI (by omega) (by omega)]; omega
  rw [wp_X3_takesE_l28]
  refine ⟨fun z => absurd z (by decide), fun _ => ?_⟩
  unfold wp_X3_takesE_j39
  refine ⟨fun z => absurd z (by decide), fun _ => ⟨fun _ => ⟨fun _ => ⟨fun z => absurd z k8, fun _ => ?_⟩, fun z => absurd (e13.trans hv) z⟩, fun z => absurd (e12.trans ht) z⟩⟩
  refine ⟨sy_hld hL h, ?_⟩
  intro C50 e50 C51 e51 x52 e52
  have g2 := sy4_push hL h e50 e51
  have hb1 := h.2.2.2.2.2.1
  have hb2 := h.2.2.2.2.2.2
  have g3 := sy4_go hL h9 g2.1 h.2.2.2.2.1 h0 (by rw [List.length_cons]; omega) (by omega)
  refine ⟨g3.1, ?_⟩
  intro C53 q53
  have g4 := g3.2 _ q53
  unfold wp_X3_takesE_j172
  have nn := sy_nots hL g4.1
  refine ⟨nn.1, ?_⟩
  intro r er
  rw [er, nn.2]
  exact nx C53 g4.1 (by rw [g4.2, g2.2])
theorem y_open {Post : Int32 → CS → Prop} {C0 C : CS} {L : Nat} {S O : List Int32} {a p n nots : Nat} {t : TS} (hL : L ≤ 96) (h9 : C0.1 1 9 = nI L) (h : syS C0 L C S O a t) (ht : t.2.2.1 = 3) (hv : t.2.2.2.1 = 40) (hp : p < 8)
    (nx : ∀ D, syS C0 L D (-11 :: S) O a (stp (C0.2.1 43) L t) → D.2.1 48 = upd (C.2.1 48) (p + 1) 0 → wp_X3_takesE_l28 Post n D (nI (p + 1)) (nI ((-11 :: S).count (-10))) 1) : wp_X3_takesE_l28 Post (n + 1) C (nI p) (nI nots) 1 := by
  have e12 := h.2.2.2.1.2.2.1
  have e13 := h.2.2.2.1.2.2.2.1
  have h0 : ¬ t.2.2.1 = 0 := by rw [ht]; decide
  have k8 : ¬ 8 ≤ nI p := by rw [show (8 : Int32) = nI 8 from rfl, nI_leI (by omega) (by omega)]; omega
  have j : wp_X3_takesE_j97 Post (fun C i1 i2 i3 => wp_X3_takesE_l28 Post n C i1 i2 i3) C (nI p) 1 := by
    unfold wp_X3_takesE_j97
    refine ⟨fun _ => ⟨fun _ => ⟨fun z => absurd z k8, fun _ => ?_⟩, fun z => absurd (e13.trans hv) z⟩, fun z => absurd (e12.trans ht) z⟩
    refine ⟨sy_hld hL h, ?_⟩
    intro C43 e43 C44 e44 x45 e45
    have g2 := sy4_push hL h e43 e44
    have ex : x45 = nI (p + 1) := by rw [e45, o1, nI_add]
    subst ex
    refine ⟨vp_k (by omega), ?_⟩
    intro C46 e46
    have hb1 := h.2.2.2.2.2.1
    have hb2 := h.2.2.2.2.2.2
    have g46 : sy4 C0 C46 (-11 :: S) O a t := by rw [e46]; exact sy4_wa g2.1 _ _
    have g3 := sy4_go hL h9 g46 h.2.2.2.2.1 h0 (by rw [List.length_cons]; omega) (by omega)
    refine ⟨g3.1, ?_⟩
    intro C47 q47
    have g4 := g3.2 _ q47
    unfold wp_X3_takesE_j172
    have nn := sy_nots hL g4.1
    refine ⟨nn.1, ?_⟩
    intro r er
    rw [er, nn.2]
    exact nx C47 g4.1 (by rw [g4.2, e46, cl_k (by omega), wA_row, g2.2])
  rw [wp_X3_takesE_l28]
  refine ⟨fun z => absurd z (by decide), fun _ => ?_⟩
  unfold wp_X3_takesE_j39
  exact ⟨fun z => absurd z (by decide), fun _ => ⟨fun _ => ⟨fun z => absurd (hv.symm.trans (e13.symm.trans z)) (by decide), fun _ => j⟩, fun _ => j⟩⟩
theorem y_prt {Post : Int32 → CS → Prop} {C0 C : CS} {L : Nat} {S0 O : List Int32} {a j p n nots : Nat} {t : TS} (hL : L ≤ 96) (h9 : C0.1 1 9 = nI L) (h : syS C0 L C (List.replicate j (-10) ++ S0) O a t) (hb : bot 6 S0) (hn : nots < 2 ^ 31) (hp : p ≤ 8)
    (hN : ¬ (t.2.2.1 = 3 ∧ t.2.2.2.1 = 33 ∧ nots < 8)) (hO : ¬ (t.2.2.1 = 3 ∧ t.2.2.2.1 = 40 ∧ p < 8))
    (nx : match ptT (C0.1 1 15) t with
      | some x => ∀ D, syS C0 L D S0 (List.replicate j (-10) ++ x :: O) (a + 1) (stp (C0.2.1 43) L t) → D.2.1 48 = C.2.1 48 → wp_X3_takesE_l28 Post n D (nI p) (nI (S0.count (-10))) 0
      | none => ∀ X, pEq C0 X → X.1 1 11 = nI t.2.1 → Post 0 X) : wp_X3_takesE_l28 Post (n + 1) C (nI p) (nI nots) 1 := by
  have e12 := h.2.2.2.1.2.2.1
  have e13 := h.2.2.2.1.2.2.2.1
  have hl := sy_len hL h
  have e15 := (sy_L h9 h).2.2
  have ept : ptS C = ptT (C0.1 1 15) t := by rw [pt_C hL h.2.2.2.1 h.2.2.2.2.1, e15]
  have j1 : wp_X3_takesE_j158 Post (fun C i1 i2 i3 => wp_X3_takesE_l28 Post n C i1 i2 i3) C (nI p) := by
    unfold wp_X3_takesE_j158
    refine ⟨⟨⟨_, _, h.2.1, hl⟩, sy_gop hL h9 h⟩, ?_⟩
    intro r er C37 q37
    unfold v_X3_takesPart at er
    rw [ept] at er
    cases hx : ptT (C0.1 1 15) t with
    | none =>
      rw [hx] at er nx
      unfold q_X3_takesPart at q37
      rw [ept, hx] at q37
      subst q37
      exact ⟨fun _ => nx _ h.1 h.2.2.2.1.2.1, fun z => absurd er z⟩
    | some x =>
      rw [hx] at er nx
      have g := sy_part hL h9 h hb hx q37
      have er : r = 1 := er
      refine ⟨fun z => absurd (er.symm.trans z) (by decide), fun _ => ?_⟩
      unfold wp_X3_takesE_j172
      have nn := sy_nots hL g.1
      refine ⟨nn.1, ?_⟩
      intro r2 er2
      rw [er2, nn.2]
      exact nx _ g.1 g.2
  have j : wp_X3_takesE_j97 Post (fun C i1 i2 i3 => wp_X3_takesE_l28 Post n C i1 i2 i3) C (nI p) 1 := by
    unfold wp_X3_takesE_j97
    refine ⟨fun z1 => ⟨fun z2 => ⟨fun _ => j1, fun z3 => absurd ⟨e12.symm.trans z1, e13.symm.trans z2, ?_⟩ hO⟩, fun _ => j1⟩, fun _ => j1⟩
    rw [show (8 : Int32) = nI 8 from rfl, nI_leI (by omega) (by omega)] at z3
    omega
  rw [wp_X3_takesE_l28]
  refine ⟨fun z => absurd z (by decide), fun _ => ?_⟩
  unfold wp_X3_takesE_j39
  refine ⟨fun z => absurd z (by decide), fun _ => ⟨fun z1 => ⟨fun z2 => ⟨fun _ => j, fun z3 => absurd ⟨e12.symm.trans z1, e13.symm.trans z2, ?_⟩ hN⟩, fun _ => j⟩, fun _ => j⟩⟩
  rw [show (8 : Int32) = nI 8 from rfl, nI_leI (by omega) (by omega)] at z3
  omega

