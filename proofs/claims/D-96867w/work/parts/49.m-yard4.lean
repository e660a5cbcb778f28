theorem rsm_fr {Post : Int32 → CS → Prop} {C0 C D : CS} {L : Nat} {S0 B e : List Int32} {a k p n : Nat} {r : Bool × List Int32 × Nat × TS} (h : rsm Post C0 L C S0 B e a k p r n) (hf : ∀ i, i < p ∨ (i = p ∧ 4 ≤ k) → D.2.1 48 i = C.2.1 48 i) : rsm Post C0 L D S0 B e a k p r n := by
  unfold rsm at h ⊢
  by_cases c : r.1 = true
  · rw [if_pos c] at h ⊢
    intro C1 W O hc
    exact h C1 W O ⟨hc.1, hc.2.1, hc.2.2.1, fun i hi => (hc.2.2.2.1 i hi).trans (hf i hi), hc.2.2.2.2⟩
  · rw [if_neg c] at h ⊢
    exact h
theorem rsm_t {Post : Int32 → CS → Prop} {C0 C : CS} {L : Nat} {S0 B e c : List Int32} {a a2 k p n : Nat} {t : TS} : rsm Post C0 L C S0 B e a k p (true, c, a2, t) n ↔ ∀ C1 W O, cnd C0 L C S0 B (c ++ e) (a + a2) k p t C1 W O → wp_X3_takesE_l28 Post n C1 (nI p) (nI (S0.count (-10))) 0 := by
  unfold rsm
  rw [if_pos rfl]
theorem rsm_f {Post : Int32 → CS → Prop} {C0 C : CS} {L : Nat} {S0 B e c : List Int32} {a a2 k p n : Nat} {t : TS} : rsm Post C0 L C S0 B e a k p (false, c, a2, t) n ↔ ∀ X, pEq C0 X → X.1 1 11 = nI t.2.1 → Post 0 X := by
  unfold rsm
  rw [if_neg (fun z => Bool.noConfusion z)]
theorem bot_mono {k : Nat} : ∀ {S : List Int32}, bot k S → bot (k + 1) S
  | [], _ => trivial
  | _ :: _, h => h.imp id (fun z => Nat.lt_succ_of_lt z)
theorem yB_step {Post : Int32 → CS → Prop} {C0 : CS} {L n : Nat} (hL : L ≤ 96) (h9 : C0.1 1 9 = nI L) (ihA : yA Post C0 L n) (ihB : yB Post C0 L n) : yB Post C0 L (n + 1) := by
  intro k nots pars t c a r hr h1 h5 hp
  rw [rd] at hr
  by_cases cs : ¬ sgT t = 0 ∧ rk (sgT t) = k
  · rw [if_pos cs] at hr
    obtain ⟨f5, f11, f10, ft, fv⟩ := sg_5 t cs.1
    rcases hq : rd (C0.2.1 43) L (C0.1 1 15) n (k + 1) none nots pars (stp (C0.2.1 43) L t) with _ | ⟨b, c2, a2, t2⟩
    · simp only [hq] at hr; cases hr
    · obtain ⟨m1, hm1⟩ := ihA (k + 1) nots pars _ _ hq (by omega) (by omega) hp
      -- the sign is taken, then the part behind it
      have key : ∀ (C : CS) (S0 W B O : List Int32) (a0 : Nat), syS C0 L C (W ++ S0) O (a0 + a) t → (∀ o ∈ W, ¬ o = -11 ∧ k ≤ rk o) → bot k S0 → nots = S0.count (-10) → (k = 3 → C.2.1 48 pars = 0) → isB (C.2.1 48 pars) → ∀ n', (∀ D, (∀ i, i ≠ pars → D.2.1 48 i = C.2.1 48 i) → D.2.1 48 pars = (if k = 3 then 1 else if k ≤ 3 then 0 else C.2.1 48 pars) → rsm Post C0 L D (sgT t :: S0) (W.reverse ++ O).reverse (List.replicate 0 (-10)) (a0 + a) (k + 1) pars (b, c2, a2, t2) n') → wp_X3_takesE_l28 Post (n' + m1 + 1) C (nI pars) (nI nots) 0 := by
        intro C S0 W B O a0 h hW hb hn h3 hi n' hh
        refine y_push (k := k) hL h9 h cs.1 cs.2 hW hb hp h3 hi (fun D hD hf hD2 => ?_)
        refine hm1 D (sgT t :: S0) 0 (W.reverse ++ O) (a0 + a) hD (Or.inl rfl) (Or.inr (by omega)) ?_ (fun z => ?_) ?_ n' (hh D hf hD2)
        · rw [List.count_cons_of_ne (fun z => f10 z)]; omega
        · rw [hD2, if_neg (by omega), if_pos (by omega)]
        · rw [hD2]
          by_cases c3 : k = 3
          · rw [if_pos c3]; exact Or.inr rfl
          · rw [if_neg c3]
            by_cases c4 : k ≤ 3
            · rw [if_pos c4]; exact Or.inl rfl
            · rw [if_neg c4]; exact hi
      cases b with
      | false =>
        simp only [hq] at hr
        cases hr
        refine ⟨m1 + 1, ?_⟩
        intro C S0 W B O a0 h hc hW hb hn h3 hi hst n' hres
        exact key C S0 W B O a0 h hW hb hn h3 hi n' (fun D _ _ => rsm_f.mpr (rsm_f.mp hres))
      | true =>
        simp only [hq] at hr
        have ct : (sgT t :: ([] : List Int32)).count (-10) = 0 := by rw [List.count_cons_of_ne (fun z => f10 z)]; rfl
        -- behind it: one longer part of this level
        have up : ∀ (C D C1 : CS) (S0 W B O W1 O1 : List Int32) (a0 : Nat), O.reverse ++ W = B ++ c → cnd C0 L D (sgT t :: S0) (W.reverse ++ O).reverse (c2 ++ List.replicate 0 (-10)) (a0 + a + a2) (k + 1) pars t2 C1 W1 O1 → syS C0 L C1 ((W1 ++ [sgT t]) ++ S0) O1 (a0 + (a + a2)) t2 ∧ O1.reverse ++ (W1 ++ [sgT t]) = B ++ (c ++ c2 ++ [sgT t]) ∧ (∀ o ∈ W1 ++ [sgT t], ¬ o = -11 ∧ k ≤ rk o) := by
          intro C D C1 S0 W B O W1 O1 a0 hc hd
          refine ⟨?_, ?_, ?_⟩
          · rw [List.append_assoc, ← Nat.add_assoc]; exact hd.1
          · rw [← List.append_assoc, hd.2.1, List.reverse_append, List.reverse_reverse, hc]
            simp
          · intro o ho
            rw [List.mem_append] at ho
            rcases ho with ho | ho
            · have := hd.2.2.1 o ho
              exact ⟨this.1, by omega⟩
            · rw [List.mem_singleton] at ho
              subst ho
              exact ⟨f11, by omega⟩
        by_cases c3 : k = 3
        · rw [if_pos c3] at hr
          cases hr
          refine ⟨m1 + 1, ?_⟩
          intro C S0 W B O a0 h hc hW hb hn h3 hi hst n' hres
          refine key C S0 W B O a0 h hW hb hn h3 hi n' (fun D hf hD2 => rsm_t.mpr (fun C1 W1 O1 hd => ?_))
          rw [List.count_cons_of_ne (fun z => f10 z)]
          have u := up C D C1 S0 W B O W1 O1 a0 hc hd
          have ep : C1.2.1 48 pars = 1 := by rw [hd.2.2.2.1 pars (Or.inr ⟨rfl, by omega⟩), hD2, if_pos c3]
          refine rsm_t.mp hres C1 (W1 ++ [sgT t]) O1 ⟨u.1, by rw [List.append_nil]; exact u.2.1, u.2.2, fun i hi => ?_, hd.2.2.2.2.1, ?_⟩
          · have hlt : i < pars := by omega
            rw [hd.2.2.2.1 i (Or.inl hlt), hf i (by omega)]
          · rcases hd.2.2.2.2.2 with y | y | y
            · exact Or.inl y
            · by_cases c4 : rk (sgT t2) = 3
              · exact Or.inr (Or.inr ⟨by omega, c4, by rw [ep]; decide⟩)
              · exact Or.inr (Or.inl (by omega))
            · omega
        · rw [if_neg c3] at hr
          obtain ⟨m2, hm2⟩ := ihB k nots pars _ _ _ _ hr h1 h5 hp
          refine ⟨m2 + m1 + 1, ?_⟩
          intro C S0 W B O a0 h hc hW hb hn h3 hi hst n' hres
          rw [show n' + (m2 + m1 + 1) = (n' + m2) + m1 + 1 by omega]
          refine key C S0 W B O a0 h hW hb hn h3 hi (n' + m2) (fun D hf hD2 => rsm_t.mpr (fun C1 W1 O1 hd => ?_))
          rw [List.count_cons_of_ne (fun z => f10 z), ← hn]
          have u := up C D C1 S0 W B O W1 O1 a0 hc hd
          refine hm2 C1 S0 (W1 ++ [sgT t]) B O1 a0 u.1 u.2.1 u.2.2 hb hn (fun z => absurd z c3) hd.2.2.2.2.1 hd.2.2.2.2.2 n' (rsm_fr hres (fun i hi => ?_))
          rcases hi with y | y
          · rw [hd.2.2.2.1 i (Or.inl y), hf i (by omega)]
          · rw [hd.2.2.2.1 i (Or.inr ⟨y.1, by omega⟩), y.1, hD2, if_neg c3, if_neg (by omega)]
  · rw [if_neg cs] at hr
    cases hr
    refine ⟨0, ?_⟩
    intro C S0 W B O a0 h hc hW hb hn h3 hi hst n' hres
    rw [hn]
    refine rsm_t.mp hres C W O ⟨h, by rw [List.append_nil]; exact hc, hW, fun _ _ => rfl, hi, ?_⟩
    rcases hst with y | y | y
    · exact Or.inl y
    · by_cases c0 : sgT t = 0
      · exact Or.inl c0
      · have : ¬ rk (sgT t) = k := fun z => cs ⟨c0, z⟩
        exact Or.inr (Or.inl (by omega))
    · exact Or.inr (Or.inr ⟨by omega, y.2⟩)

