theorem pt_3 {key : Int32} {t : TS} {x : Int32} (h : ptT key t = some x) : ¬ t.2.2.1 = 3 := by
  intro z
  unfold ptT at h
  rw [z, if_neg (by decide), if_neg (fun y => absurd y.1 (by decide))] at h
  cases h
theorem stops6 (t : TS) (C : CS) (p : Nat) : stops 6 t C p := by
  by_cases c : sgT t = 0
  · exact Or.inl c
  · have := (sg_5 t c).1
    exact Or.inr (Or.inl (by omega))
theorem yA_step {Post : Int32 → CS → Prop} {C0 : CS} {L n : Nat} (hL : L ≤ 96) (h9 : C0.1 1 9 = nI L) (ihA : yA Post C0 L n) (ihB : yB Post C0 L n) : yA Post C0 L (n + 1) := by
  intro k nots pars t r hr h1 h6 hp
  rw [rd] at hr
  by_cases c6 : k = 6
  · rw [if_pos c6] at hr
    subst c6
    rcases hx : ptT (C0.1 1 15) t with _ | x
    · simp only [hx] at hr
      by_cases cN : t.2.2.1 = 3 ∧ t.2.2.2.1 = 33 ∧ nots < 8
      · rw [if_pos cN] at hr
        rcases hq : rd (C0.2.1 43) L (C0.1 1 15) n 6 none (nots + 1) pars (stp (C0.2.1 43) L t) with _ | ⟨b, c, a2, t2⟩
        · simp only [hq] at hr; cases hr
        · obtain ⟨m1, hm1⟩ := ihA 6 (nots + 1) pars _ _ hq (by omega) (by omega) hp
          refine ⟨m1 + 1, ?_⟩
          intro C S0 j O a h hj hb hn h3 hi n' hres
          refine y_not hL h9 h cN.1 cN.2.1 cN.2.2 (fun D hD h48 => ?_)
          rw [show (-10 :: (List.replicate j (-10) ++ S0) : List Int32).count (-10) = nots + 1 by rw [List.count_cons_self, List.count_append, List.count_replicate_self, hn]]
          refine hm1 D S0 (j + 1) O a (by rw [List.replicate_succ]; exact hD) (Or.inr rfl) hb (by omega) (fun z => by omega) (by rw [h48]; exact hi) n' ?_
          cases b with
          | false =>
            simp only [hq] at hr
            cases hr
            exact rsm_f.mpr (rsm_f.mp hres)
          | true =>
            simp only [hq] at hr
            cases hr
            refine rsm_t.mpr (fun C1 W O1 hd => ?_)
            refine rsm_t.mp hres C1 W O1 ⟨hd.1, ?_, hd.2.2.1, fun i hi => by rw [hd.2.2.2.1 i hi, h48], hd.2.2.2.2⟩
            rw [hd.2.1, List.replicate_succ]
            simp
      · rw [if_neg cN] at hr
        by_cases cO : t.2.2.1 = 3 ∧ t.2.2.2.1 = 40 ∧ pars < 8
        · rw [if_pos cO] at hr
          rcases hq : rd (C0.2.1 43) L (C0.1 1 15) n 1 none nots (pars + 1) (stp (C0.2.1 43) L t) with _ | ⟨b, c, a2, t2⟩
          · simp only [hq] at hr; cases hr
          · obtain ⟨m1, hm1⟩ := ihA 1 nots (pars + 1) _ _ hq (by omega) (by omega) (by omega)
            refine ⟨1 + m1 + 1, ?_⟩
            intro C S0 j O a h hj hb hn h3 hi n' hres
            rw [show n' + (1 + m1 + 1) = ((n' + 1) + m1) + 1 by omega]
            refine y_open hL h9 h cO.1 cO.2.1 cO.2.2 (fun D hD h48 => ?_)
            have en : (-11 :: (List.replicate j (-10) ++ S0) : List Int32).count (-10) = nots := by rw [List.count_cons_of_ne (by decide), List.count_append, List.count_replicate_self, hn]
            have e0 : D.2.1 48 (pars + 1) = 0 := by rw [h48]; unfold upd; rw [if_pos rfl]
            rw [en]
            refine hm1 D (-11 :: (List.replicate j (-10) ++ S0)) 0 O a hD (Or.inl rfl) (Or.inl rfl) (by omega) (fun _ => e0) (Or.inl e0) (n' + 1) ?_
            cases b with
            | false =>
              simp only [hq] at hr
              cases hr
              exact rsm_f.mpr (rsm_f.mp hres)
            | true =>
              simp only [hq] at hr
              refine rsm_t.mpr (fun C1 W O1 hd => ?_)
              by_cases c41 : t2.2.2.1 = 3 ∧ t2.2.2.2.1 = 41
              · rw [if_pos c41] at hr
                cases hr
                refine y_close hL h9 hd.1 c41.1 c41.2 (fun o ho => (hd.2.2.1 o ho).1) hb (by omega) (fun E hE hE48 => ?_)
                have fr : ∀ i, i < pars + 1 → E.2.1 48 i = C.2.1 48 i := by
                  intro i hi
                  rw [hE48, hd.2.2.2.1 i (Or.inl hi), h48]
                  unfold upd
                  rw [if_neg (by omega)]
                refine rsm_t.mp hres E [] _ ⟨hE, ?_, fun _ ho => absurd ho (by simp), fun i hi => fr i (by omega), by rw [fr pars (by omega)]; exact hi, stops6 _ _ _⟩
                have := hd.2.1
                simp at this ⊢
                rw [← List.append_assoc, this, List.append_assoc]
              · rw [if_neg c41] at hr
                cases hr
                exact y_end hL hd.1 (by omega) hd.2.2.2.2.2 (fun z1 z2 => absurd ⟨z1, z2⟩ c41) (fun _ => by omega) (rsm_f.mp hres)
        · rw [if_neg cO] at hr
          cases hr
          refine ⟨1, ?_⟩
          intro C S0 j O a h hj hb hn h3 hi n' hres
          have hl := sy_len hL h
          have hc := List.count_le_length (a := (-10 : Int32)) (l := S0)
          rw [List.length_append, List.length_replicate] at hl
          refine y_prt hL h9 h hb (by omega) hp cN cO ?_
          rw [hx]
          exact rsm_f.mp hres
    · simp only [hx] at hr
      cases hr
      refine ⟨1, ?_⟩
      intro C S0 j O a h hj hb hn h3 hi n' hres
      have hl := sy_len hL h
      have hc := List.count_le_length (a := (-10 : Int32)) (l := S0)
      rw [List.length_append, List.length_replicate] at hl
      refine y_prt hL h9 h hb (by omega) hp (fun z => pt_3 hx z.1) (fun z => pt_3 hx z.1) ?_
      rw [hx]
      intro D hD h48
      refine rsm_t.mp hres D [] _ ⟨hD, ?_, fun _ ho => absurd ho (by simp), fun i hi => by rw [h48], by rw [h48]; exact hi, stops6 _ _ _⟩
      simp
  · rw [if_neg c6] at hr
    rcases hq : rd (C0.2.1 43) L (C0.1 1 15) n (k + 1) none nots pars t with _ | ⟨b, c, a2, t2⟩
    · simp only [hq] at hr; cases hr
    · obtain ⟨m1, hm1⟩ := ihA (k + 1) nots pars _ _ hq (by omega) (by omega) hp
      cases b with
      | false =>
        simp only [hq] at hr
        cases hr
        refine ⟨m1, ?_⟩
        intro C S0 j O a h hj hb hn h3 hi n' hres
        have j0 := hj.resolve_right c6
        subst j0
        exact hm1 C S0 0 O a h (Or.inl rfl) (bot_mono hb) hn (fun z => h3 (by omega)) hi n' (rsm_f.mpr (rsm_f.mp hres))
      | true =>
        simp only [hq] at hr
        obtain ⟨m2, hm2⟩ := ihB k nots pars _ _ _ _ hr h1 (by omega) hp
        refine ⟨m2 + m1, ?_⟩
        intro C S0 j O a h hj hb hn h3 hi n' hres
        have j0 := hj.resolve_right c6
        subst j0
        rw [← Nat.add_assoc]
        refine hm1 C S0 0 O a h (Or.inl rfl) (bot_mono hb) hn (fun z => h3 (by omega)) hi (n' + m2) (rsm_t.mpr (fun C1 W O1 hd => ?_))
        have hn2 : nots = S0.count (-10) := by omega
        rw [← hn2]
        refine hm2 C1 S0 W O.reverse O1 a hd.1 (by have := hd.2.1; rw [List.replicate_zero, List.append_nil] at this; exact this) (fun o ho => ⟨(hd.2.2.1 o ho).1, by have := (hd.2.2.1 o ho).2; omega⟩) hb hn2 (fun z => by rw [hd.2.2.2.1 pars (Or.inr ⟨rfl, by omega⟩)]; exact h3 (by omega)) hd.2.2.2.2.1 hd.2.2.2.2.2 n' (rsm_fr hres (fun i hi => hd.2.2.2.1 i (hi.imp id (fun z => ⟨z.1, by omega⟩))))
theorem y_all {Post : Int32 → CS → Prop} {C0 : CS} {L : Nat} (hL : L ≤ 96) (h9 : C0.1 1 9 = nI L) : ∀ n, yA Post C0 L n ∧ yB Post C0 L n
  | 0 => ⟨fun k nots pars t r hr => (by cases hr), fun k nots pars t c a r hr => (by cases hr)⟩
  | n + 1 => ⟨yA_step hL h9 (y_all hL h9 n).1 (y_all hL h9 n).2, yB_step hL h9 (y_all hL h9 n).1 (y_all hL h9 n).2⟩

