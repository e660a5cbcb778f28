/-! the lowest level of the grammar: numbers, names, not, parentheses -/
theorem trC_of2 {C C1 : CS} {key : Int32} {d e a : Nat} {c : List Int32} (hno : ∀ e c, ¬ trC C key e d c) (h : trC C key e a c) (hs : ∀ b, b ≠ d → cT C1 b = cT C b ∧ sameD C1 C b) : trC C1 key e a c := by
  induction e generalizing a c with
  | zero => exact h.elim
  | succ e ih =>
    have hne : a ≠ d := fun z => hno (e + 1) c (by rw [← z]; exact h)
    obtain ⟨s1, s2⟩ := hs a hne
    have iy : ∀ q, isDy C q a → isDy C1 q a := fun q ⟨m, hm⟩ => ⟨m, s1.trans hm⟩
    have i1 : ∀ k, cDI C1 k a = cDI C k a := s2.1
    have i2 : ∀ k, cDR C1 k a = cDR C k a := s2.2.1
    rcases h with ⟨h1, h2, h3⟩ | ⟨h1, h2, h3⟩ | ⟨h1, b, c1, h2, h3, h4⟩ | ⟨h1, b1, b2, c1, c2, h2, h3, h4, h5, h6, h7⟩
    · exact Or.inl ⟨iy _ h1, by rw [i1]; exact h2, by rw [i1]; exact h3⟩
    · exact Or.inr (Or.inl ⟨iy _ h1, by rw [i1]; exact h2, by rw [i1]; exact h3⟩)
    · exact Or.inr (Or.inr (Or.inl ⟨iy _ h1, b, c1, by rw [i2]; exact h2, ih h3, h4⟩))
    · exact Or.inr (Or.inr (Or.inr ⟨iy _ h1, b1, b2, c1, c2, by rw [i2]; exact h2, by rw [i2]; exact h3, ih h4, ih h5, by rw [i1]; exact h6, by rw [i1]; exact h7⟩))
theorem no13 {C : CS} {key : Int32} {d n : Nat} (hd : cT C d = some (13, n)) (h0 : cDR C 130 d = none) : ∀ e c, ¬ trC C key e d c := by
  intro e c h
  cases e with
  | zero => exact h
  | succ e =>
    rcases h with ⟨⟨m, h1⟩, -⟩ | ⟨⟨m, h1⟩, -⟩ | ⟨h1, b, c1, h2, -⟩ | ⟨⟨m, h1⟩, -⟩
    · exact absurd (hd.symm.trans h1) (by simp)
    · exact absurd (hd.symm.trans h1) (by simp)
    · rw [h0] at h2; cases h2
    · exact absurd (hd.symm.trans h1) (by simp)
theorem nI_leI8 {p : Nat} (h : p < 8) : nI 8 ≤ nI p ↔ 8 ≤ p := nI_leI (by omega) (by omega)
theorem isNm {C : CS} {key : Int32} {L : Nat} {t : TS} {nots pars a : Nat} (h : pS C key L t nots pars a) : v_X0_isName C = 0 ↔ ¬ (t.2.2.1 = 1 ∧ t.1 = t.2.1 + 1 ∧ ¬ nmK key t.2.2.2.1 < 0) := by
  obtain ⟨h1, h2, h3, h4, h5, h6, h7, h8, h9⟩ := h
  have hL := h1.1
  have t1 := h3.1
  have t2 := h3.2.1
  unfold v_X0_isName
  rw [h2.1]
  by_cases c : t.2.2.1 = 1
  · rw [if_pos c, h2.2.1, h2.2.2.1, pk_sub t1, h9.1, h2.2.2.2 (Or.inl c)]
    by_cases c2 : t.1 = t.2.1 + 1
    · rw [if_pos (show nI (t.1 - t.2.1) = 1 by rw [c2, show t.2.1 + 1 - t.2.1 = 1 by omega]; rfl)]
      have e : nmK key t.2.2.2.1 = v_X3_nameOf (keyW key) t.2.2.2.1 := rfl
      rw [e]
      unfold v_X3_nameOf
      simp only [c, c2, true_and]
      show _ ↔ ¬ ¬ (if key = 0 then _ else _) < 0
      generalize t.2.2.2.1 = v
      by_cases k0 : key = 0
      · rw [if_pos k0, if_pos k0]
        by_cases a1 : v = 97
        · simp [a1]
        · by_cases a2 : v = 98
          · simp [a2]
          · by_cases a3 : v = 119
            · simp [a3]
            · simp [a1, a2, a3]
      · rw [if_neg k0, if_neg k0]
        show _ ↔ ¬ ¬ (if key = 1 then _ else _) < 0
        by_cases k1 : key = 1
        · rw [if_pos k1, if_pos k1]
          by_cases a1 : v = 120
          · simp [a1]
          · by_cases a2 : v = 112
            · simp [a2]
            · simp [a1, a2]
        · rw [if_neg k1, if_neg k1]
          by_cases a1 : v = 100
          · simp [a1]
          · by_cases a2 : v = 108
            · simp [a2]
            · simp [a1, a2]
    · rw [if_neg (show ¬ nI (t.1 - t.2.1) = 1 from fun z => c2 (by have : t.1 - t.2.1 = 1 := (nI_eq (b := 1) (by omega) (by omega)).mp z; omega))]
      exact ⟨fun _ z => c2 z.2.1, fun _ => rfl⟩
  · rw [if_neg c]; exact ⟨fun _ z => c z.1, fun _ => rfl⟩
theorem pS.wI {C : CS} {key : Int32} {L : Nat} {t : TS} {nots pars a : Nat} (h : pS C key L t nots pars a) :
    (∀ b, pS (wI C 0 19 (nI b)) key L t nots pars b) ∧ (∀ b, b ≤ 8 → pS (wI C 0 18 (nI b)) key L t b pars a) ∧ (∀ b, b ≤ 8 → pS (wI C 0 17 (nI b)) key L t nots b a) := by
  obtain ⟨⟨l1, l2, l3, l4⟩, ⟨g1, g2, g3, g4⟩, h3, h4, h5, h6, h7, h8, h9⟩ := h
  refine ⟨fun b => ?_, fun b hb => ?_, fun b hb => ?_⟩
  · exact ⟨⟨l1, by rw [wIn (by decide)]; exact l2, by rw [wIn (by decide)]; exact l3, l4⟩, ⟨by rw [wIn (by decide)]; exact g1, by rw [wIn (by decide)]; exact g2, by rw [wIn (by decide)]; exact g3, fun z => by rw [wIn (by decide)]; exact g4 z⟩, h3, h4, h5, by rw [wIn (by decide)]; exact h6, by rw [wIn (by decide)]; exact h7, wIs, by rw [wIn (by decide)]; exact h9.1, h9.2⟩
  · exact ⟨⟨l1, by rw [wIn (by decide)]; exact l2, by rw [wIn (by decide)]; exact l3, l4⟩, ⟨by rw [wIn (by decide)]; exact g1, by rw [wIn (by decide)]; exact g2, by rw [wIn (by decide)]; exact g3, fun z => by rw [wIn (by decide)]; exact g4 z⟩, h3, h4, h5, by rw [wIn (by decide)]; exact h6, wIs, by rw [wIn (by decide)]; exact h8, by rw [wIn (by decide)]; exact h9.1, hb, h9.2.2⟩
  · exact ⟨⟨l1, by rw [wIn (by decide)]; exact l2, by rw [wIn (by decide)]; exact l3, l4⟩, ⟨by rw [wIn (by decide)]; exact g1, by rw [wIn (by decide)]; exact g2, by rw [wIn (by decide)]; exact g3, fun z => by rw [wIn (by decide)]; exact g4 z⟩, h3, h4, h5, wIs, by rw [wIn (by decide)]; exact h7, by rw [wIn (by decide)]; exact h8, by rw [wIn (by decide)]; exact h9.1, h9.2.1, hb⟩
set_option maxHeartbeats 4000000 in
set_option maxRecDepth 100000 in
theorem pg_X0_part {w : WD} (wk : wOk w) {l : Launch} {tp : Nat → Int32} {L : Nat} {key : Int32} (n : Nat) (IH6 : PG w l tp L key yX0_part cX0_part 3 6 n) (IH1 : PG w l tp L key yX0_either cX0_either 2 1 n) : PG w l tp L key yX0_part cX0_part 3 6 (n + 1) := by
  intro C t nots pars a r etp hp hr
  have hok := rd_ok _ _ _ _ _ _ _ hp.2.2.1 hr
  have hmono : t.2.1 ≤ r.2.2.2.2.1 := hok.2.1
  have hL := hp.1.1
  have tts := hp.2.2.1
  have hst := stp_ok (tp := tp) hp.2.2.1
  rw [rd, if_pos rfl] at hr
  have key2 : ∀ (x : Cx) (rm : Room) (Q : State → Prop), xL x = l → Ok w x cX0_part 3 "TwoGuilds" wtT rm → n + 13 ≤ rm.frames → 40 * (n + 13) ≤ rm.locals → (r.1 = true → r.2.2.2.2.1 - t.2.1 ≤ rm.cells ∧ 3 * (r.2.2.2.2.1 - t.2.1) ≤ rm.slots) → (r.1 = false → r.2.2.2.2.1 - t.2.1 + 1 ≤ rm.cells ∧ 3 * (r.2.2.2.2.1 - t.2.1) + 7 ≤ rm.slots) →
      (r.1 = true → ∀ C1 d1 pc lv, decode cX0_part pc = .ok (.areturn, 1) → pOkS C key L t nots pars a r d1 C1 → G w x 3 (r.2.2.2.2.1 - t.2.1) (3 * (r.2.2.2.2.1 - t.2.1)) Q C1 pc lv [.ref d1]) →
      (r.1 = false → ∀ C1 e pc lv st, pOkF C r e C1 → GT w x 3 (r.2.2.2.2.1 - t.2.1 + 1) (3 * (r.2.2.2.2.1 - t.2.1) + 7) Q C1 pc lv st e (fun _ => True)) →
      G w x 3 0 0 Q C 0 [(0, .ref (ad w 0))] [] := by
    intro x rm Q hx ok hf hl rS rF kS kF
    subst hx
    refine g_aload_n ok 0 dX0_part_0 rfl ?_
    refine g_get ok 0 rfl rfl in_X0 16 (by decide) q198 rfl dX0_part_1 ?_
    refine g_istore_n0 ok [(1, .int (C.1 0 16)), (0, .ref (ad w 0))] dX0_part_4 (by decide) rfl ?_
    -- a number or a name
    have leaf : ∀ v2 : Int32, (v2 = 1 ∧ t.2.2.1 = 2) ∨ (v2 = 0 ∧ t.2.2.1 = 1 ∧ t.1 = t.2.1 + 1 ∧ ¬ nmK key t.2.2.2.1 < 0) → G w x 3 0 0 Q C 34 [(2, .int v2), (1, .int (C.1 0 16)), (0, .ref (ad w 0))] [] := by
      intro v2 hv2
      have ht12 : t.2.2.1 = 1 ∨ t.2.2.1 = 2 := by
        rcases hv2 with h | h
        · exact Or.inr h.2
        · exact Or.inl h.2.1
      have hlt : t.2.1 < t.1 := tts.2.2 (fun z => by rcases ht12 with h | h <;> rw [h] at z <;> exact absurd z (by decide))
      have hval : C.1 0 16 = t.2.2.2.1 := hp.2.1.2.2.2 (by rcases ht12 with h | h; exact Or.inl h; exact Or.inr (Or.inl h))
      have rr : r = (true, [if t.2.2.1 = 2 then t.2.2.2.1 else 10000 + nmK key t.2.2.2.1], 1, stp tp L t) := by
        have hpt : ptT key t = some (if t.2.2.1 = 2 then t.2.2.2.1 else 10000 + nmK key t.2.2.2.1) := by
          unfold ptT
          rcases hv2 with ⟨-, h⟩ | ⟨-, h, h', h''⟩
          · rw [if_pos h, if_pos h]
          · rw [if_neg (by rw [h]; decide), if_pos ⟨h, h', h''⟩, if_neg (by rw [h]; decide)]
        rw [hpt] at hr
        exact (Option.some.inj hr).symm
      subst rr
      have cap := rS rfl
      simp only at cap
      refine g_aload_n ok 2 dX0_part_34 rfl ?_
      refine g_dup ok dX0_part_35 rfl ?_
      refine g_get ok 0 rfl rfl in_X0 19 (by decide) q201 rfl dX0_part_36 ?_
      refine g_iconst (v := 1) ok dX0_part_39 (by decide) ?_
      refine g_iadd ok dX0_part_40 ?_
      refine g_putI ok 0 rfl rfl in_X0 tyX0 tyX0_ok nmX0 19 (by decide) q201 rfl rfl rfl (putV_x rfl (by decide)) dX0_part_41 (fun C1 e1 => ?_)
      have a19 : C.1 0 19 + 1 = nI (a + 1) := by rw [hp.2.2.2.2.2.2.2.1, show (1 : Int32) = nI 1 from rfl, nI_add]
      rw [a19] at e1
      have hp1 : pS C1 key L t nots pars (a + 1) := by rw [e1]; exact hp.wI.1 (a + 1)
      have pe1 : pE C C1 := by rw [e1]; exact (pE.rf C).wI (by omega) _
      refine g_aload_n ok 2 dX0_part_44 rfl ?_
      refine g_callV ok [] cf_X0_goesOn q938 (mc_X0_goesOn ok.wo (xL x) C1 t L (hp1.pre (by rcases ht12 with h | h; exact Or.inl h; exact Or.inr (Or.inl h)))) (recvF ok 0 rfl rfl) rfl rfl (Nat.le_of_ble_eq_true rfl) ⟨by omega, by omega⟩ ⟨by omega, by omega⟩ dX0_part_45 (resVR fun C2 hq => ?_)
      obtain ⟨hp2, e2⟩ := hp1.go hq
      rw [pe1.1, etp] at hp2
      have pe2 := pe1.tr e2
      refine g_iload_n ok 0 dX0_part_48 rfl ?_
      refine g_if_eq (tgt := 63) ok dX0_part_49 (by decide) (fun z => ?_) (fun z => ?_)
      · have h1 : t.2.2.1 = 1 ∧ t.1 = t.2.1 + 1 ∧ ¬ nmK key t.2.2.2.1 < 0 := by
          rcases hv2 with h | h
          · rw [h.1] at z; exact absurd z (by decide)
          · exact h.2
        refine g_newR ok 12 (by decide) rfl in_X13 tyX13 tyX13_ok nv_12 q1072 q1073 q96 ⟨by omega, by omega⟩ dX0_part_63 (fun d hd => ?_)
        refine g_dup ok dX0_part_66 rfl ?_
        refine g_aload_n ok 2 dX0_part_67 rfl ?_
        refine g_iload_n ok 1 dX0_part_68 rfl ?_
        refine g_callI ok [.ref (ad w 0), .int (C.1 0 16)] cfI_X13_init q1074 (mc_X13_init ok.wo (xL x) (nwC C2 d 62) d (C.1 0 16) (nwC_T C2 d 62)) rfl rfl (Nat.le_of_ble_eq_true rfl) ⟨by omega, by omega⟩ ⟨by omega, by omega⟩ dX0_part_69 (resV ?_)
        refine g_widen ((stp tp L t).2.1 - t.2.1) (3 * ((stp tp L t).2.1 - t.2.1)) (by omega) (by omega) ?_
        have hd0 : ∀ b, b ≠ d → cT (n_X13_init (nwC C2 d 62) d (C.1 0 16)) b = cT C2 b ∧ sameD (n_X13_init (nwC C2 d 62) d (C.1 0 16)) C2 b := by
          intro b hb
          refine ⟨?_, ?_⟩
          · show up1 _ _ _ b = _
            unfold up1
            rw [if_neg hb]
            exact nwC_Tn hb
          · exact sameD.tr (C1 := wT (nwC C2 d 62) d (some (12, 0))) (nw_D (tg := 62) hb).2 (sD_I hb)
        refine kS rfl _ d 72 _ dX0_part_72 ⟨pe2.nw (pe2.noT hd) rfl rfl rfl rfl rfl hd0, hp2, 1, by simp only; omega, Or.inr (Or.inl ⟨⟨0, ?_⟩, ?_, ?_⟩)⟩
        · show up1 _ _ _ d = _
          unfold up1
          rw [if_pos rfl]
        · rw [show cDI (n_X13_init (nwC C2 d 62) d (C.1 0 16)) 120 d = C.1 0 16 from wDI_s _ _ _ _, hval]; exact h1.2.2
        · rw [show cDI (n_X13_init (nwC C2 d 62) d (C.1 0 16)) 120 d = C.1 0 16 from wDI_s _ _ _ _, hval]
          simp only
          rw [if_neg (by rw [h1.1]; decide)]
      · have h1 : t.2.2.1 = 2 := by
          rcases hv2 with h | h
          · exact h.2
          · exact absurd h.1 z
        refine g_newD ok 11 (by decide) rfl in_X12 tyX12 tyX12_ok nv_11 q1062 q1063 q95 ⟨by omega, by omega⟩ dX0_part_52 (fun d hd => ?_)
        refine g_dup ok dX0_part_55 rfl ?_
        refine g_iload_n ok 1 dX0_part_56 rfl ?_
        refine g_callI ok [.int (C.1 0 16)] cfI_X12_init q1064 (mc_X12_init ok.wo (xL x) (nwC C2 d 11) d (C.1 0 16) ⟨0, nwC_T C2 d 11⟩) rfl rfl (Nat.le_of_ble_eq_true rfl) ⟨by omega, by omega⟩ ⟨by omega, by omega⟩ dX0_part_57 (resV ?_)
        refine g_goto (tgt := 72) ok dX0_part_60 (by decide) ?_
        refine g_widen ((stp tp L t).2.1 - t.2.1) (3 * ((stp tp L t).2.1 - t.2.1)) (by omega) (by omega) ?_
        have hd0 : ∀ b, b ≠ d → cT (n_X12_init (nwC C2 d 11) d (C.1 0 16)) b = cT C2 b ∧ sameD (n_X12_init (nwC C2 d 11) d (C.1 0 16)) C2 b := fun b hb => ⟨nwC_Tn hb, ((nw_D hb).2).tr (sD_I hb)⟩
        have e110 : cDI (n_X12_init (nwC C2 d 11) d (C.1 0 16)) 110 d = t.2.2.2.1 := (wDI_s _ _ _ _).trans hval
        refine kS rfl _ d 72 _ dX0_part_72 ⟨pe2.nw (pe2.noT hd) rfl rfl rfl rfl rfl hd0, hp2, 1, by simp only; omega, Or.inl ⟨⟨0, nwC_T C2 d 11⟩, ?_, ?_⟩⟩
        · rw [e110]; exact hp.2.2.2.2.1 h1
        · rw [e110]
          simp only
          rw [if_pos h1]
    -- a fault here
    have fault : ∀ pc lv rest, (rest.map fun v : Value => v.category).sum ≤ 8 → decode cX0_part pc = .ok (.invokevirtual 376, 3) → r = (false, [], 0, t) → G w x 3 0 0 Q C pc lv (.int 0 :: .ref (ad w 0) :: rest) := by
      intro pc lv rest hrest dd rr
      subst rr
      have cap := rF rfl
      simp only at cap
      refine g_callVT ok [.int 0] cf_X0_must q1007 (mt_X0_must ok.wo (xL x) C) (recvF ok 0 rfl rfl) rfl rfl hrest ⟨by omega, by omega⟩ ⟨by omega, by omega⟩ dd (fun e C1 => ?_)
      intro H locs ls h1 h2 h3 h4
      have hfy : pOkF C (false, [], 0, t) e C1 := ⟨C, pE.rf C, by have : fyE C (C.1 0 14) e C1 := h4; rw [hp.2.1.2.1] at this; exact this⟩
      exact gt_widen (c1 := t.2.1 - t.2.1 + 1) (s1 := 3 * (t.2.1 - t.2.1) + 7) (by omega) (by omega) (kF rfl C1 e pc lv rest hfy) H locs ls h1 h2 h3 trivial
    -- neither a number nor a name
    have other : ptT key t = none → G w x 3 0 0 Q C 73 [(1, .int (C.1 0 16)), (0, .ref (ad w 0))] [] := by
      intro hpt
      rw [hpt] at hr
      simp only at hr
      refine g_aload_n ok 1 dX0_part_73 rfl ?_
      refine g_bipush (v := 33) ok dX0_part_74 (by decide) ?_
      refine g_callV ok [.int 33] cf_X0_isSign q1085 (mc_X0_isSign ok.wo (xL x) C 33) (recvF ok 0 rfl rfl) rfl rfl (Nat.le_of_ble_eq_true rfl) ⟨by omega, by omega⟩ ⟨by omega, by omega⟩ dX0_part_76 (resI ?_)
      refine g_if_eq (tgt := 138) ok dX0_part_79 (by decide) (fun z => ?_) (fun z => ?_)
      · have n33 := (isSg hp.2.1 33).mp z
        rw [if_neg (fun y => n33 ⟨y.1, y.2.1⟩)] at hr
        have bad : ¬ (t.2.2.1 = 3 ∧ t.2.2.2.1 = 40 ∧ pars < 8) → G w x 3 0 0 Q C 161 [(1, .int (C.1 0 16)), (0, .ref (ad w 0))] [.ref (ad w 0)] := by
          intro hn
          rw [if_neg hn] at hr
          refine g_iconst (v := 0) ok dX0_part_161 (by decide) ?_
          exact fault 162 _ [] (Nat.le_of_ble_eq_true rfl) dX0_part_162 (Option.some.inj hr).symm
        refine g_aload_n ok 1 dX0_part_138 rfl ?_
        refine g_aload_n ok 1 dX0_part_139 rfl ?_
        refine g_bipush (v := 40) ok dX0_part_140 (by decide) ?_
        refine g_callV ok [.int 40] cf_X0_isSign q1085 (mc_X0_isSign ok.wo (xL x) C 40) (recvF ok 0 rfl rfl) rfl rfl (Nat.le_of_ble_eq_true rfl) ⟨by omega, by omega⟩ ⟨by omega, by omega⟩ dX0_part_142 (resI ?_)
        refine g_if_eq (tgt := 161) ok dX0_part_145 (by decide) (fun z2 => bad (fun y => (isSg hp.2.1 40).mp z2 ⟨y.1, y.2.1⟩)) (fun z2 => ?_)
        have y40 : t.2.2.1 = 3 ∧ t.2.2.2.1 = 40 := Classical.byContradiction fun u => z2 ((isSg hp.2.1 40).mpr u)
        have hlt : t.2.1 < t.1 := tts.2.2 (by rw [y40.1]; decide)
        have h17 : C.1 0 17 = nI pars := hp.2.2.2.2.2.1
        refine g_aload_n ok 1 dX0_part_148 rfl ?_
        refine g_get ok 0 rfl rfl in_X0 17 (by decide) q199 rfl dX0_part_149 ?_
        refine g_bipush (v := 8) ok dX0_part_152 (by decide) ?_
        by_cases hp8 : pars < 8
        · refine g_icmp_ge (tgt := 161) ok dX0_part_154 (by decide) (fun z3 => bad (fun y => ?_)) (fun _ => ?_)
          · rw [h17, show (8 : Int32) = nI 8 from rfl] at z3
            have := (nI_leI8 hp8).mp z3
            omega
          rw [if_pos ⟨y40.1, y40.2, hp8⟩] at hr
          refine g_iconst (v := 1) ok dX0_part_157 (by decide) ?_
          refine g_goto (tgt := 162) ok dX0_part_158 (by decide) ?_
          refine g_callV ok [.int 1] cf_X0_must q1007 (mc_X0_must ok.wo (xL x) C 1 (by decide)) (recvF ok 0 rfl rfl) rfl rfl (Nat.le_of_ble_eq_true rfl) ⟨by omega, by omega⟩ ⟨by omega, by omega⟩ dX0_part_162 (resV ?_)
          refine g_aload_n ok 1 dX0_part_165 rfl ?_
          refine g_dup ok dX0_part_166 rfl ?_
          refine g_get ok 0 rfl rfl in_X0 17 (by decide) q199 rfl dX0_part_167 ?_
          refine g_iconst (v := 1) ok dX0_part_170 (by decide) ?_
          refine g_iadd ok dX0_part_171 ?_
          refine g_putI ok 0 rfl rfl in_X0 tyX0 tyX0_ok nmX0 17 (by decide) q199 rfl rfl rfl (putV_x rfl (by decide)) dX0_part_172 (fun C1 e1 => ?_)
          rw [h17, show (1 : Int32) = nI 1 from rfl, nI_add] at e1
          have hp1 : pS C1 key L t nots (pars + 1) a := by rw [e1]; exact hp.wI.2.2 (pars + 1) (by omega)
          have pe1 : pE C C1 := by rw [e1]; exact (pE.rf C).wI (by omega) _
          refine g_aload_n ok 1 dX0_part_175 rfl ?_
          refine g_callV ok [] cf_X0_goesOn q938 (mc_X0_goesOn ok.wo (xL x) C1 t L (hp1.pre (Or.inr (Or.inr y40.1)))) (recvF ok 0 rfl rfl) rfl rfl (Nat.le_of_ble_eq_true rfl) ⟨by omega, by omega⟩ ⟨by omega, by omega⟩ dX0_part_176 (resVR fun C2 hq => ?_)
          obtain ⟨hp2, e2⟩ := hp1.go hq
          rw [pe1.1, etp] at hp2
          have pe2 := pe1.tr e2
          obtain ⟨r2, hr2⟩ : ∃ r2, rd tp L key n 1 none nots (pars + 1) (stp tp L t) = some r2 := by
            cases hh : rd tp L key n 1 none nots (pars + 1) (stp tp L t) with
            | none => rw [hh] at hr; cases hr
            | some r2 => exact ⟨r2, rfl⟩
          rw [hr2] at hr
          have hok2 := rd_ok _ _ _ _ _ _ _ hst.1 hr2
          obtain ⟨b2, c2, a2, t2⟩ := r2
          simp only at hok2
          have hm2 : (stp tp L t).2.1 ≤ t2.2.1 := hok2.2.1
          have rel : (b2 = true → (if t2.2.2.1 = 3 ∧ t2.2.2.2.1 = 41 then some (true, c2, a2, stp tp L t2) else some (false, [], 0, t2)) = some r) ∧ (b2 = false → r = (false, c2, a2, t2)) := by
            cases b2 with
            | true => exact ⟨fun _ => hr, (fun z => by cases z)⟩
            | false => exact ⟨(fun z => by cases z), fun _ => (Option.some.inj hr).symm⟩
          have hst2 := stp_ok (tp := tp) hok2.1
          have hle2 : t2.2.1 ≤ r.2.2.2.2.1 := by
            cases b2 with
            | true =>
              have := rel.1 rfl
              by_cases q : t2.2.2.1 = 3 ∧ t2.2.2.2.1 = 41
              · rw [if_pos q] at this
                rw [← Option.some.inj this]
                have h1 := hok2.1.2.2 (by rw [q.1]; decide)
                have h2 := hst2.2
                simp only
                omega
              · rw [if_neg q] at this
                rw [← Option.some.inj this]
                exact Nat.le_refl _
            | false => rw [rel.2 rfl]; exact Nat.le_refl _
          have capN : t2.2.1 - t.2.1 ≤ rm.cells ∧ 3 * (t2.2.1 - t.2.1) ≤ rm.slots := by
            cases hb : r.1 with
            | true => have := rS hb; omega
            | false => have := rF hb; omega
          refine g_aload_n ok 1 dX0_part_179 rfl ?_
          refine g_prs ok (IH1 C2 (stp tp L t) nots (pars + 1) a (b2, c2, a2, t2) (by rw [pe2.1]; exact etp) hp2 hr2) cf_X0_either q1034 (Nat.le_of_ble_eq_true rfl) ⟨by omega, by omega⟩ (fun _ => ⟨by show 0 + (t2.2.1 - _) ≤ _; omega, by show 0 + 3 * (t2.2.1 - _) ≤ _; omega⟩) (fun z => ?_) dX0_part_180 (fun z e2 C4 h4 => ?_) (fun z e2 C4 h4 => ?_)
          · have z : b2 = false := z
            have := rF (by rw [rel.2 z])
            rw [rel.2 z] at this
            simp only at this
            exact ⟨by show 0 + (t2.2.1 - _ + 1) ≤ _; omega, by show 0 + (3 * (t2.2.1 - _) + 7) ≤ _; omega⟩
          · have z : b2 = true := z
            have rr := rel.1 z
            obtain ⟨pe4, hp4, e, he4, ht4⟩ := h4
            simp only at hp4 he4 ht4
            have pe0 := pe2.tr pe4
            refine g_astore_n ok [(2, .ref e2), (1, .int (C.1 0 16)), (0, .ref (ad w 0))] dX0_part_183 (by decide) rfl ?_
            refine g_aload_n ok 2 dX0_part_184 rfl ?_
            refine g_aload_n ok 2 dX0_part_185 rfl ?_
            refine g_bipush (v := 41) ok dX0_part_186 (by decide) ?_
            refine g_callV ok [.int 41] cf_X0_isSign q1085 (mc_X0_isSign ok.wo (xL x) C4 41) (recvF ok 0 rfl rfl) rfl rfl (Nat.le_of_ble_eq_true rfl) ⟨by omega, by omega⟩ ⟨by show 0 + (t2.2.1 - _) + 0 ≤ _; omega, by show 0 + 3 * (t2.2.1 - _) + 0 ≤ _; omega⟩ dX0_part_188 (resI ?_)
            by_cases q : t2.2.2.1 = 3 ∧ t2.2.2.2.1 = 41
            · rw [if_pos q] at rr
              have rr := (Option.some.inj rr).symm
              subst rr
              have cap := rS rfl
              simp only at cap
              have hlt2 : t2.2.1 < t2.1 := hok2.1.2.2 (by rw [q.1]; decide)
              have hst22 := hst2.2
              have hs1 : ¬ v_X0_isSign C4 41 = 0 := fun u => (isSg hp4.2.1 41).mp u q
              refine g_callV ok [.int (v_X0_isSign C4 41)] cf_X0_must q1007 (mc_X0_must ok.wo (xL x) C4 _ hs1) (recvF ok 0 rfl rfl) rfl rfl (Nat.le_of_ble_eq_true rfl) ⟨by omega, by omega⟩ ⟨by show 0 + (t2.2.1 - _) + 0 + 0 ≤ _; omega, by show 0 + 3 * (t2.2.1 - _) + 0 + 0 ≤ _; omega⟩ dX0_part_191 (resV ?_)
              refine g_aload_n ok 2 dX0_part_194 rfl ?_
              refine g_dup ok dX0_part_195 rfl ?_
              refine g_get ok 0 rfl rfl in_X0 17 (by decide) q199 rfl dX0_part_196 ?_
              refine g_iconst (v := 1) ok dX0_part_199 (by decide) ?_
              refine g_isub ok dX0_part_200 ?_
              refine g_putI ok 0 rfl rfl in_X0 tyX0 tyX0_ok nmX0 17 (by decide) q199 rfl rfl rfl (putV_x rfl (by decide)) dX0_part_201 (fun C5 e5 => ?_)
              rw [hp4.2.2.2.2.2.1, show (1 : Int32) = nI 1 from rfl, pk_sub (by omega), show pars + 1 - 1 = pars by omega] at e5
              have hp5 : pS C5 key L t2 nots pars (a + a2) := by rw [e5]; exact hp4.wI.2.2 pars (by omega)
              have pe5 : pE C4 C5 := by rw [e5]; exact (pE.rf C4).wI (by omega) _
              refine g_aload_n ok 2 dX0_part_204 rfl ?_
              refine g_callV ok [] cf_X0_goesOn q938 (mc_X0_goesOn ok.wo (xL x) C5 t2 L (hp5.pre (Or.inr (Or.inr q.1)))) (recvF ok 0 rfl rfl) rfl rfl (Nat.le_of_ble_eq_true rfl) ⟨by omega, by omega⟩ ⟨by show 0 + (t2.2.1 - _) + 0 + 0 + 0 ≤ _; omega, by show 0 + 3 * (t2.2.1 - _) + 0 + 0 + 0 ≤ _; omega⟩ dX0_part_205 (resVR fun C6 hq6 => ?_)
              obtain ⟨hp6, e6⟩ := hp5.go hq6
              rw [pe5.1, pe0.1, etp] at hp6
              have pe6 := pe5.tr e6
              refine g_aload_n ok 0 dX0_part_208 rfl ?_
              refine g_widen ((stp tp L t2).2.1 - t.2.1) (3 * ((stp tp L t2).2.1 - t.2.1)) (by show 0 + (t2.2.1 - _) + 0 + 0 + 0 ≤ _; omega) (by show 0 + 3 * (t2.2.1 - _) + 0 + 0 + 0 ≤ _; omega) ?_
              exact kS rfl C6 e2 209 _ dX0_part_209 ⟨pe0.tr pe6, hp6, e, by simp only; omega, trC.keep pe6.keepX _ _ _ ht4⟩
            · rw [if_neg q] at rr
              have rr := (Option.some.inj rr).symm
              subst rr
              have cap := rF rfl
              simp only at cap
              have hs0 : v_X0_isSign C4 41 = 0 := (isSg hp4.2.1 41).mpr q
              rw [hs0]
              refine g_callVT ok [.int 0] cf_X0_must q1007 (mt_X0_must ok.wo (xL x) C4) (recvF ok 0 rfl rfl) rfl rfl (Nat.le_of_ble_eq_true rfl) ⟨by omega, by omega⟩ ⟨by show 0 + (t2.2.1 - _) + 0 + 1 ≤ _; omega, by show 0 + 3 * (t2.2.1 - _) + 0 + 7 ≤ _; omega⟩ dX0_part_191 (fun e9 C9 => ?_)
              intro H locs ls h1 h2 h3 h4
              have hfy : pOkF C (false, [], 0, t2) e9 C9 := ⟨C4, pe0, by have : fyE C4 (C4.1 0 14) e9 C9 := h4; rw [hp4.2.1.2.1] at this; exact this⟩
              exact gt_widen (c1 := t2.2.1 - t.2.1 + 1) (s1 := 3 * (t2.2.1 - t.2.1) + 7) (by show 0 + (t2.2.1 - _) + 0 + 1 ≤ _; omega) (by show 0 + 3 * (t2.2.1 - _) + 0 + 7 ≤ _; omega) (kF rfl C9 e9 _ _ _ hfy) H locs ls h1 h2 h3 trivial
          · have z : b2 = false := z
            have rr := rel.2 z
            subst rr
            obtain ⟨C6, p6, p7⟩ := h4
            exact gt_widen (c1 := t2.2.1 - t.2.1 + 1) (s1 := 3 * (t2.2.1 - t.2.1) + 7) (by show 0 + (t2.2.1 - _ + 1) ≤ _; omega) (by show 0 + (3 * (t2.2.1 - _) + 7) ≤ _; omega) (kF rfl C4 e2 _ _ _ ⟨C6, pe2.tr p6, p7⟩)
        · refine g_icmp_ge (tgt := 161) ok dX0_part_154 (by decide) (fun _ => bad (fun y => hp8 y.2.2)) (fun z3 => ?_)
          rw [h17, show (8 : Int32) = nI 8 from rfl] at z3
          exact absurd ((nI_leI (a := 8) (by omega) (by have := hp.2.2.2.2.2.2.2.2.2; omega)).mpr (by omega)) z3
      · have y33 : t.2.2.1 = 3 ∧ t.2.2.2.1 = 33 := Classical.byContradiction fun u => z ((isSg hp.2.1 33).mpr u)
        have hlt : t.2.1 < t.1 := tts.2.2 (by rw [y33.1]; decide)
        have h18 : C.1 0 18 = nI nots := hp.2.2.2.2.2.2.1
        refine g_aload_n ok 1 dX0_part_82 rfl ?_
        refine g_aload_n ok 1 dX0_part_83 rfl ?_
        refine g_get ok 0 rfl rfl in_X0 18 (by decide) q200 rfl dX0_part_84 ?_
        refine g_bipush (v := 8) ok dX0_part_87 (by decide) ?_
        by_cases hn8 : nots < 8
        · refine g_icmp_ge (tgt := 96) ok dX0_part_89 (by decide) (fun z3 => ?_) (fun _ => ?_)
          · rw [h18, show (8 : Int32) = nI 8 from rfl] at z3
            have := (nI_leI8 hn8).mp z3
            omega
          rw [if_pos ⟨y33.1, y33.2, hn8⟩] at hr
          refine g_iconst (v := 1) ok dX0_part_92 (by decide) ?_
          refine g_goto (tgt := 97) ok dX0_part_93 (by decide) ?_
          refine g_callV ok [.int 1] cf_X0_must q1007 (mc_X0_must ok.wo (xL x) C 1 (by decide)) (recvF ok 0 rfl rfl) rfl rfl (Nat.le_of_ble_eq_true rfl) ⟨by omega, by omega⟩ ⟨by omega, by omega⟩ dX0_part_97 (resV ?_)
          refine g_aload_n ok 1 dX0_part_100 rfl ?_
          refine g_dup ok dX0_part_101 rfl ?_
          refine g_get ok 0 rfl rfl in_X0 18 (by decide) q200 rfl dX0_part_102 ?_
          refine g_iconst (v := 1) ok dX0_part_105 (by decide) ?_
          refine g_iadd ok dX0_part_106 ?_
          refine g_putI ok 0 rfl rfl in_X0 tyX0 tyX0_ok nmX0 18 (by decide) q200 rfl rfl rfl (putV_x rfl (by decide)) dX0_part_107 (fun C1 e1 => ?_)
          rw [h18, show (1 : Int32) = nI 1 from rfl, nI_add] at e1
          have hp1 : pS C1 key L t (nots + 1) pars a := by rw [e1]; exact hp.wI.2.1 (nots + 1) (by omega)
          have pe1 : pE C C1 := by rw [e1]; exact (pE.rf C).wI (by omega) _
          refine g_aload_n ok 1 dX0_part_110 rfl ?_
          refine g_callV ok [] cf_X0_goesOn q938 (mc_X0_goesOn ok.wo (xL x) C1 t L (hp1.pre (Or.inr (Or.inr y33.1)))) (recvF ok 0 rfl rfl) rfl rfl (Nat.le_of_ble_eq_true rfl) ⟨by omega, by omega⟩ ⟨by omega, by omega⟩ dX0_part_111 (resVR fun C2 hq => ?_)
          obtain ⟨hp2, e2⟩ := hp1.go hq
          rw [pe1.1, etp] at hp2
          have pe2 := pe1.tr e2
          obtain ⟨r2, hr2⟩ : ∃ r2, rd tp L key n 6 none (nots + 1) pars (stp tp L t) = some r2 := by
            cases hh : rd tp L key n 6 none (nots + 1) pars (stp tp L t) with
            | none => rw [hh] at hr; cases hr
            | some r2 => exact ⟨r2, rfl⟩
          rw [hr2] at hr
          have hok2 := rd_ok _ _ _ _ _ _ _ hst.1 hr2
          obtain ⟨b2, c2, a2, t2⟩ := r2
          simp only at hok2
          have hm2 : (stp tp L t).2.1 ≤ t2.2.1 := hok2.2.1
          have rel : (b2 = true → r = (true, c2 ++ [-10], a2, t2)) ∧ (b2 = false → r = (false, c2, a2, t2)) := by
            cases b2 with
            | true => exact ⟨fun _ => (Option.some.inj hr).symm, (fun z => by cases z)⟩
            | false => exact ⟨(fun z => by cases z), fun _ => (Option.some.inj hr).symm⟩
          have hle2 : t2.2.1 = r.2.2.2.2.1 := by
            cases b2 with
            | true => rw [rel.1 rfl]
            | false => rw [rel.2 rfl]
          have capN : t2.2.1 - t.2.1 ≤ rm.cells ∧ 3 * (t2.2.1 - t.2.1) ≤ rm.slots := by
            cases hb : r.1 with
            | true => have := rS hb; omega
            | false => have := rF hb; omega
          have hm3 : (stp tp L t).2.1 < t2.2.1 ∨ b2 = false := by
            cases b2 with
            | true => exact Or.inl (hok2.2.2 trivial rfl)
            | false => exact Or.inr rfl
          refine g_newD ok 13 (by decide) rfl in_X14 tyX14 tyX14_ok nv_13 q1089 q1090 q97 ⟨?_, ?_⟩ dX0_part_114 (fun d hd => ?_)
          · omega
          · omega
          have pe3 : pE C (nwC C2 d 13) := pe2.nw (pe2.noT hd) rfl rfl rfl rfl rfl (fun b hb => nw_D hb)
          refine g_dup ok dX0_part_117 rfl ?_
          refine g_aload_n ok 1 dX0_part_118 rfl ?_
          refine g_prs ok (IH6 (nwC C2 d 13) (stp tp L t) (nots + 1) pars a (b2, c2, a2, t2) (by show C2.2.1 43 = tp; rw [pe2.1]; exact etp) hp2 hr2) cf_X0_part q1054 (Nat.le_of_ble_eq_true rfl) ⟨by omega, by omega⟩ (fun _ => ⟨by show 0 + 0 + 0 + 1 + (t2.2.1 - _) ≤ _; omega, by show 0 + 0 + 0 + 1 + 3 * (t2.2.1 - _) ≤ _; omega⟩) (fun z => ?_) dX0_part_119 (fun z e2 C4 h4 => ?_) (fun z e2 C4 h4 => ?_)
          · have z : b2 = false := z
            have := rF (by rw [rel.2 z])
            rw [rel.2 z] at this
            simp only at this
            exact ⟨by show 0 + 0 + 0 + 1 + (t2.2.1 - _ + 1) ≤ _; omega, by show 0 + 0 + 0 + 1 + (3 * (t2.2.1 - _) + 7) ≤ _; omega⟩
          · have z : b2 = true := z
            have rr := rel.1 z
            subst rr
            obtain ⟨pe4, hp4, e, he4, ht4⟩ := h4
            simp only at hp4 he4 ht4
            have pe0 := pe3.tr pe4
            have td : cT C4 d = some (13, 0) := (pe4.2.2.2.2.2 d _ (nwC_T C2 d 13)).1
            have t0 : cDR C4 130 d = none := ((pe4.2.2.2.2.2 d _ (nwC_T C2 d 13)).2.2.1 130).trans (if_pos rfl)
            refine g_callI ok [.ref e2] cfI_X14_init q1091 (mc_X14_init ok.wo (xL x) C4 d e2 ⟨0, td⟩) rfl rfl (Nat.le_of_ble_eq_true rfl) ⟨by omega, by omega⟩ ⟨by show 0 + 0 + 0 + 1 + (t2.2.1 - _) + 0 ≤ _; omega, by show 0 + 0 + 0 + 1 + 3 * (t2.2.1 - _) + 0 ≤ _; omega⟩ dX0_part_122 (resV ?_)
            show G w x 3 _ _ Q (wDR C4 130 d (some e2)) _ _ _
            refine g_astore_n ok [(2, .ref d), (1, .int (C.1 0 16)), (0, .ref (ad w 0))] dX0_part_125 (by decide) rfl ?_
            refine g_aload_n ok 2 dX0_part_126 rfl ?_
            refine g_dup ok dX0_part_127 rfl ?_
            refine g_get ok 0 rfl rfl in_X0 18 (by decide) q200 rfl dX0_part_128 ?_
            refine g_iconst (v := 1) ok dX0_part_131 (by decide) ?_
            refine g_isub ok dX0_part_132 ?_
            refine g_putI ok 0 rfl rfl in_X0 tyX0 tyX0_ok nmX0 18 (by decide) q200 rfl rfl rfl (putV_x rfl (by decide)) dX0_part_133 (fun C5 e5 => ?_)
            rw [show (wDR C4 130 d (some e2)).1 0 18 = nI (nots + 1) from hp4.2.2.2.2.2.2.1, show (1 : Int32) = nI 1 from rfl, pk_sub (by omega), show nots + 1 - 1 = nots by omega] at e5
            have hp5 : pS C5 key L t2 nots pars (a + a2) := by rw [e5]; exact (show pS (wDR C4 130 d (some e2)) key L t2 (nots + 1) pars (a + a2) from hp4).wI.2.1 nots (by omega)
            have pe5 : pE C C5 := by rw [e5]; exact (pe0.nw (pe2.noT hd) rfl rfl rfl rfl rfl (fun b hb => ⟨rfl, sD_R hb⟩) : pE C (wDR C4 130 d (some e2))).wI (by omega) _
            refine g_aload_n ok 0 dX0_part_136 rfl ?_
            refine g_widen (t2.2.1 - t.2.1) (3 * (t2.2.1 - t.2.1)) (by show 0 + 0 + 0 + 1 + (t2.2.1 - _) + 0 ≤ _; omega) (by show 0 + 0 + 0 + 1 + 3 * (t2.2.1 - _) + 0 ≤ _; omega) ?_
            have q2 : trC C5 key e e2 c2 := by
              rw [e5]
              exact trC_of2 (no13 td t0) ht4 (fun b hb => ⟨rfl, sD_R hb⟩)
            refine kS rfl C5 d 137 _ dX0_part_137 ⟨pe5, hp5, e + 1, by simp only; omega, Or.inr (Or.inr (Or.inl ⟨⟨0, by rw [e5]; exact td⟩, e2, c2, ?_, q2, rfl⟩))⟩
            rw [e5]
            show up2 _ _ _ _ _ _ = _
            unfold up2
            rw [if_pos ⟨rfl, rfl⟩]
          · have z : b2 = false := z
            have rr := rel.2 z
            subst rr
            obtain ⟨C6, p6, p7⟩ := h4
            exact gt_widen (c1 := t2.2.1 - t.2.1 + 1) (s1 := 3 * (t2.2.1 - t.2.1) + 7) (by show 0 + 0 + 0 + 1 + (t2.2.1 - _ + 1) ≤ _; omega) (by show 0 + 0 + 0 + 1 + (3 * (t2.2.1 - _) + 7) ≤ _; omega) (kF rfl C4 e2 _ _ _ ⟨C6, pe3.tr p6, p7⟩)
        · refine g_icmp_ge (tgt := 96) ok dX0_part_89 (by decide) (fun _ => ?_) (fun z3 => ?_)
          · rw [if_neg (fun y => hn8 y.2.2), if_neg (fun y => absurd (y33.2.symm.trans y.2.1) (by decide))] at hr
            refine g_iconst (v := 0) ok dX0_part_96 (by decide) ?_
            exact fault 97 _ [] (Nat.le_of_ble_eq_true rfl) dX0_part_97 (Option.some.inj hr).symm
          · rw [h18, show (8 : Int32) = nI 8 from rfl] at z3
            exact absurd ((nI_leI (a := 8) (by omega) (by have := hp.2.2.2.2.2.2.2.2.2; omega)).mpr (by omega)) z3
    -- the beginning
    have d13 : C.1 0 13 = t.2.2.1 := hp.2.1.1
    refine g_aload_n ok 1 dX0_part_5 rfl ?_
    refine g_get ok 0 rfl rfl in_X0 13 (by decide) q195 rfl dX0_part_6 ?_
    refine g_iconst (v := 2) ok dX0_part_9 (by decide) ?_
    refine g_icmp_eq (tgt := 20) ok dX0_part_10 (by decide) (fun z => ?_) (fun z => ?_)
    · refine g_aload_n ok 1 dX0_part_20 rfl ?_
      refine g_get ok 0 rfl rfl in_X0 13 (by decide) q195 rfl dX0_part_21 ?_
      refine g_iconst (v := 2) ok dX0_part_24 (by decide) ?_
      refine g_icmp_ne (tgt := 32) ok dX0_part_25 (by decide) (fun z2 => absurd z z2) (fun _ => ?_)
      refine g_iconst (v := 1) ok dX0_part_28 (by decide) ?_
      refine g_goto (tgt := 33) ok dX0_part_29 (by decide) ?_
      refine g_istore_n0 ok [(2, .int 1), (1, .int (C.1 0 16)), (0, .ref (ad w 0))] dX0_part_33 (by decide) rfl ?_
      exact leaf 1 (Or.inl ⟨rfl, by rw [← d13]; exact z⟩)
    · rw [d13] at z
      refine g_aload_n ok 1 dX0_part_13 rfl ?_
      refine g_callV ok [] cf_X0_isName q1058 (mc_X0_isName ok.wo (xL x) C) (recvF ok 0 rfl rfl) rfl rfl (Nat.le_of_ble_eq_true rfl) ⟨by omega, by omega⟩ ⟨by omega, by omega⟩ dX0_part_14 (resI ?_)
      refine g_if_eq (tgt := 73) ok dX0_part_17 (by decide) (fun z2 => ?_) (fun z2 => ?_)
      · refine other ?_
        unfold ptT
        rw [if_neg z, if_neg ((isNm hp).mp z2)]
      · have y1 := Classical.byContradiction fun u => z2 ((isNm hp).mpr u)
        refine g_aload_n ok 1 dX0_part_20 rfl ?_
        refine g_get ok 0 rfl rfl in_X0 13 (by decide) q195 rfl dX0_part_21 ?_
        refine g_iconst (v := 2) ok dX0_part_24 (by decide) ?_
        refine g_icmp_ne (tgt := 32) ok dX0_part_25 (by decide) (fun _ => ?_) (fun z3 => absurd (by rw [← d13]; exact z3) z)
        refine g_iconst (v := 0) ok dX0_part_32 (by decide) ?_
        refine g_istore_n0 ok [(2, .int 0), (1, .int (C.1 0 16)), (0, .ref (ad w 0))] dX0_part_33 (by decide) rfl ?_
        exact leaf 0 (Or.inr ⟨rfl, y1⟩)
  refine ⟨fun hb => ?_, fun hb => ?_⟩
  · refine MC.of wk (by decide) (Nat.le_of_ble_eq_true rfl) (fun x hx ok => ?_)
    refine key2 x _ _ hx ok (by show n + 13 ≤ n + 1 + 12; omega) (by show 40 * (n + 13) ≤ 40 * (n + 1 + 12); omega) (fun _ => ⟨Nat.le_refl _, Nat.le_refl _⟩) (fun z => by rw [hb] at z; cases z) (fun _ C1 d1 pc lv dd h1 => ?_) (fun z => by rw [hb] at z; cases z)
    exact g_aret ok dd ⟨d1, rfl, h1⟩
  · refine MT.of wk (by decide) (Nat.le_of_ble_eq_true rfl) (fun x hx ok ht => ?_)
    exact key2 x _ _ hx ok (by show n + 13 ≤ n + 1 + 12; omega) (by show 40 * (n + 13) ≤ 40 * (n + 1 + 12); omega) (fun z => by rw [hb] at z; cases z) (fun _ => ⟨Nat.le_refl _, Nat.le_refl _⟩) (fun z => by rw [hb] at z; cases z) (fun _ C1 e pc lv st h1 => gt_leave ok ht (fun _ _ _ => h1))
