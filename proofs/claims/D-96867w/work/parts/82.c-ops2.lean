theorem worth_eq {C : CS} {a k : Nat} {r : Nat → Int32} (ha : glR C a r k) (hk : k < 10) : v_GL_worth C a = v_X3_worthOf (rowC r) (nI k) := by
  obtain ⟨g1, g2, -, -, g5, -⟩ := ha
  obtain ⟨o0, -, -, o3, -⟩ := ofn (rowC r) hk
  have e0 : v_X3_of (rowC r) (nI k) 0 = kdG C a := by rw [o0, g2]; rfl
  have e3 : v_X3_of (rowC r) (nI k) 3 = cDI C 42 a := by rw [o3, g5]; rfl
  unfold v_GL_worth v_X3_worthOf
  rw [e0, e3]
  unfold kdG
  rcases kd_is g1 with h | h | h | h | h | h <;> rw [h]
  · rfl
  · rfl
  · rfl
  · rfl
  · show (99 - cDI C 42 a) - 3 = 96 - cDI C 42 a
    rw [show (99 : Int32) = 96 + 3 from rfl]
    generalize cDI C 42 a = x
    apply Int32.toBitVec_inj.mp
    simp only [Int32.toBitVec_sub, Int32.toBitVec_add]
    bv_omega
  · rfl
theorem cf_X0_told : CfV yX0_told "TwoGuilds" cX0_told 4 (some .int) 2 := ⟨⟨by decide, by decide, by decide⟩, q72, q410, q408, q409⟩
def p_X0_told (C : CS) (a0 a1 : Int32) : Prop := opP C
def v_X0_told (C : CS) (a0 a1 : Int32) : Int32 := v_X3_told C a0 a1
def wp_X0_told (Post : Int32 → CS → Prop) (C : CS) (a0 : Int32) (a1 : Int32) : Prop :=
  p_X0_isGlove C a0 ∧
    (∀ r2 : Int32, r2 = (v_X0_isGlove C a0) → 
    (r2 = 0 → 
    Post (-1000000001) C) ∧
    (¬ r2 = 0 → 
    isTb (cN C) ∧
      (vp_in a0 10 ∧
      (∃ d6 : Nat, (cG C (17 + 4 * ((cN C) - 2)) (Int32.toNatClampNeg a0)) = some d6 ∧
      ((a1 = 0 → 
      p_GL_kind C d6 ∧
        (∀ r9 : Int32, r9 = (v_GL_kind C d6) → 
        Post r9 C)) ∧
      (¬ a1 = 0 → 
      (a1 = 1 → 
        isGl C d6 ∧
          (Post (cDI C 40 d6) C)) ∧
        (¬ a1 = 1 → 
        (a1 = 2 → 
          isGl C d6 ∧
            (Post (cDI C 41 d6) C)) ∧
          (¬ a1 = 2 → 
          (a1 = 3 → 
            isGl C d6 ∧
              (Post (cDI C 42 d6) C)) ∧
            (¬ a1 = 3 → 
            (a1 = 4 → 
              isGl C d6 ∧
                (Post (cDI C 43 d6) C)) ∧
              (¬ a1 = 4 → 
              (a1 = 5 → 
                isGl C d6 ∧
                  (∀ r20 : Int32, r20 = (v_X0_asBit (cDI C 44 d6)) → 
                  Post r20 C)) ∧
                (¬ a1 = 5 → 
                (a1 = 6 → 
                  p_GL_worth C d6 ∧
                    (∀ r23 : Int32, r23 = (v_GL_worth C d6) → 
                    Post r23 C)) ∧
                  (¬ a1 = 6 → 
                  Post (-1000000001) C))))))))))))
set_option maxHeartbeats 4000000 in
set_option maxRecDepth 100000 in
theorem gw_X0_told {w : WD} (wk : wOk w) (l : Launch) (C : CS) (a0 : Int32) (a1 : Int32) {Post : Int32 → CS → Prop} (hw : wp_X0_told Post C a0 a1) : MC w l yX0_told cX0_told 4 (some .int) 6 0 0 [.ref (ad w 0), .int a0, .int a1] C (fun v C1 => ∃ r : Int32, v = some (.int r) ∧ Post r C1) := by
  unfold wp_X0_told at hw
  refine MC.of wk (by decide) (Nat.le_of_ble_eq_true rfl) (fun x hx ok => ?_)
  subst hx
  show G w x 4 0 0 (QM w x _ 0 0) C 0 [(0, .ref (ad w 0)), (1, .int a0), (2, .int a1)] []
  refine g_aload_n ok 0 dX0_told_0 rfl ?_
  refine g_iload_n ok 1 dX0_told_1 rfl ?_
  obtain ⟨hp1, hw⟩ := hw
  refine g_callV ok [.int a0] cf_X0_isGlove q411 (mc_X0_isGlove ok.wo (xL x) C a0 hp1) (recvF ok 0 rfl rfl) rfl rfl (Nat.le_of_ble_eq_true rfl) ⟨by decide, by decide⟩ ⟨by decide, by decide⟩ dX0_told_2 (resI ?_)
  refine g_nmI (fun r2 er2 => ?_)
  have hw := hw r2 er2
  refine g_if_ne (tgt := 11) ok dX0_told_5 (by decide) (fun c3 => ?_) (fun c3 => ?_)
  · have hw := hw.2 c3
    refine g_aload_n ok 0 dX0_told_11 rfl ?_
    refine g_get ok 0 rfl rfl in_X0 0 (by decide) q180 rfl dX0_told_12 ?_
    obtain ⟨hf4, hw⟩ := hw
    refine g_get ok (cN C) (fObjT hf4) rfl in_X1 8 (by decide) q140 rfl dX0_told_15 ?_
    refine g_iload_n ok 1 dX0_told_18 rfl ?_
    obtain ⟨hf5, hw⟩ := hw
    obtain ⟨d6, ed6, hw⟩ := hw
    refine g_rald (v := .ref d6) ok _ (fRefG hf4) (Or.inl rfl) hf5 (congrArg va_rf ed6) dX0_told_19 ?_
    refine g_astore_n ok [(3, .ref d6), (0, .ref (ad w 0)), (1, .int a0), (2, .int a1)] dX0_told_20 (by decide) rfl ?_
    refine g_iload_n ok 3 dX0_told_21 rfl ?_
    by_cases c7 : a1 = 0
    · have hw := hw.1 c7
      refine g_swIn (tgt := 64) ok (0) dX0_told_22 (c7.trans (by decide)) (by decide) rfl (by decide) ?_
      refine g_aload_n ok 0 dX0_told_64 rfl ?_
      obtain ⟨hp8, hw⟩ := hw
      refine g_GL_kind ok hp8 q415 ⟨by decide, by decide⟩ (Nat.le_of_ble_eq_true rfl) ⟨by decide, by decide⟩ dX0_told_65 ?_
      refine g_nmI (fun r9 er9 => ?_)
      have hw := hw r9 er9
      exact g_iret ok dX0_told_68 ⟨_, rfl, hw⟩
    · have hw := hw.2 c7
      by_cases c10 : a1 = 1
      · have hw := hw.1 c10
        refine g_swIn (tgt := 69) ok (1) dX0_told_22 (c10.trans (by decide)) (by decide) rfl (by decide) ?_
        refine g_aload_n ok 0 dX0_told_69 rfl ?_
        obtain ⟨hf11, hw⟩ := hw
        refine g_gget ok hf11 0 (by decide) q291 (Or.inl rfl) dX0_told_70 ?_
        exact g_iret ok dX0_told_73 ⟨_, rfl, hw⟩
      · have hw := hw.2 c10
        by_cases c12 : a1 = 2
        · have hw := hw.1 c12
          refine g_swIn (tgt := 74) ok (2) dX0_told_22 (c12.trans (by decide)) (by decide) rfl (by decide) ?_
          refine g_aload_n ok 0 dX0_told_74 rfl ?_
          obtain ⟨hf13, hw⟩ := hw
          refine g_gget ok hf13 1 (by decide) q296 (Or.inl rfl) dX0_told_75 ?_
          exact g_iret ok dX0_told_78 ⟨_, rfl, hw⟩
        · have hw := hw.2 c12
          by_cases c14 : a1 = 3
          · have hw := hw.1 c14
            refine g_swIn (tgt := 79) ok (3) dX0_told_22 (c14.trans (by decide)) (by decide) rfl (by decide) ?_
            refine g_aload_n ok 0 dX0_told_79 rfl ?_
            obtain ⟨hf15, hw⟩ := hw
            refine g_gget ok hf15 2 (by decide) q301 (Or.inl rfl) dX0_told_80 ?_
            exact g_iret ok dX0_told_83 ⟨_, rfl, hw⟩
          · have hw := hw.2 c14
            by_cases c16 : a1 = 4
            · have hw := hw.1 c16
              refine g_swIn (tgt := 84) ok (4) dX0_told_22 (c16.trans (by decide)) (by decide) rfl (by decide) ?_
              refine g_aload_n ok 0 dX0_told_84 rfl ?_
              obtain ⟨hf17, hw⟩ := hw
              refine g_gget ok hf17 3 (by decide) q307 (Or.inl rfl) dX0_told_85 ?_
              exact g_iret ok dX0_told_88 ⟨_, rfl, hw⟩
            · have hw := hw.2 c16
              by_cases c18 : a1 = 5
              · have hw := hw.1 c18
                refine g_swIn (tgt := 89) ok (5) dX0_told_22 (c18.trans (by decide)) (by decide) rfl (by decide) ?_
                refine g_aload_n ok 0 dX0_told_89 rfl ?_
                obtain ⟨hf19, hw⟩ := hw
                refine g_gget ok hf19 4 (by decide) q310 (Or.inl rfl) dX0_told_90 ?_
                refine g_callS ok [.int (cDI C 44 d6)] cf_X0_asBit q440 (mc_X0_asBit ok.wo (xL x) C (cDI C 44 d6)) rfl rfl (Nat.le_of_ble_eq_true rfl) ⟨by decide, by decide⟩ ⟨by decide, by decide⟩ dX0_told_93 (resI ?_)
                refine g_nmI (fun r20 er20 => ?_)
                have hw := hw r20 er20
                exact g_iret ok dX0_told_96 ⟨_, rfl, hw⟩
              · have hw := hw.2 c18
                by_cases c21 : a1 = 6
                · have hw := hw.1 c21
                  refine g_swIn (tgt := 97) ok (6) dX0_told_22 (c21.trans (by decide)) (by decide) rfl (by decide) ?_
                  refine g_aload_n ok 0 dX0_told_97 rfl ?_
                  obtain ⟨hp22, hw⟩ := hw
                  refine g_GL_worth ok hp22 q443 ⟨by decide, by decide⟩ (Nat.le_of_ble_eq_true rfl) ⟨by decide, by decide⟩ dX0_told_98 ?_
                  refine g_nmI (fun r23 er23 => ?_)
                  have hw := hw r23 er23
                  exact g_iret ok dX0_told_101 ⟨_, rfl, hw⟩
                · have hw := hw.2 c21
                  refine g_swOut (tgt := 102) ok dX0_told_22 (fun k k1 k2 => ?_) (by decide) ?_
                  · rcases (show k = 0 ∨ k = 1 ∨ k = 2 ∨ k = 3 ∨ k = 4 ∨ k = 5 ∨ k = 6 by omega) with rfl | rfl | rfl | rfl | rfl | rfl | rfl
                    · exact fun h => c7 (h.trans (by decide))
                    · exact fun h => c10 (h.trans (by decide))
                    · exact fun h => c12 (h.trans (by decide))
                    · exact fun h => c14 (h.trans (by decide))
                    · exact fun h => c16 (h.trans (by decide))
                    · exact fun h => c18 (h.trans (by decide))
                    · exact fun h => c21 (h.trans (by decide))
                  · refine g_ldc (v := -1000000001) ok q274 dX0_told_102 ?_
                    exact g_iret ok dX0_told_104 ⟨_, rfl, hw⟩
  · have hw := hw.1 c3
    refine g_ldc (v := -1000000001) ok q274 dX0_told_8 ?_
    exact g_iret ok dX0_told_10 ⟨_, rfl, hw⟩
theorem in06 (a : Int32) (h : ¬ v_X3_in a 0 6 = 0) : a = 0 ∨ a = 1 ∨ a = 2 ∨ a = 3 ∨ a = 4 ∨ a = 5 ∨ a = 6 := by
  obtain ⟨k, h1, h2⟩ := in_nI (m := 6) (by decide) h
  have : k = 0 ∨ k = 1 ∨ k = 2 ∨ k = 3 ∨ k = 4 ∨ k = 5 ∨ k = 6 := by omega
  subst h2
  rcases this with h | h | h | h | h | h | h <;> subst h <;> decide
theorem sp_X0_told (C : CS) (a0 a1 : Int32) (hp : p_X0_told C a0 a1) : wp_X0_told (fun x C1 => x = v_X0_told C a0 a1 ∧ C1 = C) C a0 a1 := by
  have hp : opP C := hp
  unfold v_X0_told v_X3_told
  refine ⟨⟨hp.1.1, trivial⟩, fun r2 e2 => ⟨fun c => ?_, fun c => ?_⟩⟩
  all_goals rw [e2, hp.isG] at c
  · rw [if_pos c]; exact ⟨rfl, rfl⟩
  rw [if_neg c]
  obtain ⟨k, b, hk, e, hb, hg⟩ := hp.gl c
  subst e
  obtain ⟨o0, o1, o2, o3, o4, o5⟩ := ofn C hk
  have hw := worth_eq hg hk
  obtain ⟨g1, g2, g3, g4, g5, g6, g7, i1, i2, i3, i4, l, hl, el⟩ := hg
  refine ⟨hp.1.1, vp_k hk, b, by rw [cl_k (by omega)]; exact hb, ?_⟩
  refine ⟨fun c0 => ⟨g1, fun r9 e9 => ?_⟩, fun n0 => ⟨fun c1 => ⟨g1, ?_⟩, fun n1 => ⟨fun c2 => ⟨g1, ?_⟩, fun n2 => ⟨fun c3 => ⟨g1, ?_⟩, fun n3 => ⟨fun c4 => ⟨g1, ?_⟩, fun n4 => ⟨fun c5 => ⟨g1, fun r20 e20 => ?_⟩, fun n5 => ⟨fun c6 => ⟨g1, fun r23 e23 => ?_⟩, fun n6 => ?_⟩⟩⟩⟩⟩⟩⟩
  · subst c0
    rw [if_neg (by decide), if_neg (by decide), o0, e9]
    exact ⟨g2, rfl⟩
  · subst c1
    rw [if_neg (by decide), if_neg (by decide), o1]
    exact ⟨g3, rfl⟩
  · subst c2
    rw [if_neg (by decide), if_neg (by decide), o2]
    exact ⟨g4, rfl⟩
  · subst c3
    rw [if_neg (by decide), if_neg (by decide), o3]
    exact ⟨g5, rfl⟩
  · subst c4
    rw [if_neg (by decide), if_neg (by decide), o4]
    exact ⟨g6, rfl⟩
  · subst c5
    rw [if_neg (by decide), if_neg (by decide), o5, e20, g7, el, asb l (by omega)]
    exact ⟨rfl, rfl⟩
  · subst c6
    rw [if_neg (by decide), if_pos (by decide), e23, hw]
    exact ⟨rfl, rfl⟩
  · have : v_X3_in a1 0 6 = 0 := by
      rcases vb_X3_in a1 0 6 with h | h
      · exact h
      · rcases in06 a1 (by rw [h]; decide) with h | h | h | h | h | h | h
        · exact absurd h n0
        · exact absurd h n1
        · exact absurd h n2
        · exact absurd h n3
        · exact absurd h n4
        · exact absurd h n5
        · exact absurd h n6
    rw [if_pos this]
    exact ⟨rfl, rfl⟩
theorem mc_X0_told {w : WD} (wk : wOk w) (l : Launch) (C : CS) (a0 : Int32) (a1 : Int32) (hp : p_X0_told C a0 a1) : MC w l yX0_told cX0_told 4 (some .int) 6 0 0 [.ref (ad w 0), .int a0, .int a1] C (pI (v_X0_told C a0 a1) C) := MC.postI (gw_X0_told wk l C a0 a1 (sp_X0_told C a0 a1 hp))
theorem cf_X0_fits : CfV yX0_fits "TwoGuilds" cX0_fits 3 (some .int) 2 := ⟨⟨by decide, by decide, by decide⟩, q72, q584, q582, q583⟩
def p_X0_fits (C : CS) (a0 a1 : Int32) : Prop := opP C
def v_X0_fits (C : CS) (a0 a1 : Int32) : Int32 := v_X3_fits C a0 a1
def wp_X0_fits (Post : Int32 → CS → Prop) (C : CS) (a0 : Int32) (a1 : Int32) : Prop :=
  p_X0_areTwo C a0 a1 ∧
    (∀ r2 : Int32, r2 = (v_X0_areTwo C a0 a1) → 
    (r2 = 0 → 
    Post (-1000000001) C) ∧
    (¬ r2 = 0 → 
    isTb (cN C) ∧
      (vp_in a0 10 ∧
      (∃ d6 : Nat, (cG C (17 + 4 * ((cN C) - 2)) (Int32.toNatClampNeg a0)) = some d6 ∧
      (vp_in a1 10 ∧
      (∃ d8 : Nat, (cG C (17 + 4 * ((cN C) - 2)) (Int32.toNatClampNeg a1)) = some d8 ∧
      (p_GL_fits C d6 d8 ∧
      (∀ r10 : Int32, r10 = (v_GL_fits C d6 d8) → 
      ∀ r11 : Int32, r11 = (v_X0_asBit r10) → 
      Post r11 C))))))))
set_option maxHeartbeats 4000000 in
set_option maxRecDepth 100000 in
theorem gw_X0_fits {w : WD} (wk : wOk w) (l : Launch) (C : CS) (a0 : Int32) (a1 : Int32) {Post : Int32 → CS → Prop} (hw : wp_X0_fits Post C a0 a1) : MC w l yX0_fits cX0_fits 3 (some .int) 6 0 0 [.ref (ad w 0), .int a0, .int a1] C (fun v C1 => ∃ r : Int32, v = some (.int r) ∧ Post r C1) := by
  unfold wp_X0_fits at hw
  refine MC.of wk (by decide) (Nat.le_of_ble_eq_true rfl) (fun x hx ok => ?_)
  subst hx
  show G w x 3 0 0 (QM w x _ 0 0) C 0 [(0, .ref (ad w 0)), (1, .int a0), (2, .int a1)] []
  refine g_aload_n ok 0 dX0_fits_0 rfl ?_
  refine g_iload_n ok 1 dX0_fits_1 rfl ?_
  refine g_iload_n ok 2 dX0_fits_2 rfl ?_
  obtain ⟨hp1, hw⟩ := hw
  refine g_callV ok [.int a0, .int a1] cf_X0_areTwo q585 (mc_X0_areTwo ok.wo (xL x) C a0 a1 hp1) (recvF ok 0 rfl rfl) rfl rfl (Nat.le_of_ble_eq_true rfl) ⟨by decide, by decide⟩ ⟨by decide, by decide⟩ dX0_fits_3 (resI ?_)
  refine g_nmI (fun r2 er2 => ?_)
  have hw := hw r2 er2
  refine g_if_eq (tgt := 36) ok dX0_fits_6 (by decide) (fun c3 => ?_) (fun c3 => ?_)
  · have hw := hw.1 c3
    refine g_ldc (v := -1000000001) ok q274 dX0_fits_36 ?_
    exact g_iret ok dX0_fits_38 ⟨_, rfl, hw⟩
  · have hw := hw.2 c3
    refine g_aload_n ok 0 dX0_fits_9 rfl ?_
    refine g_get ok 0 rfl rfl in_X0 0 (by decide) q180 rfl dX0_fits_10 ?_
    obtain ⟨hf4, hw⟩ := hw
    refine g_get ok (cN C) (fObjT hf4) rfl in_X1 8 (by decide) q140 rfl dX0_fits_13 ?_
    refine g_iload_n ok 1 dX0_fits_16 rfl ?_
    obtain ⟨hf5, hw⟩ := hw
    obtain ⟨d6, ed6, hw⟩ := hw
    refine g_rald (v := .ref d6) ok _ (fRefG hf4) (Or.inl rfl) hf5 (congrArg va_rf ed6) dX0_fits_17 ?_
    refine g_aload_n ok 0 dX0_fits_18 rfl ?_
    refine g_get ok 0 rfl rfl in_X0 0 (by decide) q180 rfl dX0_fits_19 ?_
    refine g_get ok (cN C) (fObjT hf4) rfl in_X1 8 (by decide) q140 rfl dX0_fits_22 ?_
    refine g_iload_n ok 2 dX0_fits_25 rfl ?_
    obtain ⟨hf7, hw⟩ := hw
    obtain ⟨d8, ed8, hw⟩ := hw
    refine g_rald (v := .ref d8) ok _ (fRefG hf4) (Or.inl rfl) hf7 (congrArg va_rf ed8) dX0_fits_26 ?_
    obtain ⟨hp9, hw⟩ := hw
    refine g_GL_fits ok hp9 q589 ⟨by decide, by decide⟩ (Nat.le_of_ble_eq_true rfl) ⟨by decide, by decide⟩ dX0_fits_27 ?_
    refine g_nmI (fun r10 er10 => ?_)
    have hw := hw r10 er10
    refine g_callS ok [.int r10] cf_X0_asBit q440 (mc_X0_asBit ok.wo (xL x) C r10) rfl rfl (Nat.le_of_ble_eq_true rfl) ⟨by decide, by decide⟩ ⟨by decide, by decide⟩ dX0_fits_30 (resI ?_)
    refine g_nmI (fun r11 er11 => ?_)
    have hw := hw r11 er11
    refine g_goto (tgt := 38) ok dX0_fits_33 (by decide) ?_
    exact g_iret ok dX0_fits_38 ⟨_, rfl, hw⟩
theorem two_p {C : CS} (hp : opP C) (a0 a1 : Int32) : p_X0_areTwo C a0 a1 := ⟨⟨hp.1.1, trivial⟩, fun _ => trivial, fun _ => ⟨⟨hp.1.1, trivial⟩, trivial⟩⟩
theorem two_v {C : CS} (hp : opP C) (a0 a1 : Int32) : v_X0_areTwo C a0 a1 = if v_X3_isGlove C a0 = 0 then 0 else if v_X3_isGlove C a1 = 0 then 0 else if a0 = a1 then 0 else 1 := by
  unfold v_X0_areTwo
  rw [hp.isG, hp.isG]
theorem fit_b (C : CS) (x y : Int32) : v_X0_asBit (v_X3_doesFit C x y) = if v_X3_doesFit C x y = 0 then 0 else 1 := by
  rcases vb_X3_doesFit C x y with h | h <;> rw [h] <;> rfl
theorem sp_X0_fits (C : CS) (a0 a1 : Int32) (hp : p_X0_fits C a0 a1) : wp_X0_fits (fun x C1 => x = v_X0_fits C a0 a1 ∧ C1 = C) C a0 a1 := by
  have hp : opP C := hp
  unfold v_X0_fits v_X3_fits
  refine ⟨two_p hp a0 a1, fun r2 e2 => ?_⟩
  rw [two_v hp] at e2
  by_cases c1 : v_X3_isGlove C a0 = 0
  · rw [if_pos c1] at e2 ⊢
    exact ⟨fun _ => ⟨rfl, rfl⟩, fun c => absurd e2 c⟩
  rw [if_neg c1] at e2 ⊢
  by_cases c2 : v_X3_isGlove C a1 = 0
  · rw [if_pos c2] at e2 ⊢
    exact ⟨fun _ => ⟨rfl, rfl⟩, fun c => absurd e2 c⟩
  rw [if_neg c2] at e2 ⊢
  by_cases c3 : a0 = a1
  · rw [if_pos c3] at e2 ⊢
    exact ⟨fun _ => ⟨rfl, rfl⟩, fun c => absurd e2 c⟩
  rw [if_neg c3] at e2 ⊢
  obtain ⟨k, b, hk, e, hb, hg⟩ := hp.gl c1
  obtain ⟨k2, b2, hk2, e', hb2, hg2⟩ := hp.gl c2
  subst e; subst e'
  refine ⟨fun c => absurd (e2.symm.trans c) (by decide), fun _ => ⟨hp.1.1, vp_k hk, b, by rw [cl_k (by omega)]; exact hb, vp_k hk2, b2, by rw [cl_k (by omega)]; exact hb2, ⟨hg.1, hg2.1⟩, fun r10 e10 r11 e11 => ⟨?_, rfl⟩⟩⟩
  rw [e11, e10, fits_eq hg hg2 hk hk2]
  exact fit_b (rowC (C.2.1 36)) _ _
theorem mc_X0_fits {w : WD} (wk : wOk w) (l : Launch) (C : CS) (a0 : Int32) (a1 : Int32) (hp : p_X0_fits C a0 a1) : MC w l yX0_fits cX0_fits 3 (some .int) 6 0 0 [.ref (ad w 0), .int a0, .int a1] C (pI (v_X0_fits C a0 a1) C) := MC.postI (gw_X0_fits wk l C a0 a1 (sp_X0_fits C a0 a1 hp))
