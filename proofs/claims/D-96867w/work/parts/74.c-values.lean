theorem cfG_X4_wears : ∀ cn ∈ glN, CfO yX4_wears yX4_wears cn cX4_wears 2 (some .int) 1 := by
  intro cn h
  simp only [glN, List.mem_cons, List.not_mem_nil, or_false] at h
  rcases h with h | h | h | h | h | h <;> subst h
  · exact ⟨⟨by decide, by decide, by decide⟩, q76, q843, q835, q836, q837, q835, _, _, _, q843⟩
  · exact ⟨⟨by decide, by decide, by decide⟩, q76, q843, q835, q840, q837, q835, _, _, _, q843⟩
  · exact ⟨⟨by decide, by decide, by decide⟩, q76, q843, q835, q841, q837, q835, _, _, _, q843⟩
  · exact ⟨⟨by decide, by decide, by decide⟩, q76, q843, q835, q839, q837, q835, _, _, _, q843⟩
  · exact ⟨⟨by decide, by decide, by decide⟩, q76, q843, q835, q838, q837, q835, _, _, _, q843⟩
  · exact ⟨⟨by decide, by decide, by decide⟩, q76, q843, q835, q842, q837, q835, _, _, _, q843⟩
def p_X4_wears (C : CS) (a : Nat) (a0 : Int32) (r : Nat → Int32) (i : Nat) : Prop := tbOk C r ∧ glR C a r i ∧ ∃ m, m ≤ 9 ∧ a0 = nI m
def v_X4_wears (C : CS) (a : Nat) (a0 : Int32) (r : Nat → Int32) (i : Nat) : Int32 := wvR r i a0
def q_X4_wears (C : CS) (a : Nat) (a0 : Int32) (r : Nat → Int32) (i : Nat) (C1 : CS) : Prop := frm [10] C C1
def wp_X4_wears (Post : Int32 → CS → Prop) (C : CS) (a : Nat) (a0 : Int32) : Prop :=
  isGl C a ∧
    (∀ C2 : CS, C2 = (wA C 10 120 a0) → 
    isGl C2 a ∧
    (∀ C4 : CS, C4 = (wA C2 10 112 (cDI C2 42 a)) → 
    isGl C4 a ∧
    (∃ (g6 : (Nat → Int32)) (g7 : (Nat → Int32)), p_X0_ruled C4 1 (a0 / 4) g6 g7 ∧
    (∀ r9 : Int32, r9 = (v_X0_ruled C4 1 (a0 / 4) g6 g7) → 
    ∀ r10 : Int32, r10 = (v_X0_heldIn r9 0 20) → 
    Post r10 C4))))
set_option maxHeartbeats 4000000 in
set_option maxRecDepth 100000 in
theorem gw_X4_wears {w : WD} (wk : wOk w) (l : Launch) (C : CS) (a : Nat) (a0 : Int32) {Post : Int32 → CS → Prop} (hw : wp_X4_wears Post C a a0) : MC w l yX4_wears cX4_wears 2 (some .int) 98 0 0 [.ref a, .int a0] C (fun v C1 => ∃ r : Int32, v = some (.int r) ∧ Post r C1) := by
  unfold wp_X4_wears at hw
  refine MC.of wk (by decide) (Nat.le_of_ble_eq_true rfl) (fun x hx ok => ?_)
  subst hx
  show G w x 2 0 0 (QM w x _ 0 0) C 0 [(0, .ref a), (1, .int a0)] []
  refine g_aload_n ok 0 dX4_wears_0 rfl ?_
  obtain ⟨hf1, hw⟩ := hw
  refine g_gthis ok hf1 q311 dX4_wears_1 ?_
  refine g_getN ok 0 rfl rfl in_X0 10 (by decide) q192 rfl dX4_wears_4 ?_
  refine g_bipush (v := 120) ok dX4_wears_7 (by decide) ?_
  refine g_iload_n ok 1 dX4_wears_9 rfl ?_
  refine g_iast ok 10 rfl (by unfold vp_in; decide) 120 (by decide) dX4_wears_10 (fun C2 eC2 => ?_)
  have hw := hw C2 eC2
  refine g_aload_n ok 0 dX4_wears_11 rfl ?_
  obtain ⟨hf3, hw⟩ := hw
  refine g_gthis ok hf3 q311 dX4_wears_12 ?_
  refine g_getN ok 0 rfl rfl in_X0 10 (by decide) q192 rfl dX4_wears_15 ?_
  refine g_bipush (v := 112) ok dX4_wears_18 (by decide) ?_
  refine g_aload_n ok 0 dX4_wears_20 rfl ?_
  refine g_gget ok hf3 2 (by decide) q300 (Or.inl rfl) dX4_wears_21 ?_
  refine g_iast ok 10 rfl (by unfold vp_in; decide) 112 (by decide) dX4_wears_24 (fun C4 eC4 => ?_)
  have hw := hw C4 eC4
  refine g_aload_n ok 0 dX4_wears_25 rfl ?_
  obtain ⟨hf5, hw⟩ := hw
  refine g_gthis ok hf5 q311 dX4_wears_26 ?_
  refine g_iconst (v := 1) ok dX4_wears_29 (by decide) ?_
  refine g_iload_n ok 1 dX4_wears_30 rfl ?_
  refine g_iconst (v := 4) ok dX4_wears_31 (by decide) ?_
  refine g_idiv ok dX4_wears_32 (by decide) ?_
  obtain ⟨g6, g7, hp8, hw⟩ := hw
  refine g_callVN ok [.int 1, .int (a0 / 4)] cf_X0_ruled q844 (mc_X0_ruled ok.wo (xL x) C4 1 (a0 / 4) g6 g7 hp8) (recvF ok 0 rfl rfl) rfl rfl (Nat.le_of_ble_eq_true rfl) ⟨by decide, by decide⟩ ⟨by decide, by decide⟩ dX4_wears_33 (resI ?_)
  refine g_nmI (fun r9 er9 => ?_)
  have hw := hw r9 er9
  refine g_iconst (v := 0) ok dX4_wears_36 (by decide) ?_
  refine g_bipush (v := 20) ok dX4_wears_37 (by decide) ?_
  refine g_callSN ok [.int r9, .int 0, .int 20] cf_X0_heldIn q845 (mc_X0_heldIn ok.wo (xL x) C4 r9 0 20) rfl rfl (Nat.le_of_ble_eq_true rfl) ⟨by decide, by decide⟩ ⟨by decide, by decide⟩ dX4_wears_39 (resI ?_)
  refine g_nmI (fun r10 er10 => ?_)
  have hw := hw r10 er10
  exact g_iret ok dX4_wears_42 ⟨_, rfl, hw⟩
theorem q4w : ∀ m, m < 10 → v_X3_within (nI m / 4) 0 20 = nI m / 4 := by decide
theorem sp_X4_wears (C : CS) (a : Nat) (a0 : Int32) (r : Nat → Int32) (i : Nat) (hp : p_X4_wears C a a0 r i) : wp_X4_wears (fun x C1 => x = v_X4_wears C a a0 r i ∧ q_X4_wears C a a0 r i C1) C a a0 := by
  obtain ⟨ht, hg, m, hm, e0⟩ := hp
  refine ⟨hg.1, fun C2 e2 => ?_⟩
  have g2 : isGl C2 a := by rw [e2]; exact hg.1
  refine ⟨g2, fun C4 e4 => ?_⟩
  have hf : frm [10] C C4 := by rw [e4, e2]; exact ((frm.rf _ C).w (by decide)).w (by decide)
  have p3 : cDI C2 42 a = r (16 + 6 * i + 3) := by rw [e2]; exact hg.2.2.2.2.1
  refine ⟨by rw [e4]; exact g2, r, fct2 a0 (r (16 + 6 * i + 3)), ⟨ht.frm hf (by intro k h1 h2; simp; omega), ?_⟩, fun r9 e9 r10 e10 => ⟨?_, hf⟩⟩
  · rw [e4, e2]
    refine fok_1 ?_ ?_
    · simp [wA, up2, fct2]
    · rw [← e2, p3]; simp [wA, up2, fct2]
  · rw [e10, (held_w r9).2.1, e9]
    unfold v_X4_wears wvR v_X0_ruled rulR
    by_cases c : 0 ≤ cntR r 1
    · rw [if_pos c, if_pos c]
    · rw [if_neg c, if_neg c, e0, q4w m (by omega)]
theorem mc_X4_wears {w : WD} (wk : wOk w) (l : Launch) (C : CS) (a : Nat) (a0 : Int32) (r : (Nat → Int32)) (i : Nat) (hp : p_X4_wears C a a0 r i) : MC w l yX4_wears cX4_wears 2 (some .int) 98 0 0 [.ref a, .int a0] C (pIR (v_X4_wears C a a0 r i) (q_X4_wears C a a0 r i)) := MC.postIR (gw_X4_wears wk l C a a0 (sp_X4_wears C a a0 r i hp))
theorem cf_X0_valueOf : CfV yX0_valueOf "TwoGuilds" cX0_valueOf 4 (some .int) 2 := ⟨⟨by decide, by decide, by decide⟩, q72, q687, q686, qs6⟩
def p_X0_valueOf (C : CS) (a0 a1 : Nat) (r : Nat → Int32) (i k : Nat) : Prop := tbOk C r ∧ glR C a0 r i ∧ glR C a1 r k
def v_X0_valueOf (C : CS) (a0 a1 : Nat) (r : Nat → Int32) (i k : Nat) : Int32 := pvR r i k
def q_X0_valueOf (C : CS) (a0 a1 : Nat) (r : Nat → Int32) (i k : Nat) (C1 : CS) : Prop := frm [10] C C1
def wp_X0_valueOf (Post : Int32 → CS → Prop) (C : CS) (a0 : Nat) (a1 : Nat) : Prop :=
  isGl C a0 ∧
    (isGl C a1 ∧
    (∀ x3 : Int32, x3 = ((cDI C 43 a0) + (cDI C 43 a1)) → 
    ∀ C4 : CS, C4 = (wA C 10 97 (v_J5_min (cDI C 42 a0) (cDI C 42 a1))) → 
    isGl C4 a0 ∧
    (isGl C4 a1 ∧
    (∀ C7 : CS, C7 = (wA C4 10 98 (v_J5_max (cDI C4 42 a0) (cDI C4 42 a1))) → 
    ∀ C8 : CS, C8 = (wA C7 10 119 x3) → 
    isGl C8 a0 ∧
    (isGl C8 a1 ∧
    (∃ (g11 : (Nat → Int32)) (g12 : (Nat → Int32)), p_X0_ruled C8 0 (v_J5_max 0 (((cDI C8 42 a0) + (cDI C8 42 a1)) - (x3 / 10))) g11 g12 ∧
    (∀ r14 : Int32, r14 = (v_X0_ruled C8 0 (v_J5_max 0 (((cDI C8 42 a0) + (cDI C8 42 a1)) - (x3 / 10))) g11 g12) → 
    ∀ r15 : Int32, r15 = (v_X0_heldIn r14 0 999) → 
    Post r15 C8)))))))
set_option maxHeartbeats 4000000 in
set_option maxRecDepth 100000 in
theorem gw_X0_valueOf {w : WD} (wk : wOk w) (l : Launch) (C : CS) (a0 : Nat) (a1 : Nat) {Post : Int32 → CS → Prop} (hw : wp_X0_valueOf Post C a0 a1) : MC w l yX0_valueOf cX0_valueOf 4 (some .int) 98 0 0 [.ref (ad w 0), .ref a0, .ref a1] C (fun v C1 => ∃ r : Int32, v = some (.int r) ∧ Post r C1) := by
  unfold wp_X0_valueOf at hw
  refine MC.of wk (by decide) (Nat.le_of_ble_eq_true rfl) (fun x hx ok => ?_)
  subst hx
  show G w x 4 0 0 (QM w x _ 0 0) C 0 [(0, .ref (ad w 0)), (1, .ref a0), (2, .ref a1)] []
  refine g_aload_n ok 1 dX0_valueOf_0 rfl ?_
  obtain ⟨hf1, hw⟩ := hw
  refine g_gget ok hf1 3 (by decide) q307 (Or.inl rfl) dX0_valueOf_1 ?_
  refine g_aload_n ok 2 dX0_valueOf_4 rfl ?_
  obtain ⟨hf2, hw⟩ := hw
  refine g_gget ok hf2 3 (by decide) q307 (Or.inl rfl) dX0_valueOf_5 ?_
  refine g_iadd ok dX0_valueOf_8 ?_
  refine g_istore_n ok (fun z => [(3, .int z), (0, .ref (ad w 0)), (1, .ref a0), (2, .ref a1)]) dX0_valueOf_9 (by decide) (fun _ => rfl) (fun x3 ex3 => ?_)
  have hw := hw x3 ex3
  refine g_aload_n ok 1 dX0_valueOf_10 rfl ?_
  refine g_get ok 0 rfl rfl in_X0 10 (by decide) q191 rfl dX0_valueOf_11 ?_
  refine g_bipush (v := 97) ok dX0_valueOf_14 (by decide) ?_
  refine g_aload_n ok 2 dX0_valueOf_16 rfl ?_
  refine g_gget ok hf1 2 (by decide) q301 (Or.inl rfl) dX0_valueOf_17 ?_
  refine g_aload_n ok 3 dX0_valueOf_20 rfl ?_
  refine g_gget ok hf2 2 (by decide) q301 (Or.inl rfl) dX0_valueOf_21 ?_
  refine g_mmin ok q688 (Nat.le_of_ble_eq_true rfl) ⟨by decide, by decide⟩ ⟨by decide, by decide⟩ dX0_valueOf_24 ?_
  refine g_iast ok 10 rfl (by unfold vp_in; decide) 97 (by decide) dX0_valueOf_27 (fun C4 eC4 => ?_)
  have hw := hw C4 eC4
  refine g_aload_n ok 1 dX0_valueOf_28 rfl ?_
  refine g_get ok 0 rfl rfl in_X0 10 (by decide) q191 rfl dX0_valueOf_29 ?_
  refine g_bipush (v := 98) ok dX0_valueOf_32 (by decide) ?_
  refine g_aload_n ok 2 dX0_valueOf_34 rfl ?_
  obtain ⟨hf5, hw⟩ := hw
  refine g_gget ok hf5 2 (by decide) q301 (Or.inl rfl) dX0_valueOf_35 ?_
  refine g_aload_n ok 3 dX0_valueOf_38 rfl ?_
  obtain ⟨hf6, hw⟩ := hw
  refine g_gget ok hf6 2 (by decide) q301 (Or.inl rfl) dX0_valueOf_39 ?_
  refine g_mmax ok q691 (Nat.le_of_ble_eq_true rfl) ⟨by decide, by decide⟩ ⟨by decide, by decide⟩ dX0_valueOf_42 ?_
  refine g_iast ok 10 rfl (by unfold vp_in; decide) 98 (by decide) dX0_valueOf_45 (fun C7 eC7 => ?_)
  have hw := hw C7 eC7
  refine g_aload_n ok 1 dX0_valueOf_46 rfl ?_
  refine g_get ok 0 rfl rfl in_X0 10 (by decide) q191 rfl dX0_valueOf_47 ?_
  refine g_bipush (v := 119) ok dX0_valueOf_50 (by decide) ?_
  refine g_iload_n ok 0 dX0_valueOf_52 rfl ?_
  refine g_iast ok 10 rfl (by unfold vp_in; decide) 119 (by decide) dX0_valueOf_53 (fun C8 eC8 => ?_)
  have hw := hw C8 eC8
  refine g_aload_n ok 1 dX0_valueOf_54 rfl ?_
  refine g_iconst (v := 0) ok dX0_valueOf_55 (by decide) ?_
  refine g_iconst (v := 0) ok dX0_valueOf_56 (by decide) ?_
  refine g_aload_n ok 2 dX0_valueOf_57 rfl ?_
  obtain ⟨hf9, hw⟩ := hw
  refine g_gget ok hf9 2 (by decide) q301 (Or.inl rfl) dX0_valueOf_58 ?_
  refine g_aload_n ok 3 dX0_valueOf_61 rfl ?_
  obtain ⟨hf10, hw⟩ := hw
  refine g_gget ok hf10 2 (by decide) q301 (Or.inl rfl) dX0_valueOf_62 ?_
  refine g_iadd ok dX0_valueOf_65 ?_
  refine g_iload_n ok 0 dX0_valueOf_66 rfl ?_
  refine g_bipush (v := 10) ok dX0_valueOf_67 (by decide) ?_
  refine g_idiv ok dX0_valueOf_69 (by decide) ?_
  refine g_isub ok dX0_valueOf_70 ?_
  refine g_mmax ok q691 (Nat.le_of_ble_eq_true rfl) ⟨by decide, by decide⟩ ⟨by decide, by decide⟩ dX0_valueOf_71 ?_
  obtain ⟨g11, g12, hp13, hw⟩ := hw
  refine g_callV ok [.int 0, .int (v_J5_max 0 (((cDI C8 42 a0) + (cDI C8 42 a1)) - (x3 / 10)))] cf_X0_ruled q694 (mc_X0_ruled ok.wo (xL x) C8 0 (v_J5_max 0 (((cDI C8 42 a0) + (cDI C8 42 a1)) - (x3 / 10))) g11 g12 hp13) (recvF ok 0 rfl rfl) rfl rfl (Nat.le_of_ble_eq_true rfl) ⟨by decide, by decide⟩ ⟨by decide, by decide⟩ dX0_valueOf_74 (resI ?_)
  refine g_nmI (fun r14 er14 => ?_)
  have hw := hw r14 er14
  refine g_iconst (v := 0) ok dX0_valueOf_77 (by decide) ?_
  refine g_sipush (v := 999) ok dX0_valueOf_78 (by decide) ?_
  refine g_callS ok [.int r14, .int 0, .int 999] cf_X0_heldIn q737 (mc_X0_heldIn ok.wo (xL x) C8 r14 0 999) rfl rfl (Nat.le_of_ble_eq_true rfl) ⟨by decide, by decide⟩ ⟨by decide, by decide⟩ dX0_valueOf_81 (resI ?_)
  refine g_nmI (fun r15 er15 => ?_)
  have hw := hw r15 er15
  exact g_iret ok dX0_valueOf_84 ⟨_, rfl, hw⟩
theorem mn_eq (a b : Int32) : v_J5_min a b = if b ≤ a then b else a := by
  unfold v_J5_min
  by_cases c : b < a
  · rw [if_pos c, if_pos (Int32.le_of_lt c)]
  · rw [if_neg c]
    by_cases c2 : b ≤ a
    · rw [if_pos c2]; exact Int32.le_antisymm (Int32.not_lt.mp c) c2
    · rw [if_neg c2]
theorem mx_eq (a b : Int32) : v_J5_max a b = if b ≤ a then a else b := by
  unfold v_J5_max
  by_cases c : a < b
  · rw [if_pos c, if_neg (Int32.not_le.mpr c)]
  · rw [if_neg c, if_pos (Int32.not_lt.mp c)]
theorem sp_X0_valueOf (C : CS) (a0 a1 : Nat) (r : Nat → Int32) (i k : Nat) (hp : p_X0_valueOf C a0 a1 r i k) : wp_X0_valueOf (fun x C1 => x = v_X0_valueOf C a0 a1 r i k ∧ q_X0_valueOf C a0 a1 r i k C1) C a0 a1 := by
  obtain ⟨ht, hg, hh⟩ := hp
  obtain ⟨g1, -, -, -, g5, g6, -⟩ := hg
  obtain ⟨f1, -, -, -, f5, f6, -⟩ := hh
  refine ⟨g1, f1, fun x3 e3 C4 e4 => ⟨by rw [e4]; exact g1, by rw [e4]; exact f1, fun C7 e7 C8 e8 => ?_⟩⟩
  have q5 : ∀ D : CS, D.2.2 = C.2.2 → cDI D 42 a0 = r (16 + 6 * i + 3) ∧ cDI D 42 a1 = r (16 + 6 * k + 3) := by
    intro D h
    exact ⟨by show D.2.2.2.2.2.2.1 42 a0 = _; rw [h]; exact g5, by show D.2.2.2.2.2.2.1 42 a1 = _; rw [h]; exact f5⟩
  have hf : frm [10] C C8 := by rw [e8, e7, e4]; exact (((frm.rf _ C).w (by decide)).w (by decide)).w (by decide)
  have z4 := q5 C4 (by rw [e4]; rfl)
  have z8 := q5 C8 hf.2.1
  have e3 : x3 = r (16 + 6 * i + 4) + r (16 + 6 * k + 4) := by rw [e3, g6, f6]
  refine ⟨by rw [e8, e7, e4]; exact g1, by rw [e8, e7, e4]; exact f1, r, fct3 (if r (16 + 6 * k + 3) ≤ r (16 + 6 * i + 3) then r (16 + 6 * k + 3) else r (16 + 6 * i + 3)) (if r (16 + 6 * k + 3) ≤ r (16 + 6 * i + 3) then r (16 + 6 * i + 3) else r (16 + 6 * k + 3)) (r (16 + 6 * i + 4) + r (16 + 6 * k + 4)), ⟨ht.frm hf (by intro k h1 h2; simp; omega), ?_⟩, fun r14 e14 r15 e15 => ⟨?_, hf⟩⟩
  · have y : C8.2.1 10 97 = v_J5_min (r (16 + 6 * i + 3)) (r (16 + 6 * k + 3)) ∧ C8.2.1 10 98 = v_J5_max (r (16 + 6 * i + 3)) (r (16 + 6 * k + 3)) ∧ C8.2.1 10 119 = x3 := by
      rw [e8, e7, z4.1, z4.2, e4, g5, f5]
      simp [wA, up2]
    refine fok_0 ?_ ?_ ?_
    · rw [y.1, mn_eq]; simp [fct3]
    · rw [y.2.1, mx_eq]; simp [fct3]
    · rw [y.2.2, e3]; simp [fct3]
  · rw [e15, (held_w r14).1, e14, z8.1, z8.2, e3]
    unfold v_X0_valueOf pvR v_X0_ruled rulR
    by_cases c : 0 ≤ cntR r 0
    · rw [if_pos c, if_pos c]
    · rw [if_neg c, if_neg c, max0_w]
theorem mc_X0_valueOf {w : WD} (wk : wOk w) (l : Launch) (C : CS) (a0 : Nat) (a1 : Nat) (r : (Nat → Int32)) (i : Nat) (k : Nat) (hp : p_X0_valueOf C a0 a1 r i k) : MC w l yX0_valueOf cX0_valueOf 4 (some .int) 98 0 0 [.ref (ad w 0), .ref a0, .ref a1] C (pIR (v_X0_valueOf C a0 a1 r i k) (q_X0_valueOf C a0 a1 r i k)) := MC.postIR (gw_X0_valueOf wk l C a0 a1 (sp_X0_valueOf C a0 a1 r i k hp))
theorem cf_X1_all : CfV yX1_all "TwoGuilds$Table" cX1_all 1 (some .int) 0 := ⟨⟨by decide, by decide, by decide⟩, q73, q762, q760, q761⟩
def v_X1_all (C : CS) (j : Nat) : Int32 :=
  ((1 <<< ((C.1 j 0) &&& 31)) - 1)
def p_X1_all (C : CS) (j : Nat) : Prop :=
  isTb j ∧
    (True)
set_option maxHeartbeats 4000000 in
set_option maxRecDepth 100000 in
theorem mc_X1_all {w : WD} (wk : wOk w) (l : Launch) (C : CS) (j : Nat) (hw : p_X1_all C j) : MC w l yX1_all cX1_all 1 (some .int) 0 0 0 [.ref (ad w j)] C (pI (v_X1_all C j) C) := by
  unfold p_X1_all at hw
  refine MC.of wk (by decide) (Nat.le_of_ble_eq_true rfl) (fun x hx ok => ?_)
  subst hx
  show G w x 1 0 0 (QM w x _ 0 0) C 0 [(0, .ref (ad w j))] []
  refine g_iconst (v := 1) ok dX1_all_0 (by decide) ?_
  refine g_aload_n ok 0 dX1_all_1 rfl ?_
  obtain ⟨hf1, hw⟩ := hw
  refine g_get ok j (fObjT hf1) rfl in_X1 0 (by decide) q123 rfl dX1_all_2 ?_
  refine g_ishl ok dX1_all_5 ?_
  refine g_iconst (v := 1) ok dX1_all_6 (by decide) ?_
  refine g_isub ok dX1_all_7 ?_
  exact g_iret ok dX1_all_8 ⟨by rw [v_X1_all], rfl⟩
theorem cf_X1_drawn : CfV yX1_drawn "TwoGuilds$Table" cX1_drawn 1 (some .int) 0 := ⟨⟨by decide, by decide, by decide⟩, q73, q749, q747, q748⟩
def v_X1_drawn (C : CS) (j : Nat) : Int32 :=
  (Int32.toUInt32 ((wI C j 5 (((C.1 j 5) * 1103515245) + 12345)).1 j 5) >>> (Int32.toUInt32 8 &&& Int32.toUInt32 31)).toInt32
def n_X1_drawn (C : CS) (j : Nat) : CS :=
  (wI C j 5 (((C.1 j 5) * 1103515245) + 12345))
def p_X1_drawn (C : CS) (j : Nat) : Prop :=
  isTb j ∧
    (True)
set_option maxHeartbeats 4000000 in
set_option maxRecDepth 100000 in
theorem mc_X1_drawn {w : WD} (wk : wOk w) (l : Launch) (C : CS) (j : Nat) (hw : p_X1_drawn C j) : MC w l yX1_drawn cX1_drawn 1 (some .int) 0 0 0 [.ref (ad w j)] C (pI (v_X1_drawn C j) (n_X1_drawn C j)) := by
  unfold p_X1_drawn at hw
  refine MC.of wk (by decide) (Nat.le_of_ble_eq_true rfl) (fun x hx ok => ?_)
  subst hx
  show G w x 1 0 0 (QM w x _ 0 0) C 0 [(0, .ref (ad w j))] []
  refine g_aload_n ok 0 dX1_drawn_0 rfl ?_
  refine g_aload_n ok 0 dX1_drawn_1 rfl ?_
  obtain ⟨hf1, hw⟩ := hw
  refine g_get ok j (fObjT hf1) rfl in_X1 5 (by decide) q133 rfl dX1_drawn_2 ?_
  refine g_ldc (v := 1103515245) ok q750 dX1_drawn_5 ?_
  refine g_imul ok dX1_drawn_7 ?_
  refine g_sipush (v := 12345) ok dX1_drawn_8 (by decide) ?_
  refine g_iadd ok dX1_drawn_11 ?_
  refine g_putI ok j (fObjT hf1) rfl in_X1 tyX1 tyX1_ok nmX1 5 (by decide) q133 rfl rfl rfl (putT hf1 rfl) dX1_drawn_12 (fun C2 eC2 => ?_)
  subst eC2
  refine g_aload_n ok 0 dX1_drawn_15 rfl ?_
  refine g_get ok j (fObjT hf1) rfl in_X1 5 (by decide) q133 rfl dX1_drawn_16 ?_
  refine g_bipush (v := 8) ok dX1_drawn_19 (by decide) ?_
  refine g_iushr ok dX1_drawn_21 ?_
  exact g_iret ok dX1_drawn_22 ⟨by rw [v_X1_drawn], by rw [n_X1_drawn]⟩
