theorem isIn_eq {a b c : Int32} {B D : Int64} (hB : B = b.toInt64) (hD : D = c.toInt64) : v_X0_isIn a.toInt64 B D = v_X3_in a b c := by
  subst hB; subst hD
  unfold v_X0_isIn v_X3_in
  by_cases h : a < b
  · rw [if_pos h, if_pos ((lg_cmp_lt _ _).mpr (Int32.toInt64_lt.mpr h))]
  · rw [if_neg h, if_neg (fun q => h (Int32.toInt64_lt.mp ((lg_cmp_lt _ _).mp q)))]
    by_cases h2 : c < a
    · rw [if_pos h2, if_pos ((lg_cmp_gt _ _).mpr (Int32.toInt64_lt.mpr h2))]
    · rw [if_neg h2, if_neg (fun q => h2 (Int32.toInt64_lt.mp ((lg_cmp_gt _ _).mp q)))]
theorem isIn0 (a c : Int32) (D : Int64) (h : D = c.toInt64) : v_X0_isIn a.toInt64 0 D = v_X3_in a 0 c := isIn_eq (b := 0) rfl h
/-- what a public question finds -/
def opP (C : CS) : Prop := tbOk C (C.2.1 36) ∧ GD C
/-- what it leaves: the table at hand is the row r -/
def tOp (C C1 : CS) (r : Nat → Int32) : Prop := TR C1 (cN C) r ∧ tE (cN C) C C1 ∧ GD C1
theorem tOp.rf {C : CS} (h : opP C) : tOp C C (C.2.1 36) := ⟨h.1.2, tE.rf _ C, h.2⟩
theorem opP.N {C : CS} (h : opP C) : ∃ N, gOk C N := by
  obtain ⟨N, e, hN, -⟩ := h.1.2.g
  exact ⟨N, e, hN⟩
theorem opP.isG {C : CS} (h : opP C) (a : Int32) : v_X0_isGlove C a = v_X3_isGlove C a := by
  unfold v_X0_isGlove v_X3_isGlove
  rw [h.1.2.n.2.1]
  exact isIn_eq rfl rfl
theorem opP.gl {C : CS} (h : opP C) {a : Int32} (hg : ¬ v_X3_isGlove C a = 0) : ∃ k b, k < 10 ∧ a = nI k ∧ cG C (17 + 4 * (cN C - 2)) k = some b ∧ glR C b (C.2.1 36) k := by
  obtain ⟨N, hN⟩ := h.N
  obtain ⟨g, h1, h2⟩ := (isGlove_iff hN).mp hg
  obtain ⟨b, q1, q2⟩ := h.1.2.gN hN.1 hN.2 g h1
  exact ⟨g, b, by have := hN.2; omega, h2, q1, q2⟩
theorem cf_X0_glove : CfV yX0_glove "TwoGuilds" cX0_glove 5 (some .int) 4 := ⟨⟨by decide, by decide, by decide⟩, q72, q267, q265, q266⟩
def p_X0_glove (C : CS) (a0 a1 a2 a3 : Int32) : Prop := opP C
def v_X0_glove (C : CS) (a0 a1 a2 a3 : Int32) : Int32 := v_X3_glove C a0 a1 a2 a3
def q_X0_glove (C : CS) (a0 a1 a2 a3 : Int32) (C1 : CS) : Prop := tOp C C1 ((n_X3_glove C a0 a1 a2 a3).2.1 36)
def wp_X0_glove (Post : Int32 → CS → Prop) (C : CS) (a0 : Int32) (a1 : Int32) (a2 : Int32) (a3 : Int32) : Prop :=
  ∀ r1 : Int32, r1 = (v_X0_isIn (Int32.toInt64 a0) 0 5) → 
    (r1 = 0 → 
    Post (-1000000001) C) ∧
    (¬ r1 = 0 → 
    ∀ r3 : Int32, r3 = (v_X0_isIn (Int32.toInt64 a1) 0 1) → 
      (r3 = 0 → 
      Post (-1000000001) C) ∧
      (¬ r3 = 0 → 
      ∀ r5 : Int32, r5 = (v_X0_isIn (Int32.toInt64 a2) 0 9) → 
        (r5 = 0 → 
        Post (-1000000001) C) ∧
        (¬ r5 = 0 → 
        ∀ r7 : Int32, r7 = (v_X0_isIn (Int32.toInt64 a3) 0 99) → 
          (r7 = 0 → 
          Post (-1000000001) C) ∧
          (¬ r7 = 0 → 
          isTb (cN C) ∧
            (((C.1 (cN C) 0) = 10 → 
            Post (-1000000003) C) ∧
            (¬ (C.1 (cN C) 0) = 10 → 
            ∃ (g11 : (Nat → Int32)) (g12 : Nat), p_X0_comes C a0 a1 a2 a3 g11 g12 ∧
              (∀ C14 : CS, q_X0_comes C a0 a1 a2 a3 g11 g12 C14 → 
              isTb (cN C14) ∧
              (Post ((C14.1 (cN C14) 0) - 1) C14))))))))
set_option maxHeartbeats 4000000 in
set_option maxRecDepth 100000 in
theorem gw_X0_glove {w : WD} (wk : wOk w) (l : Launch) (C : CS) (a0 : Int32) (a1 : Int32) (a2 : Int32) (a3 : Int32) {Post : Int32 → CS → Prop} (hw : wp_X0_glove Post C a0 a1 a2 a3) : MC w l yX0_glove cX0_glove 5 (some .int) 6 1 8 [.ref (ad w 0), .int a0, .int a1, .int a2, .int a3] C (fun v C1 => ∃ r : Int32, v = some (.int r) ∧ Post r C1) := by
  unfold wp_X0_glove at hw
  refine MC.of wk (by decide) (Nat.le_of_ble_eq_true rfl) (fun x hx ok => ?_)
  subst hx
  show G w x 5 0 0 (QM w x _ 1 8) C 0 [(0, .ref (ad w 0)), (1, .int a0), (2, .int a1), (3, .int a2), (4, .int a3)] []
  refine g_iload_n ok 1 dX0_glove_0 rfl ?_
  refine g_i2l ok dX0_glove_1 ?_
  refine g_lconst (v := 0) ok dX0_glove_2 (by decide) ?_
  refine g_ldc2 (v := 5) ok q268 dX0_glove_3 ?_
  refine g_callS ok [.long (Int32.toInt64 a0), .long 0, .long 5] cf_X0_isIn q269 (mc_X0_isIn ok.wo (xL x) C (Int32.toInt64 a0) 0 5) rfl rfl (Nat.le_of_ble_eq_true rfl) ⟨by decide, by decide⟩ ⟨by decide, by decide⟩ dX0_glove_6 (resI ?_)
  refine g_nmI (fun r1 er1 => ?_)
  have hw := hw r1 er1
  refine g_if_eq (tgt := 47) ok dX0_glove_9 (by decide) (fun c2 => ?_) (fun c2 => ?_)
  · have hw := hw.1 c2
    refine g_ldc (v := -1000000001) ok q274 dX0_glove_47 ?_
    refine g_widen 1 8 (by omega) (by omega) ?_
    exact g_iret ok dX0_glove_49 ⟨_, rfl, hw⟩
  · have hw := hw.2 c2
    refine g_iload_n ok 2 dX0_glove_12 rfl ?_
    refine g_i2l ok dX0_glove_13 ?_
    refine g_lconst (v := 0) ok dX0_glove_14 (by decide) ?_
    refine g_lconst (v := 1) ok dX0_glove_15 (by decide) ?_
    refine g_callS ok [.long (Int32.toInt64 a1), .long 0, .long 1] cf_X0_isIn q269 (mc_X0_isIn ok.wo (xL x) C (Int32.toInt64 a1) 0 1) rfl rfl (Nat.le_of_ble_eq_true rfl) ⟨by decide, by decide⟩ ⟨by decide, by decide⟩ dX0_glove_16 (resI ?_)
    refine g_nmI (fun r3 er3 => ?_)
    have hw := hw r3 er3
    refine g_if_eq (tgt := 47) ok dX0_glove_19 (by decide) (fun c4 => ?_) (fun c4 => ?_)
    · have hw := hw.1 c4
      refine g_ldc (v := -1000000001) ok q274 dX0_glove_47 ?_
      refine g_widen 1 8 (by omega) (by omega) ?_
      exact g_iret ok dX0_glove_49 ⟨_, rfl, hw⟩
    · have hw := hw.2 c4
      refine g_iload_n ok 3 dX0_glove_22 rfl ?_
      refine g_i2l ok dX0_glove_23 ?_
      refine g_lconst (v := 0) ok dX0_glove_24 (by decide) ?_
      refine g_ldc2 (v := 9) ok q272 dX0_glove_25 ?_
      refine g_callS ok [.long (Int32.toInt64 a2), .long 0, .long 9] cf_X0_isIn q269 (mc_X0_isIn ok.wo (xL x) C (Int32.toInt64 a2) 0 9) rfl rfl (Nat.le_of_ble_eq_true rfl) ⟨by decide, by decide⟩ ⟨by decide, by decide⟩ dX0_glove_28 (resI ?_)
      refine g_nmI (fun r5 er5 => ?_)
      have hw := hw r5 er5
      refine g_if_eq (tgt := 47) ok dX0_glove_31 (by decide) (fun c6 => ?_) (fun c6 => ?_)
      · have hw := hw.1 c6
        refine g_ldc (v := -1000000001) ok q274 dX0_glove_47 ?_
        refine g_widen 1 8 (by omega) (by omega) ?_
        exact g_iret ok dX0_glove_49 ⟨_, rfl, hw⟩
      · have hw := hw.2 c6
        refine g_iload ok 4 dX0_glove_34 rfl ?_
        refine g_i2l ok dX0_glove_36 ?_
        refine g_lconst (v := 0) ok dX0_glove_37 (by decide) ?_
        refine g_ldc2 (v := 99) ok q273 dX0_glove_38 ?_
        refine g_callS ok [.long (Int32.toInt64 a3), .long 0, .long 99] cf_X0_isIn q269 (mc_X0_isIn ok.wo (xL x) C (Int32.toInt64 a3) 0 99) rfl rfl (Nat.le_of_ble_eq_true rfl) ⟨by decide, by decide⟩ ⟨by decide, by decide⟩ dX0_glove_41 (resI ?_)
        refine g_nmI (fun r7 er7 => ?_)
        have hw := hw r7 er7
        refine g_if_ne (tgt := 50) ok dX0_glove_44 (by decide) (fun c8 => ?_) (fun c8 => ?_)
        · have hw := hw.2 c8
          refine g_aload_n ok 0 dX0_glove_50 rfl ?_
          refine g_get ok 0 rfl rfl in_X0 0 (by decide) q180 rfl dX0_glove_51 ?_
          obtain ⟨hf9, hw⟩ := hw
          refine g_get ok (cN C) (fObjT hf9) rfl in_X1 0 (by decide) q124 rfl dX0_glove_54 ?_
          refine g_bipush (v := 10) ok dX0_glove_57 (by decide) ?_
          refine g_icmp_ne (tgt := 65) ok dX0_glove_59 (by decide) (fun c10 => ?_) (fun c10 => ?_)
          · have hw := hw.2 c10
            refine g_aload_n ok 0 dX0_glove_65 rfl ?_
            refine g_iload_n ok 1 dX0_glove_66 rfl ?_
            refine g_iload_n ok 2 dX0_glove_67 rfl ?_
            refine g_iload_n ok 3 dX0_glove_68 rfl ?_
            refine g_iload ok 4 dX0_glove_69 rfl ?_
            obtain ⟨g11, g12, hp13, hw⟩ := hw
            refine g_callV ok [.int a0, .int a1, .int a2, .int a3] cf_X0_comes q276 (mc_X0_comes ok.wo (xL x) C a0 a1 a2 a3 g11 g12 hp13) (recvF ok 0 rfl rfl) rfl rfl (Nat.le_of_ble_eq_true rfl) ⟨by decide, by decide⟩ ⟨by show 0 + 1 ≤ 1; omega, by show 0 + 8 ≤ 8; omega⟩ dX0_glove_71 (resVR fun C14 eC14 => ?_)
            have hw := hw C14 eC14
            refine g_aload_n ok 0 dX0_glove_74 rfl ?_
            refine g_get ok 0 rfl rfl in_X0 0 (by decide) q180 rfl dX0_glove_75 ?_
            obtain ⟨hf15, hw⟩ := hw
            refine g_get ok (cN C14) (fObjT hf15) rfl in_X1 0 (by decide) q124 rfl dX0_glove_78 ?_
            refine g_iconst (v := 1) ok dX0_glove_81 (by decide) ?_
            refine g_isub ok dX0_glove_82 ?_
            exact g_iret ok dX0_glove_83 ⟨_, rfl, hw⟩
          · have hw := hw.1 c10
            refine g_ldc (v := -1000000003) ok q275 dX0_glove_62 ?_
            refine g_widen 1 8 (by omega) (by omega) ?_
            exact g_iret ok dX0_glove_64 ⟨_, rfl, hw⟩
        · have hw := hw.1 c8
          refine g_ldc (v := -1000000001) ok q274 dX0_glove_47 ?_
          refine g_widen 1 8 (by omega) (by omega) ?_
          exact g_iret ok dX0_glove_49 ⟨_, rfl, hw⟩
theorem in_nI {a : Int32} {m : Nat} (hm : m < 2 ^ 31) (h : ¬ v_X3_in a 0 (nI m) = 0) : ∃ k, k ≤ m ∧ a = nI k := by
  obtain ⟨h1, h2⟩ := in_iff.mp h
  obtain ⟨k, q1, q2⟩ := nI_of2 (M := nI m) (n := m) (nI_toInt hm) (Int32.not_lt.mpr h1) h2
  exact ⟨k, q1, q2⟩
theorem sp_X0_glove (C : CS) (a0 a1 a2 a3 : Int32) (hp : p_X0_glove C a0 a1 a2 a3) : wp_X0_glove (fun x C1 => x = v_X0_glove C a0 a1 a2 a3 ∧ q_X0_glove C a0 a1 a2 a3 C1) C a0 a1 a2 a3 := by
  have hp : opP C := hp
  unfold v_X0_glove v_X3_glove q_X0_glove n_X3_glove
  refine fun r1 e1 => ⟨fun c1 => ?_, fun c1 => ?_⟩
  all_goals rw [e1, isIn0 _ 5 5 rfl] at c1
  · rw [if_pos c1, if_pos c1]; exact ⟨rfl, tOp.rf hp⟩
  rw [if_neg c1, if_neg c1]
  refine fun r3 e3 => ⟨fun c3 => ?_, fun c3 => ?_⟩
  all_goals rw [e3, isIn0 _ 1 1 rfl] at c3
  · rw [if_pos c3, if_pos c3]; exact ⟨rfl, tOp.rf hp⟩
  rw [if_neg c3, if_neg c3]
  refine fun r5 e5 => ⟨fun c5 => ?_, fun c5 => ?_⟩
  all_goals rw [e5, isIn0 _ 9 9 rfl] at c5
  · rw [if_pos c5, if_pos c5]; exact ⟨rfl, tOp.rf hp⟩
  rw [if_neg c5, if_neg c5]
  refine fun r7 e7 => ⟨fun c7 => ?_, fun c7 => ?_⟩
  all_goals rw [e7, isIn0 _ 99 99 rfl] at c7
  · rw [if_pos c7, if_pos c7]; exact ⟨rfl, tOp.rf hp⟩
  rw [if_neg c7, if_neg c7]
  refine ⟨hp.1.1, fun c => ?_, fun c => ?_⟩
  all_goals rw [hp.1.2.n.2.1] at c
  · rw [if_pos c, if_pos c]; exact ⟨rfl, tOp.rf hp⟩
  rw [if_neg c, if_neg c]
  obtain ⟨N, eN, hN⟩ := hp.N
  have hN9 : N < 10 := by
    rcases Nat.lt_or_ge N 10 with h | h
    · exact h
    · have : N = 10 := by omega
      subst this
      exact absurd eN c
  refine ⟨C.2.1 36, N, ⟨hp.1, hp.2, eN, hN9, in_nI (m := 5) (by decide) c1, in_nI (m := 1) (by decide) c3, in_nI (m := 9) (by decide) c5, in_nI (m := 99) (by decide) c7⟩, fun C14 h14 => ?_⟩
  obtain ⟨z1, z2, z3⟩ := h14
  have n14 : cN C14 = cN C := z2.2.2.2.2.1
  rw [n14]
  refine ⟨hp.1.1, ?_, ?_⟩
  · rw [z1.n.2.1]
    unfold comR v_X3_comes
    rw [upd_s, eN, show (1 : Int32) = nI 1 from rfl, pk_sub (by omega)]
    congr 1
  · rw [(comes_n eN hN9 a0 a1 a2 a3).2]
    exact ⟨z1, z2, z3⟩
theorem mc_X0_glove {w : WD} (wk : wOk w) (l : Launch) (C : CS) (a0 : Int32) (a1 : Int32) (a2 : Int32) (a3 : Int32) (hp : p_X0_glove C a0 a1 a2 a3) : MC w l yX0_glove cX0_glove 5 (some .int) 6 1 8 [.ref (ad w 0), .int a0, .int a1, .int a2, .int a3] C (pIR (v_X0_glove C a0 a1 a2 a3) (q_X0_glove C a0 a1 a2 a3)) := MC.postIR (gw_X0_glove wk l C a0 a1 a2 a3 (sp_X0_glove C a0 a1 a2 a3 hp))
