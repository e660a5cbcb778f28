theorem cf_X0_forget : CfV yX0_forget "TwoGuilds" cX0_forget 2 (some .int) 0 := ⟨⟨by decide, by decide, by decide⟩, q72, q896, q894, q895⟩
def p_X0_forget (C : CS) : Prop := opP C
def v_X0_forget (C : CS) : Int32 := v_X3_forget C
def q_X0_forget (C : CS) (C1 : CS) : Prop := tOp C C1 ((n_X3_forget C).2.1 36)
def wp_X0_forget (Post : Int32 → CS → Prop) (C : CS)  : Prop :=
  isTb (cN C) ∧
    (∀ x2 : Int32, x2 = (C.1 (cN C) 2) → 
    ∀ C3 : CS, C3 = (wI C (cN C) 2 0) → 
    Post x2 C3)
set_option maxHeartbeats 4000000 in
set_option maxRecDepth 100000 in
theorem gw_X0_forget {w : WD} (wk : wOk w) (l : Launch) (C : CS)  {Post : Int32 → CS → Prop} (hw : wp_X0_forget Post C ) : MC w l yX0_forget cX0_forget 2 (some .int) 6 0 0 [.ref (ad w 0)] C (fun v C1 => ∃ r : Int32, v = some (.int r) ∧ Post r C1) := by
  unfold wp_X0_forget at hw
  refine MC.of wk (by decide) (Nat.le_of_ble_eq_true rfl) (fun x hx ok => ?_)
  subst hx
  show G w x 2 0 0 (QM w x _ 0 0) C 0 [(0, .ref (ad w 0))] []
  refine g_aload_n ok 0 dX0_forget_0 rfl ?_
  refine g_get ok 0 rfl rfl in_X0 0 (by decide) q180 rfl dX0_forget_1 ?_
  obtain ⟨hf1, hw⟩ := hw
  refine g_get ok (cN C) (fObjT hf1) rfl in_X1 2 (by decide) q128 rfl dX0_forget_4 ?_
  refine g_istore_n ok (fun z => [(1, .int z), (0, .ref (ad w 0))]) dX0_forget_7 (by decide) (fun _ => rfl) (fun x2 ex2 => ?_)
  have hw := hw x2 ex2
  refine g_aload_n ok 1 dX0_forget_8 rfl ?_
  refine g_get ok 0 rfl rfl in_X0 0 (by decide) q180 rfl dX0_forget_9 ?_
  refine g_iconst (v := 0) ok dX0_forget_12 (by decide) ?_
  refine g_putI ok (cN C) (fObjT hf1) rfl in_X1 tyX1 tyX1_ok nmX1 2 (by decide) q128 rfl rfl rfl (putT hf1 rfl) dX0_forget_13 (fun C3 eC3 => ?_)
  have hw := hw C3 eC3
  refine g_iload_n ok 0 dX0_forget_16 rfl ?_
  exact g_iret ok dX0_forget_17 ⟨_, rfl, hw⟩
theorem sp_X0_forget (C : CS) (hp : p_X0_forget C) : wp_X0_forget (fun x C1 => x = v_X0_forget C ∧ q_X0_forget C C1) C := by
  have hp : opP C := hp
  refine ⟨hp.1.1, fun x2 e2 C3 e3 => ⟨?_, ?_⟩⟩
  · rw [e2, hp.1.2.n.2.2.2.2.1]; rfl
  · have d : dE (cN C) C C3 := by rw [e3]; exact (dE.rf _ C).wI 2 _
    refine ⟨?_, d.tE, d.gd hp.2⟩
    unfold n_X3_forget n_X3_becomes
    rw [upd_w, show Int32.toNatClampNeg 4 = 4 from rfl]
    have h := hp.1.2
    have o : ∀ m, m ≠ 2 → C3.1 (cN C) m = C.1 (cN C) m := fun m hm => by rw [e3]; exact u2n (fun h => hm h.2)
    obtain ⟨t0, t1, t2, t3, t4, t5⟩ := h.n
    refine ⟨⟨by rw [o _ (by decide), upd_n (by decide)]; exact t0, by rw [o _ (by decide), upd_n (by decide)]; exact t1, by rw [o _ (by decide), upd_n (by decide)]; exact t2, by rw [o _ (by decide), upd_n (by decide)]; exact t3, by rw [upd_s, e3]; exact u2s, by rw [o _ (by decide), upd_n (by decide)]; exact t5⟩, ?_, ⟨0, by rw [upd_s]; rfl, by omega, fun k hk => absurd hk (by omega)⟩, h.t.keep (upd_n (by omega)) (fun i _ => upd_n (by omega)) (fun _ _ => by rw [e3]; rfl) (keepX.of (by rw [e3]; rfl))⟩
    obtain ⟨N, e, hN, hg⟩ := h.g
    refine ⟨N, by rw [upd_n (by omega)]; exact e, hN, fun k hk => ?_⟩
    obtain ⟨a, q1, q2⟩ := hg k hk
    exact ⟨a, by rw [e3]; exact q1, (q2.keep (keepG.of (by rw [e3]; rfl) a)).row (fun i _ _ => upd_n (by omega))⟩
theorem mc_X0_forget {w : WD} (wk : wOk w) (l : Launch) (C : CS)  (hp : p_X0_forget C ) : MC w l yX0_forget cX0_forget 2 (some .int) 6 0 0 [.ref (ad w 0)] C (pIR (v_X0_forget C ) (q_X0_forget C )) := MC.postIR (gw_X0_forget wk l C  (sp_X0_forget C  hp))
theorem cf_X0_worn : CfV yX0_worn "TwoGuilds" cX0_worn 3 (some .int) 2 := ⟨⟨by decide, by decide, by decide⟩, q72, q891, q889, q890⟩
def p_X0_worn (C : CS) (a0 a1 : Int32) : Prop := opP C
def v_X0_worn (C : CS) (a0 a1 : Int32) : Int32 := v_X3_worn C a0 a1
def q_X0_worn (C : CS) (a0 a1 : Int32) (C1 : CS) : Prop := tOp C C1 ((n_X3_worn C a0 a1).2.1 36)
def wp_X0_worn (Post : Int32 → CS → Prop) (C : CS) (a0 : Int32) (a1 : Int32) : Prop :=
  ∀ r1 : Int32, r1 = (v_X0_isIn (Int32.toInt64 a0) 0 4) → 
    (r1 = 0 → 
    Post (-1000000001) C) ∧
    (¬ r1 = 0 → 
    ∀ r3 : Int32, r3 = (v_X0_isIn (Int32.toInt64 a1) 0 4) → 
      (r3 = 0 → 
      Post (-1000000001) C) ∧
      (¬ r3 = 0 → 
      isTb (cN C) ∧
        (((C.1 (cN C) 2) = 10 → 
        Post (-1000000003) C) ∧
        (¬ (C.1 (cN C) 2) = 10 → 
        vp_in (C.1 (cN C) 2) 10 ∧
          (∀ C8 : CS, C8 = (wA C (15 + 4 * ((cN C) - 2)) (Int32.toNatClampNeg (C.1 (cN C) 2)) a0) → 
          isTb (cN C8) ∧
          (vp_in (C8.1 (cN C8) 2) 10 ∧
          (∀ C11 : CS, C11 = (wA C8 (16 + 4 * ((cN C8) - 2)) (Int32.toNatClampNeg (C8.1 (cN C8) 2)) a1) → 
          isTb (cN C11) ∧
          (∀ C13 : CS, C13 = (wI C11 (cN C11) 2 ((C11.1 (cN C11) 2) + 1)) → 
          isTb (cN C13) ∧
          (Post (C13.1 (cN C13) 2) C13)))))))))
set_option maxHeartbeats 4000000 in
set_option maxRecDepth 100000 in
theorem gw_X0_worn {w : WD} (wk : wOk w) (l : Launch) (C : CS) (a0 : Int32) (a1 : Int32) {Post : Int32 → CS → Prop} (hw : wp_X0_worn Post C a0 a1) : MC w l yX0_worn cX0_worn 3 (some .int) 6 0 0 [.ref (ad w 0), .int a0, .int a1] C (fun v C1 => ∃ r : Int32, v = some (.int r) ∧ Post r C1) := by
  unfold wp_X0_worn at hw
  refine MC.of wk (by decide) (Nat.le_of_ble_eq_true rfl) (fun x hx ok => ?_)
  subst hx
  show G w x 3 0 0 (QM w x _ 0 0) C 0 [(0, .ref (ad w 0)), (1, .int a0), (2, .int a1)] []
  refine g_iload_n ok 1 dX0_worn_0 rfl ?_
  refine g_i2l ok dX0_worn_1 ?_
  refine g_lconst (v := 0) ok dX0_worn_2 (by decide) ?_
  refine g_ldc2 (v := 4) ok q892 dX0_worn_3 ?_
  refine g_callS ok [.long (Int32.toInt64 a0), .long 0, .long 4] cf_X0_isIn q269 (mc_X0_isIn ok.wo (xL x) C (Int32.toInt64 a0) 0 4) rfl rfl (Nat.le_of_ble_eq_true rfl) ⟨by decide, by decide⟩ ⟨by decide, by decide⟩ dX0_worn_6 (resI ?_)
  refine g_nmI (fun r1 er1 => ?_)
  have hw := hw r1 er1
  refine g_if_eq (tgt := 24) ok dX0_worn_9 (by decide) (fun c2 => ?_) (fun c2 => ?_)
  · have hw := hw.1 c2
    refine g_ldc (v := -1000000001) ok q274 dX0_worn_24 ?_
    exact g_iret ok dX0_worn_26 ⟨_, rfl, hw⟩
  · have hw := hw.2 c2
    refine g_iload_n ok 2 dX0_worn_12 rfl ?_
    refine g_i2l ok dX0_worn_13 ?_
    refine g_lconst (v := 0) ok dX0_worn_14 (by decide) ?_
    refine g_ldc2 (v := 4) ok q892 dX0_worn_15 ?_
    refine g_callS ok [.long (Int32.toInt64 a1), .long 0, .long 4] cf_X0_isIn q269 (mc_X0_isIn ok.wo (xL x) C (Int32.toInt64 a1) 0 4) rfl rfl (Nat.le_of_ble_eq_true rfl) ⟨by decide, by decide⟩ ⟨by decide, by decide⟩ dX0_worn_18 (resI ?_)
    refine g_nmI (fun r3 er3 => ?_)
    have hw := hw r3 er3
    refine g_if_ne (tgt := 27) ok dX0_worn_21 (by decide) (fun c4 => ?_) (fun c4 => ?_)
    · have hw := hw.2 c4
      refine g_aload_n ok 0 dX0_worn_27 rfl ?_
      refine g_get ok 0 rfl rfl in_X0 0 (by decide) q180 rfl dX0_worn_28 ?_
      obtain ⟨hf5, hw⟩ := hw
      refine g_get ok (cN C) (fObjT hf5) rfl in_X1 2 (by decide) q128 rfl dX0_worn_31 ?_
      refine g_bipush (v := 10) ok dX0_worn_34 (by decide) ?_
      refine g_icmp_ne (tgt := 42) ok dX0_worn_36 (by decide) (fun c6 => ?_) (fun c6 => ?_)
      · have hw := hw.2 c6
        refine g_aload_n ok 0 dX0_worn_42 rfl ?_
        refine g_get ok 0 rfl rfl in_X0 0 (by decide) q180 rfl dX0_worn_43 ?_
        refine g_get ok (cN C) (fObjT hf5) rfl in_X1 6 (by decide) q136 rfl dX0_worn_46 ?_
        refine g_aload_n ok 0 dX0_worn_49 rfl ?_
        refine g_get ok 0 rfl rfl in_X0 0 (by decide) q180 rfl dX0_worn_50 ?_
        refine g_get ok (cN C) (fObjT hf5) rfl in_X1 2 (by decide) q128 rfl dX0_worn_53 ?_
        refine g_iload_n ok 1 dX0_worn_56 rfl ?_
        obtain ⟨hf7, hw⟩ := hw
        refine g_iast ok (15 + 4 * ((cN C) - 2)) (fArrL hf5) hf7 _ rfl dX0_worn_57 (fun C8 eC8 => ?_)
        have hw := hw C8 eC8
        refine g_aload_n ok 0 dX0_worn_58 rfl ?_
        refine g_get ok 0 rfl rfl in_X0 0 (by decide) q180 rfl dX0_worn_59 ?_
        obtain ⟨hf9, hw⟩ := hw
        refine g_get ok (cN C8) (fObjT hf9) rfl in_X1 7 (by decide) q138 rfl dX0_worn_62 ?_
        refine g_aload_n ok 0 dX0_worn_65 rfl ?_
        refine g_get ok 0 rfl rfl in_X0 0 (by decide) q180 rfl dX0_worn_66 ?_
        refine g_get ok (cN C8) (fObjT hf9) rfl in_X1 2 (by decide) q128 rfl dX0_worn_69 ?_
        refine g_iload_n ok 2 dX0_worn_72 rfl ?_
        obtain ⟨hf10, hw⟩ := hw
        refine g_iast ok (16 + 4 * ((cN C8) - 2)) (fArrR hf9) hf10 _ rfl dX0_worn_73 (fun C11 eC11 => ?_)
        have hw := hw C11 eC11
        refine g_aload_n ok 0 dX0_worn_74 rfl ?_
        refine g_get ok 0 rfl rfl in_X0 0 (by decide) q180 rfl dX0_worn_75 ?_
        refine g_dup ok dX0_worn_78 rfl ?_
        obtain ⟨hf12, hw⟩ := hw
        refine g_get ok (cN C11) (fObjT hf12) rfl in_X1 2 (by decide) q128 rfl dX0_worn_79 ?_
        refine g_iconst (v := 1) ok dX0_worn_82 (by decide) ?_
        refine g_iadd ok dX0_worn_83 ?_
        refine g_putI ok (cN C11) (fObjT hf12) rfl in_X1 tyX1 tyX1_ok nmX1 2 (by decide) q128 rfl rfl rfl (putT hf12 rfl) dX0_worn_84 (fun C13 eC13 => ?_)
        have hw := hw C13 eC13
        refine g_aload_n ok 0 dX0_worn_87 rfl ?_
        refine g_get ok 0 rfl rfl in_X0 0 (by decide) q180 rfl dX0_worn_88 ?_
        obtain ⟨hf14, hw⟩ := hw
        refine g_get ok (cN C13) (fObjT hf14) rfl in_X1 2 (by decide) q128 rfl dX0_worn_91 ?_
        exact g_iret ok dX0_worn_94 ⟨_, rfl, hw⟩
      · have hw := hw.1 c6
        refine g_ldc (v := -1000000003) ok q275 dX0_worn_39 ?_
        exact g_iret ok dX0_worn_41 ⟨_, rfl, hw⟩
    · have hw := hw.1 c4
      refine g_ldc (v := -1000000001) ok q274 dX0_worn_24 ?_
      exact g_iret ok dX0_worn_26 ⟨_, rfl, hw⟩
theorem w10 : ∀ p, p < 5 → ∀ q, q < 5 → (10 * nI p + nI q : Int32) = nI (10 * p + q) := by decide
theorem sp_X0_worn (C : CS) (a0 a1 : Int32) (hp : p_X0_worn C a0 a1) : wp_X0_worn (fun x C1 => x = v_X0_worn C a0 a1 ∧ q_X0_worn C a0 a1 C1) C a0 a1 := by
  have hp : opP C := hp
  unfold v_X0_worn v_X3_worn q_X0_worn n_X3_worn v_X3_isWord
  refine fun r1 e1 => ⟨fun c1 => ?_, fun c1 => ?_⟩
  all_goals rw [e1, isIn0 _ 4 4 rfl] at c1
  · rw [if_pos c1, if_pos c1]; exact ⟨rfl, tOp.rf hp⟩
  rw [if_neg c1, if_neg c1]
  refine fun r3 e3 => ⟨fun c3 => ?_, fun c3 => ?_⟩
  all_goals rw [e3, isIn0 _ 4 4 rfl] at c3
  · rw [if_pos c3, if_pos c3]; exact ⟨rfl, tOp.rf hp⟩
  rw [if_neg c3, if_neg c3]
  have hj := hp.1.1
  have h := hp.1.2
  refine ⟨hj, fun c => ?_, fun c => ?_⟩
  all_goals rw [h.n.2.2.2.2.1] at c
  · rw [if_pos c, if_pos c]; exact ⟨rfl, tOp.rf hp⟩
  rw [if_neg c, if_neg c]
  obtain ⟨W, eW, hW, hw⟩ := h.w
  have hW9 : W < 10 := by
    rcases Nat.lt_or_ge W 10 with h | h
    · exact h
    · have : W = 10 := by omega
      subst this
      exact absurd eW c
  obtain ⟨p, hp5, rfl⟩ := in_nI (m := 4) (by decide) c1
  obtain ⟨q, hq5, rfl⟩ := in_nI (m := 4) (by decide) c3
  have e2 : C.1 (cN C) 2 = nI W := h.n.2.2.2.2.1.trans eW
  rw [e2, cl_k (by omega)]
  refine ⟨vp_k (by omega), fun C8 e8 => ?_⟩
  have n8 : cN C8 = cN C := by rw [e8]; rfl
  have f8 : C8.1 = C.1 := by rw [e8]; rfl
  rw [n8, f8, e2, cl_k (by omega)]
  refine ⟨hj, vp_k (by omega), fun C11 e11 => ?_⟩
  have n11 : cN C11 = cN C := by rw [e11]; exact n8
  have f11 : C11.1 = C.1 := by rw [e11]; exact f8
  rw [n11, f11, e2, show (1 : Int32) = nI 1 from rfl, nI_add]
  refine ⟨hj, fun C13 e13 => ?_⟩
  have n13 : cN C13 = cN C := by rw [e13]; exact n11
  rw [n13]
  have v13 : C13.1 (cN C) 2 = nI (W + 1) := by rw [e13]; exact u2s
  have o : ∀ m, m ≠ 2 → C13.1 (cN C) m = C.1 (cN C) m := fun m hm => by rw [e13, ← f11]; exact u2n (fun h => hm h.2)
  have r6 : Int32.toNatClampNeg (6 + C.2.1 36 4) = 6 + W := by rw [eW, show (6 : Int32) = nI 6 from rfl, nI_add, cl_k (by omega)]
  have rr : (wA (wA C 36 (Int32.toNatClampNeg (6 + C.2.1 36 4)) (10 * nI p + nI q)) 36 4 ((wA C 36 (Int32.toNatClampNeg (6 + C.2.1 36 4)) (10 * nI p + nI q)).2.1 36 4 + nI 1)).2.1 36 = upd (upd (C.2.1 36) (6 + W) (nI (10 * p + q))) 4 (nI (W + 1)) := by
    rw [upd_w, upd_w, r6, upd_n (by omega), eW, nI_add, w10 p (by omega) q (by omega)]
  refine ⟨hj, ?_, ?_⟩
  · rw [v13, rr, upd_s]
  · rw [rr]
    have A : ∀ x y, C13.2.1 x y = if x = 16 + 4 * (cN C - 2) ∧ y = W then nI q else if x = 15 + 4 * (cN C - 2) ∧ y = W then nI p else C.2.1 x y := by
      intro x y
      rw [e13, e11, e8]
      rfl
    have d22 : C13.2.2 = C.2.2 := by rw [e13, e11, e8]; rfl
    have hx : keepX C C13 := keepX.of d22
    obtain ⟨t0, t1, t2, t3, t4, t5⟩ := h.n
    have ro : ∀ i, i ≠ 4 → i ≠ 6 + W → upd (upd (C.2.1 36) (6 + W) (nI (10 * p + q))) 4 (nI (W + 1)) i = C.2.1 36 i := fun i h1 h2 => by rw [upd_n h1, upd_n h2]
    have G13 : ∀ x y, cG C13 x y = cG C x y := fun x y => by show C13.2.2.1 x y = _; rw [d22]
    refine ⟨⟨⟨by rw [o _ (by decide), ro _ (by omega) (by omega)]; exact t0, by rw [o _ (by decide), ro _ (by omega) (by omega)]; exact t1, by rw [o _ (by decide), ro _ (by omega) (by omega)]; exact t2, by rw [o _ (by decide), ro _ (by omega) (by omega)]; exact t3, by rw [v13, upd_s], by rw [o _ (by decide), ro _ (by omega) (by omega)]; exact t5⟩, ?_, ⟨W + 1, by rw [upd_s], by omega, fun k hk => ?_⟩, h.t.keep (ro _ (by omega) (by omega)) (fun i _ => ro _ (by omega) (by omega)) (fun _ _ => G13 _ _) hx⟩, ?_, ?_⟩
    · obtain ⟨N, e, hN, hg⟩ := h.g
      refine ⟨N, by rw [ro _ (by omega) (by omega)]; exact e, hN, fun k hk => ?_⟩
      obtain ⟨a, q1, q2⟩ := hg k hk
      exact ⟨a, by rw [G13]; exact q1, (q2.keep (keepG.of d22 a)).row (fun i _ _ => ro _ (by omega) (by omega))⟩
    · by_cases ck : k = W
      · subst ck
        refine ⟨p, q, by omega, by omega, ?_, ?_, by rw [upd_n (by omega), upd_s]⟩
        · rw [A, if_neg (by omega), if_pos ⟨rfl, rfl⟩]
        · rw [A, if_pos ⟨rfl, rfl⟩]
      · obtain ⟨p2, q2, z1, z2, z3, z4, z5⟩ := hw k (by omega)
        refine ⟨p2, q2, z1, z2, ?_, ?_, by rw [ro _ (by omega) (by omega)]; exact z5⟩
        · rw [A, if_neg (by omega), if_neg (by omega)]; exact z3
        · rw [A, if_neg (by omega), if_neg (by omega)]; exact z4
    · refine ⟨fun i hi => ?_, fun i _ h1 h2 => ?_, fun i _ => by rw [d22], by rw [d22], by rw [d22], fun a tg h => by show C13.2.2.2.2.2.1 a = _; rw [d22]; exact h, fun a tg _ _ => ⟨fun _ => by rw [d22], fun _ => by rw [d22], fun _ => by rw [d22], fun _ => by rw [d22]⟩, fun i a hi h => Or.inr ⟨i, hi, by rw [G13] at h; exact h⟩⟩
      · funext k
        rw [e13, ← f11]
        exact u2n (fun h => hi h.1)
      · funext k
        rw [A, if_neg (fun h => h2 h.1), if_neg (fun h => h1 h.1)]
    · refine ⟨fun j k a h1 h2 h3 => ?_, fun j k j2 k2 a h1 h2 h3 h4 h5 h6 => ?_⟩
      · rw [G13] at h3
        exact (hp.2.1 j k a h1 h2 h3).keep (by show C13.2.2.2.2.2.1 a = _; rw [d22])
      · rw [G13] at h5 h6
        exact hp.2.2 j k j2 k2 a h1 h2 h3 h4 h5 h6
theorem mc_X0_worn {w : WD} (wk : wOk w) (l : Launch) (C : CS) (a0 : Int32) (a1 : Int32) (hp : p_X0_worn C a0 a1) : MC w l yX0_worn cX0_worn 3 (some .int) 6 0 0 [.ref (ad w 0), .int a0, .int a1] C (pIR (v_X0_worn C a0 a1) (q_X0_worn C a0 a1)) := MC.postIR (gw_X0_worn wk l C a0 a1 (sp_X0_worn C a0 a1 hp))
