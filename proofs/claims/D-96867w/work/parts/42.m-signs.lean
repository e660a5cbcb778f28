/-- signs that wait (the last one first), signs that are written (the last one first) -/
def stOk (C : CS) (S O : List Int32) : Prop := C.1 1 22 = nI S.length ∧ stk (C.2.1 47) S ∧ C.1 1 19 = nI O.length ∧ stk (C.2.1 46) O
def sPop (least : Int32) : List Int32 → List Int32 → List Int32 × List Int32
  | [], O => ([], O)
  | o :: S, O => if o = -11 then (o :: S, O) else if v_X3_rank o < least then (o :: S, O) else sPop least S (o :: O)
theorem sPop_len (least : Int32) : ∀ S O, (sPop least S O).1.length + (sPop least S O).2.length = S.length + O.length := by
  intro S
  induction S with
  | nil => intro O; rfl
  | cons o S ih =>
    intro O
    rw [sPop]
    split
    · rfl
    · split
      · rfl
      · rw [ih]; simp; omega
/-- all but the signs written, and how many wait, is as it was -/
def sEq (C D : CS) : Prop := D.2.2 = C.2.2 ∧ (∀ j k, ¬ (j = 1 ∧ (k = 19 ∨ k = 22)) → D.1 j k = C.1 j k) ∧ ∀ j, j ≠ 46 → D.2.1 j = C.2.1 j
theorem sEq.rf (C : CS) : sEq C C := ⟨rfl, fun _ _ _ => rfl, fun _ _ => rfl⟩
theorem sEq.tr {C D E : CS} (h1 : sEq C D) (h2 : sEq D E) : sEq C E := ⟨h2.1.trans h1.1, fun j k h => (h2.2.1 j k h).trans (h1.2.1 j k h), fun j h => (h2.2.2 j h).trans (h1.2.2 j h)⟩
/-- one sign is settled -/
theorem set_one {C : CS} {o : Int32} {S O : List Int32} (h : stOk C (o :: S) O) (hb : S.length + 1 + O.length ≤ 96) {C5 C6 C7 : CS} (e5 : C5 = wI C 1 22 (C.1 1 22 - 1)) (e6 : C6 = wA C5 46 (Int32.toNatClampNeg (C5.1 1 19)) (C5.2.1 47 (Int32.toNatClampNeg (C5.1 1 22)))) (e7 : C7 = wI C6 1 19 (C6.1 1 19 + 1)) : C5.1 1 22 = nI S.length ∧ C5.1 1 19 = nI O.length ∧ stOk C7 S (o :: O) ∧ sEq C C7 := by
  obtain ⟨h1, h2, h3, h4⟩ := h
  have a22 : C5.1 1 22 = nI S.length := by rw [e5, wI_s, h1]; exact nI_pred S.length
  have a19 : C5.1 1 19 = nI O.length := by rw [e5, wI_n _ _ _ _ (by decide)]; exact h3
  have a47 : C5.2.1 47 = C.2.1 47 := by rw [e5, wI_2]
  have a46 : C5.2.1 46 = C.2.1 46 := by rw [e5, wI_2]
  rw [a22, a19, a47, cl_k (by omega), cl_k (by omega), h2.1] at e6
  have b46 : C6.2.1 46 = upd (C.2.1 46) O.length o := by rw [e6, wA_row, a46]
  have c19 : C6.1 1 19 = nI O.length := by rw [e6]; exact a19
  refine ⟨a22, a19, ⟨?_, ?_, ?_, ?_⟩, ?_⟩
  · rw [e7, wI_n _ _ _ _ (by decide), e6]; exact a22
  · rw [e7, wI_2, e6, wA_ne _ _ _ (by decide), a47]; exact h2.2
  · rw [e7, wI_s, c19, show (1 : Int32) = nI 1 from rfl, nI_add]; rfl
  · rw [e7, wI_2, b46]
    refine ⟨by unfold upd; rw [if_pos rfl], stk_up h4 (fun i hi => ?_)⟩
    unfold upd; rw [if_neg (by omega)]
  · refine ⟨?_, fun j k hjk => ?_, fun j hj => ?_⟩
    · rw [e7, wI_2, e6]; show C5.2.2 = _; rw [e5, wI_2]
    · rw [e7, e6, e5]
      simp only [wI, wA, up2]
      rw [if_neg (fun z => hjk ⟨z.1, Or.inl z.2⟩), if_neg (fun z => hjk ⟨z.1, Or.inr z.2⟩)]
    · rw [e7, wI_2, e6, wA_ne _ _ _ hj, e5, wI_2]
theorem cf_X3_settle : CfV yX3_settle "TwoGuildsModel" cX3_settle 2 none 1 := ⟨⟨by decide, by decide, by decide⟩, q75, q1755, q1754, qs68⟩
def p_X3_settle (C : CS) (a0 : Int32) : Prop := ∃ S O, stOk C S O ∧ S.length + O.length ≤ 96
def q_X3_settle (C : CS) (a0 : Int32) (C1 : CS) : Prop := sEq C C1 ∧ ∀ S O, stOk C S O → S.length + O.length ≤ 96 → stOk C1 (sPop a0 S O).1 (sPop a0 S O).2
def wp_X3_settle_l0 (Post : CS → Prop) : Nat → CS → Int32 → Prop
  | 0, _, _ => False
  | n + 1, C, i1 => ((C.1 1 22) ≤ 0 → 
  Post C) ∧
  (¬ (C.1 1 22) ≤ 0 → 
  vp_in ((C.1 1 22) - 1) 96 ∧
    (((C.2.1 47 (Int32.toNatClampNeg ((C.1 1 22) - 1))) = (-11) → 
    Post C) ∧
    (¬ (C.2.1 47 (Int32.toNatClampNeg ((C.1 1 22) - 1))) = (-11) → 
    vp_in ((C.1 1 22) - 1) 96 ∧
      (∀ r10 : Int32, r10 = (v_X3_rank (C.2.1 47 (Int32.toNatClampNeg ((C.1 1 22) - 1)))) → 
      (r10 < i1 → 
      Post C) ∧
      (¬ r10 < i1 → 
      ∀ C12 : CS, C12 = (wI C 1 22 ((C.1 1 22) - 1)) → 
        vp_in (C12.1 1 22) 96 ∧
        (vp_in (C12.1 1 19) 96 ∧
        (∀ C13 : CS, C13 = (wA C12 46 (Int32.toNatClampNeg (C12.1 1 19)) (C12.2.1 47 (Int32.toNatClampNeg (C12.1 1 22)))) → 
        ∀ C14 : CS, C14 = (wI C13 1 19 ((C13.1 1 19) + 1)) → 
        wp_X3_settle_l0 Post n C14 i1)))))))
def wp_X3_settle (Post : CS → Prop) (C : CS) (a0 : Int32) : Prop :=
  ((C.1 1 22) ≤ 0 → 
    Post C) ∧
    (¬ (C.1 1 22) ≤ 0 → 
    vp_in ((C.1 1 22) - 1) 96 ∧
      (((C.2.1 47 (Int32.toNatClampNeg ((C.1 1 22) - 1))) = (-11) → 
      Post C) ∧
      (¬ (C.2.1 47 (Int32.toNatClampNeg ((C.1 1 22) - 1))) = (-11) → 
      vp_in ((C.1 1 22) - 1) 96 ∧
        (∀ r3 : Int32, r3 = (v_X3_rank (C.2.1 47 (Int32.toNatClampNeg ((C.1 1 22) - 1)))) → 
        (r3 < a0 → 
        Post C) ∧
        (¬ r3 < a0 → 
        ∀ C5 : CS, C5 = (wI C 1 22 ((C.1 1 22) - 1)) → 
          vp_in (C5.1 1 22) 96 ∧
          (vp_in (C5.1 1 19) 96 ∧
          (∀ C6 : CS, C6 = (wA C5 46 (Int32.toNatClampNeg (C5.1 1 19)) (C5.2.1 47 (Int32.toNatClampNeg (C5.1 1 22)))) → 
          ∀ C7 : CS, C7 = (wI C6 1 19 ((C6.1 1 19) + 1)) → 
          ∃ m0, wp_X3_settle_l0 Post m0 C7 a0)))))))
set_option maxHeartbeats 4000000 in
set_option maxRecDepth 100000 in
theorem gw_X3_settle_l0 {w : WD} {x : Cx} (ok : Ok w x cX3_settle 2 yX3_settle.cls none (rmL 1 0 0)) {Post : CS → Prop} : ∀ (n : Nat) (C : CS) (i1 : Int32), wp_X3_settle_l0 Post  n C i1 → G w x 2 0 0 (QM w x (fun v C1 => v = none ∧ Post C1) 0 0) C 0 [(0, .ref (ad w 1)), (1, .int i1)] [] := by
  intro n
  induction n with
  | zero => intro C i1 hw; exact hw.elim
  | succ n ih =>
    intro C i1 hw
    unfold wp_X3_settle_l0 at hw
    refine g_aload_n ok 0 dX3_settle_0 rfl ?_
    refine g_get ok 1 rfl rfl in_X3 22 (by decide) q1381 rfl dX3_settle_1 ?_
    refine g_if_le (tgt := 82) ok dX3_settle_4 (by decide) (fun c8 => ?_) (fun c8 => ?_)
    · have hw := hw.1 c8
      exact g_vret ok dX3_settle_82 ⟨rfl, hw⟩
    · have hw := hw.2 c8
      refine g_aload_n ok 0 dX3_settle_7 rfl ?_
      refine g_get ok 1 rfl rfl in_X3 21 (by decide) q1380 rfl dX3_settle_8 ?_
      refine g_aload_n ok 0 dX3_settle_11 rfl ?_
      refine g_get ok 1 rfl rfl in_X3 22 (by decide) q1381 rfl dX3_settle_12 ?_
      refine g_iconst (v := 1) ok dX3_settle_15 (by decide) ?_
      refine g_isub ok dX3_settle_16 ?_
      obtain ⟨hg, hw⟩ := hw
      refine g_iald ok 47 rfl hg _ rfl dX3_settle_17 ?_
      refine g_bipush (v := -11) ok dX3_settle_18 (by decide) ?_
      refine g_icmp_eq (tgt := 82) ok dX3_settle_20 (by decide) (fun c9 => ?_) (fun c9 => ?_)
      · have hw := hw.1 c9
        exact g_vret ok dX3_settle_82 ⟨rfl, hw⟩
      · have hw := hw.2 c9
        refine g_aload_n ok 0 dX3_settle_23 rfl ?_
        refine g_get ok 1 rfl rfl in_X3 21 (by decide) q1380 rfl dX3_settle_24 ?_
        refine g_aload_n ok 0 dX3_settle_27 rfl ?_
        refine g_get ok 1 rfl rfl in_X3 22 (by decide) q1381 rfl dX3_settle_28 ?_
        refine g_iconst (v := 1) ok dX3_settle_31 (by decide) ?_
        refine g_isub ok dX3_settle_32 ?_
        obtain ⟨hg, hw⟩ := hw
        refine g_iald ok 47 rfl hg _ rfl dX3_settle_33 ?_
        refine g_callSI ok [.int (C.2.1 47 (Int32.toNatClampNeg ((C.1 1 22) - 1)))] cf_X3_rank q1756 (mc_X3_rank ok.wo (xL x) C (C.2.1 47 (Int32.toNatClampNeg ((C.1 1 22) - 1)))) rfl rfl (Nat.le_of_ble_eq_true rfl) ⟨by decide, by decide⟩ ⟨by decide, by decide⟩ dX3_settle_34 ?_
        refine g_nmI (fun r10 er10 => ?_)
        have hw := hw r10 er10
        refine g_iload_n ok 1 dX3_settle_37 rfl ?_
        refine g_icmp_lt (tgt := 82) ok dX3_settle_38 (by decide) (fun c11 => ?_) (fun c11 => ?_)
        · have hw := hw.1 c11
          exact g_vret ok dX3_settle_82 ⟨rfl, hw⟩
        · have hw := hw.2 c11
          refine g_aload_n ok 0 dX3_settle_41 rfl ?_
          refine g_dup ok dX3_settle_42 rfl ?_
          refine g_get ok 1 rfl rfl in_X3 22 (by decide) q1381 rfl dX3_settle_43 ?_
          refine g_iconst (v := 1) ok dX3_settle_46 (by decide) ?_
          refine g_isub ok dX3_settle_47 ?_
          refine g_putI ok 1 rfl rfl in_X3 tyX3 tyX3_ok nmX3 22 (by decide) q1381 rfl rfl rfl (putV_m rfl) dX3_settle_48 (fun C12 eC12 => ?_)
          have hw := hw C12 eC12
          refine g_aload_n ok 0 dX3_settle_51 rfl ?_
          refine g_get ok 1 rfl rfl in_X3 18 (by decide) q1377 rfl dX3_settle_52 ?_
          refine g_aload_n ok 0 dX3_settle_55 rfl ?_
          refine g_get ok 1 rfl rfl in_X3 19 (by decide) q1378 rfl dX3_settle_56 ?_
          refine g_aload_n ok 0 dX3_settle_59 rfl ?_
          refine g_get ok 1 rfl rfl in_X3 21 (by decide) q1380 rfl dX3_settle_60 ?_
          refine g_aload_n ok 0 dX3_settle_63 rfl ?_
          refine g_get ok 1 rfl rfl in_X3 22 (by decide) q1381 rfl dX3_settle_64 ?_
          obtain ⟨hg, hw⟩ := hw
          refine g_iald ok 47 rfl hg _ rfl dX3_settle_67 ?_
          obtain ⟨hg, hw⟩ := hw
          refine g_iast ok 46 rfl hg _ rfl dX3_settle_68 (fun C13 eC13 => ?_)
          have hw := hw C13 eC13
          refine g_aload_n ok 0 dX3_settle_69 rfl ?_
          refine g_dup ok dX3_settle_70 rfl ?_
          refine g_get ok 1 rfl rfl in_X3 19 (by decide) q1378 rfl dX3_settle_71 ?_
          refine g_iconst (v := 1) ok dX3_settle_74 (by decide) ?_
          refine g_iadd ok dX3_settle_75 ?_
          refine g_putI ok 1 rfl rfl in_X3 tyX3 tyX3_ok nmX3 19 (by decide) q1378 rfl rfl rfl (putV_m rfl) dX3_settle_76 (fun C14 eC14 => ?_)
          have hw := hw C14 eC14
          refine g_goto (tgt := 0) ok dX3_settle_79 (by decide) ?_
          exact ih C14 i1 hw
set_option maxHeartbeats 4000000 in
set_option maxRecDepth 100000 in
theorem gw_X3_settle {w : WD} (wk : wOk w) (l : Launch) (C : CS) (a0 : Int32) {Post : CS → Prop} (hw : wp_X3_settle Post C a0) : MC w l yX3_settle cX3_settle 2 none 1 0 0 [.ref (ad w 1), .int a0] C (fun v C1 => v = none ∧ Post C1) := by
  unfold wp_X3_settle at hw
  refine MC.of wk (by decide) (Nat.le_of_ble_eq_true rfl) (fun x hx ok => ?_)
  subst hx
  show G w x 2 0 0 (QM w x _ 0 0) C 0 [(0, .ref (ad w 1)), (1, .int a0)] []
  refine g_aload_n ok 0 dX3_settle_0 rfl ?_
  refine g_get ok 1 rfl rfl in_X3 22 (by decide) q1381 rfl dX3_settle_1 ?_
  refine g_if_le (tgt := 82) ok dX3_settle_4 (by decide) (fun c1 => ?_) (fun c1 => ?_)
  · have hw := hw.1 c1
    exact g_vret ok dX3_settle_82 ⟨rfl, hw⟩
  · have hw := hw.2 c1
    refine g_aload_n ok 0 dX3_settle_7 rfl ?_
    refine g_get ok 1 rfl rfl in_X3 21 (by decide) q1380 rfl dX3_settle_8 ?_
    refine g_aload_n ok 0 dX3_settle_11 rfl ?_
    refine g_get ok 1 rfl rfl in_X3 22 (by decide) q1381 rfl dX3_settle_12 ?_
    refine g_iconst (v := 1) ok dX3_settle_15 (by decide) ?_
    refine g_isub ok dX3_settle_16 ?_
    obtain ⟨hg, hw⟩ := hw
    refine g_iald ok 47 rfl hg _ rfl dX3_settle_17 ?_
    refine g_bipush (v := -11) ok dX3_settle_18 (by decide) ?_
    refine g_icmp_eq (tgt := 82) ok dX3_settle_20 (by decide) (fun c2 => ?_) (fun c2 => ?_)
    · have hw := hw.1 c2
      exact g_vret ok dX3_settle_82 ⟨rfl, hw⟩
    · have hw := hw.2 c2
      refine g_aload_n ok 0 dX3_settle_23 rfl ?_
      refine g_get ok 1 rfl rfl in_X3 21 (by decide) q1380 rfl dX3_settle_24 ?_
      refine g_aload_n ok 0 dX3_settle_27 rfl ?_
      refine g_get ok 1 rfl rfl in_X3 22 (by decide) q1381 rfl dX3_settle_28 ?_
      refine g_iconst (v := 1) ok dX3_settle_31 (by decide) ?_
      refine g_isub ok dX3_settle_32 ?_
      obtain ⟨hg, hw⟩ := hw
      refine g_iald ok 47 rfl hg _ rfl dX3_settle_33 ?_
      refine g_callSI ok [.int (C.2.1 47 (Int32.toNatClampNeg ((C.1 1 22) - 1)))] cf_X3_rank q1756 (mc_X3_rank ok.wo (xL x) C (C.2.1 47 (Int32.toNatClampNeg ((C.1 1 22) - 1)))) rfl rfl (Nat.le_of_ble_eq_true rfl) ⟨by decide, by decide⟩ ⟨by decide, by decide⟩ dX3_settle_34 ?_
      refine g_nmI (fun r3 er3 => ?_)
      have hw := hw r3 er3
      refine g_iload_n ok 1 dX3_settle_37 rfl ?_
      refine g_icmp_lt (tgt := 82) ok dX3_settle_38 (by decide) (fun c4 => ?_) (fun c4 => ?_)
      · have hw := hw.1 c4
        exact g_vret ok dX3_settle_82 ⟨rfl, hw⟩
      · have hw := hw.2 c4
        refine g_aload_n ok 0 dX3_settle_41 rfl ?_
        refine g_dup ok dX3_settle_42 rfl ?_
        refine g_get ok 1 rfl rfl in_X3 22 (by decide) q1381 rfl dX3_settle_43 ?_
        refine g_iconst (v := 1) ok dX3_settle_46 (by decide) ?_
        refine g_isub ok dX3_settle_47 ?_
        refine g_putI ok 1 rfl rfl in_X3 tyX3 tyX3_ok nmX3 22 (by decide) q1381 rfl rfl rfl (putV_m rfl) dX3_settle_48 (fun C5 eC5 => ?_)
        have hw := hw C5 eC5
        refine g_aload_n ok 0 dX3_settle_51 rfl ?_
        refine g_get ok 1 rfl rfl in_X3 18 (by decide) q1377 rfl dX3_settle_52 ?_
        refine g_aload_n ok 0 dX3_settle_55 rfl ?_
        refine g_get ok 1 rfl rfl in_X3 19 (by decide) q1378 rfl dX3_settle_56 ?_
        refine g_aload_n ok 0 dX3_settle_59 rfl ?_
        refine g_get ok 1 rfl rfl in_X3 21 (by decide) q1380 rfl dX3_settle_60 ?_
        refine g_aload_n ok 0 dX3_settle_63 rfl ?_
        refine g_get ok 1 rfl rfl in_X3 22 (by decide) q1381 rfl dX3_settle_64 ?_
        obtain ⟨hg, hw⟩ := hw
        refine g_iald ok 47 rfl hg _ rfl dX3_settle_67 ?_
        obtain ⟨hg, hw⟩ := hw
        refine g_iast ok 46 rfl hg _ rfl dX3_settle_68 (fun C6 eC6 => ?_)
        have hw := hw C6 eC6
        refine g_aload_n ok 0 dX3_settle_69 rfl ?_
        refine g_dup ok dX3_settle_70 rfl ?_
        refine g_get ok 1 rfl rfl in_X3 19 (by decide) q1378 rfl dX3_settle_71 ?_
        refine g_iconst (v := 1) ok dX3_settle_74 (by decide) ?_
        refine g_iadd ok dX3_settle_75 ?_
        refine g_putI ok 1 rfl rfl in_X3 tyX3 tyX3_ok nmX3 19 (by decide) q1378 rfl rfl rfl (putV_m rfl) dX3_settle_76 (fun C7 eC7 => ?_)
        have hw := hw C7 eC7
        refine g_goto (tgt := 0) ok dX3_settle_79 (by decide) ?_
        obtain ⟨n15, hw⟩ := hw
        exact gw_X3_settle_l0 ok n15 C7 a0 hw
theorem stk_inj {A : Nat → Int32} : ∀ {S T : List Int32}, stk A S → stk A T → S.length = T.length → S = T
  | [], [], _, _, _ => rfl
  | a :: S, b :: T, h1, h2, h3 => by
    have h3' : S.length = T.length := by simpa using h3
    rw [← h1.1, ← h2.1, h3', stk_inj h1.2 h2.2 h3']
theorem stOk_inj {C : CS} {S O S2 O2 : List Int32} (h : stOk C S O) (h2 : stOk C S2 O2) (b1 : S.length + O.length ≤ 96) (b2 : S2.length + O2.length ≤ 96) : S2 = S ∧ O2 = O := by
  have e1 := h.1.symm.trans h2.1
  have e2 := h.2.2.1.symm.trans h2.2.2.1
  rw [nI_eq (by omega) (by omega)] at e1 e2
  exact ⟨stk_inj h2.2.1 h.2.1 e1.symm, stk_inj h2.2.2.2 h.2.2.2 e2.symm⟩
theorem sp_X3_settle (C : CS) (a0 : Int32) (hp : p_X3_settle C a0) : wp_X3_settle (fun C1 => q_X3_settle C a0 C1) C a0 := by
  obtain ⟨S0, O0, h0, hb0⟩ := hp
  have H : ∀ S O (X : CS), stOk X S O → S.length + O.length ≤ 96 → sEq C X → sPop a0 S O = sPop a0 S0 O0 → wp_X3_settle_l0 (fun C1 => q_X3_settle C a0 C1) (S.length + 1) X a0 := by
    intro S
    induction S with
    | nil =>
      intro O X hX hb hE hS
      refine ⟨fun _ => ⟨hE, fun S2 O2 h2 b2 => ?_⟩, fun c => absurd ?_ c⟩
      · obtain ⟨rfl, rfl⟩ := stOk_inj h0 h2 hb0 b2
        rw [← hS]; exact hX
      · rw [hX.1]; decide
    | cons o S ih =>
      intro O X hX hb hE hS
      have hb' : S.length + 1 + O.length ≤ 96 := by simpa using hb
      have i1 : X.1 1 22 - 1 = nI S.length := by rw [hX.1]; exact nI_pred S.length
      have v1 : vp_in (X.1 1 22 - 1) 96 := by rw [i1]; exact vp_k (by omega)
      have o1' : X.2.1 47 (Int32.toNatClampNeg (X.1 1 22 - 1)) = o := by rw [i1, cl_k (by omega)]; exact hX.2.1.1
      have stop : sPop a0 (o :: S) O = (o :: S, O) → q_X3_settle C a0 X := by
        intro hz
        refine ⟨hE, fun S2 O2 h2 b2 => ?_⟩
        obtain ⟨rfl, rfl⟩ := stOk_inj h0 h2 hb0 b2
        rw [← hS, hz]; exact hX
      show wp_X3_settle_l0 _ (S.length + 1 + 1) X a0
      rw [wp_X3_settle_l0, o1']
      refine ⟨fun c => ?_, fun _ => ⟨v1, fun c => stop (by rw [sPop, if_pos c]), fun c => ⟨v1, fun r10 e10 => ⟨fun c2 => stop (by rw [sPop, if_neg c, if_pos (by rw [← e10]; exact c2)]), fun c2 C12 e12 => ?_⟩⟩⟩⟩
      · rw [hX.1, show (0 : Int32) = nI 0 from rfl, nI_leI (by simp; omega) (by omega)] at c
        simp at c
      · have k := fun C6 e6 C7 e7 => set_one hX hb' e12 (C6 := C6) (C7 := C7) e6 e7
        have a22 := (k _ rfl _ rfl).1
        have a19 := (k _ rfl _ rfl).2.1
        refine ⟨by rw [a22]; exact vp_k (by omega), by rw [a19]; exact vp_k (by omega), fun C13 e13 C14 e14 => ?_⟩
        obtain ⟨-, -, s1, s2⟩ := k C13 e13 C14 e14
        refine ih (o :: O) C14 s1 (by simp; omega) (hE.tr s2) ?_
        rw [← hS, sPop, if_neg c, if_neg (by rw [← e10]; exact c2)]
  have h := H S0 O0 C h0 hb0 (sEq.rf C) rfl
  -- the first round is written out apart
  match S0, h0, hb0, h with
  | [], h0, hb0, h => exact ⟨h.1, fun c => absurd (show C.1 1 22 ≤ 0 by rw [h0.1]; decide) c⟩
  | o :: S, h0, hb0, h =>
    refine ⟨h.1, fun c => ⟨(h.2 c).1, (h.2 c).2.1, fun c2 => ⟨((h.2 c).2.2 c2).1, fun r3 e3 => ⟨(((h.2 c).2.2 c2).2 r3 e3).1, fun c3 C5 e5 => ?_⟩⟩⟩⟩
    obtain ⟨y1, y2, y3⟩ := (((h.2 c).2.2 c2).2 r3 e3).2 c3 C5 e5
    exact ⟨y1, y2, fun C6 e6 C7 e7 => ⟨S.length + 1, y3 C6 e6 C7 e7⟩⟩
theorem mc_X3_settle {w : WD} (wk : wOk w) (l : Launch) (C : CS) (a0 : Int32) (hp : p_X3_settle C a0) : MC w l yX3_settle cX3_settle 2 none 1 0 0 [.ref (ad w 1), .int a0] C (pVR (q_X3_settle C a0)) := MC.postVR (gw_X3_settle wk l C a0 (sp_X3_settle C a0 hp))
def cnN (A : Nat → Int32) : Nat → Nat
  | 0 => 0
  | k + 1 => cnN A k + (if A k = -10 then 1 else 0)
theorem cnN_le (A : Nat → Int32) : ∀ k, cnN A k ≤ k := by
  intro k
  induction k with
  | zero => exact Nat.le_refl _
  | succ k ih => rw [cnN]; split <;> omega
theorem cnN_stk {A : Nat → Int32} : ∀ {S : List Int32}, stk A S → cnN A S.length = S.count (-10)
  | [], _ => rfl
  | a :: S, h => by
    have e : A S.length = a := h.1
    show cnN A (S.length + 1) = _
    rw [cnN, e, cnN_stk h.2, List.count_cons]
    by_cases ha : a = -10
    · simp [ha]
    · simp [ha]
theorem cf_X3_notsOpen : CfV yX3_notsOpen "TwoGuildsModel" cX3_notsOpen 3 (some .int) 0 := ⟨⟨by decide, by decide, by decide⟩, q75, q1762, q1761, qs69⟩
def p_X3_notsOpen (C : CS) : Prop := ∃ n, C.1 1 22 = nI n ∧ n ≤ 96
def v_X3_notsOpen (C : CS) : Int32 := nI (cnN (C.2.1 47) (C.1 1 22).toNatClampNeg)
def wp_X3_notsOpen_l4 (Post : Int32 → CS → Prop) : Nat → CS → Int32 → Int32 → Prop
  | 0, _, _, _ => False
  | n + 1, C, i1, i2 => ((C.1 1 22) ≤ i2 → 
  Post i1 C) ∧
  (¬ (C.1 1 22) ≤ i2 → 
  vp_in i2 96 ∧
    (∀ x4 : Int32, x4 = (if (C.2.1 47 (Int32.toNatClampNeg i2)) = (-10) then (1 : Int32) else 0) → 
    ∀ x5 : Int32, x5 = (i1 + x4) → 
    ∀ x6 : Int32, x6 = (i2 + Int32.ofInt 1) → 
    wp_X3_notsOpen_l4 Post n C x5 x6))
def wp_X3_notsOpen (Post : Int32 → CS → Prop) (C : CS)  : Prop :=
  ∃ m4, wp_X3_notsOpen_l4 Post m4 C 0 0
set_option maxHeartbeats 4000000 in
set_option maxRecDepth 100000 in
theorem gw_X3_notsOpen_l4 {w : WD} {x : Cx} (ok : Ok w x cX3_notsOpen 3 yX3_notsOpen.cls (some .int) (rmL 0 0 0)) {Post : Int32 → CS → Prop} : ∀ (n : Nat) (C : CS) (i1 : Int32) (i2 : Int32), wp_X3_notsOpen_l4 Post  n C i1 i2 → G w x 3 0 0 (QM w x (fun v C1 => ∃ r : Int32, v = some (.int r) ∧ Post r C1) 0 0) C 4 [(0, .ref (ad w 1)), (1, .int i1), (2, .int i2)] [] := by
  intro n
  induction n with
  | zero => intro C i1 i2 hw; exact hw.elim
  | succ n ih =>
    intro C i1 i2 hw
    unfold wp_X3_notsOpen_l4 at hw
    refine g_iload_n ok 2 dX3_notsOpen_4 rfl ?_
    refine g_aload_n ok 0 dX3_notsOpen_5 rfl ?_
    refine g_get ok 1 rfl rfl in_X3 22 (by decide) q1381 rfl dX3_notsOpen_6 ?_
    refine g_icmp_ge (tgt := 37) ok dX3_notsOpen_9 (by decide) (fun c1 => ?_) (fun c1 => ?_)
    · have hw := hw.1 c1
      refine g_iload_n ok 1 dX3_notsOpen_37 rfl ?_
      exact g_iret ok dX3_notsOpen_38 ⟨_, rfl, hw⟩
    · have hw := hw.2 c1
      refine g_iload_n ok 1 dX3_notsOpen_12 rfl ?_
      refine g_aload_n ok 0 dX3_notsOpen_13 rfl ?_
      refine g_get ok 1 rfl rfl in_X3 21 (by decide) q1380 rfl dX3_notsOpen_14 ?_
      refine g_iload_n ok 2 dX3_notsOpen_17 rfl ?_
      obtain ⟨hg, hw⟩ := hw
      refine g_iald ok 47 rfl hg _ rfl dX3_notsOpen_18 ?_
      refine g_bipush (v := -10) ok dX3_notsOpen_19 (by decide) ?_
      have kj3 : ∀ x4 : Int32, x4 = (if (C.2.1 47 (Int32.toNatClampNeg i2)) = (-10) then (1 : Int32) else 0) → G w x 3 0 0 (QM w x (fun v C1 => ∃ r : Int32, v = some (.int r) ∧ Post r C1) 0 0) C 29 [(0, .ref (ad w 1)), (2, .int i2)] [.int x4, .int i1] := by
        intro x4 ex4
        have hw := hw x4 ex4
        refine g_iadd ok dX3_notsOpen_29 ?_
        refine g_istore_n ok (fun z => [(1, .int z), (0, .ref (ad w 1)), (2, .int i2)]) dX3_notsOpen_30 (by decide) (fun _ => rfl) (fun x5 ex5 => ?_)
        have hw := hw x5 ex5
        refine g_iinc ok 2 (fun z => [(2, .int z), (1, .int x5), (0, .ref (ad w 1))]) dX3_notsOpen_31 rfl (by decide) (fun _ => rfl) (fun x6 ex6 => ?_)
        have hw := hw x6 ex6
        refine g_goto (tgt := 4) ok dX3_notsOpen_34 (by decide) ?_
        refine g_sub [2, 1, 0] [(0, .ref (ad w 1)), (1, .int x5), (2, .int x6)] rfl ?_
        exact ih C x5 x6 hw
      refine g_icmp_ne (tgt := 28) ok dX3_notsOpen_21 (by decide) (fun c2 => ?_) (fun c2 => ?_)
      · refine g_iconst (v := 0) ok dX3_notsOpen_28 (by decide) ?_
        exact g_sub [0, 2] [(0, .ref (ad w 1)), (2, .int i2)] rfl (kj3 _ (by simp only [if_neg c2]))
      · refine g_iconst (v := 1) ok dX3_notsOpen_24 (by decide) ?_
        refine g_goto (tgt := 29) ok dX3_notsOpen_25 (by decide) ?_
        exact g_sub [0, 2] [(0, .ref (ad w 1)), (2, .int i2)] rfl (kj3 _ (by simp only [if_pos c2]))
set_option maxHeartbeats 4000000 in
set_option maxRecDepth 100000 in
theorem gw_X3_notsOpen {w : WD} (wk : wOk w) (l : Launch) (C : CS)  {Post : Int32 → CS → Prop} (hw : wp_X3_notsOpen Post C ) : MC w l yX3_notsOpen cX3_notsOpen 3 (some .int) 0 0 0 [.ref (ad w 1)] C (fun v C1 => ∃ r : Int32, v = some (.int r) ∧ Post r C1) := by
  unfold wp_X3_notsOpen at hw
  refine MC.of wk (by decide) (Nat.le_of_ble_eq_true rfl) (fun x hx ok => ?_)
  subst hx
  show G w x 3 0 0 (QM w x _ 0 0) C 0 [(0, .ref (ad w 1))] []
  refine g_iconst (v := 0) ok dX3_notsOpen_0 (by decide) ?_
  refine g_istore_n0 ok [(1, .int 0), (0, .ref (ad w 1))] dX3_notsOpen_1 (by decide) rfl ?_
  refine g_iconst (v := 0) ok dX3_notsOpen_2 (by decide) ?_
  refine g_istore_n0 ok [(2, .int 0), (1, .int 0), (0, .ref (ad w 1))] dX3_notsOpen_3 (by decide) rfl ?_
  refine g_sub [2, 1, 0] [(0, .ref (ad w 1)), (1, .int 0), (2, .int 0)] rfl ?_
  obtain ⟨n7, hw⟩ := hw
  exact gw_X3_notsOpen_l4 ok n7 C 0 0 hw
theorem sp_X3_notsOpen (C : CS) (hp : p_X3_notsOpen C) : wp_X3_notsOpen (fun r C1 => r = v_X3_notsOpen C ∧ C1 = C) C := by
  obtain ⟨n, e, hn⟩ := hp
  have hv : v_X3_notsOpen C = nI (cnN (C.2.1 47) n) := by unfold v_X3_notsOpen; rw [e, cl_k (by omega)]
  have H : ∀ d k, k + d = n → wp_X3_notsOpen_l4 (fun r C1 => r = v_X3_notsOpen C ∧ C1 = C) (d + 1) C (nI (cnN (C.2.1 47) k)) (nI k) := by
    intro d
    induction d with
    | zero =>
      intro k hk
      have ek : k = n := by omega
      subst ek
      refine ⟨fun _ => ⟨hv.symm, rfl⟩, fun c => absurd ?_ c⟩
      rw [e, nI_leI (by omega) (by omega)]; omega
    | succ d ih =>
      intro k hk
      refine ⟨fun c => ?_, fun _ => ⟨vp_k (by omega), fun x4 e4 x5 e5 x6 e6 => ?_⟩⟩
      · rw [e, nI_leI (by omega) (by omega)] at c; omega
      · rw [cl_k (by omega)] at e4
        have h3 := ih (k + 1) (by omega)
        have e2 : nI (cnN (C.2.1 47) (k + 1)) = x5 := by
          rw [cnN, e5, e4]
          by_cases h : C.2.1 47 k = -10
          · rw [if_pos h, if_pos h, show (1 : Int32) = nI 1 from rfl, nI_add]
          · rw [if_neg h, if_neg h, show (0 : Int32) = nI 0 from rfl, nI_add]
        rw [e2] at h3
        rw [e6, o1, nI_add]
        exact h3
  exact ⟨_, H n 0 (by omega)⟩
theorem mc_X3_notsOpen {w : WD} (wk : wOk w) (l : Launch) (C : CS)  (hp : p_X3_notsOpen C ) : MC w l yX3_notsOpen cX3_notsOpen 3 (some .int) 0 0 0 [.ref (ad w 1)] C (pI (v_X3_notsOpen C ) C) := MC.postI (gw_X3_notsOpen wk l C  (sp_X3_notsOpen C  hp))
