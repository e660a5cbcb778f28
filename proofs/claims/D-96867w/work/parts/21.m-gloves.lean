theorem cf_X3_in : CfS yX3_in cX3_in 3 (some .boolean) 3 := ⟨⟨by decide, by decide, by decide⟩, q75, q1476, q1475⟩
def v_X3_in (a0 : Int32) (a1 : Int32) (a2 : Int32) : Int32 :=
  if a0 < a1 then
    (0)
    else
    (if a2 < a0 then
      (0)
      else
      (1))
theorem vb_X3_in (a0 : Int32) (a1 : Int32) (a2 : Int32) : v_X3_in a0 a1 a2 = 0 ∨ v_X3_in a0 a1 a2 = 1 := by
  unfold v_X3_in
  exact (ib_ite (Or.inl rfl) (ib_ite (Or.inl rfl) (Or.inr rfl)))
set_option maxHeartbeats 4000000 in
set_option maxRecDepth 100000 in
theorem mc_X3_in {w : WD} (wk : wOk w) (l : Launch) (C : CS) (a0 : Int32) (a1 : Int32) (a2 : Int32) : MC w l yX3_in cX3_in 3 (some .boolean) 0 0 0 [.int a0, .int a1, .int a2] C (pI (v_X3_in a0 a1 a2) C) := by
  refine MC.of wk (by decide) (Nat.le_of_ble_eq_true rfl) (fun x hx ok => ?_)
  subst hx
  show G w x 3 0 0 (QM w x _ 0 0) C 0 [(0, .int a0), (1, .int a1), (2, .int a2)] []
  refine g_iload_n ok 0 dX3_in_0 rfl ?_
  refine g_iload_n ok 1 dX3_in_1 rfl ?_
  refine g_icmp_lt (tgt := 14) ok dX3_in_2 (by decide) (fun c1 => ?_) (fun c1 => ?_)
  · refine g_iconst (v := 0) ok dX3_in_14 (by decide) ?_
    exact g_zret ok dX3_in_15 (Or.inl rfl) ⟨by first | (simp only [v_X3_in, if_pos c1]; done) | contradiction, rfl⟩
  · refine g_iload_n ok 0 dX3_in_5 rfl ?_
    refine g_iload_n ok 2 dX3_in_6 rfl ?_
    refine g_icmp_gt (tgt := 14) ok dX3_in_7 (by decide) (fun c2 => ?_) (fun c2 => ?_)
    · refine g_iconst (v := 0) ok dX3_in_14 (by decide) ?_
      exact g_zret ok dX3_in_15 (Or.inl rfl) ⟨by first | (simp only [v_X3_in, if_neg c1, if_pos c2]; done) | contradiction, rfl⟩
    · refine g_iconst (v := 1) ok dX3_in_10 (by decide) ?_
      refine g_goto (tgt := 15) ok dX3_in_11 (by decide) ?_
      exact g_zret ok dX3_in_15 (Or.inr rfl) ⟨by first | (simp only [v_X3_in, if_neg c1, if_neg c2]; done) | contradiction, rfl⟩
theorem cf_X3_within : CfS yX3_within cX3_within 3 (some .int) 3 := ⟨⟨by decide, by decide, by decide⟩, q75, q1552, q1551⟩
def v_X3_within (a0 : Int32) (a1 : Int32) (a2 : Int32) : Int32 :=
  if a1 ≤ a0 then
    (if a0 ≤ a2 then
      (a0)
      else
      (a2))
    else
    (a1)
set_option maxHeartbeats 4000000 in
set_option maxRecDepth 100000 in
theorem mc_X3_within {w : WD} (wk : wOk w) (l : Launch) (C : CS) (a0 : Int32) (a1 : Int32) (a2 : Int32) : MC w l yX3_within cX3_within 3 (some .int) 0 0 0 [.int a0, .int a1, .int a2] C (pI (v_X3_within a0 a1 a2) C) := by
  refine MC.of wk (by decide) (Nat.le_of_ble_eq_true rfl) (fun x hx ok => ?_)
  subst hx
  show G w x 3 0 0 (QM w x _ 0 0) C 0 [(0, .int a0), (1, .int a1), (2, .int a2)] []
  refine g_iload_n ok 0 dX3_within_0 rfl ?_
  refine g_iload_n ok 1 dX3_within_1 rfl ?_
  refine g_icmp_ge (tgt := 9) ok dX3_within_2 (by decide) (fun c1 => ?_) (fun c1 => ?_)
  · refine g_iload_n ok 0 dX3_within_9 rfl ?_
    refine g_iload_n ok 2 dX3_within_10 rfl ?_
    refine g_icmp_le (tgt := 18) ok dX3_within_11 (by decide) (fun c2 => ?_) (fun c2 => ?_)
    · refine g_iload_n ok 0 dX3_within_18 rfl ?_
      exact g_iret ok dX3_within_19 ⟨by first | (simp only [v_X3_within, if_pos c1, if_pos c2]; done) | contradiction, rfl⟩
    · refine g_iload_n ok 2 dX3_within_14 rfl ?_
      refine g_goto (tgt := 19) ok dX3_within_15 (by decide) ?_
      exact g_iret ok dX3_within_19 ⟨by first | (simp only [v_X3_within, if_pos c1, if_neg c2]; done) | contradiction, rfl⟩
  · refine g_iload_n ok 1 dX3_within_5 rfl ?_
    refine g_goto (tgt := 19) ok dX3_within_6 (by decide) ?_
    exact g_iret ok dX3_within_19 ⟨by first | (simp only [v_X3_within, if_neg c1]; done) | contradiction, rfl⟩
theorem cf_X3_told0 : CfS yX3_told0 cX3_told0 1 (some .int) 1 := ⟨⟨by decide, by decide, by decide⟩, q75, q1599, q1598⟩
def v_X3_told0 (a0 : Int32) : Int32 :=
  if 0 ≤ a0 then
    (a0)
    else
    ((-1000000005))
set_option maxHeartbeats 4000000 in
set_option maxRecDepth 100000 in
theorem mc_X3_told0 {w : WD} (wk : wOk w) (l : Launch) (C : CS) (a0 : Int32) : MC w l yX3_told0 cX3_told0 1 (some .int) 0 0 0 [.int a0] C (pI (v_X3_told0 a0) C) := by
  refine MC.of wk (by decide) (Nat.le_of_ble_eq_true rfl) (fun x hx ok => ?_)
  subst hx
  show G w x 1 0 0 (QM w x _ 0 0) C 0 [(0, .int a0)] []
  refine g_iload_n ok 0 dX3_told0_0 rfl ?_
  refine g_if_ge (tgt := 9) ok dX3_told0_1 (by decide) (fun c1 => ?_) (fun c1 => ?_)
  · refine g_iload_n ok 0 dX3_told0_9 rfl ?_
    exact g_iret ok dX3_told0_10 ⟨by first | (simp only [v_X3_told0, if_pos c1]; done) | contradiction, rfl⟩
  · refine g_ldc (v := -1000000005) ok q1560 dX3_told0_4 ?_
    refine g_goto (tgt := 10) ok dX3_told0_6 (by decide) ?_
    exact g_iret ok dX3_told0_10 ⟨by first | (simp only [v_X3_told0, if_neg c1]; done) | contradiction, rfl⟩
theorem cf_X3_isGlove : CfV yX3_isGlove "TwoGuildsModel" cX3_isGlove 2 (some .boolean) 1 := ⟨⟨by decide, by decide, by decide⟩, q75, q1494, q1493, qs35⟩
def v_X3_isGlove (C : CS) (a0 : Int32) : Int32 :=
  (v_X3_in a0 0 ((C.2.1 36 1) - 1))
theorem vb_X3_isGlove (C : CS) (a0 : Int32) : v_X3_isGlove C a0 = 0 ∨ v_X3_isGlove C a0 = 1 := by
  unfold v_X3_isGlove
  exact (vb_X3_in a0 0 ((C.2.1 36 1) - 1))
set_option maxHeartbeats 4000000 in
set_option maxRecDepth 100000 in
theorem mc_X3_isGlove {w : WD} (wk : wOk w) (l : Launch) (C : CS) (a0 : Int32) : MC w l yX3_isGlove cX3_isGlove 2 (some .boolean) 1 0 0 [.ref (ad w 1), .int a0] C (pI (v_X3_isGlove C a0) C) := by
  refine MC.of wk (by decide) (Nat.le_of_ble_eq_true rfl) (fun x hx ok => ?_)
  subst hx
  show G w x 2 0 0 (QM w x _ 0 0) C 0 [(0, .ref (ad w 1)), (1, .int a0)] []
  refine g_iload_n ok 1 dX3_isGlove_0 rfl ?_
  refine g_iconst (v := 0) ok dX3_isGlove_1 (by decide) ?_
  refine g_aload_n ok 0 dX3_isGlove_2 rfl ?_
  refine g_get ok 1 rfl rfl in_X3 0 (by decide) q1359 rfl dX3_isGlove_3 ?_
  refine g_iconst (v := 1) ok dX3_isGlove_6 (by decide) ?_
  refine g_iald ok 36 rfl (by unfold vp_in; decide) 1 (by decide) dX3_isGlove_7 ?_
  refine g_iconst (v := 1) ok dX3_isGlove_8 (by decide) ?_
  refine g_isub ok dX3_isGlove_9 ?_
  refine g_callSI ok [.int a0, .int 0, .int ((C.2.1 36 1) - 1)] cf_X3_in q1474 (mc_X3_in ok.wo (xL x) C a0 0 ((C.2.1 36 1) - 1)) rfl rfl (Nat.le_of_ble_eq_true rfl) ⟨by decide, by decide⟩ ⟨by decide, by decide⟩ dX3_isGlove_10 ?_
  exact g_zret ok dX3_isGlove_13 (vb_X3_in a0 0 ((C.2.1 36 1) - 1)) ⟨by rw [v_X3_isGlove], rfl⟩
theorem cf_X3_of : CfV yX3_of "TwoGuildsModel" cX3_of 3 (some .int) 2 := ⟨⟨by decide, by decide, by decide⟩, q75, q1498, q1497, qs36⟩
def v_X3_of (C : CS) (a0 : Int32) (a1 : Int32) : Int32 :=
  (C.2.1 36 (Int32.toNatClampNeg ((16 + (6 * a0)) + a1)))
def p_X3_of (C : CS) (a0 : Int32) (a1 : Int32) : Prop :=
  vp_in ((16 + (6 * a0)) + a1) 1448 ∧
    (True)
set_option maxHeartbeats 4000000 in
set_option maxRecDepth 100000 in
theorem mc_X3_of {w : WD} (wk : wOk w) (l : Launch) (C : CS) (a0 : Int32) (a1 : Int32) (hw : p_X3_of C a0 a1) : MC w l yX3_of cX3_of 3 (some .int) 0 0 0 [.ref (ad w 1), .int a0, .int a1] C (pI (v_X3_of C a0 a1) C) := by
  unfold p_X3_of at hw
  refine MC.of wk (by decide) (Nat.le_of_ble_eq_true rfl) (fun x hx ok => ?_)
  subst hx
  show G w x 3 0 0 (QM w x _ 0 0) C 0 [(0, .ref (ad w 1)), (1, .int a0), (2, .int a1)] []
  refine g_aload_n ok 0 dX3_of_0 rfl ?_
  refine g_get ok 1 rfl rfl in_X3 0 (by decide) q1359 rfl dX3_of_1 ?_
  refine g_bipush (v := 16) ok dX3_of_4 (by decide) ?_
  refine g_bipush (v := 6) ok dX3_of_6 (by decide) ?_
  refine g_iload_n ok 1 dX3_of_8 rfl ?_
  refine g_imul ok dX3_of_9 ?_
  refine g_iadd ok dX3_of_10 ?_
  refine g_iload_n ok 2 dX3_of_11 rfl ?_
  refine g_iadd ok dX3_of_12 ?_
  obtain ⟨hg, hw⟩ := hw
  refine g_iald ok 36 rfl hg _ rfl dX3_of_13 ?_
  exact g_iret ok dX3_of_14 ⟨by rw [v_X3_of], rfl⟩
theorem cf_X3_put : CfV yX3_put "TwoGuildsModel" cX3_put 4 none 3 := ⟨⟨by decide, by decide, by decide⟩, q75, q1486, q1485, qs34⟩
def n_X3_put (C : CS) (a0 : Int32) (a1 : Int32) (a2 : Int32) : CS :=
  (wA C 36 (Int32.toNatClampNeg ((16 + (6 * a0)) + a1)) a2)
def p_X3_put (C : CS) (a0 : Int32) (a1 : Int32) (a2 : Int32) : Prop :=
  vp_in ((16 + (6 * a0)) + a1) 1448 ∧
    (True)
set_option maxHeartbeats 4000000 in
set_option maxRecDepth 100000 in
theorem mc_X3_put {w : WD} (wk : wOk w) (l : Launch) (C : CS) (a0 : Int32) (a1 : Int32) (a2 : Int32) (hw : p_X3_put C a0 a1 a2) : MC w l yX3_put cX3_put 4 none 0 0 0 [.ref (ad w 1), .int a0, .int a1, .int a2] C (pV (n_X3_put C a0 a1 a2)) := by
  unfold p_X3_put at hw
  refine MC.of wk (by decide) (Nat.le_of_ble_eq_true rfl) (fun x hx ok => ?_)
  subst hx
  show G w x 4 0 0 (QM w x _ 0 0) C 0 [(0, .ref (ad w 1)), (1, .int a0), (2, .int a1), (3, .int a2)] []
  refine g_aload_n ok 0 dX3_put_0 rfl ?_
  refine g_get ok 1 rfl rfl in_X3 0 (by decide) q1359 rfl dX3_put_1 ?_
  refine g_bipush (v := 16) ok dX3_put_4 (by decide) ?_
  refine g_bipush (v := 6) ok dX3_put_6 (by decide) ?_
  refine g_iload_n ok 1 dX3_put_8 rfl ?_
  refine g_imul ok dX3_put_9 ?_
  refine g_iadd ok dX3_put_10 ?_
  refine g_iload_n ok 2 dX3_put_11 rfl ?_
  refine g_iadd ok dX3_put_12 ?_
  refine g_iload_n ok 3 dX3_put_13 rfl ?_
  obtain ⟨hg, hw⟩ := hw
  refine g_iast ok 36 rfl hg _ rfl dX3_put_14 (fun C1 eC1 => ?_)
  subst eC1
  exact g_vret ok dX3_put_15 ⟨rfl, by rw [n_X3_put]⟩
theorem cf_X3_becomes : CfV yX3_becomes "TwoGuildsModel" cX3_becomes 4 (some .int) 2 := ⟨⟨by decide, by decide, by decide⟩, q75, q1518, q1517, qs38⟩
def v_X3_becomes (C : CS) (a0 : Int32) (a1 : Int32) : Int32 :=
  (C.2.1 36 (Int32.toNatClampNeg a0))
def n_X3_becomes (C : CS) (a0 : Int32) (a1 : Int32) : CS :=
  (wA C 36 (Int32.toNatClampNeg a0) a1)
def p_X3_becomes (C : CS) (a0 : Int32) (a1 : Int32) : Prop :=
  vp_in a0 1448 ∧
    (vp_in a0 1448 ∧
    (True))
set_option maxHeartbeats 4000000 in
set_option maxRecDepth 100000 in
theorem mc_X3_becomes {w : WD} (wk : wOk w) (l : Launch) (C : CS) (a0 : Int32) (a1 : Int32) (hw : p_X3_becomes C a0 a1) : MC w l yX3_becomes cX3_becomes 4 (some .int) 0 0 0 [.ref (ad w 1), .int a0, .int a1] C (pI (v_X3_becomes C a0 a1) (n_X3_becomes C a0 a1)) := by
  unfold p_X3_becomes at hw
  refine MC.of wk (by decide) (Nat.le_of_ble_eq_true rfl) (fun x hx ok => ?_)
  subst hx
  show G w x 4 0 0 (QM w x _ 0 0) C 0 [(0, .ref (ad w 1)), (1, .int a0), (2, .int a1)] []
  refine g_aload_n ok 0 dX3_becomes_0 rfl ?_
  refine g_get ok 1 rfl rfl in_X3 0 (by decide) q1359 rfl dX3_becomes_1 ?_
  refine g_iload_n ok 1 dX3_becomes_4 rfl ?_
  obtain ⟨hg, hw⟩ := hw
  refine g_iald ok 36 rfl hg _ rfl dX3_becomes_5 ?_
  refine g_istore_n0 ok [(3, .int (C.2.1 36 (Int32.toNatClampNeg a0))), (0, .ref (ad w 1)), (1, .int a0), (2, .int a1)] dX3_becomes_6 (by decide) rfl ?_
  refine g_aload_n ok 1 dX3_becomes_7 rfl ?_
  refine g_get ok 1 rfl rfl in_X3 0 (by decide) q1359 rfl dX3_becomes_8 ?_
  refine g_iload_n ok 2 dX3_becomes_11 rfl ?_
  refine g_iload_n ok 3 dX3_becomes_12 rfl ?_
  obtain ⟨hg, hw⟩ := hw
  refine g_iast ok 36 rfl hg _ rfl dX3_becomes_13 (fun C1 eC1 => ?_)
  subst eC1
  refine g_iload_n ok 0 dX3_becomes_14 rfl ?_
  exact g_iret ok dX3_becomes_15 ⟨by rw [v_X3_becomes], by rw [n_X3_becomes]⟩
theorem cf_X3_comes : CfV yX3_comes "TwoGuildsModel" cX3_comes 6 (some .int) 4 := ⟨⟨by decide, by decide, by decide⟩, q75, q1482, q1481, qs33⟩
def v_X3_comes (C : CS) (a0 : Int32) (a1 : Int32) (a2 : Int32) (a3 : Int32) : Int32 :=
  (C.2.1 36 1)
def n_X3_comes (C : CS) (a0 : Int32) (a1 : Int32) (a2 : Int32) (a3 : Int32) : CS :=
  (wA (n_X3_put (n_X3_put (n_X3_put (n_X3_put (n_X3_put (n_X3_put C (C.2.1 36 1) 0 a0) (C.2.1 36 1) 1 a1) (C.2.1 36 1) 2 a2) (C.2.1 36 1) 3 a3) (C.2.1 36 1) 4 0) (C.2.1 36 1) 5 0) 36 1 (((n_X3_put (n_X3_put (n_X3_put (n_X3_put (n_X3_put (n_X3_put C (C.2.1 36 1) 0 a0) (C.2.1 36 1) 1 a1) (C.2.1 36 1) 2 a2) (C.2.1 36 1) 3 a3) (C.2.1 36 1) 4 0) (C.2.1 36 1) 5 0).2.1 36 1) + 1))
def p_X3_comes (C : CS) (a0 : Int32) (a1 : Int32) (a2 : Int32) (a3 : Int32) : Prop :=
  p_X3_put C (C.2.1 36 1) 0 a0 ∧
    (p_X3_put (n_X3_put C (C.2.1 36 1) 0 a0) (C.2.1 36 1) 1 a1 ∧
    (p_X3_put (n_X3_put (n_X3_put C (C.2.1 36 1) 0 a0) (C.2.1 36 1) 1 a1) (C.2.1 36 1) 2 a2 ∧
    (p_X3_put (n_X3_put (n_X3_put (n_X3_put C (C.2.1 36 1) 0 a0) (C.2.1 36 1) 1 a1) (C.2.1 36 1) 2 a2) (C.2.1 36 1) 3 a3 ∧
    (p_X3_put (n_X3_put (n_X3_put (n_X3_put (n_X3_put C (C.2.1 36 1) 0 a0) (C.2.1 36 1) 1 a1) (C.2.1 36 1) 2 a2) (C.2.1 36 1) 3 a3) (C.2.1 36 1) 4 0 ∧
    (p_X3_put (n_X3_put (n_X3_put (n_X3_put (n_X3_put (n_X3_put C (C.2.1 36 1) 0 a0) (C.2.1 36 1) 1 a1) (C.2.1 36 1) 2 a2) (C.2.1 36 1) 3 a3) (C.2.1 36 1) 4 0) (C.2.1 36 1) 5 0 ∧
    (True))))))
set_option maxHeartbeats 4000000 in
set_option maxRecDepth 100000 in
theorem mc_X3_comes {w : WD} (wk : wOk w) (l : Launch) (C : CS) (a0 : Int32) (a1 : Int32) (a2 : Int32) (a3 : Int32) (hw : p_X3_comes C a0 a1 a2 a3) : MC w l yX3_comes cX3_comes 6 (some .int) 1 0 0 [.ref (ad w 1), .int a0, .int a1, .int a2, .int a3] C (pI (v_X3_comes C a0 a1 a2 a3) (n_X3_comes C a0 a1 a2 a3)) := by
  unfold p_X3_comes at hw
  refine MC.of wk (by decide) (Nat.le_of_ble_eq_true rfl) (fun x hx ok => ?_)
  subst hx
  show G w x 6 0 0 (QM w x _ 0 0) C 0 [(0, .ref (ad w 1)), (1, .int a0), (2, .int a1), (3, .int a2), (4, .int a3)] []
  refine g_aload_n ok 0 dX3_comes_0 rfl ?_
  refine g_get ok 1 rfl rfl in_X3 0 (by decide) q1359 rfl dX3_comes_1 ?_
  refine g_iconst (v := 1) ok dX3_comes_4 (by decide) ?_
  refine g_iald ok 36 rfl (by unfold vp_in; decide) 1 (by decide) dX3_comes_5 ?_
  refine g_istore0 ok [(5, .int (C.2.1 36 1)), (0, .ref (ad w 1)), (1, .int a0), (2, .int a1), (3, .int a2), (4, .int a3)] dX3_comes_6 (by decide) rfl ?_
  refine g_aload_n ok 1 dX3_comes_8 rfl ?_
  refine g_iload ok 0 dX3_comes_9 rfl ?_
  refine g_iconst (v := 0) ok dX3_comes_11 (by decide) ?_
  refine g_iload_n ok 2 dX3_comes_12 rfl ?_
  obtain ⟨hp, hw⟩ := hw
  refine g_callVV ok [.int (C.2.1 36 1), .int 0, .int a0] cf_X3_put q1483 (mc_X3_put ok.wo (xL x) C (C.2.1 36 1) 0 a0 hp) (recvF ok 1 rfl rfl) rfl rfl (Nat.le_of_ble_eq_true rfl) ⟨by decide, by decide⟩ ⟨by decide, by decide⟩ dX3_comes_13 ?_
  refine g_aload_n ok 1 dX3_comes_16 rfl ?_
  refine g_iload ok 0 dX3_comes_17 rfl ?_
  refine g_iconst (v := 1) ok dX3_comes_19 (by decide) ?_
  refine g_iload_n ok 3 dX3_comes_20 rfl ?_
  obtain ⟨hp, hw⟩ := hw
  refine g_callVV ok [.int (C.2.1 36 1), .int 1, .int a1] cf_X3_put q1483 (mc_X3_put ok.wo (xL x) (n_X3_put C (C.2.1 36 1) 0 a0) (C.2.1 36 1) 1 a1 hp) (recvF ok 1 rfl rfl) rfl rfl (Nat.le_of_ble_eq_true rfl) ⟨by decide, by decide⟩ ⟨by decide, by decide⟩ dX3_comes_21 ?_
  refine g_aload_n ok 1 dX3_comes_24 rfl ?_
  refine g_iload ok 0 dX3_comes_25 rfl ?_
  refine g_iconst (v := 2) ok dX3_comes_27 (by decide) ?_
  refine g_iload_n ok 4 dX3_comes_28 rfl ?_
  obtain ⟨hp, hw⟩ := hw
  refine g_callVV ok [.int (C.2.1 36 1), .int 2, .int a2] cf_X3_put q1483 (mc_X3_put ok.wo (xL x) (n_X3_put (n_X3_put C (C.2.1 36 1) 0 a0) (C.2.1 36 1) 1 a1) (C.2.1 36 1) 2 a2 hp) (recvF ok 1 rfl rfl) rfl rfl (Nat.le_of_ble_eq_true rfl) ⟨by decide, by decide⟩ ⟨by decide, by decide⟩ dX3_comes_29 ?_
  refine g_aload_n ok 1 dX3_comes_32 rfl ?_
  refine g_iload ok 0 dX3_comes_33 rfl ?_
  refine g_iconst (v := 3) ok dX3_comes_35 (by decide) ?_
  refine g_iload ok 5 dX3_comes_36 rfl ?_
  obtain ⟨hp, hw⟩ := hw
  refine g_callVV ok [.int (C.2.1 36 1), .int 3, .int a3] cf_X3_put q1483 (mc_X3_put ok.wo (xL x) (n_X3_put (n_X3_put (n_X3_put C (C.2.1 36 1) 0 a0) (C.2.1 36 1) 1 a1) (C.2.1 36 1) 2 a2) (C.2.1 36 1) 3 a3 hp) (recvF ok 1 rfl rfl) rfl rfl (Nat.le_of_ble_eq_true rfl) ⟨by decide, by decide⟩ ⟨by decide, by decide⟩ dX3_comes_38 ?_
  refine g_aload_n ok 1 dX3_comes_41 rfl ?_
  refine g_iload ok 0 dX3_comes_42 rfl ?_
  refine g_iconst (v := 4) ok dX3_comes_44 (by decide) ?_
  refine g_iconst (v := 0) ok dX3_comes_45 (by decide) ?_
  obtain ⟨hp, hw⟩ := hw
  refine g_callVV ok [.int (C.2.1 36 1), .int 4, .int 0] cf_X3_put q1483 (mc_X3_put ok.wo (xL x) (n_X3_put (n_X3_put (n_X3_put (n_X3_put C (C.2.1 36 1) 0 a0) (C.2.1 36 1) 1 a1) (C.2.1 36 1) 2 a2) (C.2.1 36 1) 3 a3) (C.2.1 36 1) 4 0 hp) (recvF ok 1 rfl rfl) rfl rfl (Nat.le_of_ble_eq_true rfl) ⟨by decide, by decide⟩ ⟨by decide, by decide⟩ dX3_comes_46 ?_
  refine g_aload_n ok 1 dX3_comes_49 rfl ?_
  refine g_iload ok 0 dX3_comes_50 rfl ?_
  refine g_iconst (v := 5) ok dX3_comes_52 (by decide) ?_
  refine g_iconst (v := 0) ok dX3_comes_53 (by decide) ?_
  obtain ⟨hp, hw⟩ := hw
  refine g_callVV ok [.int (C.2.1 36 1), .int 5, .int 0] cf_X3_put q1483 (mc_X3_put ok.wo (xL x) (n_X3_put (n_X3_put (n_X3_put (n_X3_put (n_X3_put C (C.2.1 36 1) 0 a0) (C.2.1 36 1) 1 a1) (C.2.1 36 1) 2 a2) (C.2.1 36 1) 3 a3) (C.2.1 36 1) 4 0) (C.2.1 36 1) 5 0 hp) (recvF ok 1 rfl rfl) rfl rfl (Nat.le_of_ble_eq_true rfl) ⟨by decide, by decide⟩ ⟨by decide, by decide⟩ dX3_comes_54 ?_
  refine g_aload_n ok 1 dX3_comes_57 rfl ?_
  refine g_get ok 1 rfl rfl in_X3 0 (by decide) q1359 rfl dX3_comes_58 ?_
  refine g_iconst (v := 1) ok dX3_comes_61 (by decide) ?_
  refine g_dup2 ok dX3_comes_62 rfl rfl ?_
  refine g_iald ok 36 rfl (by unfold vp_in; decide) 1 (by decide) dX3_comes_63 ?_
  refine g_iconst (v := 1) ok dX3_comes_64 (by decide) ?_
  refine g_iadd ok dX3_comes_65 ?_
  refine g_iast ok 36 rfl (by unfold vp_in; decide) 1 (by decide) dX3_comes_66 (fun C1 eC1 => ?_)
  subst eC1
  refine g_iload ok 0 dX3_comes_67 rfl ?_
  exact g_iret ok dX3_comes_69 ⟨by rw [v_X3_comes], by rw [n_X3_comes]⟩
theorem cf_X3_mostOf : CfS yX3_mostOf cX3_mostOf 1 (some .int) 1 := ⟨⟨by decide, by decide, by decide⟩, q75, q1525, q1524⟩
def v_X3_mostOf (a0 : Int32) : Int32 :=
  if a0 = 1 then
    (1)
    else
    (if a0 = 5 then
      (1)
      else
      (if a0 = 2 then
        (9)
        else
        (99)))
set_option maxHeartbeats 4000000 in
set_option maxRecDepth 100000 in
theorem mc_X3_mostOf {w : WD} (wk : wOk w) (l : Launch) (C : CS) (a0 : Int32) : MC w l yX3_mostOf cX3_mostOf 1 (some .int) 0 0 0 [.int a0] C (pI (v_X3_mostOf a0) C) := by
  refine MC.of wk (by decide) (Nat.le_of_ble_eq_true rfl) (fun x hx ok => ?_)
  subst hx
  show G w x 1 0 0 (QM w x _ 0 0) C 0 [(0, .int a0)] []
  refine g_iload_n ok 0 dX3_mostOf_0 rfl ?_
  refine g_iconst (v := 1) ok dX3_mostOf_1 (by decide) ?_
  refine g_icmp_eq (tgt := 10) ok dX3_mostOf_2 (by decide) (fun c1 => ?_) (fun c1 => ?_)
  · refine g_iconst (v := 1) ok dX3_mostOf_10 (by decide) ?_
    refine g_goto (tgt := 26) ok dX3_mostOf_11 (by decide) ?_
    exact g_iret ok dX3_mostOf_26 ⟨by first | (simp only [v_X3_mostOf, if_pos c1]; done) | contradiction, rfl⟩
  · refine g_iload_n ok 0 dX3_mostOf_5 rfl ?_
    refine g_iconst (v := 5) ok dX3_mostOf_6 (by decide) ?_
    refine g_icmp_ne (tgt := 14) ok dX3_mostOf_7 (by decide) (fun c2 => ?_) (fun c2 => ?_)
    · refine g_iload_n ok 0 dX3_mostOf_14 rfl ?_
      refine g_iconst (v := 2) ok dX3_mostOf_15 (by decide) ?_
      refine g_icmp_ne (tgt := 24) ok dX3_mostOf_16 (by decide) (fun c3 => ?_) (fun c3 => ?_)
      · refine g_bipush (v := 99) ok dX3_mostOf_24 (by decide) ?_
        exact g_iret ok dX3_mostOf_26 ⟨by first | (simp only [v_X3_mostOf, if_neg c1, if_neg c2, if_neg c3]; done) | contradiction, rfl⟩
      · refine g_bipush (v := 9) ok dX3_mostOf_19 (by decide) ?_
        refine g_goto (tgt := 26) ok dX3_mostOf_21 (by decide) ?_
        exact g_iret ok dX3_mostOf_26 ⟨by first | (simp only [v_X3_mostOf, if_neg c1, if_neg c2, if_pos c3]; done) | contradiction, rfl⟩
    · refine g_iconst (v := 1) ok dX3_mostOf_10 (by decide) ?_
      refine g_goto (tgt := 26) ok dX3_mostOf_11 (by decide) ?_
      exact g_iret ok dX3_mostOf_26 ⟨by first | (simp only [v_X3_mostOf, if_neg c1, if_pos c2]; done) | contradiction, rfl⟩
theorem cf_X3_glove : CfV yX3_glove "TwoGuildsModel" cX3_glove 5 (some .int) 4 := ⟨⟨by decide, by decide, by decide⟩, q75, q1473, q1471, q1472⟩
def v_X3_glove (C : CS) (a0 : Int32) (a1 : Int32) (a2 : Int32) (a3 : Int32) : Int32 :=
  if (v_X3_in a0 0 5) = 0 then
    ((-1000000001))
    else
    (if (v_X3_in a1 0 1) = 0 then
      ((-1000000001))
      else
      (if (v_X3_in a2 0 9) = 0 then
        ((-1000000001))
        else
        (if (v_X3_in a3 0 99) = 0 then
          ((-1000000001))
          else
          (if (C.2.1 36 1) = 10 then
            ((-1000000003))
            else
            ((v_X3_comes C a0 a1 a2 a3))))))
def n_X3_glove (C : CS) (a0 : Int32) (a1 : Int32) (a2 : Int32) (a3 : Int32) : CS :=
  if (v_X3_in a0 0 5) = 0 then
    (C)
    else
    (if (v_X3_in a1 0 1) = 0 then
      (C)
      else
      (if (v_X3_in a2 0 9) = 0 then
        (C)
        else
        (if (v_X3_in a3 0 99) = 0 then
          (C)
          else
          (if (C.2.1 36 1) = 10 then
            (C)
            else
            ((n_X3_comes C a0 a1 a2 a3))))))
def p_X3_glove (C : CS) (a0 : Int32) (a1 : Int32) (a2 : Int32) (a3 : Int32) : Prop :=
  ((v_X3_in a0 0 5) = 0 → 
    True) ∧
    (¬ (v_X3_in a0 0 5) = 0 → 
    ((v_X3_in a1 0 1) = 0 → 
      True) ∧
      (¬ (v_X3_in a1 0 1) = 0 → 
      ((v_X3_in a2 0 9) = 0 → 
        True) ∧
        (¬ (v_X3_in a2 0 9) = 0 → 
        ((v_X3_in a3 0 99) = 0 → 
          True) ∧
          (¬ (v_X3_in a3 0 99) = 0 → 
          ((C.2.1 36 1) = 10 → 
            True) ∧
            (¬ (C.2.1 36 1) = 10 → 
            p_X3_comes C a0 a1 a2 a3 ∧
              (True))))))
set_option maxHeartbeats 4000000 in
set_option maxRecDepth 100000 in
theorem mc_X3_glove {w : WD} (wk : wOk w) (l : Launch) (C : CS) (a0 : Int32) (a1 : Int32) (a2 : Int32) (a3 : Int32) (hw : p_X3_glove C a0 a1 a2 a3) : MC w l yX3_glove cX3_glove 5 (some .int) 2 0 0 [.ref (ad w 1), .int a0, .int a1, .int a2, .int a3] C (pI (v_X3_glove C a0 a1 a2 a3) (n_X3_glove C a0 a1 a2 a3)) := by
  unfold p_X3_glove at hw
  refine MC.of wk (by decide) (Nat.le_of_ble_eq_true rfl) (fun x hx ok => ?_)
  subst hx
  show G w x 5 0 0 (QM w x _ 0 0) C 0 [(0, .ref (ad w 1)), (1, .int a0), (2, .int a1), (3, .int a2), (4, .int a3)] []
  refine g_iload_n ok 1 dX3_glove_0 rfl ?_
  refine g_iconst (v := 0) ok dX3_glove_1 (by decide) ?_
  refine g_iconst (v := 5) ok dX3_glove_2 (by decide) ?_
  refine g_callSI ok [.int a0, .int 0, .int 5] cf_X3_in q1474 (mc_X3_in ok.wo (xL x) C a0 0 5) rfl rfl (Nat.le_of_ble_eq_true rfl) ⟨by decide, by decide⟩ ⟨by decide, by decide⟩ dX3_glove_3 ?_
  refine g_if_eq (tgt := 39) ok dX3_glove_6 (by decide) (fun c1 => ?_) (fun c1 => ?_)
  · have hw := hw.1 c1
    refine g_ldc (v := -1000000001) ok q1477 dX3_glove_39 ?_
    exact g_iret ok dX3_glove_41 ⟨by first | (simp only [v_X3_glove, if_pos c1]; done) | contradiction, by first | (simp only [n_X3_glove, if_pos c1]; done) | contradiction⟩
  · have hw := hw.2 c1
    refine g_iload_n ok 2 dX3_glove_9 rfl ?_
    refine g_iconst (v := 0) ok dX3_glove_10 (by decide) ?_
    refine g_iconst (v := 1) ok dX3_glove_11 (by decide) ?_
    refine g_callSI ok [.int a1, .int 0, .int 1] cf_X3_in q1474 (mc_X3_in ok.wo (xL x) C a1 0 1) rfl rfl (Nat.le_of_ble_eq_true rfl) ⟨by decide, by decide⟩ ⟨by decide, by decide⟩ dX3_glove_12 ?_
    refine g_if_eq (tgt := 39) ok dX3_glove_15 (by decide) (fun c2 => ?_) (fun c2 => ?_)
    · have hw := hw.1 c2
      refine g_ldc (v := -1000000001) ok q1477 dX3_glove_39 ?_
      exact g_iret ok dX3_glove_41 ⟨by first | (simp only [v_X3_glove, if_neg c1, if_pos c2]; done) | contradiction, by first | (simp only [n_X3_glove, if_neg c1, if_pos c2]; done) | contradiction⟩
    · have hw := hw.2 c2
      refine g_iload_n ok 3 dX3_glove_18 rfl ?_
      refine g_iconst (v := 0) ok dX3_glove_19 (by decide) ?_
      refine g_bipush (v := 9) ok dX3_glove_20 (by decide) ?_
      refine g_callSI ok [.int a2, .int 0, .int 9] cf_X3_in q1474 (mc_X3_in ok.wo (xL x) C a2 0 9) rfl rfl (Nat.le_of_ble_eq_true rfl) ⟨by decide, by decide⟩ ⟨by decide, by decide⟩ dX3_glove_22 ?_
      refine g_if_eq (tgt := 39) ok dX3_glove_25 (by decide) (fun c3 => ?_) (fun c3 => ?_)
      · have hw := hw.1 c3
        refine g_ldc (v := -1000000001) ok q1477 dX3_glove_39 ?_
        exact g_iret ok dX3_glove_41 ⟨by first | (simp only [v_X3_glove, if_neg c1, if_neg c2, if_pos c3]; done) | contradiction, by first | (simp only [n_X3_glove, if_neg c1, if_neg c2, if_pos c3]; done) | contradiction⟩
      · have hw := hw.2 c3
        refine g_iload ok 4 dX3_glove_28 rfl ?_
        refine g_iconst (v := 0) ok dX3_glove_30 (by decide) ?_
        refine g_bipush (v := 99) ok dX3_glove_31 (by decide) ?_
        refine g_callSI ok [.int a3, .int 0, .int 99] cf_X3_in q1474 (mc_X3_in ok.wo (xL x) C a3 0 99) rfl rfl (Nat.le_of_ble_eq_true rfl) ⟨by decide, by decide⟩ ⟨by decide, by decide⟩ dX3_glove_33 ?_
        refine g_if_ne (tgt := 42) ok dX3_glove_36 (by decide) (fun c4 => ?_) (fun c4 => ?_)
        · have hw := hw.2 c4
          refine g_aload_n ok 0 dX3_glove_42 rfl ?_
          refine g_get ok 1 rfl rfl in_X3 0 (by decide) q1359 rfl dX3_glove_43 ?_
          refine g_iconst (v := 1) ok dX3_glove_46 (by decide) ?_
          refine g_iald ok 36 rfl (by unfold vp_in; decide) 1 (by decide) dX3_glove_47 ?_
          refine g_bipush (v := 10) ok dX3_glove_48 (by decide) ?_
          refine g_icmp_ne (tgt := 58) ok dX3_glove_50 (by decide) (fun c5 => ?_) (fun c5 => ?_)
          · have hw := hw.2 c5
            refine g_aload_n ok 0 dX3_glove_58 rfl ?_
            refine g_iload_n ok 1 dX3_glove_59 rfl ?_
            refine g_iload_n ok 2 dX3_glove_60 rfl ?_
            refine g_iload_n ok 3 dX3_glove_61 rfl ?_
            refine g_iload ok 4 dX3_glove_62 rfl ?_
            obtain ⟨hp, hw⟩ := hw
            refine g_callVI ok [.int a0, .int a1, .int a2, .int a3] cf_X3_comes q1479 (mc_X3_comes ok.wo (xL x) C a0 a1 a2 a3 hp) (recvF ok 1 rfl rfl) rfl rfl (Nat.le_of_ble_eq_true rfl) ⟨by decide, by decide⟩ ⟨by decide, by decide⟩ dX3_glove_64 ?_
            exact g_iret ok dX3_glove_67 ⟨by first | (simp only [v_X3_glove, if_neg c1, if_neg c2, if_neg c3, if_neg c4, if_neg c5]; done) | contradiction, by first | (simp only [n_X3_glove, if_neg c1, if_neg c2, if_neg c3, if_neg c4, if_neg c5]; done) | contradiction⟩
          · have hw := hw.1 c5
            refine g_ldc (v := -1000000003) ok q1478 dX3_glove_53 ?_
            refine g_goto (tgt := 67) ok dX3_glove_55 (by decide) ?_
            exact g_iret ok dX3_glove_67 ⟨by first | (simp only [v_X3_glove, if_neg c1, if_neg c2, if_neg c3, if_neg c4, if_pos c5]; done) | contradiction, by first | (simp only [n_X3_glove, if_neg c1, if_neg c2, if_neg c3, if_neg c4, if_pos c5]; done) | contradiction⟩
        · have hw := hw.1 c4
          refine g_ldc (v := -1000000001) ok q1477 dX3_glove_39 ?_
          exact g_iret ok dX3_glove_41 ⟨by first | (simp only [v_X3_glove, if_neg c1, if_neg c2, if_neg c3, if_pos c4]; done) | contradiction, by first | (simp only [n_X3_glove, if_neg c1, if_neg c2, if_neg c3, if_pos c4]; done) | contradiction⟩
theorem cf_X3_worthOf : CfV yX3_worthOf "TwoGuildsModel" cX3_worthOf 3 (some .int) 1 := ⟨⟨by decide, by decide, by decide⟩, q75, q1502, q1501, qs37⟩
def v_X3_worthOf (C : CS) (a0 : Int32) : Int32 :=
  if (v_X3_of C a0 0) = 1 then
    (((v_X3_of C a0 3) + 5))
    else
    (if (v_X3_of C a0 0) = 2 then
      ((99 - (v_X3_of C a0 3)))
      else
      (if (v_X3_of C a0 0) = 3 then
        ((2 * ((v_X3_of C a0 3) + 5)))
        else
        (if (v_X3_of C a0 0) = 4 then
          ((96 - (v_X3_of C a0 3)))
          else
          (if (v_X3_of C a0 0) = 5 then
            (8)
            else
            ((v_X3_of C a0 3))))))
def p_X3_worthOf (C : CS) (a0 : Int32) : Prop :=
  p_X3_of C a0 3 ∧
    (p_X3_of C a0 0 ∧
    (True))
set_option maxHeartbeats 4000000 in
set_option maxRecDepth 100000 in
theorem mc_X3_worthOf {w : WD} (wk : wOk w) (l : Launch) (C : CS) (a0 : Int32) (hw : p_X3_worthOf C a0) : MC w l yX3_worthOf cX3_worthOf 3 (some .int) 1 0 0 [.ref (ad w 1), .int a0] C (pI (v_X3_worthOf C a0) C) := by
  unfold p_X3_worthOf at hw
  refine MC.of wk (by decide) (Nat.le_of_ble_eq_true rfl) (fun x hx ok => ?_)
  subst hx
  show G w x 3 0 0 (QM w x _ 0 0) C 0 [(0, .ref (ad w 1)), (1, .int a0)] []
  refine g_aload_n ok 0 dX3_worthOf_0 rfl ?_
  refine g_iload_n ok 1 dX3_worthOf_1 rfl ?_
  refine g_iconst (v := 3) ok dX3_worthOf_2 (by decide) ?_
  obtain ⟨hp, hw⟩ := hw
  refine g_callVI ok [.int a0, .int 3] cf_X3_of q1495 (mc_X3_of ok.wo (xL x) C a0 3 hp) (recvF ok 1 rfl rfl) rfl rfl (Nat.le_of_ble_eq_true rfl) ⟨by decide, by decide⟩ ⟨by decide, by decide⟩ dX3_worthOf_3 ?_
  refine g_istore_n0 ok [(2, .int (v_X3_of C a0 3)), (0, .ref (ad w 1)), (1, .int a0)] dX3_worthOf_6 (by decide) rfl ?_
  refine g_aload_n ok 1 dX3_worthOf_7 rfl ?_
  refine g_iload_n ok 2 dX3_worthOf_8 rfl ?_
  refine g_iconst (v := 0) ok dX3_worthOf_9 (by decide) ?_
  obtain ⟨hp, hw⟩ := hw
  refine g_callVI ok [.int a0, .int 0] cf_X3_of q1495 (mc_X3_of ok.wo (xL x) C a0 0 hp) (recvF ok 1 rfl rfl) rfl rfl (Nat.le_of_ble_eq_true rfl) ⟨by decide, by decide⟩ ⟨by decide, by decide⟩ dX3_worthOf_10 ?_
  by_cases c1 : (v_X3_of C a0 0) = 1
  · refine g_swIn (tgt := 48) ok (1) dX3_worthOf_13 (c1.trans (by decide)) (by decide) rfl (by decide) ?_
    refine g_iload_n ok 0 dX3_worthOf_48 rfl ?_
    refine g_iconst (v := 5) ok dX3_worthOf_49 (by decide) ?_
    refine g_iadd ok dX3_worthOf_50 ?_
    exact g_iret ok dX3_worthOf_51 ⟨by first | (simp only [v_X3_worthOf, if_pos c1]; done) | contradiction, rfl⟩
  · skip
    by_cases c2 : (v_X3_of C a0 0) = 2
    · refine g_swIn (tgt := 52) ok (2) dX3_worthOf_13 (c2.trans (by decide)) (by decide) rfl (by decide) ?_
      refine g_bipush (v := 99) ok dX3_worthOf_52 (by decide) ?_
      refine g_iload_n ok 0 dX3_worthOf_54 rfl ?_
      refine g_isub ok dX3_worthOf_55 ?_
      exact g_iret ok dX3_worthOf_56 ⟨by first | (simp only [v_X3_worthOf, if_neg c1, if_pos c2]; done) | contradiction, rfl⟩
    · skip
      by_cases c3 : (v_X3_of C a0 0) = 3
      · refine g_swIn (tgt := 57) ok (3) dX3_worthOf_13 (c3.trans (by decide)) (by decide) rfl (by decide) ?_
        refine g_iconst (v := 2) ok dX3_worthOf_57 (by decide) ?_
        refine g_iload_n ok 0 dX3_worthOf_58 rfl ?_
        refine g_iconst (v := 5) ok dX3_worthOf_59 (by decide) ?_
        refine g_iadd ok dX3_worthOf_60 ?_
        refine g_imul ok dX3_worthOf_61 ?_
        exact g_iret ok dX3_worthOf_62 ⟨by first | (simp only [v_X3_worthOf, if_neg c1, if_neg c2, if_pos c3]; done) | contradiction, rfl⟩
      · skip
        by_cases c4 : (v_X3_of C a0 0) = 4
        · refine g_swIn (tgt := 63) ok (4) dX3_worthOf_13 (c4.trans (by decide)) (by decide) rfl (by decide) ?_
          refine g_bipush (v := 96) ok dX3_worthOf_63 (by decide) ?_
          refine g_iload_n ok 0 dX3_worthOf_65 rfl ?_
          refine g_isub ok dX3_worthOf_66 ?_
          exact g_iret ok dX3_worthOf_67 ⟨by first | (simp only [v_X3_worthOf, if_neg c1, if_neg c2, if_neg c3, if_pos c4]; done) | contradiction, rfl⟩
        · skip
          by_cases c5 : (v_X3_of C a0 0) = 5
          · refine g_swIn (tgt := 68) ok (5) dX3_worthOf_13 (c5.trans (by decide)) (by decide) rfl (by decide) ?_
            refine g_bipush (v := 8) ok dX3_worthOf_68 (by decide) ?_
            exact g_iret ok dX3_worthOf_70 ⟨by first | (simp only [v_X3_worthOf, if_neg c1, if_neg c2, if_neg c3, if_neg c4, if_pos c5]; done) | contradiction, rfl⟩
          · skip
            refine g_swOut (tgt := 71) ok dX3_worthOf_13 (fun k k1 k2 => ?_) (by decide) ?_
            · rcases (show k = 1 ∨ k = 2 ∨ k = 3 ∨ k = 4 ∨ k = 5 by omega) with rfl | rfl | rfl | rfl | rfl
              · exact fun h => c1 (h.trans (by decide))
              · exact fun h => c2 (h.trans (by decide))
              · exact fun h => c3 (h.trans (by decide))
              · exact fun h => c4 (h.trans (by decide))
              · exact fun h => c5 (h.trans (by decide))
            · refine g_iload_n ok 0 dX3_worthOf_71 rfl ?_
              exact g_iret ok dX3_worthOf_72 ⟨by first | (simp only [v_X3_worthOf, if_neg c1, if_neg c2, if_neg c3, if_neg c4, if_neg c5]; done) | contradiction, rfl⟩
theorem cf_X3_told : CfV yX3_told "TwoGuildsModel" cX3_told 3 (some .int) 2 := ⟨⟨by decide, by decide, by decide⟩, q75, q1490, q1488, q1489⟩
def v_X3_told (C : CS) (a0 : Int32) (a1 : Int32) : Int32 :=
  if (v_X3_isGlove C a0) = 0 then
    ((-1000000001))
    else
    (if (v_X3_in a1 0 6) = 0 then
      ((-1000000001))
      else
      (if 6 ≤ a1 then
        ((v_X3_worthOf C a0))
        else
        ((v_X3_of C a0 a1))))
def p_X3_told (C : CS) (a0 : Int32) (a1 : Int32) : Prop :=
  ((v_X3_isGlove C a0) = 0 → 
    True) ∧
    (¬ (v_X3_isGlove C a0) = 0 → 
    ((v_X3_in a1 0 6) = 0 → 
      True) ∧
      (¬ (v_X3_in a1 0 6) = 0 → 
      (6 ≤ a1 → 
        p_X3_worthOf C a0 ∧
          (True)) ∧
        (¬ 6 ≤ a1 → 
        p_X3_of C a0 a1 ∧
          (True))))
set_option maxHeartbeats 4000000 in
set_option maxRecDepth 100000 in
theorem mc_X3_told {w : WD} (wk : wOk w) (l : Launch) (C : CS) (a0 : Int32) (a1 : Int32) (hw : p_X3_told C a0 a1) : MC w l yX3_told cX3_told 3 (some .int) 2 0 0 [.ref (ad w 1), .int a0, .int a1] C (pI (v_X3_told C a0 a1) C) := by
  unfold p_X3_told at hw
  refine MC.of wk (by decide) (Nat.le_of_ble_eq_true rfl) (fun x hx ok => ?_)
  subst hx
  show G w x 3 0 0 (QM w x _ 0 0) C 0 [(0, .ref (ad w 1)), (1, .int a0), (2, .int a1)] []
  refine g_aload_n ok 0 dX3_told_0 rfl ?_
  refine g_iload_n ok 1 dX3_told_1 rfl ?_
  refine g_callVI ok [.int a0] cf_X3_isGlove q1491 (mc_X3_isGlove ok.wo (xL x) C a0) (recvF ok 1 rfl rfl) rfl rfl (Nat.le_of_ble_eq_true rfl) ⟨by decide, by decide⟩ ⟨by decide, by decide⟩ dX3_told_2 ?_
  refine g_if_eq (tgt := 18) ok dX3_told_5 (by decide) (fun c1 => ?_) (fun c1 => ?_)
  · have hw := hw.1 c1
    refine g_ldc (v := -1000000001) ok q1477 dX3_told_18 ?_
    exact g_iret ok dX3_told_20 ⟨by first | (simp only [v_X3_told, if_pos c1]; done) | contradiction, rfl⟩
  · have hw := hw.2 c1
    refine g_iload_n ok 2 dX3_told_8 rfl ?_
    refine g_iconst (v := 0) ok dX3_told_9 (by decide) ?_
    refine g_bipush (v := 6) ok dX3_told_10 (by decide) ?_
    refine g_callSI ok [.int a1, .int 0, .int 6] cf_X3_in q1474 (mc_X3_in ok.wo (xL x) C a1 0 6) rfl rfl (Nat.le_of_ble_eq_true rfl) ⟨by decide, by decide⟩ ⟨by decide, by decide⟩ dX3_told_12 ?_
    refine g_if_ne (tgt := 21) ok dX3_told_15 (by decide) (fun c2 => ?_) (fun c2 => ?_)
    · have hw := hw.2 c2
      refine g_iload_n ok 2 dX3_told_21 rfl ?_
      refine g_bipush (v := 6) ok dX3_told_22 (by decide) ?_
      refine g_icmp_ge (tgt := 36) ok dX3_told_24 (by decide) (fun c3 => ?_) (fun c3 => ?_)
      · have hw := hw.1 c3
        refine g_aload_n ok 0 dX3_told_36 rfl ?_
        refine g_iload_n ok 1 dX3_told_37 rfl ?_
        obtain ⟨hp, hw⟩ := hw
        refine g_callVI ok [.int a0] cf_X3_worthOf q1499 (mc_X3_worthOf ok.wo (xL x) C a0 hp) (recvF ok 1 rfl rfl) rfl rfl (Nat.le_of_ble_eq_true rfl) ⟨by decide, by decide⟩ ⟨by decide, by decide⟩ dX3_told_38 ?_
        exact g_iret ok dX3_told_41 ⟨by first | (simp only [v_X3_told, if_neg c1, if_neg c2, if_pos c3]; done) | contradiction, rfl⟩
      · have hw := hw.2 c3
        refine g_aload_n ok 0 dX3_told_27 rfl ?_
        refine g_iload_n ok 1 dX3_told_28 rfl ?_
        refine g_iload_n ok 2 dX3_told_29 rfl ?_
        obtain ⟨hp, hw⟩ := hw
        refine g_callVI ok [.int a0, .int a1] cf_X3_of q1495 (mc_X3_of ok.wo (xL x) C a0 a1 hp) (recvF ok 1 rfl rfl) rfl rfl (Nat.le_of_ble_eq_true rfl) ⟨by decide, by decide⟩ ⟨by decide, by decide⟩ dX3_told_30 ?_
        refine g_goto (tgt := 41) ok dX3_told_33 (by decide) ?_
        exact g_iret ok dX3_told_41 ⟨by first | (simp only [v_X3_told, if_neg c1, if_neg c2, if_neg c3]; done) | contradiction, rfl⟩
    · have hw := hw.1 c2
      refine g_ldc (v := -1000000001) ok q1477 dX3_told_18 ?_
      exact g_iret ok dX3_told_20 ⟨by first | (simp only [v_X3_told, if_neg c1, if_pos c2]; done) | contradiction, rfl⟩
theorem cf_X3_isUnder : CfS yX3_isUnder cX3_isUnder 2 (some .boolean) 2 := ⟨⟨by decide, by decide, by decide⟩, q75, q1509, q1508⟩
def v_X3_isUnder (a0 : Int32) (a1 : Int32) : Int32 :=
  if a1 = 0 then
    (1)
    else
    (if a0 = a1 then
      (1)
      else
      (if a1 = 1 then
        (if a0 = 3 then
          (1)
          else
          (if a1 = 2 then
            (if a0 = 4 then
              (1)
              else
              (0))
            else
            (0)))
        else
        (if a1 = 2 then
          (if a0 = 4 then
            (1)
            else
            (0))
          else
          (0))))
theorem vb_X3_isUnder (a0 : Int32) (a1 : Int32) : v_X3_isUnder a0 a1 = 0 ∨ v_X3_isUnder a0 a1 = 1 := by
  unfold v_X3_isUnder
  exact (ib_ite (Or.inr rfl) (ib_ite (Or.inr rfl) (ib_ite (ib_ite (Or.inr rfl) (ib_ite (ib_ite (Or.inr rfl) (Or.inl rfl)) (Or.inl rfl))) (ib_ite (ib_ite (Or.inr rfl) (Or.inl rfl)) (Or.inl rfl)))))
set_option maxHeartbeats 4000000 in
set_option maxRecDepth 100000 in
theorem mc_X3_isUnder {w : WD} (wk : wOk w) (l : Launch) (C : CS) (a0 : Int32) (a1 : Int32) : MC w l yX3_isUnder cX3_isUnder 2 (some .boolean) 0 0 0 [.int a0, .int a1] C (pI (v_X3_isUnder a0 a1) C) := by
  refine MC.of wk (by decide) (Nat.le_of_ble_eq_true rfl) (fun x hx ok => ?_)
  subst hx
  show G w x 2 0 0 (QM w x _ 0 0) C 0 [(0, .int a0), (1, .int a1)] []
  refine g_iload_n ok 1 dX3_isUnder_0 rfl ?_
  refine g_if_eq (tgt := 29) ok dX3_isUnder_1 (by decide) (fun c1 => ?_) (fun c1 => ?_)
  · refine g_iconst (v := 1) ok dX3_isUnder_29 (by decide) ?_
    refine g_goto (tgt := 34) ok dX3_isUnder_30 (by decide) ?_
    exact g_zret ok dX3_isUnder_34 (Or.inr rfl) ⟨by first | (simp only [v_X3_isUnder, if_pos c1]; done) | contradiction, rfl⟩
  · refine g_iload_n ok 0 dX3_isUnder_4 rfl ?_
    refine g_iload_n ok 1 dX3_isUnder_5 rfl ?_
    refine g_icmp_eq (tgt := 29) ok dX3_isUnder_6 (by decide) (fun c2 => ?_) (fun c2 => ?_)
    · refine g_iconst (v := 1) ok dX3_isUnder_29 (by decide) ?_
      refine g_goto (tgt := 34) ok dX3_isUnder_30 (by decide) ?_
      exact g_zret ok dX3_isUnder_34 (Or.inr rfl) ⟨by first | (simp only [v_X3_isUnder, if_neg c1, if_pos c2]; done) | contradiction, rfl⟩
    · refine g_iload_n ok 1 dX3_isUnder_9 rfl ?_
      refine g_iconst (v := 1) ok dX3_isUnder_10 (by decide) ?_
      refine g_icmp_ne (tgt := 19) ok dX3_isUnder_11 (by decide) (fun c3 => ?_) (fun c3 => ?_)
      · refine g_iload_n ok 1 dX3_isUnder_19 rfl ?_
        refine g_iconst (v := 2) ok dX3_isUnder_20 (by decide) ?_
        refine g_icmp_ne (tgt := 33) ok dX3_isUnder_21 (by decide) (fun c4 => ?_) (fun c4 => ?_)
        · refine g_iconst (v := 0) ok dX3_isUnder_33 (by decide) ?_
          exact g_zret ok dX3_isUnder_34 (Or.inl rfl) ⟨by first | (simp only [v_X3_isUnder, if_neg c1, if_neg c2, if_neg c3, if_neg c4]; done) | contradiction, rfl⟩
        · refine g_iload_n ok 0 dX3_isUnder_24 rfl ?_
          refine g_iconst (v := 4) ok dX3_isUnder_25 (by decide) ?_
          refine g_icmp_ne (tgt := 33) ok dX3_isUnder_26 (by decide) (fun c5 => ?_) (fun c5 => ?_)
          · refine g_iconst (v := 0) ok dX3_isUnder_33 (by decide) ?_
            exact g_zret ok dX3_isUnder_34 (Or.inl rfl) ⟨by first | (simp only [v_X3_isUnder, if_neg c1, if_neg c2, if_neg c3, if_pos c4, if_neg c5]; done) | contradiction, rfl⟩
          · refine g_iconst (v := 1) ok dX3_isUnder_29 (by decide) ?_
            refine g_goto (tgt := 34) ok dX3_isUnder_30 (by decide) ?_
            exact g_zret ok dX3_isUnder_34 (Or.inr rfl) ⟨by first | (simp only [v_X3_isUnder, if_neg c1, if_neg c2, if_neg c3, if_pos c4, if_pos c5]; done) | contradiction, rfl⟩
      · refine g_iload_n ok 0 dX3_isUnder_14 rfl ?_
        refine g_iconst (v := 3) ok dX3_isUnder_15 (by decide) ?_
        refine g_icmp_eq (tgt := 29) ok dX3_isUnder_16 (by decide) (fun c6 => ?_) (fun c6 => ?_)
        · refine g_iconst (v := 1) ok dX3_isUnder_29 (by decide) ?_
          refine g_goto (tgt := 34) ok dX3_isUnder_30 (by decide) ?_
          exact g_zret ok dX3_isUnder_34 (Or.inr rfl) ⟨by first | (simp only [v_X3_isUnder, if_neg c1, if_neg c2, if_pos c3, if_pos c6]; done) | contradiction, rfl⟩
        · refine g_iload_n ok 1 dX3_isUnder_19 rfl ?_
          refine g_iconst (v := 2) ok dX3_isUnder_20 (by decide) ?_
          refine g_icmp_ne (tgt := 33) ok dX3_isUnder_21 (by decide) (fun c7 => ?_) (fun c7 => ?_)
          · refine g_iconst (v := 0) ok dX3_isUnder_33 (by decide) ?_
            exact g_zret ok dX3_isUnder_34 (Or.inl rfl) ⟨by first | (simp only [v_X3_isUnder, if_neg c1, if_neg c2, if_pos c3, if_neg c6, if_neg c7]; done) | contradiction, rfl⟩
          · refine g_iload_n ok 0 dX3_isUnder_24 rfl ?_
            refine g_iconst (v := 4) ok dX3_isUnder_25 (by decide) ?_
            refine g_icmp_ne (tgt := 33) ok dX3_isUnder_26 (by decide) (fun c8 => ?_) (fun c8 => ?_)
            · refine g_iconst (v := 0) ok dX3_isUnder_33 (by decide) ?_
              exact g_zret ok dX3_isUnder_34 (Or.inl rfl) ⟨by first | (simp only [v_X3_isUnder, if_neg c1, if_neg c2, if_pos c3, if_neg c6, if_pos c7, if_neg c8]; done) | contradiction, rfl⟩
            · refine g_iconst (v := 1) ok dX3_isUnder_29 (by decide) ?_
              refine g_goto (tgt := 34) ok dX3_isUnder_30 (by decide) ?_
              exact g_zret ok dX3_isUnder_34 (Or.inr rfl) ⟨by first | (simp only [v_X3_isUnder, if_neg c1, if_neg c2, if_pos c3, if_neg c6, if_pos c7, if_pos c8]; done) | contradiction, rfl⟩
theorem cf_X3_as : CfV yX3_as "TwoGuildsModel" cX3_as 3 (some .int) 2 := ⟨⟨by decide, by decide, by decide⟩, q75, q1506, q1504, q1505⟩
def v_X3_as (C : CS) (a0 : Int32) (a1 : Int32) : Int32 :=
  if (v_X3_isGlove C a0) = 0 then
    ((-1000000001))
    else
    (if (v_X3_in a1 0 5) = 0 then
      ((-1000000001))
      else
      (if (v_X3_isUnder (v_X3_of C a0 0) a1) = 0 then
        ((-1000000012))
        else
        ((v_X3_of C a0 3))))
def p_X3_as (C : CS) (a0 : Int32) (a1 : Int32) : Prop :=
  ((v_X3_isGlove C a0) = 0 → 
    True) ∧
    (¬ (v_X3_isGlove C a0) = 0 → 
    ((v_X3_in a1 0 5) = 0 → 
      True) ∧
      (¬ (v_X3_in a1 0 5) = 0 → 
      p_X3_of C a0 0 ∧
        (((v_X3_isUnder (v_X3_of C a0 0) a1) = 0 → 
        True) ∧
        (¬ (v_X3_isUnder (v_X3_of C a0 0) a1) = 0 → 
        p_X3_of C a0 3 ∧
          (True)))))
set_option maxHeartbeats 4000000 in
set_option maxRecDepth 100000 in
theorem mc_X3_as {w : WD} (wk : wOk w) (l : Launch) (C : CS) (a0 : Int32) (a1 : Int32) (hw : p_X3_as C a0 a1) : MC w l yX3_as cX3_as 3 (some .int) 2 0 0 [.ref (ad w 1), .int a0, .int a1] C (pI (v_X3_as C a0 a1) C) := by
  unfold p_X3_as at hw
  refine MC.of wk (by decide) (Nat.le_of_ble_eq_true rfl) (fun x hx ok => ?_)
  subst hx
  show G w x 3 0 0 (QM w x _ 0 0) C 0 [(0, .ref (ad w 1)), (1, .int a0), (2, .int a1)] []
  refine g_aload_n ok 0 dX3_as_0 rfl ?_
  refine g_iload_n ok 1 dX3_as_1 rfl ?_
  refine g_callVI ok [.int a0] cf_X3_isGlove q1491 (mc_X3_isGlove ok.wo (xL x) C a0) (recvF ok 1 rfl rfl) rfl rfl (Nat.le_of_ble_eq_true rfl) ⟨by decide, by decide⟩ ⟨by decide, by decide⟩ dX3_as_2 ?_
  refine g_if_eq (tgt := 17) ok dX3_as_5 (by decide) (fun c1 => ?_) (fun c1 => ?_)
  · have hw := hw.1 c1
    refine g_ldc (v := -1000000001) ok q1477 dX3_as_17 ?_
    exact g_iret ok dX3_as_19 ⟨by first | (simp only [v_X3_as, if_pos c1]; done) | contradiction, rfl⟩
  · have hw := hw.2 c1
    refine g_iload_n ok 2 dX3_as_8 rfl ?_
    refine g_iconst (v := 0) ok dX3_as_9 (by decide) ?_
    refine g_iconst (v := 5) ok dX3_as_10 (by decide) ?_
    refine g_callSI ok [.int a1, .int 0, .int 5] cf_X3_in q1474 (mc_X3_in ok.wo (xL x) C a1 0 5) rfl rfl (Nat.le_of_ble_eq_true rfl) ⟨by decide, by decide⟩ ⟨by decide, by decide⟩ dX3_as_11 ?_
    refine g_if_ne (tgt := 20) ok dX3_as_14 (by decide) (fun c2 => ?_) (fun c2 => ?_)
    · have hw := hw.2 c2
      refine g_aload_n ok 0 dX3_as_20 rfl ?_
      refine g_iload_n ok 1 dX3_as_21 rfl ?_
      refine g_iconst (v := 0) ok dX3_as_22 (by decide) ?_
      obtain ⟨hp, hw⟩ := hw
      refine g_callVI ok [.int a0, .int 0] cf_X3_of q1495 (mc_X3_of ok.wo (xL x) C a0 0 hp) (recvF ok 1 rfl rfl) rfl rfl (Nat.le_of_ble_eq_true rfl) ⟨by decide, by decide⟩ ⟨by decide, by decide⟩ dX3_as_23 ?_
      refine g_iload_n ok 2 dX3_as_26 rfl ?_
      refine g_callSI ok [.int (v_X3_of C a0 0), .int a1] cf_X3_isUnder q1507 (mc_X3_isUnder ok.wo (xL x) C (v_X3_of C a0 0) a1) rfl rfl (Nat.le_of_ble_eq_true rfl) ⟨by decide, by decide⟩ ⟨by decide, by decide⟩ dX3_as_27 ?_
      refine g_if_eq (tgt := 42) ok dX3_as_30 (by decide) (fun c3 => ?_) (fun c3 => ?_)
      · have hw := hw.1 c3
        refine g_ldc (v := -1000000012) ok q1510 dX3_as_42 ?_
        exact g_iret ok dX3_as_44 ⟨by first | (simp only [v_X3_as, if_neg c1, if_neg c2, if_pos c3]; done) | contradiction, rfl⟩
      · have hw := hw.2 c3
        refine g_aload_n ok 0 dX3_as_33 rfl ?_
        refine g_iload_n ok 1 dX3_as_34 rfl ?_
        refine g_iconst (v := 3) ok dX3_as_35 (by decide) ?_
        obtain ⟨hp, hw⟩ := hw
        refine g_callVI ok [.int a0, .int 3] cf_X3_of q1495 (mc_X3_of ok.wo (xL x) C a0 3 hp) (recvF ok 1 rfl rfl) rfl rfl (Nat.le_of_ble_eq_true rfl) ⟨by decide, by decide⟩ ⟨by decide, by decide⟩ dX3_as_36 ?_
        refine g_goto (tgt := 44) ok dX3_as_39 (by decide) ?_
        exact g_iret ok dX3_as_44 ⟨by first | (simp only [v_X3_as, if_neg c1, if_neg c2, if_neg c3]; done) | contradiction, rfl⟩
    · have hw := hw.1 c2
      refine g_ldc (v := -1000000001) ok q1477 dX3_as_17 ?_
      exact g_iret ok dX3_as_19 ⟨by first | (simp only [v_X3_as, if_neg c1, if_pos c2]; done) | contradiction, rfl⟩
theorem cf_X3_turns : CfV yX3_turns "TwoGuildsModel" cX3_turns 3 (some .int) 2 := ⟨⟨by decide, by decide, by decide⟩, q75, q1514, q1512, q1513⟩
def v_X3_turns (C : CS) (a0 : Int32) (a1 : Int32) : Int32 :=
  if (v_X3_isGlove C a0) = 0 then
    ((-1000000001))
    else
    (if (v_X3_in a1 0 5) = 0 then
      ((-1000000001))
      else
      ((v_X3_becomes C (16 + (6 * a0)) a1)))
def n_X3_turns (C : CS) (a0 : Int32) (a1 : Int32) : CS :=
  if (v_X3_isGlove C a0) = 0 then
    (C)
    else
    (if (v_X3_in a1 0 5) = 0 then
      (C)
      else
      ((n_X3_becomes C (16 + (6 * a0)) a1)))
def p_X3_turns (C : CS) (a0 : Int32) (a1 : Int32) : Prop :=
  ((v_X3_isGlove C a0) = 0 → 
    True) ∧
    (¬ (v_X3_isGlove C a0) = 0 → 
    ((v_X3_in a1 0 5) = 0 → 
      True) ∧
      (¬ (v_X3_in a1 0 5) = 0 → 
      p_X3_becomes C (16 + (6 * a0)) a1 ∧
        (True)))
set_option maxHeartbeats 4000000 in
set_option maxRecDepth 100000 in
theorem mc_X3_turns {w : WD} (wk : wOk w) (l : Launch) (C : CS) (a0 : Int32) (a1 : Int32) (hw : p_X3_turns C a0 a1) : MC w l yX3_turns cX3_turns 3 (some .int) 2 0 0 [.ref (ad w 1), .int a0, .int a1] C (pI (v_X3_turns C a0 a1) (n_X3_turns C a0 a1)) := by
  unfold p_X3_turns at hw
  refine MC.of wk (by decide) (Nat.le_of_ble_eq_true rfl) (fun x hx ok => ?_)
  subst hx
  show G w x 3 0 0 (QM w x _ 0 0) C 0 [(0, .ref (ad w 1)), (1, .int a0), (2, .int a1)] []
  refine g_aload_n ok 0 dX3_turns_0 rfl ?_
  refine g_iload_n ok 1 dX3_turns_1 rfl ?_
  refine g_callVI ok [.int a0] cf_X3_isGlove q1491 (mc_X3_isGlove ok.wo (xL x) C a0) (recvF ok 1 rfl rfl) rfl rfl (Nat.le_of_ble_eq_true rfl) ⟨by decide, by decide⟩ ⟨by decide, by decide⟩ dX3_turns_2 ?_
  refine g_if_eq (tgt := 32) ok dX3_turns_5 (by decide) (fun c1 => ?_) (fun c1 => ?_)
  · have hw := hw.1 c1
    refine g_ldc (v := -1000000001) ok q1477 dX3_turns_32 ?_
    exact g_iret ok dX3_turns_34 ⟨by first | (simp only [v_X3_turns, if_pos c1]; done) | contradiction, by first | (simp only [n_X3_turns, if_pos c1]; done) | contradiction⟩
  · have hw := hw.2 c1
    refine g_iload_n ok 2 dX3_turns_8 rfl ?_
    refine g_iconst (v := 0) ok dX3_turns_9 (by decide) ?_
    refine g_iconst (v := 5) ok dX3_turns_10 (by decide) ?_
    refine g_callSI ok [.int a1, .int 0, .int 5] cf_X3_in q1474 (mc_X3_in ok.wo (xL x) C a1 0 5) rfl rfl (Nat.le_of_ble_eq_true rfl) ⟨by decide, by decide⟩ ⟨by decide, by decide⟩ dX3_turns_11 ?_
    refine g_if_eq (tgt := 32) ok dX3_turns_14 (by decide) (fun c2 => ?_) (fun c2 => ?_)
    · have hw := hw.1 c2
      refine g_ldc (v := -1000000001) ok q1477 dX3_turns_32 ?_
      exact g_iret ok dX3_turns_34 ⟨by first | (simp only [v_X3_turns, if_neg c1, if_pos c2]; done) | contradiction, by first | (simp only [n_X3_turns, if_neg c1, if_pos c2]; done) | contradiction⟩
    · have hw := hw.2 c2
      refine g_aload_n ok 0 dX3_turns_17 rfl ?_
      refine g_bipush (v := 16) ok dX3_turns_18 (by decide) ?_
      refine g_bipush (v := 6) ok dX3_turns_20 (by decide) ?_
      refine g_iload_n ok 1 dX3_turns_22 rfl ?_
      refine g_imul ok dX3_turns_23 ?_
      refine g_iadd ok dX3_turns_24 ?_
      refine g_iload_n ok 2 dX3_turns_25 rfl ?_
      obtain ⟨hp, hw⟩ := hw
      refine g_callVI ok [.int (16 + (6 * a0)), .int a1] cf_X3_becomes q1515 (mc_X3_becomes ok.wo (xL x) C (16 + (6 * a0)) a1 hp) (recvF ok 1 rfl rfl) rfl rfl (Nat.le_of_ble_eq_true rfl) ⟨by decide, by decide⟩ ⟨by decide, by decide⟩ dX3_turns_26 ?_
      refine g_goto (tgt := 34) ok dX3_turns_29 (by decide) ?_
      exact g_iret ok dX3_turns_34 ⟨by first | (simp only [v_X3_turns, if_neg c1, if_neg c2]; done) | contradiction, by first | (simp only [n_X3_turns, if_neg c1, if_neg c2]; done) | contradiction⟩
theorem cf_X3_set : CfV yX3_set "TwoGuildsModel" cX3_set 4 (some .int) 3 := ⟨⟨by decide, by decide, by decide⟩, q75, q1522, q1520, q1521⟩
def v_X3_set (C : CS) (a0 : Int32) (a1 : Int32) (a2 : Int32) : Int32 :=
  if (v_X3_isGlove C a0) = 0 then
    ((-1000000001))
    else
    (if (v_X3_in a1 1 5) = 0 then
      ((-1000000001))
      else
      (if (v_X3_in a2 0 (v_X3_mostOf a1)) = 0 then
        ((-1000000001))
        else
        ((v_X3_becomes C ((16 + (6 * a0)) + a1) a2))))
def n_X3_set (C : CS) (a0 : Int32) (a1 : Int32) (a2 : Int32) : CS :=
  if (v_X3_isGlove C a0) = 0 then
    (C)
    else
    (if (v_X3_in a1 1 5) = 0 then
      (C)
      else
      (if (v_X3_in a2 0 (v_X3_mostOf a1)) = 0 then
        (C)
        else
        ((n_X3_becomes C ((16 + (6 * a0)) + a1) a2))))
def p_X3_set (C : CS) (a0 : Int32) (a1 : Int32) (a2 : Int32) : Prop :=
  ((v_X3_isGlove C a0) = 0 → 
    True) ∧
    (¬ (v_X3_isGlove C a0) = 0 → 
    ((v_X3_in a1 1 5) = 0 → 
      True) ∧
      (¬ (v_X3_in a1 1 5) = 0 → 
      ((v_X3_in a2 0 (v_X3_mostOf a1)) = 0 → 
        True) ∧
        (¬ (v_X3_in a2 0 (v_X3_mostOf a1)) = 0 → 
        p_X3_becomes C ((16 + (6 * a0)) + a1) a2 ∧
          (True))))
set_option maxHeartbeats 4000000 in
set_option maxRecDepth 100000 in
theorem mc_X3_set {w : WD} (wk : wOk w) (l : Launch) (C : CS) (a0 : Int32) (a1 : Int32) (a2 : Int32) (hw : p_X3_set C a0 a1 a2) : MC w l yX3_set cX3_set 4 (some .int) 2 0 0 [.ref (ad w 1), .int a0, .int a1, .int a2] C (pI (v_X3_set C a0 a1 a2) (n_X3_set C a0 a1 a2)) := by
  unfold p_X3_set at hw
  refine MC.of wk (by decide) (Nat.le_of_ble_eq_true rfl) (fun x hx ok => ?_)
  subst hx
  show G w x 4 0 0 (QM w x _ 0 0) C 0 [(0, .ref (ad w 1)), (1, .int a0), (2, .int a1), (3, .int a2)] []
  refine g_aload_n ok 0 dX3_set_0 rfl ?_
  refine g_iload_n ok 1 dX3_set_1 rfl ?_
  refine g_callVI ok [.int a0] cf_X3_isGlove q1491 (mc_X3_isGlove ok.wo (xL x) C a0) (recvF ok 1 rfl rfl) rfl rfl (Nat.le_of_ble_eq_true rfl) ⟨by decide, by decide⟩ ⟨by decide, by decide⟩ dX3_set_2 ?_
  refine g_if_eq (tgt := 46) ok dX3_set_5 (by decide) (fun c1 => ?_) (fun c1 => ?_)
  · have hw := hw.1 c1
    refine g_ldc (v := -1000000001) ok q1477 dX3_set_46 ?_
    exact g_iret ok dX3_set_48 ⟨by first | (simp only [v_X3_set, if_pos c1]; done) | contradiction, by first | (simp only [n_X3_set, if_pos c1]; done) | contradiction⟩
  · have hw := hw.2 c1
    refine g_iload_n ok 2 dX3_set_8 rfl ?_
    refine g_iconst (v := 1) ok dX3_set_9 (by decide) ?_
    refine g_iconst (v := 5) ok dX3_set_10 (by decide) ?_
    refine g_callSI ok [.int a1, .int 1, .int 5] cf_X3_in q1474 (mc_X3_in ok.wo (xL x) C a1 1 5) rfl rfl (Nat.le_of_ble_eq_true rfl) ⟨by decide, by decide⟩ ⟨by decide, by decide⟩ dX3_set_11 ?_
    refine g_if_eq (tgt := 46) ok dX3_set_14 (by decide) (fun c2 => ?_) (fun c2 => ?_)
    · have hw := hw.1 c2
      refine g_ldc (v := -1000000001) ok q1477 dX3_set_46 ?_
      exact g_iret ok dX3_set_48 ⟨by first | (simp only [v_X3_set, if_neg c1, if_pos c2]; done) | contradiction, by first | (simp only [n_X3_set, if_neg c1, if_pos c2]; done) | contradiction⟩
    · have hw := hw.2 c2
      refine g_iload_n ok 3 dX3_set_17 rfl ?_
      refine g_iconst (v := 0) ok dX3_set_18 (by decide) ?_
      refine g_iload_n ok 2 dX3_set_19 rfl ?_
      refine g_callSI ok [.int a1] cf_X3_mostOf q1523 (mc_X3_mostOf ok.wo (xL x) C a1) rfl rfl (Nat.le_of_ble_eq_true rfl) ⟨by decide, by decide⟩ ⟨by decide, by decide⟩ dX3_set_20 ?_
      refine g_callSI ok [.int a2, .int 0, .int (v_X3_mostOf a1)] cf_X3_in q1474 (mc_X3_in ok.wo (xL x) C a2 0 (v_X3_mostOf a1)) rfl rfl (Nat.le_of_ble_eq_true rfl) ⟨by decide, by decide⟩ ⟨by decide, by decide⟩ dX3_set_23 ?_
      refine g_if_eq (tgt := 46) ok dX3_set_26 (by decide) (fun c3 => ?_) (fun c3 => ?_)
      · have hw := hw.1 c3
        refine g_ldc (v := -1000000001) ok q1477 dX3_set_46 ?_
        exact g_iret ok dX3_set_48 ⟨by first | (simp only [v_X3_set, if_neg c1, if_neg c2, if_pos c3]; done) | contradiction, by first | (simp only [n_X3_set, if_neg c1, if_neg c2, if_pos c3]; done) | contradiction⟩
      · have hw := hw.2 c3
        refine g_aload_n ok 0 dX3_set_29 rfl ?_
        refine g_bipush (v := 16) ok dX3_set_30 (by decide) ?_
        refine g_bipush (v := 6) ok dX3_set_32 (by decide) ?_
        refine g_iload_n ok 1 dX3_set_34 rfl ?_
        refine g_imul ok dX3_set_35 ?_
        refine g_iadd ok dX3_set_36 ?_
        refine g_iload_n ok 2 dX3_set_37 rfl ?_
        refine g_iadd ok dX3_set_38 ?_
        refine g_iload_n ok 3 dX3_set_39 rfl ?_
        obtain ⟨hp, hw⟩ := hw
        refine g_callVI ok [.int ((16 + (6 * a0)) + a1), .int a2] cf_X3_becomes q1515 (mc_X3_becomes ok.wo (xL x) C ((16 + (6 * a0)) + a1) a2 hp) (recvF ok 1 rfl rfl) rfl rfl (Nat.le_of_ble_eq_true rfl) ⟨by decide, by decide⟩ ⟨by decide, by decide⟩ dX3_set_40 ?_
        refine g_goto (tgt := 48) ok dX3_set_43 (by decide) ?_
        exact g_iret ok dX3_set_48 ⟨by first | (simp only [v_X3_set, if_neg c1, if_neg c2, if_neg c3]; done) | contradiction, by first | (simp only [n_X3_set, if_neg c1, if_neg c2, if_neg c3]; done) | contradiction⟩
theorem cf_X3_doesFit : CfV yX3_doesFit "TwoGuildsModel" cX3_doesFit 7 (some .boolean) 2 := ⟨⟨by decide, by decide, by decide⟩, q75, q1533, q1532, qs39⟩
def v_X3_doesFit (C : CS) (a0 : Int32) (a1 : Int32) : Int32 :=
  if (v_X3_of C a0 0) = 1 then
    (if (if ((v_X3_of C a0 2) - (v_X3_of C a1 2)) = 0 then (1 : Int32) else 0) = 0 then
      (0)
      else
      (if (if 50 ≤ (v_X3_of C a0 4) then (0 : Int32) else (if 50 ≤ (v_X3_of C a1 4) then (0 : Int32) else 1)) = 0 then
        (0)
        else
        (1)))
    else
    (if (v_X3_of C a0 0) = 2 then
      ((v_X3_in ((v_X3_of C a0 2) - (v_X3_of C a1 2)) (-1) 1))
      else
      (if (v_X3_of C a0 0) = 3 then
        (if (if ((v_X3_of C a0 2) - (v_X3_of C a1 2)) = 0 then (1 : Int32) else 0) = 0 then
          (0)
          else
          (if (if 50 ≤ (v_X3_of C a0 4) then (0 : Int32) else (if 50 ≤ (v_X3_of C a1 4) then (0 : Int32) else 1)) = 0 then
            (0)
            else
            (if (v_X3_of C a1 3) < ((v_X3_of C a0 3) / 2) then
              (0)
              else
              (1))))
        else
        (if (v_X3_of C a0 0) = 4 then
          (if (v_X3_in ((v_X3_of C a0 2) - (v_X3_of C a1 2)) (-1) 1) = 0 then
            (0)
            else
            (if (v_X3_of C a1 0) = 4 then
              (0)
              else
              (1)))
          else
          (if (v_X3_of C a0 0) = 5 then
            (1)
            else
            ((if ((v_X3_of C a0 2) - (v_X3_of C a1 2)) = 0 then (1 : Int32) else 0))))))
theorem vb_X3_doesFit (C : CS) (a0 : Int32) (a1 : Int32) : v_X3_doesFit C a0 a1 = 0 ∨ v_X3_doesFit C a0 a1 = 1 := by
  unfold v_X3_doesFit
  exact (ib_ite (ib_ite (Or.inl rfl) (ib_ite (Or.inl rfl) (Or.inr rfl))) (ib_ite (vb_X3_in ((v_X3_of C a0 2) - (v_X3_of C a1 2)) (-1) 1) (ib_ite (ib_ite (Or.inl rfl) (ib_ite (Or.inl rfl) (ib_ite (Or.inl rfl) (Or.inr rfl)))) (ib_ite (ib_ite (Or.inl rfl) (ib_ite (Or.inl rfl) (Or.inr rfl))) (ib_ite (Or.inr rfl) (ib_ite (Or.inr rfl) (Or.inl rfl)))))))
def p_X3_doesFit (C : CS) (a0 : Int32) (a1 : Int32) : Prop :=
  p_X3_of C a0 2 ∧
    (p_X3_of C a1 2 ∧
    (p_X3_of C a0 4 ∧
    (((50 ≤ (v_X3_of C a0 4) → 
      True) ∧
      (¬ 50 ≤ (v_X3_of C a0 4) → 
      p_X3_of C a1 4 ∧
        (True))) ∧
    (p_X3_of C a0 0 ∧
    (((v_X3_of C a0 0) = 1 → 
    True) ∧
    (¬ (v_X3_of C a0 0) = 1 → 
    ((v_X3_of C a0 0) = 2 → 
      True) ∧
      (¬ (v_X3_of C a0 0) = 2 → 
      ((v_X3_of C a0 0) = 3 → 
        ((if ((v_X3_of C a0 2) - (v_X3_of C a1 2)) = 0 then (1 : Int32) else 0) = 0 → 
          True) ∧
          (¬ (if ((v_X3_of C a0 2) - (v_X3_of C a1 2)) = 0 then (1 : Int32) else 0) = 0 → 
          ((if 50 ≤ (v_X3_of C a0 4) then (0 : Int32) else (if 50 ≤ (v_X3_of C a1 4) then (0 : Int32) else 1)) = 0 → 
            True) ∧
            (¬ (if 50 ≤ (v_X3_of C a0 4) then (0 : Int32) else (if 50 ≤ (v_X3_of C a1 4) then (0 : Int32) else 1)) = 0 → 
            p_X3_of C a1 3 ∧
              (p_X3_of C a0 3 ∧
              (True))))) ∧
        (¬ (v_X3_of C a0 0) = 3 → 
        ((v_X3_of C a0 0) = 4 → 
          ((v_X3_in ((v_X3_of C a0 2) - (v_X3_of C a1 2)) (-1) 1) = 0 → 
            True) ∧
            (¬ (v_X3_in ((v_X3_of C a0 2) - (v_X3_of C a1 2)) (-1) 1) = 0 → 
            p_X3_of C a1 0 ∧
              (True))) ∧
          (¬ (v_X3_of C a0 0) = 4 → 
          True)))))))))
set_option maxHeartbeats 4000000 in
set_option maxRecDepth 100000 in
theorem mc_X3_doesFit {w : WD} (wk : wOk w) (l : Launch) (C : CS) (a0 : Int32) (a1 : Int32) (hw : p_X3_doesFit C a0 a1) : MC w l yX3_doesFit cX3_doesFit 7 (some .boolean) 1 0 0 [.ref (ad w 1), .int a0, .int a1] C (pI (v_X3_doesFit C a0 a1) C) := by
  unfold p_X3_doesFit at hw
  refine MC.of wk (by decide) (Nat.le_of_ble_eq_true rfl) (fun x hx ok => ?_)
  subst hx
  show G w x 7 0 0 (QM w x _ 0 0) C 0 [(0, .ref (ad w 1)), (1, .int a0), (2, .int a1)] []
  refine g_aload_n ok 0 dX3_doesFit_0 rfl ?_
  refine g_iload_n ok 1 dX3_doesFit_1 rfl ?_
  refine g_iconst (v := 2) ok dX3_doesFit_2 (by decide) ?_
  obtain ⟨hp, hw⟩ := hw
  refine g_callVI ok [.int a0, .int 2] cf_X3_of q1495 (mc_X3_of ok.wo (xL x) C a0 2 hp) (recvF ok 1 rfl rfl) rfl rfl (Nat.le_of_ble_eq_true rfl) ⟨by decide, by decide⟩ ⟨by decide, by decide⟩ dX3_doesFit_3 ?_
  refine g_aload_n ok 0 dX3_doesFit_6 rfl ?_
  refine g_iload_n ok 2 dX3_doesFit_7 rfl ?_
  refine g_iconst (v := 2) ok dX3_doesFit_8 (by decide) ?_
  obtain ⟨hp, hw⟩ := hw
  refine g_callVI ok [.int a1, .int 2] cf_X3_of q1495 (mc_X3_of ok.wo (xL x) C a1 2 hp) (recvF ok 1 rfl rfl) rfl rfl (Nat.le_of_ble_eq_true rfl) ⟨by decide, by decide⟩ ⟨by decide, by decide⟩ dX3_doesFit_9 ?_
  refine g_isub ok dX3_doesFit_12 ?_
  refine g_istore_n0 ok [(3, .int ((v_X3_of C a0 2) - (v_X3_of C a1 2))), (0, .ref (ad w 1)), (1, .int a0), (2, .int a1)] dX3_doesFit_13 (by decide) rfl ?_
  refine g_iload_n ok 0 dX3_doesFit_14 rfl ?_
  have kj2 : G w x 7 0 0 (QM w x (pI (v_X3_doesFit C a0 a1) C) 0 0) C 23 [(0, .ref (ad w 1)), (1, .int a0), (2, .int a1), (3, .int ((v_X3_of C a0 2) - (v_X3_of C a1 2)))] [.int (if ((v_X3_of C a0 2) - (v_X3_of C a1 2)) = 0 then (1 : Int32) else 0)] := by
    refine g_istore0 ok [(4, .int (if ((v_X3_of C a0 2) - (v_X3_of C a1 2)) = 0 then (1 : Int32) else 0)), (0, .ref (ad w 1)), (1, .int a0), (2, .int a1), (3, .int ((v_X3_of C a0 2) - (v_X3_of C a1 2)))] dX3_doesFit_23 (by decide) rfl ?_
    refine g_iload_n ok 4 dX3_doesFit_25 rfl ?_
    refine g_iconst (v := -1) ok dX3_doesFit_26 (by decide) ?_
    refine g_iconst (v := 1) ok dX3_doesFit_27 (by decide) ?_
    refine g_callSI ok [.int ((v_X3_of C a0 2) - (v_X3_of C a1 2)), .int (-1), .int 1] cf_X3_in q1474 (mc_X3_in ok.wo (xL x) C ((v_X3_of C a0 2) - (v_X3_of C a1 2)) (-1) 1) rfl rfl (Nat.le_of_ble_eq_true rfl) ⟨by decide, by decide⟩ ⟨by decide, by decide⟩ dX3_doesFit_28 ?_
    refine g_istore0 ok [(5, .int (v_X3_in ((v_X3_of C a0 2) - (v_X3_of C a1 2)) (-1) 1)), (4, .int (if ((v_X3_of C a0 2) - (v_X3_of C a1 2)) = 0 then (1 : Int32) else 0)), (0, .ref (ad w 1)), (1, .int a0), (2, .int a1), (3, .int ((v_X3_of C a0 2) - (v_X3_of C a1 2)))] dX3_doesFit_31 (by decide) rfl ?_
    refine g_aload_n ok 2 dX3_doesFit_33 rfl ?_
    refine g_iload_n ok 3 dX3_doesFit_34 rfl ?_
    refine g_iconst (v := 4) ok dX3_doesFit_35 (by decide) ?_
    obtain ⟨hp, hw⟩ := hw
    refine g_callVI ok [.int a0, .int 4] cf_X3_of q1495 (mc_X3_of ok.wo (xL x) C a0 4 hp) (recvF ok 1 rfl rfl) rfl rfl (Nat.le_of_ble_eq_true rfl) ⟨by decide, by decide⟩ ⟨by decide, by decide⟩ dX3_doesFit_36 ?_
    refine g_bipush (v := 50) ok dX3_doesFit_39 (by decide) ?_
    obtain ⟨hr, hw⟩ := hw
    have kj6 : G w x 7 0 0 (QM w x (pI (v_X3_doesFit C a0 a1) C) 0 0) C 60 [(0, .ref (ad w 1)), (1, .int a0), (2, .int a1), (4, .int (if ((v_X3_of C a0 2) - (v_X3_of C a1 2)) = 0 then (1 : Int32) else 0)), (5, .int (v_X3_in ((v_X3_of C a0 2) - (v_X3_of C a1 2)) (-1) 1))] [.int (if 50 ≤ (v_X3_of C a0 4) then (0 : Int32) else (if 50 ≤ (v_X3_of C a1 4) then (0 : Int32) else 1))] := by
      refine g_istore0 ok [(6, .int (if 50 ≤ (v_X3_of C a0 4) then (0 : Int32) else (if 50 ≤ (v_X3_of C a1 4) then (0 : Int32) else 1))), (0, .ref (ad w 1)), (1, .int a0), (2, .int a1), (4, .int (if ((v_X3_of C a0 2) - (v_X3_of C a1 2)) = 0 then (1 : Int32) else 0)), (5, .int (v_X3_in ((v_X3_of C a0 2) - (v_X3_of C a1 2)) (-1) 1))] dX3_doesFit_60 (by decide) rfl ?_
      refine g_aload_n ok 1 dX3_doesFit_62 rfl ?_
      refine g_iload_n ok 2 dX3_doesFit_63 rfl ?_
      refine g_iconst (v := 0) ok dX3_doesFit_64 (by decide) ?_
      obtain ⟨hp, hw⟩ := hw
      refine g_callVI ok [.int a0, .int 0] cf_X3_of q1495 (mc_X3_of ok.wo (xL x) C a0 0 hp) (recvF ok 1 rfl rfl) rfl rfl (Nat.le_of_ble_eq_true rfl) ⟨by decide, by decide⟩ ⟨by decide, by decide⟩ dX3_doesFit_65 ?_
      by_cases c7 : (v_X3_of C a0 0) = 1
      · have hw := hw.1 c7
        refine g_swIn (tgt := 104) ok (1) dX3_doesFit_68 (c7.trans (by decide)) (by decide) rfl (by decide) ?_
        refine g_iload ok 4 dX3_doesFit_104 rfl ?_
        refine g_if_eq (tgt := 118) ok dX3_doesFit_106 (by decide) (fun c8 => ?_) (fun c8 => ?_)
        · refine g_iconst (v := 0) ok dX3_doesFit_118 (by decide) ?_
          exact g_zret ok dX3_doesFit_119 (Or.inl rfl) ⟨by first | (simp only [v_X3_doesFit, if_pos c7, if_pos c8]; done) | contradiction, rfl⟩
        · refine g_iload ok 0 dX3_doesFit_109 rfl ?_
          refine g_if_eq (tgt := 118) ok dX3_doesFit_111 (by decide) (fun c9 => ?_) (fun c9 => ?_)
          · refine g_iconst (v := 0) ok dX3_doesFit_118 (by decide) ?_
            exact g_zret ok dX3_doesFit_119 (Or.inl rfl) ⟨by first | (simp only [v_X3_doesFit, if_pos c7, if_neg c8, if_pos c9]; done) | contradiction, rfl⟩
          · refine g_iconst (v := 1) ok dX3_doesFit_114 (by decide) ?_
            refine g_goto (tgt := 119) ok dX3_doesFit_115 (by decide) ?_
            exact g_zret ok dX3_doesFit_119 (Or.inr rfl) ⟨by first | (simp only [v_X3_doesFit, if_pos c7, if_neg c8, if_neg c9]; done) | contradiction, rfl⟩
      · have hw := hw.2 c7
        by_cases c10 : (v_X3_of C a0 0) = 2
        · have hw := hw.1 c10
          refine g_swIn (tgt := 120) ok (2) dX3_doesFit_68 (c10.trans (by decide)) (by decide) rfl (by decide) ?_
          refine g_iload ok 5 dX3_doesFit_120 rfl ?_
          exact g_zret ok dX3_doesFit_122 (vb_X3_in ((v_X3_of C a0 2) - (v_X3_of C a1 2)) (-1) 1) ⟨by first | (simp only [v_X3_doesFit, if_neg c7, if_pos c10]; done) | contradiction, rfl⟩
        · have hw := hw.2 c10
          by_cases c11 : (v_X3_of C a0 0) = 3
          · have hw := hw.1 c11
            refine g_swIn (tgt := 123) ok (3) dX3_doesFit_68 (c11.trans (by decide)) (by decide) rfl (by decide) ?_
            refine g_iload ok 4 dX3_doesFit_123 rfl ?_
            refine g_if_eq (tgt := 154) ok dX3_doesFit_125 (by decide) (fun c12 => ?_) (fun c12 => ?_)
            · have hw := hw.1 c12
              refine g_iconst (v := 0) ok dX3_doesFit_154 (by decide) ?_
              exact g_zret ok dX3_doesFit_155 (Or.inl rfl) ⟨by first | (simp only [v_X3_doesFit, if_neg c7, if_neg c10, if_pos c11, if_pos c12]; done) | contradiction, rfl⟩
            · have hw := hw.2 c12
              refine g_iload ok 0 dX3_doesFit_128 rfl ?_
              refine g_if_eq (tgt := 154) ok dX3_doesFit_130 (by decide) (fun c13 => ?_) (fun c13 => ?_)
              · have hw := hw.1 c13
                refine g_iconst (v := 0) ok dX3_doesFit_154 (by decide) ?_
                exact g_zret ok dX3_doesFit_155 (Or.inl rfl) ⟨by first | (simp only [v_X3_doesFit, if_neg c7, if_neg c10, if_pos c11, if_neg c12, if_pos c13]; done) | contradiction, rfl⟩
              · have hw := hw.2 c13
                refine g_aload_n ok 1 dX3_doesFit_133 rfl ?_
                refine g_iload_n ok 3 dX3_doesFit_134 rfl ?_
                refine g_iconst (v := 3) ok dX3_doesFit_135 (by decide) ?_
                obtain ⟨hp, hw⟩ := hw
                refine g_callVI ok [.int a1, .int 3] cf_X3_of q1495 (mc_X3_of ok.wo (xL x) C a1 3 hp) (recvF ok 1 rfl rfl) rfl rfl (Nat.le_of_ble_eq_true rfl) ⟨by decide, by decide⟩ ⟨by decide, by decide⟩ dX3_doesFit_136 ?_
                refine g_aload_n ok 1 dX3_doesFit_139 rfl ?_
                refine g_iload_n ok 2 dX3_doesFit_140 rfl ?_
                refine g_iconst (v := 3) ok dX3_doesFit_141 (by decide) ?_
                obtain ⟨hp, hw⟩ := hw
                refine g_callVI ok [.int a0, .int 3] cf_X3_of q1495 (mc_X3_of ok.wo (xL x) C a0 3 hp) (recvF ok 1 rfl rfl) rfl rfl (Nat.le_of_ble_eq_true rfl) ⟨by decide, by decide⟩ ⟨by decide, by decide⟩ dX3_doesFit_142 ?_
                refine g_iconst (v := 2) ok dX3_doesFit_145 (by decide) ?_
                refine g_idiv ok dX3_doesFit_146 (by decide) ?_
                refine g_icmp_lt (tgt := 154) ok dX3_doesFit_147 (by decide) (fun c14 => ?_) (fun c14 => ?_)
                · refine g_iconst (v := 0) ok dX3_doesFit_154 (by decide) ?_
                  exact g_zret ok dX3_doesFit_155 (Or.inl rfl) ⟨by first | (simp only [v_X3_doesFit, if_neg c7, if_neg c10, if_pos c11, if_neg c12, if_neg c13, if_pos c14]; done) | contradiction, rfl⟩
                · refine g_iconst (v := 1) ok dX3_doesFit_150 (by decide) ?_
                  refine g_goto (tgt := 155) ok dX3_doesFit_151 (by decide) ?_
                  exact g_zret ok dX3_doesFit_155 (Or.inr rfl) ⟨by first | (simp only [v_X3_doesFit, if_neg c7, if_neg c10, if_pos c11, if_neg c12, if_neg c13, if_neg c14]; done) | contradiction, rfl⟩
          · have hw := hw.2 c11
            by_cases c15 : (v_X3_of C a0 0) = 4
            · have hw := hw.1 c15
              refine g_swIn (tgt := 156) ok (4) dX3_doesFit_68 (c15.trans (by decide)) (by decide) rfl (by decide) ?_
              refine g_iload ok 5 dX3_doesFit_156 rfl ?_
              refine g_if_eq (tgt := 175) ok dX3_doesFit_158 (by decide) (fun c16 => ?_) (fun c16 => ?_)
              · have hw := hw.1 c16
                refine g_iconst (v := 0) ok dX3_doesFit_175 (by decide) ?_
                exact g_zret ok dX3_doesFit_176 (Or.inl rfl) ⟨by first | (simp only [v_X3_doesFit, if_neg c7, if_neg c10, if_neg c11, if_pos c15, if_pos c16]; done) | contradiction, rfl⟩
              · have hw := hw.2 c16
                refine g_aload_n ok 1 dX3_doesFit_161 rfl ?_
                refine g_iload_n ok 3 dX3_doesFit_162 rfl ?_
                refine g_iconst (v := 0) ok dX3_doesFit_163 (by decide) ?_
                obtain ⟨hp, hw⟩ := hw
                refine g_callVI ok [.int a1, .int 0] cf_X3_of q1495 (mc_X3_of ok.wo (xL x) C a1 0 hp) (recvF ok 1 rfl rfl) rfl rfl (Nat.le_of_ble_eq_true rfl) ⟨by decide, by decide⟩ ⟨by decide, by decide⟩ dX3_doesFit_164 ?_
                refine g_iconst (v := 4) ok dX3_doesFit_167 (by decide) ?_
                refine g_icmp_eq (tgt := 175) ok dX3_doesFit_168 (by decide) (fun c17 => ?_) (fun c17 => ?_)
                · refine g_iconst (v := 0) ok dX3_doesFit_175 (by decide) ?_
                  exact g_zret ok dX3_doesFit_176 (Or.inl rfl) ⟨by first | (simp only [v_X3_doesFit, if_neg c7, if_neg c10, if_neg c11, if_pos c15, if_neg c16, if_pos c17]; done) | contradiction, rfl⟩
                · refine g_iconst (v := 1) ok dX3_doesFit_171 (by decide) ?_
                  refine g_goto (tgt := 176) ok dX3_doesFit_172 (by decide) ?_
                  exact g_zret ok dX3_doesFit_176 (Or.inr rfl) ⟨by first | (simp only [v_X3_doesFit, if_neg c7, if_neg c10, if_neg c11, if_pos c15, if_neg c16, if_neg c17]; done) | contradiction, rfl⟩
            · have hw := hw.2 c15
              by_cases c18 : (v_X3_of C a0 0) = 5
              · refine g_swIn (tgt := 177) ok (5) dX3_doesFit_68 (c18.trans (by decide)) (by decide) rfl (by decide) ?_
                refine g_iconst (v := 1) ok dX3_doesFit_177 (by decide) ?_
                exact g_zret ok dX3_doesFit_178 (Or.inr rfl) ⟨by first | (simp only [v_X3_doesFit, if_neg c7, if_neg c10, if_neg c11, if_neg c15, if_pos c18]; done) | contradiction, rfl⟩
              · skip
                refine g_swOut (tgt := 179) ok dX3_doesFit_68 (fun k k1 k2 => ?_) (by decide) ?_
                · rcases (show k = 1 ∨ k = 2 ∨ k = 3 ∨ k = 4 ∨ k = 5 by omega) with rfl | rfl | rfl | rfl | rfl
                  · exact fun h => c7 (h.trans (by decide))
                  · exact fun h => c10 (h.trans (by decide))
                  · exact fun h => c11 (h.trans (by decide))
                  · exact fun h => c15 (h.trans (by decide))
                  · exact fun h => c18 (h.trans (by decide))
                · refine g_iload ok 4 dX3_doesFit_179 rfl ?_
                  exact g_zret ok dX3_doesFit_181 (ib_ite (Or.inr rfl) (Or.inl rfl)) ⟨by first | (simp only [v_X3_doesFit, if_neg c7, if_neg c10, if_neg c11, if_neg c15, if_neg c18]; done) | contradiction, rfl⟩
    have hw := hr
    refine g_icmp_ge (tgt := 59) ok dX3_doesFit_41 (by decide) (fun c3 => ?_) (fun c3 => ?_)
    · have hw := hw.1 c3
      refine g_iconst (v := 0) ok dX3_doesFit_59 (by decide) ?_
      simp only [if_pos c3] at kj6
      exact g_sub [2, 3, 4, 1, 0] [(0, .ref (ad w 1)), (1, .int a0), (2, .int a1), (4, .int (if ((v_X3_of C a0 2) - (v_X3_of C a1 2)) = 0 then (1 : Int32) else 0)), (5, .int (v_X3_in ((v_X3_of C a0 2) - (v_X3_of C a1 2)) (-1) 1))] rfl kj6
    · have hw := hw.2 c3
      refine g_aload_n ok 2 dX3_doesFit_44 rfl ?_
      refine g_iload_n ok 4 dX3_doesFit_45 rfl ?_
      refine g_iconst (v := 4) ok dX3_doesFit_46 (by decide) ?_
      obtain ⟨hp, hw⟩ := hw
      refine g_callVI ok [.int a1, .int 4] cf_X3_of q1495 (mc_X3_of ok.wo (xL x) C a1 4 hp) (recvF ok 1 rfl rfl) rfl rfl (Nat.le_of_ble_eq_true rfl) ⟨by decide, by decide⟩ ⟨by decide, by decide⟩ dX3_doesFit_47 ?_
      refine g_bipush (v := 50) ok dX3_doesFit_50 (by decide) ?_
      have kj5 : G w x 7 0 0 (QM w x (pI (v_X3_doesFit C a0 a1) C) 0 0) C 60 [(0, .ref (ad w 1)), (1, .int a0), (2, .int a1), (4, .int (if ((v_X3_of C a0 2) - (v_X3_of C a1 2)) = 0 then (1 : Int32) else 0)), (5, .int (v_X3_in ((v_X3_of C a0 2) - (v_X3_of C a1 2)) (-1) 1))] [.int (if 50 ≤ (v_X3_of C a1 4) then (0 : Int32) else 1)] := by
        simp only [if_neg c3] at kj6
        exact kj6
      refine g_icmp_ge (tgt := 59) ok dX3_doesFit_52 (by decide) (fun c4 => ?_) (fun c4 => ?_)
      · refine g_iconst (v := 0) ok dX3_doesFit_59 (by decide) ?_
        simp only [if_pos c4] at kj5
        exact g_sub [2, 3, 4, 1, 0] [(0, .ref (ad w 1)), (1, .int a0), (2, .int a1), (4, .int (if ((v_X3_of C a0 2) - (v_X3_of C a1 2)) = 0 then (1 : Int32) else 0)), (5, .int (v_X3_in ((v_X3_of C a0 2) - (v_X3_of C a1 2)) (-1) 1))] rfl kj5
      · refine g_iconst (v := 1) ok dX3_doesFit_55 (by decide) ?_
        refine g_goto (tgt := 60) ok dX3_doesFit_56 (by decide) ?_
        simp only [if_neg c4] at kj5
        exact g_sub [2, 3, 4, 1, 0] [(0, .ref (ad w 1)), (1, .int a0), (2, .int a1), (4, .int (if ((v_X3_of C a0 2) - (v_X3_of C a1 2)) = 0 then (1 : Int32) else 0)), (5, .int (v_X3_in ((v_X3_of C a0 2) - (v_X3_of C a1 2)) (-1) 1))] rfl kj5
  refine g_if_ne (tgt := 22) ok dX3_doesFit_15 (by decide) (fun c1 => ?_) (fun c1 => ?_)
  · refine g_iconst (v := 0) ok dX3_doesFit_22 (by decide) ?_
    simp only [if_neg c1] at kj2
    exact g_sub [1, 2, 3, 0] [(0, .ref (ad w 1)), (1, .int a0), (2, .int a1), (3, .int ((v_X3_of C a0 2) - (v_X3_of C a1 2)))] rfl kj2
  · refine g_iconst (v := 1) ok dX3_doesFit_18 (by decide) ?_
    refine g_goto (tgt := 23) ok dX3_doesFit_19 (by decide) ?_
    simp only [if_pos c1] at kj2
    exact g_sub [1, 2, 3, 0] [(0, .ref (ad w 1)), (1, .int a0), (2, .int a1), (3, .int ((v_X3_of C a0 2) - (v_X3_of C a1 2)))] rfl kj2
theorem cf_X3_fits : CfV yX3_fits "TwoGuildsModel" cX3_fits 3 (some .int) 2 := ⟨⟨by decide, by decide, by decide⟩, q75, q1529, q1527, q1528⟩
def v_X3_fits (C : CS) (a0 : Int32) (a1 : Int32) : Int32 :=
  if (v_X3_isGlove C a0) = 0 then
    ((-1000000001))
    else
    (if (v_X3_isGlove C a1) = 0 then
      ((-1000000001))
      else
      (if a0 = a1 then
        ((-1000000001))
        else
        (if (v_X3_doesFit C a0 a1) = 0 then
          (0)
          else
          (1))))
def p_X3_fits (C : CS) (a0 : Int32) (a1 : Int32) : Prop :=
  ((v_X3_isGlove C a0) = 0 → 
    True) ∧
    (¬ (v_X3_isGlove C a0) = 0 → 
    ((v_X3_isGlove C a1) = 0 → 
      True) ∧
      (¬ (v_X3_isGlove C a1) = 0 → 
      (a0 = a1 → 
        True) ∧
        (¬ a0 = a1 → 
        p_X3_doesFit C a0 a1 ∧
          (True))))
set_option maxHeartbeats 4000000 in
set_option maxRecDepth 100000 in
theorem mc_X3_fits {w : WD} (wk : wOk w) (l : Launch) (C : CS) (a0 : Int32) (a1 : Int32) (hw : p_X3_fits C a0 a1) : MC w l yX3_fits cX3_fits 3 (some .int) 2 0 0 [.ref (ad w 1), .int a0, .int a1] C (pI (v_X3_fits C a0 a1) C) := by
  unfold p_X3_fits at hw
  refine MC.of wk (by decide) (Nat.le_of_ble_eq_true rfl) (fun x hx ok => ?_)
  subst hx
  show G w x 3 0 0 (QM w x _ 0 0) C 0 [(0, .ref (ad w 1)), (1, .int a0), (2, .int a1)] []
  refine g_aload_n ok 0 dX3_fits_0 rfl ?_
  refine g_iload_n ok 1 dX3_fits_1 rfl ?_
  refine g_callVI ok [.int a0] cf_X3_isGlove q1491 (mc_X3_isGlove ok.wo (xL x) C a0) (recvF ok 1 rfl rfl) rfl rfl (Nat.le_of_ble_eq_true rfl) ⟨by decide, by decide⟩ ⟨by decide, by decide⟩ dX3_fits_2 ?_
  refine g_if_eq (tgt := 21) ok dX3_fits_5 (by decide) (fun c1 => ?_) (fun c1 => ?_)
  · have hw := hw.1 c1
    refine g_ldc (v := -1000000001) ok q1477 dX3_fits_21 ?_
    exact g_iret ok dX3_fits_23 ⟨by first | (simp only [v_X3_fits, if_pos c1]; done) | contradiction, rfl⟩
  · have hw := hw.2 c1
    refine g_aload_n ok 0 dX3_fits_8 rfl ?_
    refine g_iload_n ok 2 dX3_fits_9 rfl ?_
    refine g_callVI ok [.int a1] cf_X3_isGlove q1491 (mc_X3_isGlove ok.wo (xL x) C a1) (recvF ok 1 rfl rfl) rfl rfl (Nat.le_of_ble_eq_true rfl) ⟨by decide, by decide⟩ ⟨by decide, by decide⟩ dX3_fits_10 ?_
    refine g_if_eq (tgt := 21) ok dX3_fits_13 (by decide) (fun c2 => ?_) (fun c2 => ?_)
    · have hw := hw.1 c2
      refine g_ldc (v := -1000000001) ok q1477 dX3_fits_21 ?_
      exact g_iret ok dX3_fits_23 ⟨by first | (simp only [v_X3_fits, if_neg c1, if_pos c2]; done) | contradiction, rfl⟩
    · have hw := hw.2 c2
      refine g_iload_n ok 1 dX3_fits_16 rfl ?_
      refine g_iload_n ok 2 dX3_fits_17 rfl ?_
      refine g_icmp_ne (tgt := 24) ok dX3_fits_18 (by decide) (fun c3 => ?_) (fun c3 => ?_)
      · have hw := hw.2 c3
        refine g_aload_n ok 0 dX3_fits_24 rfl ?_
        refine g_iload_n ok 1 dX3_fits_25 rfl ?_
        refine g_iload_n ok 2 dX3_fits_26 rfl ?_
        obtain ⟨hp, hw⟩ := hw
        refine g_callVI ok [.int a0, .int a1] cf_X3_doesFit q1530 (mc_X3_doesFit ok.wo (xL x) C a0 a1 hp) (recvF ok 1 rfl rfl) rfl rfl (Nat.le_of_ble_eq_true rfl) ⟨by decide, by decide⟩ ⟨by decide, by decide⟩ dX3_fits_27 ?_
        refine g_if_eq (tgt := 37) ok dX3_fits_30 (by decide) (fun c4 => ?_) (fun c4 => ?_)
        · refine g_iconst (v := 0) ok dX3_fits_37 (by decide) ?_
          exact g_iret ok dX3_fits_38 ⟨by first | (simp only [v_X3_fits, if_neg c1, if_neg c2, if_neg c3, if_pos c4]; done) | contradiction, rfl⟩
        · refine g_iconst (v := 1) ok dX3_fits_33 (by decide) ?_
          refine g_goto (tgt := 38) ok dX3_fits_34 (by decide) ?_
          exact g_iret ok dX3_fits_38 ⟨by first | (simp only [v_X3_fits, if_neg c1, if_neg c2, if_neg c3, if_neg c4]; done) | contradiction, rfl⟩
      · have hw := hw.1 c3
        refine g_ldc (v := -1000000001) ok q1477 dX3_fits_21 ?_
        exact g_iret ok dX3_fits_23 ⟨by first | (simp only [v_X3_fits, if_neg c1, if_neg c2, if_pos c3]; done) | contradiction, rfl⟩
theorem cf_X3_isPair : CfV yX3_isPair "TwoGuildsModel" cX3_isPair 4 (some .boolean) 2 := ⟨⟨by decide, by decide, by decide⟩, q75, q1541, q1540, qs40⟩
def v_X3_isPair (C : CS) (a0 : Int32) (a1 : Int32) : Int32 :=
  if a0 = a1 then
    (0)
    else
    (if (if (v_X3_of C a0 1) = (v_X3_of C a1 1) then (if (v_X3_of C a0 0) = 4 then (1 : Int32) else (if (v_X3_of C a1 0) = 4 then (1 : Int32) else 0)) else 1) = 0 then
      (0)
      else
      (if (v_X3_of C a0 5) = 0 then
        (if (v_X3_of C a1 5) = 0 then
          (if (v_X3_doesFit C a0 a1) = 0 then
            (0)
            else
            (if (v_X3_doesFit C a1 a0) = 0 then
              (0)
              else
              (1)))
          else
          (0))
        else
        (0)))
theorem vb_X3_isPair (C : CS) (a0 : Int32) (a1 : Int32) : v_X3_isPair C a0 a1 = 0 ∨ v_X3_isPair C a0 a1 = 1 := by
  unfold v_X3_isPair
  exact (ib_ite (Or.inl rfl) (ib_ite (Or.inl rfl) (ib_ite (ib_ite (ib_ite (Or.inl rfl) (ib_ite (Or.inl rfl) (Or.inr rfl))) (Or.inl rfl)) (Or.inl rfl))))
def p_X3_isPair (C : CS) (a0 : Int32) (a1 : Int32) : Prop :=
  p_X3_of C a0 1 ∧
    (p_X3_of C a1 1 ∧
    ((((v_X3_of C a0 1) = (v_X3_of C a1 1) → 
      p_X3_of C a0 0 ∧
        ((((v_X3_of C a0 0) = 4 → 
          True) ∧
          (¬ (v_X3_of C a0 0) = 4 → 
          p_X3_of C a1 0 ∧
            (True))) ∧
        (True))) ∧
      (¬ (v_X3_of C a0 1) = (v_X3_of C a1 1) → 
      True)) ∧
    ((a0 = a1 → 
    True) ∧
    (¬ a0 = a1 → 
    ((if (v_X3_of C a0 1) = (v_X3_of C a1 1) then (if (v_X3_of C a0 0) = 4 then (1 : Int32) else (if (v_X3_of C a1 0) = 4 then (1 : Int32) else 0)) else 1) = 0 → 
      True) ∧
      (¬ (if (v_X3_of C a0 1) = (v_X3_of C a1 1) then (if (v_X3_of C a0 0) = 4 then (1 : Int32) else (if (v_X3_of C a1 0) = 4 then (1 : Int32) else 0)) else 1) = 0 → 
      p_X3_of C a0 5 ∧
        (((v_X3_of C a0 5) = 0 → 
        p_X3_of C a1 5 ∧
          (((v_X3_of C a1 5) = 0 → 
          p_X3_doesFit C a0 a1 ∧
            (((v_X3_doesFit C a0 a1) = 0 → 
            True) ∧
            (¬ (v_X3_doesFit C a0 a1) = 0 → 
            p_X3_doesFit C a1 a0 ∧
              (True)))) ∧
          (¬ (v_X3_of C a1 5) = 0 → 
          True))) ∧
        (¬ (v_X3_of C a0 5) = 0 → 
        True)))))))
set_option maxHeartbeats 4000000 in
set_option maxRecDepth 100000 in
theorem mc_X3_isPair {w : WD} (wk : wOk w) (l : Launch) (C : CS) (a0 : Int32) (a1 : Int32) (hw : p_X3_isPair C a0 a1) : MC w l yX3_isPair cX3_isPair 4 (some .boolean) 2 0 0 [.ref (ad w 1), .int a0, .int a1] C (pI (v_X3_isPair C a0 a1) C) := by
  unfold p_X3_isPair at hw
  refine MC.of wk (by decide) (Nat.le_of_ble_eq_true rfl) (fun x hx ok => ?_)
  subst hx
  show G w x 4 0 0 (QM w x _ 0 0) C 0 [(0, .ref (ad w 1)), (1, .int a0), (2, .int a1)] []
  refine g_aload_n ok 0 dX3_isPair_0 rfl ?_
  refine g_iload_n ok 1 dX3_isPair_1 rfl ?_
  refine g_iconst (v := 1) ok dX3_isPair_2 (by decide) ?_
  obtain ⟨hp, hw⟩ := hw
  refine g_callVI ok [.int a0, .int 1] cf_X3_of q1495 (mc_X3_of ok.wo (xL x) C a0 1 hp) (recvF ok 1 rfl rfl) rfl rfl (Nat.le_of_ble_eq_true rfl) ⟨by decide, by decide⟩ ⟨by decide, by decide⟩ dX3_isPair_3 ?_
  refine g_aload_n ok 0 dX3_isPair_6 rfl ?_
  refine g_iload_n ok 2 dX3_isPair_7 rfl ?_
  refine g_iconst (v := 1) ok dX3_isPair_8 (by decide) ?_
  obtain ⟨hp, hw⟩ := hw
  refine g_callVI ok [.int a1, .int 1] cf_X3_of q1495 (mc_X3_of ok.wo (xL x) C a1 1 hp) (recvF ok 1 rfl rfl) rfl rfl (Nat.le_of_ble_eq_true rfl) ⟨by decide, by decide⟩ ⟨by decide, by decide⟩ dX3_isPair_9 ?_
  obtain ⟨hr, hw⟩ := hw
  have kj6 : G w x 4 0 0 (QM w x (pI (v_X3_isPair C a0 a1) C) 0 0) C 40 [(0, .ref (ad w 1)), (1, .int a0), (2, .int a1)] [.int (if (v_X3_of C a0 1) = (v_X3_of C a1 1) then (if (v_X3_of C a0 0) = 4 then (1 : Int32) else (if (v_X3_of C a1 0) = 4 then (1 : Int32) else 0)) else 1)] := by
    refine g_istore_n0 ok [(3, .int (if (v_X3_of C a0 1) = (v_X3_of C a1 1) then (if (v_X3_of C a0 0) = 4 then (1 : Int32) else (if (v_X3_of C a1 0) = 4 then (1 : Int32) else 0)) else 1)), (0, .ref (ad w 1)), (1, .int a0), (2, .int a1)] dX3_isPair_40 (by decide) rfl ?_
    refine g_iload_n ok 2 dX3_isPair_41 rfl ?_
    refine g_iload_n ok 3 dX3_isPair_42 rfl ?_
    refine g_icmp_eq (tgt := 90) ok dX3_isPair_43 (by decide) (fun c7 => ?_) (fun c7 => ?_)
    · have hw := hw.1 c7
      refine g_iconst (v := 0) ok dX3_isPair_90 (by decide) ?_
      exact g_zret ok dX3_isPair_91 (Or.inl rfl) ⟨by first | (simp only [v_X3_isPair, if_pos c7]; done) | contradiction, rfl⟩
    · have hw := hw.2 c7
      refine g_iload_n ok 0 dX3_isPair_46 rfl ?_
      refine g_if_eq (tgt := 90) ok dX3_isPair_47 (by decide) (fun c8 => ?_) (fun c8 => ?_)
      · have hw := hw.1 c8
        refine g_iconst (v := 0) ok dX3_isPair_90 (by decide) ?_
        exact g_zret ok dX3_isPair_91 (Or.inl rfl) ⟨by first | (simp only [v_X3_isPair, if_neg c7, if_pos c8]; done) | contradiction, rfl⟩
      · have hw := hw.2 c8
        refine g_aload_n ok 1 dX3_isPair_50 rfl ?_
        refine g_iload_n ok 2 dX3_isPair_51 rfl ?_
        refine g_iconst (v := 5) ok dX3_isPair_52 (by decide) ?_
        obtain ⟨hp, hw⟩ := hw
        refine g_callVI ok [.int a0, .int 5] cf_X3_of q1495 (mc_X3_of ok.wo (xL x) C a0 5 hp) (recvF ok 1 rfl rfl) rfl rfl (Nat.le_of_ble_eq_true rfl) ⟨by decide, by decide⟩ ⟨by decide, by decide⟩ dX3_isPair_53 ?_
        refine g_if_ne (tgt := 90) ok dX3_isPair_56 (by decide) (fun c9 => ?_) (fun c9 => ?_)
        · have hw := hw.2 c9
          refine g_iconst (v := 0) ok dX3_isPair_90 (by decide) ?_
          exact g_zret ok dX3_isPair_91 (Or.inl rfl) ⟨by first | (simp only [v_X3_isPair, if_neg c7, if_neg c8, if_neg c9]; done) | contradiction, rfl⟩
        · have hw := hw.1 c9
          refine g_aload_n ok 1 dX3_isPair_59 rfl ?_
          refine g_iload_n ok 3 dX3_isPair_60 rfl ?_
          refine g_iconst (v := 5) ok dX3_isPair_61 (by decide) ?_
          obtain ⟨hp, hw⟩ := hw
          refine g_callVI ok [.int a1, .int 5] cf_X3_of q1495 (mc_X3_of ok.wo (xL x) C a1 5 hp) (recvF ok 1 rfl rfl) rfl rfl (Nat.le_of_ble_eq_true rfl) ⟨by decide, by decide⟩ ⟨by decide, by decide⟩ dX3_isPair_62 ?_
          refine g_if_ne (tgt := 90) ok dX3_isPair_65 (by decide) (fun c10 => ?_) (fun c10 => ?_)
          · have hw := hw.2 c10
            refine g_iconst (v := 0) ok dX3_isPair_90 (by decide) ?_
            exact g_zret ok dX3_isPair_91 (Or.inl rfl) ⟨by first | (simp only [v_X3_isPair, if_neg c7, if_neg c8, if_pos c9, if_neg c10]; done) | contradiction, rfl⟩
          · have hw := hw.1 c10
            refine g_aload_n ok 1 dX3_isPair_68 rfl ?_
            refine g_iload_n ok 2 dX3_isPair_69 rfl ?_
            refine g_iload_n ok 3 dX3_isPair_70 rfl ?_
            obtain ⟨hp, hw⟩ := hw
            refine g_callVI ok [.int a0, .int a1] cf_X3_doesFit q1530 (mc_X3_doesFit ok.wo (xL x) C a0 a1 hp) (recvF ok 1 rfl rfl) rfl rfl (Nat.le_of_ble_eq_true rfl) ⟨by decide, by decide⟩ ⟨by decide, by decide⟩ dX3_isPair_71 ?_
            refine g_if_eq (tgt := 90) ok dX3_isPair_74 (by decide) (fun c11 => ?_) (fun c11 => ?_)
            · have hw := hw.1 c11
              refine g_iconst (v := 0) ok dX3_isPair_90 (by decide) ?_
              exact g_zret ok dX3_isPair_91 (Or.inl rfl) ⟨by first | (simp only [v_X3_isPair, if_neg c7, if_neg c8, if_pos c9, if_pos c10, if_pos c11]; done) | contradiction, rfl⟩
            · have hw := hw.2 c11
              refine g_aload_n ok 1 dX3_isPair_77 rfl ?_
              refine g_iload_n ok 3 dX3_isPair_78 rfl ?_
              refine g_iload_n ok 2 dX3_isPair_79 rfl ?_
              obtain ⟨hp, hw⟩ := hw
              refine g_callVI ok [.int a1, .int a0] cf_X3_doesFit q1530 (mc_X3_doesFit ok.wo (xL x) C a1 a0 hp) (recvF ok 1 rfl rfl) rfl rfl (Nat.le_of_ble_eq_true rfl) ⟨by decide, by decide⟩ ⟨by decide, by decide⟩ dX3_isPair_80 ?_
              refine g_if_eq (tgt := 90) ok dX3_isPair_83 (by decide) (fun c12 => ?_) (fun c12 => ?_)
              · refine g_iconst (v := 0) ok dX3_isPair_90 (by decide) ?_
                exact g_zret ok dX3_isPair_91 (Or.inl rfl) ⟨by first | (simp only [v_X3_isPair, if_neg c7, if_neg c8, if_pos c9, if_pos c10, if_neg c11, if_pos c12]; done) | contradiction, rfl⟩
              · refine g_iconst (v := 1) ok dX3_isPair_86 (by decide) ?_
                refine g_goto (tgt := 91) ok dX3_isPair_87 (by decide) ?_
                exact g_zret ok dX3_isPair_91 (Or.inr rfl) ⟨by first | (simp only [v_X3_isPair, if_neg c7, if_neg c8, if_pos c9, if_pos c10, if_neg c11, if_neg c12]; done) | contradiction, rfl⟩
  have hw := hr
  refine g_icmp_ne (tgt := 35) ok dX3_isPair_12 (by decide) (fun c1 => ?_) (fun c1 => ?_)
  · have hw := hw.2 c1
    refine g_iconst (v := 1) ok dX3_isPair_35 (by decide) ?_
    refine g_goto (tgt := 40) ok dX3_isPair_36 (by decide) ?_
    simp only [if_neg c1] at kj6
    exact kj6
  · have hw := hw.1 c1
    refine g_aload_n ok 0 dX3_isPair_15 rfl ?_
    refine g_iload_n ok 1 dX3_isPair_16 rfl ?_
    refine g_iconst (v := 0) ok dX3_isPair_17 (by decide) ?_
    obtain ⟨hp, hw⟩ := hw
    refine g_callVI ok [.int a0, .int 0] cf_X3_of q1495 (mc_X3_of ok.wo (xL x) C a0 0 hp) (recvF ok 1 rfl rfl) rfl rfl (Nat.le_of_ble_eq_true rfl) ⟨by decide, by decide⟩ ⟨by decide, by decide⟩ dX3_isPair_18 ?_
    refine g_iconst (v := 4) ok dX3_isPair_21 (by decide) ?_
    obtain ⟨hr, hw⟩ := hw
    have kj5 : G w x 4 0 0 (QM w x (pI (v_X3_isPair C a0 a1) C) 0 0) C 40 [(0, .ref (ad w 1)), (1, .int a0), (2, .int a1)] [.int (if (v_X3_of C a0 0) = 4 then (1 : Int32) else (if (v_X3_of C a1 0) = 4 then (1 : Int32) else 0))] := by
      simp only [if_pos c1] at kj6
      exact kj6
    have hw := hr
    refine g_icmp_eq (tgt := 35) ok dX3_isPair_22 (by decide) (fun c2 => ?_) (fun c2 => ?_)
    · have hw := hw.1 c2
      refine g_iconst (v := 1) ok dX3_isPair_35 (by decide) ?_
      refine g_goto (tgt := 40) ok dX3_isPair_36 (by decide) ?_
      simp only [if_pos c2] at kj5
      exact kj5
    · have hw := hw.2 c2
      refine g_aload_n ok 0 dX3_isPair_25 rfl ?_
      refine g_iload_n ok 2 dX3_isPair_26 rfl ?_
      refine g_iconst (v := 0) ok dX3_isPair_27 (by decide) ?_
      obtain ⟨hp, hw⟩ := hw
      refine g_callVI ok [.int a1, .int 0] cf_X3_of q1495 (mc_X3_of ok.wo (xL x) C a1 0 hp) (recvF ok 1 rfl rfl) rfl rfl (Nat.le_of_ble_eq_true rfl) ⟨by decide, by decide⟩ ⟨by decide, by decide⟩ dX3_isPair_28 ?_
      refine g_iconst (v := 4) ok dX3_isPair_31 (by decide) ?_
      have kj4 : G w x 4 0 0 (QM w x (pI (v_X3_isPair C a0 a1) C) 0 0) C 40 [(0, .ref (ad w 1)), (1, .int a0), (2, .int a1)] [.int (if (v_X3_of C a1 0) = 4 then (1 : Int32) else 0)] := by
        simp only [if_neg c2] at kj5
        exact kj5
      refine g_icmp_ne (tgt := 39) ok dX3_isPair_32 (by decide) (fun c3 => ?_) (fun c3 => ?_)
      · refine g_iconst (v := 0) ok dX3_isPair_39 (by decide) ?_
        simp only [if_neg c3] at kj4
        exact kj4
      · refine g_iconst (v := 1) ok dX3_isPair_35 (by decide) ?_
        refine g_goto (tgt := 40) ok dX3_isPair_36 (by decide) ?_
        simp only [if_pos c3] at kj4
        exact kj4
theorem cf_X3_draw : CfV yX3_draw "TwoGuildsModel" cX3_draw 1 (some .int) 0 := ⟨⟨by decide, by decide, by decide⟩, q75, q1568, q1567, qs44⟩
def v_X3_draw (C : CS)  : Int32 :=
  (Int32.toUInt32 ((wA C 36 0 (((C.2.1 36 0) * 1103515245) + 12345)).2.1 36 0) >>> (Int32.toUInt32 8 &&& Int32.toUInt32 31)).toInt32
def n_X3_draw (C : CS)  : CS :=
  (wA C 36 0 (((C.2.1 36 0) * 1103515245) + 12345))
set_option maxHeartbeats 4000000 in
set_option maxRecDepth 100000 in
theorem mc_X3_draw {w : WD} (wk : wOk w) (l : Launch) (C : CS)  : MC w l yX3_draw cX3_draw 1 (some .int) 0 0 0 [.ref (ad w 1)] C (pI (v_X3_draw C ) (n_X3_draw C )) := by
  refine MC.of wk (by decide) (Nat.le_of_ble_eq_true rfl) (fun x hx ok => ?_)
  subst hx
  show G w x 1 0 0 (QM w x _ 0 0) C 0 [(0, .ref (ad w 1))] []
  refine g_aload_n ok 0 dX3_draw_0 rfl ?_
  refine g_get ok 1 rfl rfl in_X3 0 (by decide) q1359 rfl dX3_draw_1 ?_
  refine g_iconst (v := 0) ok dX3_draw_4 (by decide) ?_
  refine g_aload_n ok 0 dX3_draw_5 rfl ?_
  refine g_get ok 1 rfl rfl in_X3 0 (by decide) q1359 rfl dX3_draw_6 ?_
  refine g_iconst (v := 0) ok dX3_draw_9 (by decide) ?_
  refine g_iald ok 36 rfl (by unfold vp_in; decide) 0 (by decide) dX3_draw_10 ?_
  refine g_ldc (v := 1103515245) ok q1569 dX3_draw_11 ?_
  refine g_imul ok dX3_draw_13 ?_
  refine g_sipush (v := 12345) ok dX3_draw_14 (by decide) ?_
  refine g_iadd ok dX3_draw_17 ?_
  refine g_iast ok 36 rfl (by unfold vp_in; decide) 0 (by decide) dX3_draw_18 (fun C1 eC1 => ?_)
  subst eC1
  refine g_aload_n ok 0 dX3_draw_19 rfl ?_
  refine g_get ok 1 rfl rfl in_X3 0 (by decide) q1359 rfl dX3_draw_20 ?_
  refine g_iconst (v := 0) ok dX3_draw_23 (by decide) ?_
  refine g_iald ok 36 rfl (by unfold vp_in; decide) 0 (by decide) dX3_draw_24 ?_
  refine g_bipush (v := 8) ok dX3_draw_25 (by decide) ?_
  refine g_iushr ok dX3_draw_27 ?_
  exact g_iret ok dX3_draw_28 ⟨by rw [v_X3_draw], by rw [n_X3_draw]⟩
theorem cf_X3_seed : CfV yX3_seed "TwoGuildsModel" cX3_seed 2 (some .int) 1 := ⟨⟨by decide, by decide, by decide⟩, q75, q1573, q1571, q1572⟩
def v_X3_seed (C : CS) (a0 : Int32) : Int32 :=
  (v_X3_becomes C 0 a0)
def n_X3_seed (C : CS) (a0 : Int32) : CS :=
  (n_X3_becomes C 0 a0)
def p_X3_seed (C : CS) (a0 : Int32) : Prop :=
  p_X3_becomes C 0 a0 ∧
    (True)
set_option maxHeartbeats 4000000 in
set_option maxRecDepth 100000 in
theorem mc_X3_seed {w : WD} (wk : wOk w) (l : Launch) (C : CS) (a0 : Int32) (hw : p_X3_seed C a0) : MC w l yX3_seed cX3_seed 2 (some .int) 1 0 0 [.ref (ad w 1), .int a0] C (pI (v_X3_seed C a0) (n_X3_seed C a0)) := by
  unfold p_X3_seed at hw
  refine MC.of wk (by decide) (Nat.le_of_ble_eq_true rfl) (fun x hx ok => ?_)
  subst hx
  show G w x 2 0 0 (QM w x _ 0 0) C 0 [(0, .ref (ad w 1)), (1, .int a0)] []
  refine g_aload_n ok 0 dX3_seed_0 rfl ?_
  refine g_iconst (v := 0) ok dX3_seed_1 (by decide) ?_
  refine g_iload_n ok 1 dX3_seed_2 rfl ?_
  obtain ⟨hp, hw⟩ := hw
  refine g_callVI ok [.int 0, .int a0] cf_X3_becomes q1515 (mc_X3_becomes ok.wo (xL x) C 0 a0 hp) (recvF ok 1 rfl rfl) rfl rfl (Nat.le_of_ble_eq_true rfl) ⟨by decide, by decide⟩ ⟨by decide, by decide⟩ dX3_seed_3 ?_
  exact g_iret ok dX3_seed_6 ⟨by rw [v_X3_seed], by rw [n_X3_seed]⟩
theorem cf_X3_all : CfV yX3_all "TwoGuildsModel" cX3_all 1 (some .int) 0 := ⟨⟨by decide, by decide, by decide⟩, q75, q1581, q1580, qs45⟩
def v_X3_all (C : CS)  : Int32 :=
  ((1 <<< ((C.2.1 36 1) &&& 31)) - 1)
set_option maxHeartbeats 4000000 in
set_option maxRecDepth 100000 in
theorem mc_X3_all {w : WD} (wk : wOk w) (l : Launch) (C : CS)  : MC w l yX3_all cX3_all 1 (some .int) 0 0 0 [.ref (ad w 1)] C (pI (v_X3_all C ) C) := by
  refine MC.of wk (by decide) (Nat.le_of_ble_eq_true rfl) (fun x hx ok => ?_)
  subst hx
  show G w x 1 0 0 (QM w x _ 0 0) C 0 [(0, .ref (ad w 1))] []
  refine g_iconst (v := 1) ok dX3_all_0 (by decide) ?_
  refine g_aload_n ok 0 dX3_all_1 rfl ?_
  refine g_get ok 1 rfl rfl in_X3 0 (by decide) q1359 rfl dX3_all_2 ?_
  refine g_iconst (v := 1) ok dX3_all_5 (by decide) ?_
  refine g_iald ok 36 rfl (by unfold vp_in; decide) 1 (by decide) dX3_all_6 ?_
  refine g_ishl ok dX3_all_7 ?_
  refine g_iconst (v := 1) ok dX3_all_8 (by decide) ?_
  refine g_isub ok dX3_all_9 ?_
  exact g_iret ok dX3_all_10 ⟨by rw [v_X3_all], rfl⟩
theorem cf_X3_loss : CfV yX3_loss "TwoGuildsModel" cX3_loss 2 (some .int) 1 := ⟨⟨by decide, by decide, by decide⟩, q75, q1627, q1625, q1626⟩
def v_X3_loss (C : CS) (a0 : Int32) : Int32 :=
  if (v_X3_in a0 0 100) = 0 then
    ((-1000000001))
    else
    ((v_X3_becomes C 3 a0))
def n_X3_loss (C : CS) (a0 : Int32) : CS :=
  if (v_X3_in a0 0 100) = 0 then
    (C)
    else
    ((n_X3_becomes C 3 a0))
def p_X3_loss (C : CS) (a0 : Int32) : Prop :=
  ((v_X3_in a0 0 100) = 0 → 
    True) ∧
    (¬ (v_X3_in a0 0 100) = 0 → 
    p_X3_becomes C 3 a0 ∧
      (True))
set_option maxHeartbeats 4000000 in
set_option maxRecDepth 100000 in
theorem mc_X3_loss {w : WD} (wk : wOk w) (l : Launch) (C : CS) (a0 : Int32) (hw : p_X3_loss C a0) : MC w l yX3_loss cX3_loss 2 (some .int) 1 0 0 [.ref (ad w 1), .int a0] C (pI (v_X3_loss C a0) (n_X3_loss C a0)) := by
  unfold p_X3_loss at hw
  refine MC.of wk (by decide) (Nat.le_of_ble_eq_true rfl) (fun x hx ok => ?_)
  subst hx
  show G w x 2 0 0 (QM w x _ 0 0) C 0 [(0, .ref (ad w 1)), (1, .int a0)] []
  refine g_iload_n ok 1 dX3_loss_0 rfl ?_
  refine g_iconst (v := 0) ok dX3_loss_1 (by decide) ?_
  refine g_bipush (v := 100) ok dX3_loss_2 (by decide) ?_
  refine g_callSI ok [.int a0, .int 0, .int 100] cf_X3_in q1474 (mc_X3_in ok.wo (xL x) C a0 0 100) rfl rfl (Nat.le_of_ble_eq_true rfl) ⟨by decide, by decide⟩ ⟨by decide, by decide⟩ dX3_loss_4 ?_
  refine g_if_eq (tgt := 19) ok dX3_loss_7 (by decide) (fun c1 => ?_) (fun c1 => ?_)
  · have hw := hw.1 c1
    refine g_ldc (v := -1000000001) ok q1477 dX3_loss_19 ?_
    exact g_iret ok dX3_loss_21 ⟨by first | (simp only [v_X3_loss, if_pos c1]; done) | contradiction, by first | (simp only [n_X3_loss, if_pos c1]; done) | contradiction⟩
  · have hw := hw.2 c1
    refine g_aload_n ok 0 dX3_loss_10 rfl ?_
    refine g_iconst (v := 3) ok dX3_loss_11 (by decide) ?_
    refine g_iload_n ok 1 dX3_loss_12 rfl ?_
    obtain ⟨hp, hw⟩ := hw
    refine g_callVI ok [.int 3, .int a0] cf_X3_becomes q1515 (mc_X3_becomes ok.wo (xL x) C 3 a0 hp) (recvF ok 1 rfl rfl) rfl rfl (Nat.le_of_ble_eq_true rfl) ⟨by decide, by decide⟩ ⟨by decide, by decide⟩ dX3_loss_13 ?_
    refine g_goto (tgt := 21) ok dX3_loss_16 (by decide) ?_
    exact g_iret ok dX3_loss_21 ⟨by first | (simp only [v_X3_loss, if_neg c1]; done) | contradiction, by first | (simp only [n_X3_loss, if_neg c1]; done) | contradiction⟩
theorem cf_X3_isWord : CfS yX3_isWord cX3_isWord 1 (some .boolean) 1 := ⟨⟨by decide, by decide, by decide⟩, q75, q1682, q1681⟩
def v_X3_isWord (a0 : Int32) : Int32 :=
  (v_X3_in a0 0 4)
theorem vb_X3_isWord (a0 : Int32) : v_X3_isWord a0 = 0 ∨ v_X3_isWord a0 = 1 := by
  unfold v_X3_isWord
  exact (vb_X3_in a0 0 4)
set_option maxHeartbeats 4000000 in
set_option maxRecDepth 100000 in
theorem mc_X3_isWord {w : WD} (wk : wOk w) (l : Launch) (C : CS) (a0 : Int32) : MC w l yX3_isWord cX3_isWord 1 (some .boolean) 1 0 0 [.int a0] C (pI (v_X3_isWord a0) C) := by
  refine MC.of wk (by decide) (Nat.le_of_ble_eq_true rfl) (fun x hx ok => ?_)
  subst hx
  show G w x 1 0 0 (QM w x _ 0 0) C 0 [(0, .int a0)] []
  refine g_iload_n ok 0 dX3_isWord_0 rfl ?_
  refine g_iconst (v := 0) ok dX3_isWord_1 (by decide) ?_
  refine g_iconst (v := 4) ok dX3_isWord_2 (by decide) ?_
  refine g_callSI ok [.int a0, .int 0, .int 4] cf_X3_in q1474 (mc_X3_in ok.wo (xL x) C a0 0 4) rfl rfl (Nat.le_of_ble_eq_true rfl) ⟨by decide, by decide⟩ ⟨by decide, by decide⟩ dX3_isWord_3 ?_
  exact g_zret ok dX3_isWord_6 (vb_X3_in a0 0 4) ⟨by rw [v_X3_isWord], rfl⟩
theorem cf_X3_worn : CfV yX3_worn "TwoGuildsModel" cX3_worn 3 (some .int) 2 := ⟨⟨by decide, by decide, by decide⟩, q75, q1679, q1677, q1678⟩
def v_X3_worn (C : CS) (a0 : Int32) (a1 : Int32) : Int32 :=
  if (v_X3_isWord a0) = 0 then
    ((-1000000001))
    else
    (if (v_X3_isWord a1) = 0 then
      ((-1000000001))
      else
      (if (C.2.1 36 4) = 10 then
        ((-1000000003))
        else
        (((wA (wA C 36 (Int32.toNatClampNeg (6 + (C.2.1 36 4))) ((10 * a0) + a1)) 36 4 (((wA C 36 (Int32.toNatClampNeg (6 + (C.2.1 36 4))) ((10 * a0) + a1)).2.1 36 4) + 1)).2.1 36 4))))
def n_X3_worn (C : CS) (a0 : Int32) (a1 : Int32) : CS :=
  if (v_X3_isWord a0) = 0 then
    (C)
    else
    (if (v_X3_isWord a1) = 0 then
      (C)
      else
      (if (C.2.1 36 4) = 10 then
        (C)
        else
        ((wA (wA C 36 (Int32.toNatClampNeg (6 + (C.2.1 36 4))) ((10 * a0) + a1)) 36 4 (((wA C 36 (Int32.toNatClampNeg (6 + (C.2.1 36 4))) ((10 * a0) + a1)).2.1 36 4) + 1)))))
def p_X3_worn (C : CS) (a0 : Int32) (a1 : Int32) : Prop :=
  ((v_X3_isWord a0) = 0 → 
    True) ∧
    (¬ (v_X3_isWord a0) = 0 → 
    ((v_X3_isWord a1) = 0 → 
      True) ∧
      (¬ (v_X3_isWord a1) = 0 → 
      ((C.2.1 36 4) = 10 → 
        True) ∧
        (¬ (C.2.1 36 4) = 10 → 
        vp_in (6 + (C.2.1 36 4)) 1448 ∧
          (True))))
set_option maxHeartbeats 4000000 in
set_option maxRecDepth 100000 in
theorem mc_X3_worn {w : WD} (wk : wOk w) (l : Launch) (C : CS) (a0 : Int32) (a1 : Int32) (hw : p_X3_worn C a0 a1) : MC w l yX3_worn cX3_worn 3 (some .int) 2 0 0 [.ref (ad w 1), .int a0, .int a1] C (pI (v_X3_worn C a0 a1) (n_X3_worn C a0 a1)) := by
  unfold p_X3_worn at hw
  refine MC.of wk (by decide) (Nat.le_of_ble_eq_true rfl) (fun x hx ok => ?_)
  subst hx
  show G w x 3 0 0 (QM w x _ 0 0) C 0 [(0, .ref (ad w 1)), (1, .int a0), (2, .int a1)] []
  refine g_iload_n ok 1 dX3_worn_0 rfl ?_
  refine g_callSI ok [.int a0] cf_X3_isWord q1680 (mc_X3_isWord ok.wo (xL x) C a0) rfl rfl (Nat.le_of_ble_eq_true rfl) ⟨by decide, by decide⟩ ⟨by decide, by decide⟩ dX3_worn_1 ?_
  refine g_if_eq (tgt := 14) ok dX3_worn_4 (by decide) (fun c1 => ?_) (fun c1 => ?_)
  · have hw := hw.1 c1
    refine g_ldc (v := -1000000001) ok q1477 dX3_worn_14 ?_
    exact g_iret ok dX3_worn_16 ⟨by first | (simp only [v_X3_worn, if_pos c1]; done) | contradiction, by first | (simp only [n_X3_worn, if_pos c1]; done) | contradiction⟩
  · have hw := hw.2 c1
    refine g_iload_n ok 2 dX3_worn_7 rfl ?_
    refine g_callSI ok [.int a1] cf_X3_isWord q1680 (mc_X3_isWord ok.wo (xL x) C a1) rfl rfl (Nat.le_of_ble_eq_true rfl) ⟨by decide, by decide⟩ ⟨by decide, by decide⟩ dX3_worn_8 ?_
    refine g_if_ne (tgt := 17) ok dX3_worn_11 (by decide) (fun c2 => ?_) (fun c2 => ?_)
    · have hw := hw.2 c2
      refine g_aload_n ok 0 dX3_worn_17 rfl ?_
      refine g_get ok 1 rfl rfl in_X3 0 (by decide) q1359 rfl dX3_worn_18 ?_
      refine g_iconst (v := 4) ok dX3_worn_21 (by decide) ?_
      refine g_iald ok 36 rfl (by unfold vp_in; decide) 4 (by decide) dX3_worn_22 ?_
      refine g_bipush (v := 10) ok dX3_worn_23 (by decide) ?_
      refine g_icmp_ne (tgt := 31) ok dX3_worn_25 (by decide) (fun c3 => ?_) (fun c3 => ?_)
      · have hw := hw.2 c3
        refine g_aload_n ok 0 dX3_worn_31 rfl ?_
        refine g_get ok 1 rfl rfl in_X3 0 (by decide) q1359 rfl dX3_worn_32 ?_
        refine g_bipush (v := 6) ok dX3_worn_35 (by decide) ?_
        refine g_aload_n ok 0 dX3_worn_37 rfl ?_
        refine g_get ok 1 rfl rfl in_X3 0 (by decide) q1359 rfl dX3_worn_38 ?_
        refine g_iconst (v := 4) ok dX3_worn_41 (by decide) ?_
        refine g_iald ok 36 rfl (by unfold vp_in; decide) 4 (by decide) dX3_worn_42 ?_
        refine g_iadd ok dX3_worn_43 ?_
        refine g_bipush (v := 10) ok dX3_worn_44 (by decide) ?_
        refine g_iload_n ok 1 dX3_worn_46 rfl ?_
        refine g_imul ok dX3_worn_47 ?_
        refine g_iload_n ok 2 dX3_worn_48 rfl ?_
        refine g_iadd ok dX3_worn_49 ?_
        obtain ⟨hg, hw⟩ := hw
        refine g_iast ok 36 rfl hg _ rfl dX3_worn_50 (fun C4 eC4 => ?_)
        subst eC4
        refine g_aload_n ok 0 dX3_worn_51 rfl ?_
        refine g_get ok 1 rfl rfl in_X3 0 (by decide) q1359 rfl dX3_worn_52 ?_
        refine g_iconst (v := 4) ok dX3_worn_55 (by decide) ?_
        refine g_dup2 ok dX3_worn_56 rfl rfl ?_
        refine g_iald ok 36 rfl (by unfold vp_in; decide) 4 (by decide) dX3_worn_57 ?_
        refine g_iconst (v := 1) ok dX3_worn_58 (by decide) ?_
        refine g_iadd ok dX3_worn_59 ?_
        refine g_iast ok 36 rfl (by unfold vp_in; decide) 4 (by decide) dX3_worn_60 (fun C5 eC5 => ?_)
        subst eC5
        refine g_aload_n ok 0 dX3_worn_61 rfl ?_
        refine g_get ok 1 rfl rfl in_X3 0 (by decide) q1359 rfl dX3_worn_62 ?_
        refine g_iconst (v := 4) ok dX3_worn_65 (by decide) ?_
        refine g_iald ok 36 rfl (by unfold vp_in; decide) 4 (by decide) dX3_worn_66 ?_
        exact g_iret ok dX3_worn_67 ⟨by first | (simp only [v_X3_worn, if_neg c1, if_neg c2, if_neg c3]; done) | contradiction, by first | (simp only [n_X3_worn, if_neg c1, if_neg c2, if_neg c3]; done) | contradiction⟩
      · have hw := hw.1 c3
        refine g_ldc (v := -1000000003) ok q1478 dX3_worn_28 ?_
        exact g_iret ok dX3_worn_30 ⟨by first | (simp only [v_X3_worn, if_neg c1, if_neg c2, if_pos c3]; done) | contradiction, by first | (simp only [n_X3_worn, if_neg c1, if_neg c2, if_pos c3]; done) | contradiction⟩
    · have hw := hw.1 c2
      refine g_ldc (v := -1000000001) ok q1477 dX3_worn_14 ?_
      exact g_iret ok dX3_worn_16 ⟨by first | (simp only [v_X3_worn, if_neg c1, if_pos c2]; done) | contradiction, by first | (simp only [n_X3_worn, if_neg c1, if_pos c2]; done) | contradiction⟩
theorem cf_X3_forget : CfV yX3_forget "TwoGuildsModel" cX3_forget 1 (some .int) 0 := ⟨⟨by decide, by decide, by decide⟩, q75, q1686, q1684, q1685⟩
def v_X3_forget (C : CS)  : Int32 :=
  (v_X3_becomes C 4 0)
def n_X3_forget (C : CS)  : CS :=
  (n_X3_becomes C 4 0)
def p_X3_forget (C : CS)  : Prop :=
  p_X3_becomes C 4 0 ∧
    (True)
set_option maxHeartbeats 4000000 in
set_option maxRecDepth 100000 in
theorem mc_X3_forget {w : WD} (wk : wOk w) (l : Launch) (C : CS)  (hw : p_X3_forget C ) : MC w l yX3_forget cX3_forget 1 (some .int) 1 0 0 [.ref (ad w 1)] C (pI (v_X3_forget C ) (n_X3_forget C )) := by
  unfold p_X3_forget at hw
  refine MC.of wk (by decide) (Nat.le_of_ble_eq_true rfl) (fun x hx ok => ?_)
  subst hx
  show G w x 1 0 0 (QM w x _ 0 0) C 0 [(0, .ref (ad w 1))] []
  refine g_aload_n ok 0 dX3_forget_0 rfl ?_
  refine g_iconst (v := 4) ok dX3_forget_1 (by decide) ?_
  refine g_iconst (v := 0) ok dX3_forget_2 (by decide) ?_
  obtain ⟨hp, hw⟩ := hw
  refine g_callVI ok [.int 4, .int 0] cf_X3_becomes q1515 (mc_X3_becomes ok.wo (xL x) C 4 0 hp) (recvF ok 1 rfl rfl) rfl rfl (Nat.le_of_ble_eq_true rfl) ⟨by decide, by decide⟩ ⟨by decide, by decide⟩ dX3_forget_3 ?_
  exact g_iret ok dX3_forget_6 ⟨by rw [v_X3_forget], by rw [n_X3_forget]⟩
theorem cf_X3_trim : CfV yX3_trim "TwoGuildsModel" cX3_trim 2 (some .int) 1 := ⟨⟨by decide, by decide, by decide⟩, q75, q1719, q1717, q1718⟩
def v_X3_trim (C : CS) (a0 : Int32) : Int32 :=
  if (v_X3_in a0 0 (C.1 1 9)) = 0 then
    ((-1000000001))
    else
    (a0)
def n_X3_trim (C : CS) (a0 : Int32) : CS :=
  if (v_X3_in a0 0 (C.1 1 9)) = 0 then
    (C)
    else
    ((wI C 1 9 a0))
set_option maxHeartbeats 4000000 in
set_option maxRecDepth 100000 in
theorem mc_X3_trim {w : WD} (wk : wOk w) (l : Launch) (C : CS) (a0 : Int32) : MC w l yX3_trim cX3_trim 2 (some .int) 1 0 0 [.ref (ad w 1), .int a0] C (pI (v_X3_trim C a0) (n_X3_trim C a0)) := by
  refine MC.of wk (by decide) (Nat.le_of_ble_eq_true rfl) (fun x hx ok => ?_)
  subst hx
  show G w x 2 0 0 (QM w x _ 0 0) C 0 [(0, .ref (ad w 1)), (1, .int a0)] []
  refine g_iload_n ok 1 dX3_trim_0 rfl ?_
  refine g_iconst (v := 0) ok dX3_trim_1 (by decide) ?_
  refine g_aload_n ok 0 dX3_trim_2 rfl ?_
  refine g_get ok 1 rfl rfl in_X3 9 (by decide) q1368 rfl dX3_trim_3 ?_
  refine g_callSI ok [.int a0, .int 0, .int (C.1 1 9)] cf_X3_in q1474 (mc_X3_in ok.wo (xL x) C a0 0 (C.1 1 9)) rfl rfl (Nat.le_of_ble_eq_true rfl) ⟨by decide, by decide⟩ ⟨by decide, by decide⟩ dX3_trim_6 ?_
  refine g_if_ne (tgt := 15) ok dX3_trim_9 (by decide) (fun c1 => ?_) (fun c1 => ?_)
  · refine g_aload_n ok 0 dX3_trim_15 rfl ?_
    refine g_iload_n ok 1 dX3_trim_16 rfl ?_
    refine g_putI ok 1 rfl rfl in_X3 tyX3 tyX3_ok nmX3 9 (by decide) q1368 rfl rfl rfl (putV_m rfl) dX3_trim_17 (fun C2 eC2 => ?_)
    subst eC2
    refine g_iload_n ok 1 dX3_trim_20 rfl ?_
    exact g_iret ok dX3_trim_21 ⟨by first | (simp only [v_X3_trim, if_neg c1]; done) | contradiction, by first | (simp only [n_X3_trim, if_neg c1]; done) | contradiction⟩
  · refine g_ldc (v := -1000000001) ok q1477 dX3_trim_12 ?_
    exact g_iret ok dX3_trim_14 ⟨by first | (simp only [v_X3_trim, if_pos c1]; done) | contradiction, by first | (simp only [n_X3_trim, if_pos c1]; done) | contradiction⟩
theorem cf_X3_isLetter : CfV yX3_isLetter "TwoGuildsModel" cX3_isLetter 2 (some .boolean) 1 := ⟨⟨by decide, by decide, by decide⟩, q75, q1731, q1730, qs62⟩
def v_X3_isLetter (C : CS) (a0 : Int32) : Int32 :=
  if (C.1 1 9) ≤ a0 then
    (0)
    else
    (if (C.2.1 43 (Int32.toNatClampNeg a0)) < 97 then
      (0)
      else
      (if 122 < (C.2.1 43 (Int32.toNatClampNeg a0)) then
        (0)
        else
        (1)))
theorem vb_X3_isLetter (C : CS) (a0 : Int32) : v_X3_isLetter C a0 = 0 ∨ v_X3_isLetter C a0 = 1 := by
  unfold v_X3_isLetter
  exact (ib_ite (Or.inl rfl) (ib_ite (Or.inl rfl) (ib_ite (Or.inl rfl) (Or.inr rfl))))
def p_X3_isLetter (C : CS) (a0 : Int32) : Prop :=
  ((C.1 1 9) ≤ a0 → 
    True) ∧
    (¬ (C.1 1 9) ≤ a0 → 
    vp_in a0 96 ∧
      (((C.2.1 43 (Int32.toNatClampNeg a0)) < 97 → 
      True) ∧
      (¬ (C.2.1 43 (Int32.toNatClampNeg a0)) < 97 → 
      vp_in a0 96 ∧
        (True))))
set_option maxHeartbeats 4000000 in
set_option maxRecDepth 100000 in
theorem mc_X3_isLetter {w : WD} (wk : wOk w) (l : Launch) (C : CS) (a0 : Int32) (hw : p_X3_isLetter C a0) : MC w l yX3_isLetter cX3_isLetter 2 (some .boolean) 0 0 0 [.ref (ad w 1), .int a0] C (pI (v_X3_isLetter C a0) C) := by
  unfold p_X3_isLetter at hw
  refine MC.of wk (by decide) (Nat.le_of_ble_eq_true rfl) (fun x hx ok => ?_)
  subst hx
  show G w x 2 0 0 (QM w x _ 0 0) C 0 [(0, .ref (ad w 1)), (1, .int a0)] []
  refine g_iload_n ok 1 dX3_isLetter_0 rfl ?_
  refine g_aload_n ok 0 dX3_isLetter_1 rfl ?_
  refine g_get ok 1 rfl rfl in_X3 9 (by decide) q1368 rfl dX3_isLetter_2 ?_
  refine g_icmp_ge (tgt := 34) ok dX3_isLetter_5 (by decide) (fun c1 => ?_) (fun c1 => ?_)
  · have hw := hw.1 c1
    refine g_iconst (v := 0) ok dX3_isLetter_34 (by decide) ?_
    exact g_zret ok dX3_isLetter_35 (Or.inl rfl) ⟨by first | (simp only [v_X3_isLetter, if_pos c1]; done) | contradiction, rfl⟩
  · have hw := hw.2 c1
    refine g_aload_n ok 0 dX3_isLetter_8 rfl ?_
    refine g_get ok 1 rfl rfl in_X3 8 (by decide) q1367 rfl dX3_isLetter_9 ?_
    refine g_iload_n ok 1 dX3_isLetter_12 rfl ?_
    obtain ⟨hg, hw⟩ := hw
    refine g_iald ok 43 rfl hg _ rfl dX3_isLetter_13 ?_
    refine g_bipush (v := 97) ok dX3_isLetter_14 (by decide) ?_
    refine g_icmp_lt (tgt := 34) ok dX3_isLetter_16 (by decide) (fun c2 => ?_) (fun c2 => ?_)
    · have hw := hw.1 c2
      refine g_iconst (v := 0) ok dX3_isLetter_34 (by decide) ?_
      exact g_zret ok dX3_isLetter_35 (Or.inl rfl) ⟨by first | (simp only [v_X3_isLetter, if_neg c1, if_pos c2]; done) | contradiction, rfl⟩
    · have hw := hw.2 c2
      refine g_aload_n ok 0 dX3_isLetter_19 rfl ?_
      refine g_get ok 1 rfl rfl in_X3 8 (by decide) q1367 rfl dX3_isLetter_20 ?_
      refine g_iload_n ok 1 dX3_isLetter_23 rfl ?_
      obtain ⟨hg, hw⟩ := hw
      refine g_iald ok 43 rfl hg _ rfl dX3_isLetter_24 ?_
      refine g_bipush (v := 122) ok dX3_isLetter_25 (by decide) ?_
      refine g_icmp_gt (tgt := 34) ok dX3_isLetter_27 (by decide) (fun c3 => ?_) (fun c3 => ?_)
      · refine g_iconst (v := 0) ok dX3_isLetter_34 (by decide) ?_
        exact g_zret ok dX3_isLetter_35 (Or.inl rfl) ⟨by first | (simp only [v_X3_isLetter, if_neg c1, if_neg c2, if_pos c3]; done) | contradiction, rfl⟩
      · refine g_iconst (v := 1) ok dX3_isLetter_30 (by decide) ?_
        refine g_goto (tgt := 35) ok dX3_isLetter_31 (by decide) ?_
        exact g_zret ok dX3_isLetter_35 (Or.inr rfl) ⟨by first | (simp only [v_X3_isLetter, if_neg c1, if_neg c2, if_neg c3]; done) | contradiction, rfl⟩
theorem cf_X3_isFigure : CfV yX3_isFigure "TwoGuildsModel" cX3_isFigure 2 (some .boolean) 1 := ⟨⟨by decide, by decide, by decide⟩, q75, q1735, q1734, qs63⟩
def v_X3_isFigure (C : CS) (a0 : Int32) : Int32 :=
  if (C.1 1 9) ≤ a0 then
    (0)
    else
    (if (C.2.1 43 (Int32.toNatClampNeg a0)) < 48 then
      (0)
      else
      (if 57 < (C.2.1 43 (Int32.toNatClampNeg a0)) then
        (0)
        else
        (1)))
theorem vb_X3_isFigure (C : CS) (a0 : Int32) : v_X3_isFigure C a0 = 0 ∨ v_X3_isFigure C a0 = 1 := by
  unfold v_X3_isFigure
  exact (ib_ite (Or.inl rfl) (ib_ite (Or.inl rfl) (ib_ite (Or.inl rfl) (Or.inr rfl))))
def p_X3_isFigure (C : CS) (a0 : Int32) : Prop :=
  ((C.1 1 9) ≤ a0 → 
    True) ∧
    (¬ (C.1 1 9) ≤ a0 → 
    vp_in a0 96 ∧
      (((C.2.1 43 (Int32.toNatClampNeg a0)) < 48 → 
      True) ∧
      (¬ (C.2.1 43 (Int32.toNatClampNeg a0)) < 48 → 
      vp_in a0 96 ∧
        (True))))
set_option maxHeartbeats 4000000 in
set_option maxRecDepth 100000 in
theorem mc_X3_isFigure {w : WD} (wk : wOk w) (l : Launch) (C : CS) (a0 : Int32) (hw : p_X3_isFigure C a0) : MC w l yX3_isFigure cX3_isFigure 2 (some .boolean) 0 0 0 [.ref (ad w 1), .int a0] C (pI (v_X3_isFigure C a0) C) := by
  unfold p_X3_isFigure at hw
  refine MC.of wk (by decide) (Nat.le_of_ble_eq_true rfl) (fun x hx ok => ?_)
  subst hx
  show G w x 2 0 0 (QM w x _ 0 0) C 0 [(0, .ref (ad w 1)), (1, .int a0)] []
  refine g_iload_n ok 1 dX3_isFigure_0 rfl ?_
  refine g_aload_n ok 0 dX3_isFigure_1 rfl ?_
  refine g_get ok 1 rfl rfl in_X3 9 (by decide) q1368 rfl dX3_isFigure_2 ?_
  refine g_icmp_ge (tgt := 34) ok dX3_isFigure_5 (by decide) (fun c1 => ?_) (fun c1 => ?_)
  · have hw := hw.1 c1
    refine g_iconst (v := 0) ok dX3_isFigure_34 (by decide) ?_
    exact g_zret ok dX3_isFigure_35 (Or.inl rfl) ⟨by first | (simp only [v_X3_isFigure, if_pos c1]; done) | contradiction, rfl⟩
  · have hw := hw.2 c1
    refine g_aload_n ok 0 dX3_isFigure_8 rfl ?_
    refine g_get ok 1 rfl rfl in_X3 8 (by decide) q1367 rfl dX3_isFigure_9 ?_
    refine g_iload_n ok 1 dX3_isFigure_12 rfl ?_
    obtain ⟨hg, hw⟩ := hw
    refine g_iald ok 43 rfl hg _ rfl dX3_isFigure_13 ?_
    refine g_bipush (v := 48) ok dX3_isFigure_14 (by decide) ?_
    refine g_icmp_lt (tgt := 34) ok dX3_isFigure_16 (by decide) (fun c2 => ?_) (fun c2 => ?_)
    · have hw := hw.1 c2
      refine g_iconst (v := 0) ok dX3_isFigure_34 (by decide) ?_
      exact g_zret ok dX3_isFigure_35 (Or.inl rfl) ⟨by first | (simp only [v_X3_isFigure, if_neg c1, if_pos c2]; done) | contradiction, rfl⟩
    · have hw := hw.2 c2
      refine g_aload_n ok 0 dX3_isFigure_19 rfl ?_
      refine g_get ok 1 rfl rfl in_X3 8 (by decide) q1367 rfl dX3_isFigure_20 ?_
      refine g_iload_n ok 1 dX3_isFigure_23 rfl ?_
      obtain ⟨hg, hw⟩ := hw
      refine g_iald ok 43 rfl hg _ rfl dX3_isFigure_24 ?_
      refine g_bipush (v := 57) ok dX3_isFigure_25 (by decide) ?_
      refine g_icmp_gt (tgt := 34) ok dX3_isFigure_27 (by decide) (fun c3 => ?_) (fun c3 => ?_)
      · refine g_iconst (v := 0) ok dX3_isFigure_34 (by decide) ?_
        exact g_zret ok dX3_isFigure_35 (Or.inl rfl) ⟨by first | (simp only [v_X3_isFigure, if_neg c1, if_neg c2, if_pos c3]; done) | contradiction, rfl⟩
      · refine g_iconst (v := 1) ok dX3_isFigure_30 (by decide) ?_
        refine g_goto (tgt := 35) ok dX3_isFigure_31 (by decide) ?_
        exact g_zret ok dX3_isFigure_35 (Or.inr rfl) ⟨by first | (simp only [v_X3_isFigure, if_neg c1, if_neg c2, if_neg c3]; done) | contradiction, rfl⟩
theorem cf_X3_nameOf : CfV yX3_nameOf "TwoGuildsModel" cX3_nameOf 2 (some .int) 1 := ⟨⟨by decide, by decide, by decide⟩, q75, q1751, q1750, qs67⟩
def v_X3_nameOf (C : CS) (a0 : Int32) : Int32 :=
  if (C.1 1 15) = 0 then
    (if a0 = 97 then
      (0)
      else
      (if a0 = 98 then
        (1)
        else
        (if a0 = 119 then
          (2)
          else
          ((-1)))))
    else
    (if (C.1 1 15) = 1 then
      (if a0 = 120 then
        (0)
        else
        (if a0 = 112 then
          (1)
          else
          ((-1))))
      else
      (if a0 = 100 then
        (0)
        else
        (if a0 = 108 then
          (1)
          else
          ((-1)))))
set_option maxHeartbeats 4000000 in
set_option maxRecDepth 100000 in
theorem mc_X3_nameOf {w : WD} (wk : wOk w) (l : Launch) (C : CS) (a0 : Int32) : MC w l yX3_nameOf cX3_nameOf 2 (some .int) 0 0 0 [.ref (ad w 1), .int a0] C (pI (v_X3_nameOf C a0) C) := by
  refine MC.of wk (by decide) (Nat.le_of_ble_eq_true rfl) (fun x hx ok => ?_)
  subst hx
  show G w x 2 0 0 (QM w x _ 0 0) C 0 [(0, .ref (ad w 1)), (1, .int a0)] []
  refine g_aload_n ok 0 dX3_nameOf_0 rfl ?_
  refine g_get ok 1 rfl rfl in_X3 15 (by decide) q1374 rfl dX3_nameOf_1 ?_
  by_cases c1 : (C.1 1 15) = 0
  · refine g_look (off := 28) (tgt := 32) ok dX3_nameOf_4 (by decide) (by rw [c1] <;> rfl) (by decide) ?_
    refine g_iload_n ok 1 dX3_nameOf_32 rfl ?_
    refine g_bipush (v := 97) ok dX3_nameOf_33 (by decide) ?_
    refine g_icmp_ne (tgt := 42) ok dX3_nameOf_35 (by decide) (fun c2 => ?_) (fun c2 => ?_)
    · refine g_iload_n ok 1 dX3_nameOf_42 rfl ?_
      refine g_bipush (v := 98) ok dX3_nameOf_43 (by decide) ?_
      refine g_icmp_ne (tgt := 52) ok dX3_nameOf_45 (by decide) (fun c3 => ?_) (fun c3 => ?_)
      · refine g_iload_n ok 1 dX3_nameOf_52 rfl ?_
        refine g_bipush (v := 119) ok dX3_nameOf_53 (by decide) ?_
        refine g_icmp_ne (tgt := 62) ok dX3_nameOf_55 (by decide) (fun c4 => ?_) (fun c4 => ?_)
        · refine g_iconst (v := -1) ok dX3_nameOf_62 (by decide) ?_
          exact g_iret ok dX3_nameOf_63 ⟨by first | (simp only [v_X3_nameOf, if_pos c1, if_neg c2, if_neg c3, if_neg c4]; done) | contradiction, rfl⟩
        · refine g_iconst (v := 2) ok dX3_nameOf_58 (by decide) ?_
          refine g_goto (tgt := 63) ok dX3_nameOf_59 (by decide) ?_
          exact g_iret ok dX3_nameOf_63 ⟨by first | (simp only [v_X3_nameOf, if_pos c1, if_neg c2, if_neg c3, if_pos c4]; done) | contradiction, rfl⟩
      · refine g_iconst (v := 1) ok dX3_nameOf_48 (by decide) ?_
        refine g_goto (tgt := 63) ok dX3_nameOf_49 (by decide) ?_
        exact g_iret ok dX3_nameOf_63 ⟨by first | (simp only [v_X3_nameOf, if_pos c1, if_neg c2, if_pos c3]; done) | contradiction, rfl⟩
    · refine g_iconst (v := 0) ok dX3_nameOf_38 (by decide) ?_
      refine g_goto (tgt := 63) ok dX3_nameOf_39 (by decide) ?_
      exact g_iret ok dX3_nameOf_63 ⟨by first | (simp only [v_X3_nameOf, if_pos c1, if_pos c2]; done) | contradiction, rfl⟩
  · skip
    by_cases c5 : (C.1 1 15) = 1
    · refine g_look (off := 60) (tgt := 64) ok dX3_nameOf_4 (by decide) (by rw [c5] <;> rfl) (by decide) ?_
      refine g_iload_n ok 1 dX3_nameOf_64 rfl ?_
      refine g_bipush (v := 120) ok dX3_nameOf_65 (by decide) ?_
      refine g_icmp_ne (tgt := 74) ok dX3_nameOf_67 (by decide) (fun c6 => ?_) (fun c6 => ?_)
      · refine g_iload_n ok 1 dX3_nameOf_74 rfl ?_
        refine g_bipush (v := 112) ok dX3_nameOf_75 (by decide) ?_
        refine g_icmp_ne (tgt := 84) ok dX3_nameOf_77 (by decide) (fun c7 => ?_) (fun c7 => ?_)
        · refine g_iconst (v := -1) ok dX3_nameOf_84 (by decide) ?_
          exact g_iret ok dX3_nameOf_85 ⟨by first | (simp only [v_X3_nameOf, if_neg c1, if_pos c5, if_neg c6, if_neg c7]; done) | contradiction, rfl⟩
        · refine g_iconst (v := 1) ok dX3_nameOf_80 (by decide) ?_
          refine g_goto (tgt := 85) ok dX3_nameOf_81 (by decide) ?_
          exact g_iret ok dX3_nameOf_85 ⟨by first | (simp only [v_X3_nameOf, if_neg c1, if_pos c5, if_neg c6, if_pos c7]; done) | contradiction, rfl⟩
      · refine g_iconst (v := 0) ok dX3_nameOf_70 (by decide) ?_
        refine g_goto (tgt := 85) ok dX3_nameOf_71 (by decide) ?_
        exact g_iret ok dX3_nameOf_85 ⟨by first | (simp only [v_X3_nameOf, if_neg c1, if_pos c5, if_pos c6]; done) | contradiction, rfl⟩
    · skip
      refine g_look (off := 82) (tgt := 86) ok dX3_nameOf_4 (by decide) (by show Op.lookupswitch.offset [(0, 28), (1, 60)] 82 _ = _; rw [lv_osw (a := 0) c1 (by decide), lv_osw (a := 1) c5 (by decide)] <;> rfl) (by decide) ?_
      refine g_iload_n ok 1 dX3_nameOf_86 rfl ?_
      refine g_bipush (v := 100) ok dX3_nameOf_87 (by decide) ?_
      refine g_icmp_ne (tgt := 96) ok dX3_nameOf_89 (by decide) (fun c8 => ?_) (fun c8 => ?_)
      · refine g_iload_n ok 1 dX3_nameOf_96 rfl ?_
        refine g_bipush (v := 108) ok dX3_nameOf_97 (by decide) ?_
        refine g_icmp_ne (tgt := 106) ok dX3_nameOf_99 (by decide) (fun c9 => ?_) (fun c9 => ?_)
        · refine g_iconst (v := -1) ok dX3_nameOf_106 (by decide) ?_
          exact g_iret ok dX3_nameOf_107 ⟨by first | (simp only [v_X3_nameOf, if_neg c1, if_neg c5, if_neg c8, if_neg c9]; done) | contradiction, rfl⟩
        · refine g_iconst (v := 1) ok dX3_nameOf_102 (by decide) ?_
          refine g_goto (tgt := 107) ok dX3_nameOf_103 (by decide) ?_
          exact g_iret ok dX3_nameOf_107 ⟨by first | (simp only [v_X3_nameOf, if_neg c1, if_neg c5, if_neg c8, if_pos c9]; done) | contradiction, rfl⟩
      · refine g_iconst (v := 0) ok dX3_nameOf_92 (by decide) ?_
        refine g_goto (tgt := 107) ok dX3_nameOf_93 (by decide) ?_
        exact g_iret ok dX3_nameOf_107 ⟨by first | (simp only [v_X3_nameOf, if_neg c1, if_neg c5, if_pos c8]; done) | contradiction, rfl⟩
theorem cf_X3_rank : CfS yX3_rank cX3_rank 1 (some .int) 1 := ⟨⟨by decide, by decide, by decide⟩, q75, q1758, q1757⟩
def v_X3_rank (a0 : Int32) : Int32 :=
  if a0 = (-1) then
    (1)
    else
    (if a0 = (-2) then
      (2)
      else
      (if a0 < (-5) then
        (if a0 < (-7) then
          (if a0 < (-9) then
            (6)
            else
            (5))
          else
          (4))
        else
        (3)))
set_option maxHeartbeats 4000000 in
set_option maxRecDepth 100000 in
theorem mc_X3_rank {w : WD} (wk : wOk w) (l : Launch) (C : CS) (a0 : Int32) : MC w l yX3_rank cX3_rank 1 (some .int) 0 0 0 [.int a0] C (pI (v_X3_rank a0) C) := by
  refine MC.of wk (by decide) (Nat.le_of_ble_eq_true rfl) (fun x hx ok => ?_)
  subst hx
  show G w x 1 0 0 (QM w x _ 0 0) C 0 [(0, .int a0)] []
  refine g_iload_n ok 0 dX3_rank_0 rfl ?_
  refine g_iconst (v := -1) ok dX3_rank_1 (by decide) ?_
  refine g_icmp_ne (tgt := 9) ok dX3_rank_2 (by decide) (fun c1 => ?_) (fun c1 => ?_)
  · refine g_iload_n ok 0 dX3_rank_9 rfl ?_
    refine g_bipush (v := -2) ok dX3_rank_10 (by decide) ?_
    refine g_icmp_ne (tgt := 19) ok dX3_rank_12 (by decide) (fun c2 => ?_) (fun c2 => ?_)
    · refine g_iload_n ok 0 dX3_rank_19 rfl ?_
      refine g_bipush (v := -5) ok dX3_rank_20 (by decide) ?_
      refine g_icmp_lt (tgt := 29) ok dX3_rank_22 (by decide) (fun c3 => ?_) (fun c3 => ?_)
      · refine g_iload_n ok 0 dX3_rank_29 rfl ?_
        refine g_bipush (v := -7) ok dX3_rank_30 (by decide) ?_
        refine g_icmp_lt (tgt := 39) ok dX3_rank_32 (by decide) (fun c4 => ?_) (fun c4 => ?_)
        · refine g_iload_n ok 0 dX3_rank_39 rfl ?_
          refine g_bipush (v := -9) ok dX3_rank_40 (by decide) ?_
          refine g_icmp_lt (tgt := 49) ok dX3_rank_42 (by decide) (fun c5 => ?_) (fun c5 => ?_)
          · refine g_bipush (v := 6) ok dX3_rank_49 (by decide) ?_
            exact g_iret ok dX3_rank_51 ⟨by first | (simp only [v_X3_rank, if_neg c1, if_neg c2, if_pos c3, if_pos c4, if_pos c5]; done) | contradiction, rfl⟩
          · refine g_iconst (v := 5) ok dX3_rank_45 (by decide) ?_
            refine g_goto (tgt := 51) ok dX3_rank_46 (by decide) ?_
            exact g_iret ok dX3_rank_51 ⟨by first | (simp only [v_X3_rank, if_neg c1, if_neg c2, if_pos c3, if_pos c4, if_neg c5]; done) | contradiction, rfl⟩
        · refine g_iconst (v := 4) ok dX3_rank_35 (by decide) ?_
          refine g_goto (tgt := 51) ok dX3_rank_36 (by decide) ?_
          exact g_iret ok dX3_rank_51 ⟨by first | (simp only [v_X3_rank, if_neg c1, if_neg c2, if_pos c3, if_neg c4]; done) | contradiction, rfl⟩
      · refine g_iconst (v := 3) ok dX3_rank_25 (by decide) ?_
        refine g_goto (tgt := 51) ok dX3_rank_26 (by decide) ?_
        exact g_iret ok dX3_rank_51 ⟨by first | (simp only [v_X3_rank, if_neg c1, if_neg c2, if_neg c3]; done) | contradiction, rfl⟩
    · refine g_iconst (v := 2) ok dX3_rank_15 (by decide) ?_
      refine g_goto (tgt := 51) ok dX3_rank_16 (by decide) ?_
      exact g_iret ok dX3_rank_51 ⟨by first | (simp only [v_X3_rank, if_neg c1, if_pos c2]; done) | contradiction, rfl⟩
  · refine g_iconst (v := 1) ok dX3_rank_5 (by decide) ?_
    refine g_goto (tgt := 51) ok dX3_rank_6 (by decide) ?_
    exact g_iret ok dX3_rank_51 ⟨by first | (simp only [v_X3_rank, if_pos c1]; done) | contradiction, rfl⟩
theorem cf_X3_signHere : CfV yX3_signHere "TwoGuildsModel" cX3_signHere 1 (some .int) 0 := ⟨⟨by decide, by decide, by decide⟩, q75, q1766, q1765, qs70⟩
def v_X3_signHere (C : CS)  : Int32 :=
  if (C.1 1 12) = 3 then
    (if (C.1 1 13) = 38 then
      ((-2))
      else
      (if (C.1 1 13) = 42 then
        ((-8))
        else
        (if (C.1 1 13) = 43 then
          ((-6))
          else
          (if (C.1 1 13) = 45 then
            ((-7))
            else
            (if (C.1 1 13) = 47 then
              ((-9))
              else
              (if (C.1 1 13) = 60 then
                ((-3))
                else
                (if (C.1 1 13) = 61 then
                  ((-4))
                  else
                  (if (C.1 1 13) = 62 then
                    ((-5))
                    else
                    (if (C.1 1 13) = 124 then
                      ((-1))
                      else
                      (0))))))))))
    else
    (0)
set_option maxHeartbeats 4000000 in
set_option maxRecDepth 100000 in
theorem mc_X3_signHere {w : WD} (wk : wOk w) (l : Launch) (C : CS)  : MC w l yX3_signHere cX3_signHere 1 (some .int) 0 0 0 [.ref (ad w 1)] C (pI (v_X3_signHere C ) C) := by
  refine MC.of wk (by decide) (Nat.le_of_ble_eq_true rfl) (fun x hx ok => ?_)
  subst hx
  show G w x 1 0 0 (QM w x _ 0 0) C 0 [(0, .ref (ad w 1))] []
  refine g_aload_n ok 0 dX3_signHere_0 rfl ?_
  refine g_get ok 1 rfl rfl in_X3 12 (by decide) q1371 rfl dX3_signHere_1 ?_
  refine g_iconst (v := 3) ok dX3_signHere_4 (by decide) ?_
  refine g_icmp_eq (tgt := 10) ok dX3_signHere_5 (by decide) (fun c1 => ?_) (fun c1 => ?_)
  · refine g_aload_n ok 0 dX3_signHere_10 rfl ?_
    refine g_get ok 1 rfl rfl in_X3 13 (by decide) q1372 rfl dX3_signHere_11 ?_
    by_cases c2 : (C.1 1 13) = 38
    · refine g_look (off := 84) (tgt := 98) ok dX3_signHere_14 (by decide) (by rw [c2] <;> rfl) (by decide) ?_
      refine g_bipush (v := -2) ok dX3_signHere_98 (by decide) ?_
      exact g_iret ok dX3_signHere_100 ⟨by first | (simp only [v_X3_signHere, if_pos c1, if_pos c2]; done) | contradiction, rfl⟩
    · skip
      by_cases c3 : (C.1 1 13) = 42
      · refine g_look (off := 102) (tgt := 116) ok dX3_signHere_14 (by decide) (by rw [c3] <;> rfl) (by decide) ?_
        refine g_bipush (v := -8) ok dX3_signHere_116 (by decide) ?_
        exact g_iret ok dX3_signHere_118 ⟨by first | (simp only [v_X3_signHere, if_pos c1, if_neg c2, if_pos c3]; done) | contradiction, rfl⟩
      · skip
        by_cases c4 : (C.1 1 13) = 43
        · refine g_look (off := 96) (tgt := 110) ok dX3_signHere_14 (by decide) (by rw [c4] <;> rfl) (by decide) ?_
          refine g_bipush (v := -6) ok dX3_signHere_110 (by decide) ?_
          exact g_iret ok dX3_signHere_112 ⟨by first | (simp only [v_X3_signHere, if_pos c1, if_neg c2, if_neg c3, if_pos c4]; done) | contradiction, rfl⟩
        · skip
          by_cases c5 : (C.1 1 13) = 45
          · refine g_look (off := 99) (tgt := 113) ok dX3_signHere_14 (by decide) (by rw [c5] <;> rfl) (by decide) ?_
            refine g_bipush (v := -7) ok dX3_signHere_113 (by decide) ?_
            exact g_iret ok dX3_signHere_115 ⟨by first | (simp only [v_X3_signHere, if_pos c1, if_neg c2, if_neg c3, if_neg c4, if_pos c5]; done) | contradiction, rfl⟩
          · skip
            by_cases c6 : (C.1 1 13) = 47
            · refine g_look (off := 105) (tgt := 119) ok dX3_signHere_14 (by decide) (by rw [c6] <;> rfl) (by decide) ?_
              refine g_bipush (v := -9) ok dX3_signHere_119 (by decide) ?_
              exact g_iret ok dX3_signHere_121 ⟨by first | (simp only [v_X3_signHere, if_pos c1, if_neg c2, if_neg c3, if_neg c4, if_neg c5, if_pos c6]; done) | contradiction, rfl⟩
            · skip
              by_cases c7 : (C.1 1 13) = 60
              · refine g_look (off := 87) (tgt := 101) ok dX3_signHere_14 (by decide) (by rw [c7] <;> rfl) (by decide) ?_
                refine g_bipush (v := -3) ok dX3_signHere_101 (by decide) ?_
                exact g_iret ok dX3_signHere_103 ⟨by first | (simp only [v_X3_signHere, if_pos c1, if_neg c2, if_neg c3, if_neg c4, if_neg c5, if_neg c6, if_pos c7]; done) | contradiction, rfl⟩
              · skip
                by_cases c8 : (C.1 1 13) = 61
                · refine g_look (off := 90) (tgt := 104) ok dX3_signHere_14 (by decide) (by rw [c8] <;> rfl) (by decide) ?_
                  refine g_bipush (v := -4) ok dX3_signHere_104 (by decide) ?_
                  exact g_iret ok dX3_signHere_106 ⟨by first | (simp only [v_X3_signHere, if_pos c1, if_neg c2, if_neg c3, if_neg c4, if_neg c5, if_neg c6, if_neg c7, if_pos c8]; done) | contradiction, rfl⟩
                · skip
                  by_cases c9 : (C.1 1 13) = 62
                  · refine g_look (off := 93) (tgt := 107) ok dX3_signHere_14 (by decide) (by rw [c9] <;> rfl) (by decide) ?_
                    refine g_bipush (v := -5) ok dX3_signHere_107 (by decide) ?_
                    exact g_iret ok dX3_signHere_109 ⟨by first | (simp only [v_X3_signHere, if_pos c1, if_neg c2, if_neg c3, if_neg c4, if_neg c5, if_neg c6, if_neg c7, if_neg c8, if_pos c9]; done) | contradiction, rfl⟩
                  · skip
                    by_cases c10 : (C.1 1 13) = 124
                    · refine g_look (off := 82) (tgt := 96) ok dX3_signHere_14 (by decide) (by rw [c10] <;> rfl) (by decide) ?_
                      refine g_iconst (v := -1) ok dX3_signHere_96 (by decide) ?_
                      exact g_iret ok dX3_signHere_97 ⟨by first | (simp only [v_X3_signHere, if_pos c1, if_neg c2, if_neg c3, if_neg c4, if_neg c5, if_neg c6, if_neg c7, if_neg c8, if_neg c9, if_pos c10]; done) | contradiction, rfl⟩
                    · skip
                      refine g_look (off := 108) (tgt := 122) ok dX3_signHere_14 (by decide) (by show Op.lookupswitch.offset [(38, 84), (42, 102), (43, 96), (45, 99), (47, 105), (60, 87), (61, 90), (62, 93), (124, 82)] 108 _ = _; rw [lv_osw (a := 38) c2 (by decide), lv_osw (a := 42) c3 (by decide), lv_osw (a := 43) c4 (by decide), lv_osw (a := 45) c5 (by decide), lv_osw (a := 47) c6 (by decide), lv_osw (a := 60) c7 (by decide), lv_osw (a := 61) c8 (by decide), lv_osw (a := 62) c9 (by decide), lv_osw (a := 124) c10 (by decide)] <;> rfl) (by decide) ?_
                      refine g_iconst (v := 0) ok dX3_signHere_122 (by decide) ?_
                      exact g_iret ok dX3_signHere_123 ⟨by first | (simp only [v_X3_signHere, if_pos c1, if_neg c2, if_neg c3, if_neg c4, if_neg c5, if_neg c6, if_neg c7, if_neg c8, if_neg c9, if_neg c10]; done) | contradiction, rfl⟩
  · refine g_iconst (v := 0) ok dX3_signHere_8 (by decide) ?_
    exact g_iret ok dX3_signHere_9 ⟨by first | (simp only [v_X3_signHere, if_neg c1]; done) | contradiction, rfl⟩
theorem cf_X3_two : CfS yX3_two cX3_two 3 (some .int) 3 := ⟨⟨by decide, by decide, by decide⟩, q75, q1559, q1558⟩
def v_X3_two (a0 : Int32) (a1 : Int32) (a2 : Int32) : Int32 :=
  if a0 = (-8) then
    ((a1 * a2))
    else
    (if a0 = (-7) then
      ((a1 - a2))
      else
      (if a0 = (-6) then
        ((a1 + a2))
        else
        (if a0 = (-5) then
          (if a1 ≤ a2 then
            (0)
            else
            (1))
          else
          (if a0 = (-4) then
            (if a1 = a2 then
              (1)
              else
              (0))
            else
            (if a0 = (-3) then
              (if a2 ≤ a1 then
                (0)
                else
                (1))
              else
              (if a0 = (-2) then
                (if a1 = 0 then
                  (0)
                  else
                  (if a2 = 0 then
                    (0)
                    else
                    (1)))
                else
                (if a0 = (-1) then
                  (if a1 = 0 then
                    (if a2 = 0 then
                      (0)
                      else
                      (1))
                    else
                    (1))
                  else
                  (if a2 = 0 then
                    (0)
                    else
                    ((a1 / a2))))))))))
def p_X3_two (C : CS) (a0 : Int32) (a1 : Int32) (a2 : Int32) : Prop :=
  (a0 = (-8) → 
    True) ∧
    (¬ a0 = (-8) → 
    (a0 = (-7) → 
      True) ∧
      (¬ a0 = (-7) → 
      (a0 = (-6) → 
        True) ∧
        (¬ a0 = (-6) → 
        (a0 = (-5) → 
          True) ∧
          (¬ a0 = (-5) → 
          (a0 = (-4) → 
            True) ∧
            (¬ a0 = (-4) → 
            (a0 = (-3) → 
              True) ∧
              (¬ a0 = (-3) → 
              (a0 = (-2) → 
                True) ∧
                (¬ a0 = (-2) → 
                (a0 = (-1) → 
                  True) ∧
                  (¬ a0 = (-1) → 
                  (a2 = 0 → 
                    True) ∧
                    (¬ a2 = 0 → 
                    ¬ a2 = 0 ∧
                      (True))))))))))
set_option maxHeartbeats 4000000 in
set_option maxRecDepth 100000 in
theorem mc_X3_two {w : WD} (wk : wOk w) (l : Launch) (C : CS) (a0 : Int32) (a1 : Int32) (a2 : Int32) (hw : p_X3_two C a0 a1 a2) : MC w l yX3_two cX3_two 3 (some .int) 0 0 0 [.int a0, .int a1, .int a2] C (pI (v_X3_two a0 a1 a2) C) := by
  unfold p_X3_two at hw
  refine MC.of wk (by decide) (Nat.le_of_ble_eq_true rfl) (fun x hx ok => ?_)
  subst hx
  show G w x 3 0 0 (QM w x _ 0 0) C 0 [(0, .int a0), (1, .int a1), (2, .int a2)] []
  refine g_iload_n ok 0 dX3_two_0 rfl ?_
  by_cases c1 : a0 = (-8)
  · have hw := hw.1 c1
    refine g_swIn (tgt := 117) ok (-8) dX3_two_1 (c1.trans (by decide)) (by decide) rfl (by decide) ?_
    refine g_iload_n ok 1 dX3_two_117 rfl ?_
    refine g_iload_n ok 2 dX3_two_118 rfl ?_
    refine g_imul ok dX3_two_119 ?_
    exact g_iret ok dX3_two_120 ⟨by first | (simp only [v_X3_two, if_pos c1]; done) | contradiction, rfl⟩
  · have hw := hw.2 c1
    by_cases c2 : a0 = (-7)
    · have hw := hw.1 c2
      refine g_swIn (tgt := 113) ok (-7) dX3_two_1 (c2.trans (by decide)) (by decide) rfl (by decide) ?_
      refine g_iload_n ok 1 dX3_two_113 rfl ?_
      refine g_iload_n ok 2 dX3_two_114 rfl ?_
      refine g_isub ok dX3_two_115 ?_
      exact g_iret ok dX3_two_116 ⟨by first | (simp only [v_X3_two, if_neg c1, if_pos c2]; done) | contradiction, rfl⟩
    · have hw := hw.2 c2
      by_cases c3 : a0 = (-6)
      · have hw := hw.1 c3
        refine g_swIn (tgt := 109) ok (-6) dX3_two_1 (c3.trans (by decide)) (by decide) rfl (by decide) ?_
        refine g_iload_n ok 1 dX3_two_109 rfl ?_
        refine g_iload_n ok 2 dX3_two_110 rfl ?_
        refine g_iadd ok dX3_two_111 ?_
        exact g_iret ok dX3_two_112 ⟨by first | (simp only [v_X3_two, if_neg c1, if_neg c2, if_pos c3]; done) | contradiction, rfl⟩
      · have hw := hw.2 c3
        by_cases c4 : a0 = (-5)
        · have hw := hw.1 c4
          refine g_swIn (tgt := 98) ok (-5) dX3_two_1 (c4.trans (by decide)) (by decide) rfl (by decide) ?_
          refine g_iload_n ok 1 dX3_two_98 rfl ?_
          refine g_iload_n ok 2 dX3_two_99 rfl ?_
          refine g_icmp_le (tgt := 107) ok dX3_two_100 (by decide) (fun c5 => ?_) (fun c5 => ?_)
          · refine g_iconst (v := 0) ok dX3_two_107 (by decide) ?_
            exact g_iret ok dX3_two_108 ⟨by first | (simp only [v_X3_two, if_neg c1, if_neg c2, if_neg c3, if_pos c4, if_pos c5]; done) | contradiction, rfl⟩
          · refine g_iconst (v := 1) ok dX3_two_103 (by decide) ?_
            refine g_goto (tgt := 108) ok dX3_two_104 (by decide) ?_
            exact g_iret ok dX3_two_108 ⟨by first | (simp only [v_X3_two, if_neg c1, if_neg c2, if_neg c3, if_pos c4, if_neg c5]; done) | contradiction, rfl⟩
        · have hw := hw.2 c4
          by_cases c6 : a0 = (-4)
          · have hw := hw.1 c6
            refine g_swIn (tgt := 87) ok (-4) dX3_two_1 (c6.trans (by decide)) (by decide) rfl (by decide) ?_
            refine g_iload_n ok 1 dX3_two_87 rfl ?_
            refine g_iload_n ok 2 dX3_two_88 rfl ?_
            refine g_icmp_ne (tgt := 96) ok dX3_two_89 (by decide) (fun c7 => ?_) (fun c7 => ?_)
            · refine g_iconst (v := 0) ok dX3_two_96 (by decide) ?_
              exact g_iret ok dX3_two_97 ⟨by first | (simp only [v_X3_two, if_neg c1, if_neg c2, if_neg c3, if_neg c4, if_pos c6, if_neg c7]; done) | contradiction, rfl⟩
            · refine g_iconst (v := 1) ok dX3_two_92 (by decide) ?_
              refine g_goto (tgt := 97) ok dX3_two_93 (by decide) ?_
              exact g_iret ok dX3_two_97 ⟨by first | (simp only [v_X3_two, if_neg c1, if_neg c2, if_neg c3, if_neg c4, if_pos c6, if_pos c7]; done) | contradiction, rfl⟩
          · have hw := hw.2 c6
            by_cases c8 : a0 = (-3)
            · have hw := hw.1 c8
              refine g_swIn (tgt := 76) ok (-3) dX3_two_1 (c8.trans (by decide)) (by decide) rfl (by decide) ?_
              refine g_iload_n ok 1 dX3_two_76 rfl ?_
              refine g_iload_n ok 2 dX3_two_77 rfl ?_
              refine g_icmp_ge (tgt := 85) ok dX3_two_78 (by decide) (fun c9 => ?_) (fun c9 => ?_)
              · refine g_iconst (v := 0) ok dX3_two_85 (by decide) ?_
                exact g_iret ok dX3_two_86 ⟨by first | (simp only [v_X3_two, if_neg c1, if_neg c2, if_neg c3, if_neg c4, if_neg c6, if_pos c8, if_pos c9]; done) | contradiction, rfl⟩
              · refine g_iconst (v := 1) ok dX3_two_81 (by decide) ?_
                refine g_goto (tgt := 86) ok dX3_two_82 (by decide) ?_
                exact g_iret ok dX3_two_86 ⟨by first | (simp only [v_X3_two, if_neg c1, if_neg c2, if_neg c3, if_neg c4, if_neg c6, if_pos c8, if_neg c9]; done) | contradiction, rfl⟩
            · have hw := hw.2 c8
              by_cases c10 : a0 = (-2)
              · have hw := hw.1 c10
                refine g_swIn (tgt := 62) ok (-2) dX3_two_1 (c10.trans (by decide)) (by decide) rfl (by decide) ?_
                refine g_iload_n ok 1 dX3_two_62 rfl ?_
                refine g_if_eq (tgt := 74) ok dX3_two_63 (by decide) (fun c11 => ?_) (fun c11 => ?_)
                · refine g_iconst (v := 0) ok dX3_two_74 (by decide) ?_
                  exact g_iret ok dX3_two_75 ⟨by first | (simp only [v_X3_two, if_neg c1, if_neg c2, if_neg c3, if_neg c4, if_neg c6, if_neg c8, if_pos c10, if_pos c11]; done) | contradiction, rfl⟩
                · refine g_iload_n ok 2 dX3_two_66 rfl ?_
                  refine g_if_eq (tgt := 74) ok dX3_two_67 (by decide) (fun c12 => ?_) (fun c12 => ?_)
                  · refine g_iconst (v := 0) ok dX3_two_74 (by decide) ?_
                    exact g_iret ok dX3_two_75 ⟨by first | (simp only [v_X3_two, if_neg c1, if_neg c2, if_neg c3, if_neg c4, if_neg c6, if_neg c8, if_pos c10, if_neg c11, if_pos c12]; done) | contradiction, rfl⟩
                  · refine g_iconst (v := 1) ok dX3_two_70 (by decide) ?_
                    refine g_goto (tgt := 75) ok dX3_two_71 (by decide) ?_
                    exact g_iret ok dX3_two_75 ⟨by first | (simp only [v_X3_two, if_neg c1, if_neg c2, if_neg c3, if_neg c4, if_neg c6, if_neg c8, if_pos c10, if_neg c11, if_neg c12]; done) | contradiction, rfl⟩
              · have hw := hw.2 c10
                by_cases c13 : a0 = (-1)
                · have hw := hw.1 c13
                  refine g_swIn (tgt := 48) ok (-1) dX3_two_1 (c13.trans (by decide)) (by decide) rfl (by decide) ?_
                  refine g_iload_n ok 1 dX3_two_48 rfl ?_
                  refine g_if_ne (tgt := 56) ok dX3_two_49 (by decide) (fun c14 => ?_) (fun c14 => ?_)
                  · refine g_iconst (v := 1) ok dX3_two_56 (by decide) ?_
                    refine g_goto (tgt := 61) ok dX3_two_57 (by decide) ?_
                    exact g_iret ok dX3_two_61 ⟨by first | (simp only [v_X3_two, if_neg c1, if_neg c2, if_neg c3, if_neg c4, if_neg c6, if_neg c8, if_neg c10, if_pos c13, if_neg c14]; done) | contradiction, rfl⟩
                  · refine g_iload_n ok 2 dX3_two_52 rfl ?_
                    refine g_if_eq (tgt := 60) ok dX3_two_53 (by decide) (fun c15 => ?_) (fun c15 => ?_)
                    · refine g_iconst (v := 0) ok dX3_two_60 (by decide) ?_
                      exact g_iret ok dX3_two_61 ⟨by first | (simp only [v_X3_two, if_neg c1, if_neg c2, if_neg c3, if_neg c4, if_neg c6, if_neg c8, if_neg c10, if_pos c13, if_pos c14, if_pos c15]; done) | contradiction, rfl⟩
                    · refine g_iconst (v := 1) ok dX3_two_56 (by decide) ?_
                      refine g_goto (tgt := 61) ok dX3_two_57 (by decide) ?_
                      exact g_iret ok dX3_two_61 ⟨by first | (simp only [v_X3_two, if_neg c1, if_neg c2, if_neg c3, if_neg c4, if_neg c6, if_neg c8, if_neg c10, if_pos c13, if_pos c14, if_neg c15]; done) | contradiction, rfl⟩
                · have hw := hw.2 c13
                  refine g_swOut (tgt := 121) ok dX3_two_1 (fun k k1 k2 => ?_) (by decide) ?_
                  · rcases (show k = -8 ∨ k = -7 ∨ k = -6 ∨ k = -5 ∨ k = -4 ∨ k = -3 ∨ k = -2 ∨ k = -1 by omega) with rfl | rfl | rfl | rfl | rfl | rfl | rfl | rfl
                    · exact fun h => c1 (h.trans (by decide))
                    · exact fun h => c2 (h.trans (by decide))
                    · exact fun h => c3 (h.trans (by decide))
                    · exact fun h => c4 (h.trans (by decide))
                    · exact fun h => c6 (h.trans (by decide))
                    · exact fun h => c8 (h.trans (by decide))
                    · exact fun h => c10 (h.trans (by decide))
                    · exact fun h => c13 (h.trans (by decide))
                  · refine g_iload_n ok 2 dX3_two_121 rfl ?_
                    refine g_if_ne (tgt := 129) ok dX3_two_122 (by decide) (fun c16 => ?_) (fun c16 => ?_)
                    · have hw := hw.2 c16
                      refine g_iload_n ok 1 dX3_two_129 rfl ?_
                      refine g_iload_n ok 2 dX3_two_130 rfl ?_
                      obtain ⟨hg, hw⟩ := hw
                      refine g_idiv ok dX3_two_131 hg ?_
                      exact g_iret ok dX3_two_132 ⟨by first | (simp only [v_X3_two, if_neg c1, if_neg c2, if_neg c3, if_neg c4, if_neg c6, if_neg c8, if_neg c10, if_neg c13, if_neg c16]; done) | contradiction, rfl⟩
                    · have hw := hw.1 c16
                      refine g_iconst (v := 0) ok dX3_two_125 (by decide) ?_
                      refine g_goto (tgt := 132) ok dX3_two_126 (by decide) ?_
                      exact g_iret ok dX3_two_132 ⟨by first | (simp only [v_X3_two, if_neg c1, if_neg c2, if_neg c3, if_neg c4, if_neg c6, if_neg c8, if_neg c10, if_neg c13, if_pos c16]; done) | contradiction, rfl⟩
theorem cf_X3_isSheet : CfS yX3_isSheet cX3_isSheet 1 (some .boolean) 1 := ⟨⟨by decide, by decide, by decide⟩, q75, q1610, q1609⟩
def v_X3_isSheet (a0 : Int32) : Int32 :=
  (v_X3_in a0 0 3)
theorem vb_X3_isSheet (a0 : Int32) : v_X3_isSheet a0 = 0 ∨ v_X3_isSheet a0 = 1 := by
  unfold v_X3_isSheet
  exact (vb_X3_in a0 0 3)
set_option maxHeartbeats 4000000 in
set_option maxRecDepth 100000 in
theorem mc_X3_isSheet {w : WD} (wk : wOk w) (l : Launch) (C : CS) (a0 : Int32) : MC w l yX3_isSheet cX3_isSheet 1 (some .boolean) 1 0 0 [.int a0] C (pI (v_X3_isSheet a0) C) := by
  refine MC.of wk (by decide) (Nat.le_of_ble_eq_true rfl) (fun x hx ok => ?_)
  subst hx
  show G w x 1 0 0 (QM w x _ 0 0) C 0 [(0, .int a0)] []
  refine g_iload_n ok 0 dX3_isSheet_0 rfl ?_
  refine g_iconst (v := 0) ok dX3_isSheet_1 (by decide) ?_
  refine g_iconst (v := 3) ok dX3_isSheet_2 (by decide) ?_
  refine g_callSI ok [.int a0, .int 0, .int 3] cf_X3_in q1474 (mc_X3_in ok.wo (xL x) C a0 0 3) rfl rfl (Nat.le_of_ble_eq_true rfl) ⟨by decide, by decide⟩ ⟨by decide, by decide⟩ dX3_isSheet_3 ?_
  exact g_zret ok dX3_isSheet_6 (vb_X3_in a0 0 3) ⟨by rw [v_X3_isSheet], rfl⟩
theorem cf_X3_isSlot : CfS yX3_isSlot cX3_isSlot 1 (some .boolean) 1 := ⟨⟨by decide, by decide, by decide⟩, q75, q1805, q1804⟩
def v_X3_isSlot (a0 : Int32) : Int32 :=
  (v_X3_in a0 0 4)
theorem vb_X3_isSlot (a0 : Int32) : v_X3_isSlot a0 = 0 ∨ v_X3_isSlot a0 = 1 := by
  unfold v_X3_isSlot
  exact (vb_X3_in a0 0 4)
set_option maxHeartbeats 4000000 in
set_option maxRecDepth 100000 in
theorem mc_X3_isSlot {w : WD} (wk : wOk w) (l : Launch) (C : CS) (a0 : Int32) : MC w l yX3_isSlot cX3_isSlot 1 (some .boolean) 1 0 0 [.int a0] C (pI (v_X3_isSlot a0) C) := by
  refine MC.of wk (by decide) (Nat.le_of_ble_eq_true rfl) (fun x hx ok => ?_)
  subst hx
  show G w x 1 0 0 (QM w x _ 0 0) C 0 [(0, .int a0)] []
  refine g_iload_n ok 0 dX3_isSlot_0 rfl ?_
  refine g_iconst (v := 0) ok dX3_isSlot_1 (by decide) ?_
  refine g_iconst (v := 4) ok dX3_isSlot_2 (by decide) ?_
  refine g_callSI ok [.int a0, .int 0, .int 4] cf_X3_in q1474 (mc_X3_in ok.wo (xL x) C a0 0 4) rfl rfl (Nat.le_of_ble_eq_true rfl) ⟨by decide, by decide⟩ ⟨by decide, by decide⟩ dX3_isSlot_3 ?_
  exact g_zret ok dX3_isSlot_6 (vb_X3_in a0 0 4) ⟨by rw [v_X3_isSlot], rfl⟩
theorem cf_X3_mark : CfV yX3_mark "TwoGuildsModel" cX3_mark 4 (some .int) 3 := ⟨⟨by decide, by decide, by decide⟩, q75, q1783, q1781, q1782⟩
def v_X3_mark (C : CS) (a0 : Int32) (a1 : Int32) (a2 : Int32) : Int32 :=
  if (v_X3_isSheet a0) = 0 then
    ((-1000000001))
    else
    (if 0 ≤ (C.2.1 51 (Int32.toNatClampNeg a0)) then
      (if (v_X3_in a1 0 ((C.2.1 52 (Int32.toNatClampNeg a0)) - 1)) = 0 then
        ((-1000000013))
        else
        (if (C.2.1 51 (Int32.toNatClampNeg a0)) = 0 then
          (if a2 = (-1000000005) then
            ((-1000000012))
            else
            (if (C.2.1 51 (Int32.toNatClampNeg a0)) = 1 then
              (if a2 = (-1000000005) then
                (1)
                else
                (if (v_X3_in a2 (-99999) 99999) = 0 then
                  ((-1000000001))
                  else
                  (1)))
              else
              (1)))
          else
          (if (C.2.1 51 (Int32.toNatClampNeg a0)) = 1 then
            (if a2 = (-1000000005) then
              (1)
              else
              (if (v_X3_in a2 (-99999) 99999) = 0 then
                ((-1000000001))
                else
                (1)))
            else
            (1))))
      else
      ((-1000000011)))
def n_X3_mark (C : CS) (a0 : Int32) (a1 : Int32) (a2 : Int32) : CS :=
  if (v_X3_isSheet a0) = 0 then
    (C)
    else
    (if 0 ≤ (C.2.1 51 (Int32.toNatClampNeg a0)) then
      (if (v_X3_in a1 0 ((C.2.1 52 (Int32.toNatClampNeg a0)) - 1)) = 0 then
        (C)
        else
        (if (C.2.1 51 (Int32.toNatClampNeg a0)) = 0 then
          (if a2 = (-1000000005) then
            (C)
            else
            (if (C.2.1 51 (Int32.toNatClampNeg a0)) = 1 then
              (if a2 = (-1000000005) then
                ((wA C 53 (Int32.toNatClampNeg ((24 * a0) + a1)) (if (C.2.1 51 (Int32.toNatClampNeg a0)) = 0 then (Int32.toInt16 a2).toInt32 else a2)))
                else
                (if (v_X3_in a2 (-99999) 99999) = 0 then
                  (C)
                  else
                  ((wA C 53 (Int32.toNatClampNeg ((24 * a0) + a1)) (if (C.2.1 51 (Int32.toNatClampNeg a0)) = 0 then (Int32.toInt16 a2).toInt32 else a2)))))
              else
              ((wA C 53 (Int32.toNatClampNeg ((24 * a0) + a1)) (if (C.2.1 51 (Int32.toNatClampNeg a0)) = 0 then (Int32.toInt16 a2).toInt32 else a2)))))
          else
          (if (C.2.1 51 (Int32.toNatClampNeg a0)) = 1 then
            (if a2 = (-1000000005) then
              ((wA C 53 (Int32.toNatClampNeg ((24 * a0) + a1)) (if (C.2.1 51 (Int32.toNatClampNeg a0)) = 0 then (Int32.toInt16 a2).toInt32 else a2)))
              else
              (if (v_X3_in a2 (-99999) 99999) = 0 then
                (C)
                else
                ((wA C 53 (Int32.toNatClampNeg ((24 * a0) + a1)) (if (C.2.1 51 (Int32.toNatClampNeg a0)) = 0 then (Int32.toInt16 a2).toInt32 else a2)))))
            else
            ((wA C 53 (Int32.toNatClampNeg ((24 * a0) + a1)) (if (C.2.1 51 (Int32.toNatClampNeg a0)) = 0 then (Int32.toInt16 a2).toInt32 else a2))))))
      else
      (C))
def p_X3_mark (C : CS) (a0 : Int32) (a1 : Int32) (a2 : Int32) : Prop :=
  ((v_X3_isSheet a0) = 0 → 
    True) ∧
    (¬ (v_X3_isSheet a0) = 0 → 
    vp_in a0 4 ∧
      ((0 ≤ (C.2.1 51 (Int32.toNatClampNeg a0)) → 
      vp_in a0 4 ∧
        (((v_X3_in a1 0 ((C.2.1 52 (Int32.toNatClampNeg a0)) - 1)) = 0 → 
        True) ∧
        (¬ (v_X3_in a1 0 ((C.2.1 52 (Int32.toNatClampNeg a0)) - 1)) = 0 → 
        vp_in a0 4 ∧
          (((C.2.1 51 (Int32.toNatClampNeg a0)) = 0 → 
          (a2 = (-1000000005) → 
            True) ∧
            (¬ a2 = (-1000000005) → 
            vp_in a0 4 ∧
              (((C.2.1 51 (Int32.toNatClampNeg a0)) = 1 → 
              (a2 = (-1000000005) → 
                vp_in a0 4 ∧
                  (vp_in ((24 * a0) + a1) 96 ∧
                  (True))) ∧
                (¬ a2 = (-1000000005) → 
                ((v_X3_in a2 (-99999) 99999) = 0 → 
                  True) ∧
                  (¬ (v_X3_in a2 (-99999) 99999) = 0 → 
                  vp_in a0 4 ∧
                    (vp_in ((24 * a0) + a1) 96 ∧
                    (True))))) ∧
              (¬ (C.2.1 51 (Int32.toNatClampNeg a0)) = 1 → 
              vp_in a0 4 ∧
                (vp_in ((24 * a0) + a1) 96 ∧
                (True)))))) ∧
          (¬ (C.2.1 51 (Int32.toNatClampNeg a0)) = 0 → 
          vp_in a0 4 ∧
            (((C.2.1 51 (Int32.toNatClampNeg a0)) = 1 → 
            (a2 = (-1000000005) → 
              vp_in a0 4 ∧
                (vp_in ((24 * a0) + a1) 96 ∧
                (True))) ∧
              (¬ a2 = (-1000000005) → 
              ((v_X3_in a2 (-99999) 99999) = 0 → 
                True) ∧
                (¬ (v_X3_in a2 (-99999) 99999) = 0 → 
                vp_in a0 4 ∧
                  (vp_in ((24 * a0) + a1) 96 ∧
                  (True))))) ∧
            (¬ (C.2.1 51 (Int32.toNatClampNeg a0)) = 1 → 
            vp_in a0 4 ∧
              (vp_in ((24 * a0) + a1) 96 ∧
              (True))))))))) ∧
      (¬ 0 ≤ (C.2.1 51 (Int32.toNatClampNeg a0)) → 
      True)))
set_option maxHeartbeats 4000000 in
set_option maxRecDepth 100000 in
theorem mc_X3_mark {w : WD} (wk : wOk w) (l : Launch) (C : CS) (a0 : Int32) (a1 : Int32) (a2 : Int32) (hw : p_X3_mark C a0 a1 a2) : MC w l yX3_mark cX3_mark 4 (some .int) 2 0 0 [.ref (ad w 1), .int a0, .int a1, .int a2] C (pI (v_X3_mark C a0 a1 a2) (n_X3_mark C a0 a1 a2)) := by
  unfold p_X3_mark at hw
  refine MC.of wk (by decide) (Nat.le_of_ble_eq_true rfl) (fun x hx ok => ?_)
  subst hx
  show G w x 4 0 0 (QM w x _ 0 0) C 0 [(0, .ref (ad w 1)), (1, .int a0), (2, .int a1), (3, .int a2)] []
  refine g_iload_n ok 1 dX3_mark_0 rfl ?_
  refine g_callSI ok [.int a0] cf_X3_isSheet q1608 (mc_X3_isSheet ok.wo (xL x) C a0) rfl rfl (Nat.le_of_ble_eq_true rfl) ⟨by decide, by decide⟩ ⟨by decide, by decide⟩ dX3_mark_1 ?_
  refine g_if_ne (tgt := 10) ok dX3_mark_4 (by decide) (fun c1 => ?_) (fun c1 => ?_)
  · have hw := hw.2 c1
    refine g_aload_n ok 0 dX3_mark_10 rfl ?_
    refine g_get ok 1 rfl rfl in_X3 26 (by decide) q1385 rfl dX3_mark_11 ?_
    refine g_iload_n ok 1 dX3_mark_14 rfl ?_
    obtain ⟨hg, hw⟩ := hw
    refine g_iald ok 51 rfl hg _ rfl dX3_mark_15 ?_
    refine g_if_ge (tgt := 22) ok dX3_mark_16 (by decide) (fun c2 => ?_) (fun c2 => ?_)
    · have hw := hw.1 c2
      refine g_iload_n ok 2 dX3_mark_22 rfl ?_
      refine g_iconst (v := 0) ok dX3_mark_23 (by decide) ?_
      refine g_aload_n ok 0 dX3_mark_24 rfl ?_
      refine g_get ok 1 rfl rfl in_X3 27 (by decide) q1386 rfl dX3_mark_25 ?_
      refine g_iload_n ok 1 dX3_mark_28 rfl ?_
      obtain ⟨hg, hw⟩ := hw
      refine g_iald ok 52 rfl hg _ rfl dX3_mark_29 ?_
      refine g_iconst (v := 1) ok dX3_mark_30 (by decide) ?_
      refine g_isub ok dX3_mark_31 ?_
      refine g_callSI ok [.int a1, .int 0, .int ((C.2.1 52 (Int32.toNatClampNeg a0)) - 1)] cf_X3_in q1474 (mc_X3_in ok.wo (xL x) C a1 0 ((C.2.1 52 (Int32.toNatClampNeg a0)) - 1)) rfl rfl (Nat.le_of_ble_eq_true rfl) ⟨by decide, by decide⟩ ⟨by decide, by decide⟩ dX3_mark_32 ?_
      refine g_if_ne (tgt := 42) ok dX3_mark_35 (by decide) (fun c3 => ?_) (fun c3 => ?_)
      · have hw := hw.2 c3
        refine g_aload_n ok 0 dX3_mark_42 rfl ?_
        refine g_get ok 1 rfl rfl in_X3 26 (by decide) q1385 rfl dX3_mark_43 ?_
        refine g_iload_n ok 1 dX3_mark_46 rfl ?_
        obtain ⟨hg, hw⟩ := hw
        refine g_iald ok 51 rfl hg _ rfl dX3_mark_47 ?_
        refine g_if_ne (tgt := 60) ok dX3_mark_48 (by decide) (fun c4 => ?_) (fun c4 => ?_)
        · have hw := hw.2 c4
          refine g_aload_n ok 0 dX3_mark_60 rfl ?_
          refine g_get ok 1 rfl rfl in_X3 26 (by decide) q1385 rfl dX3_mark_61 ?_
          refine g_iload_n ok 1 dX3_mark_64 rfl ?_
          obtain ⟨hg, hw⟩ := hw
          refine g_iald ok 51 rfl hg _ rfl dX3_mark_65 ?_
          refine g_iconst (v := 1) ok dX3_mark_66 (by decide) ?_
          refine g_icmp_ne (tgt := 92) ok dX3_mark_67 (by decide) (fun c5 => ?_) (fun c5 => ?_)
          · have hw := hw.2 c5
            refine g_aload_n ok 0 dX3_mark_92 rfl ?_
            refine g_get ok 1 rfl rfl in_X3 28 (by decide) q1387 rfl dX3_mark_93 ?_
            refine g_bipush (v := 24) ok dX3_mark_96 (by decide) ?_
            refine g_iload_n ok 1 dX3_mark_98 rfl ?_
            refine g_imul ok dX3_mark_99 ?_
            refine g_iload_n ok 2 dX3_mark_100 rfl ?_
            refine g_iadd ok dX3_mark_101 ?_
            refine g_aload_n ok 0 dX3_mark_102 rfl ?_
            refine g_get ok 1 rfl rfl in_X3 26 (by decide) q1385 rfl dX3_mark_103 ?_
            refine g_iload_n ok 1 dX3_mark_106 rfl ?_
            obtain ⟨hg, hw⟩ := hw
            refine g_iald ok 51 rfl hg _ rfl dX3_mark_107 ?_
            have kj7 : G w x 4 0 0 (QM w x (pI (v_X3_mark C a0 a1 a2) (n_X3_mark C a0 a1 a2)) 0 0) C 117 [] [.int (if (C.2.1 51 (Int32.toNatClampNeg a0)) = 0 then (Int32.toInt16 a2).toInt32 else a2), .int ((24 * a0) + a1), .ref (ad w 53)] := by
              obtain ⟨hg, hw⟩ := hw
              refine g_iast ok 53 rfl hg _ rfl dX3_mark_117 (fun C8 eC8 => ?_)
              subst eC8
              refine g_iconst (v := 1) ok dX3_mark_118 (by decide) ?_
              exact g_iret ok dX3_mark_119 ⟨by first | (simp only [v_X3_mark, if_neg c1, if_pos c2, if_neg c3, if_neg c4, if_neg c5]; done) | contradiction, by first | (simp only [n_X3_mark, if_neg c1, if_pos c2, if_neg c3, if_neg c4, if_neg c5]; done) | contradiction⟩
            refine g_if_ne (tgt := 116) ok dX3_mark_108 (by decide) (fun c6 => ?_) (fun c6 => ?_)
            · refine g_iload_n ok 3 dX3_mark_116 rfl ?_
              simp only [if_neg c6] at kj7
              exact g_sub [] [] rfl kj7
            · refine g_iload_n ok 3 dX3_mark_111 rfl ?_
              refine g_i2s ok dX3_mark_112 ?_
              refine g_goto (tgt := 117) ok dX3_mark_113 (by decide) ?_
              simp only [if_pos c6] at kj7
              exact g_sub [] [] rfl kj7
          · have hw := hw.1 c5
            refine g_iload_n ok 3 dX3_mark_70 rfl ?_
            refine g_ldc (v := -1000000005) ok q1560 dX3_mark_71 ?_
            refine g_icmp_eq (tgt := 92) ok dX3_mark_73 (by decide) (fun c9 => ?_) (fun c9 => ?_)
            · have hw := hw.1 c9
              refine g_aload_n ok 0 dX3_mark_92 rfl ?_
              refine g_get ok 1 rfl rfl in_X3 28 (by decide) q1387 rfl dX3_mark_93 ?_
              refine g_bipush (v := 24) ok dX3_mark_96 (by decide) ?_
              refine g_iload_n ok 1 dX3_mark_98 rfl ?_
              refine g_imul ok dX3_mark_99 ?_
              refine g_iload_n ok 2 dX3_mark_100 rfl ?_
              refine g_iadd ok dX3_mark_101 ?_
              refine g_aload_n ok 0 dX3_mark_102 rfl ?_
              refine g_get ok 1 rfl rfl in_X3 26 (by decide) q1385 rfl dX3_mark_103 ?_
              refine g_iload_n ok 1 dX3_mark_106 rfl ?_
              obtain ⟨hg, hw⟩ := hw
              refine g_iald ok 51 rfl hg _ rfl dX3_mark_107 ?_
              have kj11 : G w x 4 0 0 (QM w x (pI (v_X3_mark C a0 a1 a2) (n_X3_mark C a0 a1 a2)) 0 0) C 117 [] [.int (if (C.2.1 51 (Int32.toNatClampNeg a0)) = 0 then (Int32.toInt16 a2).toInt32 else a2), .int ((24 * a0) + a1), .ref (ad w 53)] := by
                obtain ⟨hg, hw⟩ := hw
                refine g_iast ok 53 rfl hg _ rfl dX3_mark_117 (fun C12 eC12 => ?_)
                subst eC12
                refine g_iconst (v := 1) ok dX3_mark_118 (by decide) ?_
                exact g_iret ok dX3_mark_119 ⟨by first | (simp only [v_X3_mark, if_neg c1, if_pos c2, if_neg c3, if_neg c4, if_pos c5, if_pos c9]; done) | contradiction, by first | (simp only [n_X3_mark, if_neg c1, if_pos c2, if_neg c3, if_neg c4, if_pos c5, if_pos c9]; done) | contradiction⟩
              refine g_if_ne (tgt := 116) ok dX3_mark_108 (by decide) (fun c10 => ?_) (fun c10 => ?_)
              · refine g_iload_n ok 3 dX3_mark_116 rfl ?_
                simp only [if_neg c10] at kj11
                exact g_sub [] [] rfl kj11
              · refine g_iload_n ok 3 dX3_mark_111 rfl ?_
                refine g_i2s ok dX3_mark_112 ?_
                refine g_goto (tgt := 117) ok dX3_mark_113 (by decide) ?_
                simp only [if_pos c10] at kj11
                exact g_sub [] [] rfl kj11
            · have hw := hw.2 c9
              refine g_iload_n ok 3 dX3_mark_76 rfl ?_
              refine g_ldc_w (v := -99999) ok q1785 dX3_mark_77 ?_
              refine g_ldc_w (v := 99999) ok q1786 dX3_mark_80 ?_
              refine g_callSI ok [.int a2, .int (-99999), .int 99999] cf_X3_in q1474 (mc_X3_in ok.wo (xL x) C a2 (-99999) 99999) rfl rfl (Nat.le_of_ble_eq_true rfl) ⟨by decide, by decide⟩ ⟨by decide, by decide⟩ dX3_mark_83 ?_
              refine g_if_ne (tgt := 92) ok dX3_mark_86 (by decide) (fun c13 => ?_) (fun c13 => ?_)
              · have hw := hw.2 c13
                refine g_aload_n ok 0 dX3_mark_92 rfl ?_
                refine g_get ok 1 rfl rfl in_X3 28 (by decide) q1387 rfl dX3_mark_93 ?_
                refine g_bipush (v := 24) ok dX3_mark_96 (by decide) ?_
                refine g_iload_n ok 1 dX3_mark_98 rfl ?_
                refine g_imul ok dX3_mark_99 ?_
                refine g_iload_n ok 2 dX3_mark_100 rfl ?_
                refine g_iadd ok dX3_mark_101 ?_
                refine g_aload_n ok 0 dX3_mark_102 rfl ?_
                refine g_get ok 1 rfl rfl in_X3 26 (by decide) q1385 rfl dX3_mark_103 ?_
                refine g_iload_n ok 1 dX3_mark_106 rfl ?_
                obtain ⟨hg, hw⟩ := hw
                refine g_iald ok 51 rfl hg _ rfl dX3_mark_107 ?_
                have kj15 : G w x 4 0 0 (QM w x (pI (v_X3_mark C a0 a1 a2) (n_X3_mark C a0 a1 a2)) 0 0) C 117 [] [.int (if (C.2.1 51 (Int32.toNatClampNeg a0)) = 0 then (Int32.toInt16 a2).toInt32 else a2), .int ((24 * a0) + a1), .ref (ad w 53)] := by
                  obtain ⟨hg, hw⟩ := hw
                  refine g_iast ok 53 rfl hg _ rfl dX3_mark_117 (fun C16 eC16 => ?_)
                  subst eC16
                  refine g_iconst (v := 1) ok dX3_mark_118 (by decide) ?_
                  exact g_iret ok dX3_mark_119 ⟨by first | (simp only [v_X3_mark, if_neg c1, if_pos c2, if_neg c3, if_neg c4, if_pos c5, if_neg c9, if_neg c13]; done) | contradiction, by first | (simp only [n_X3_mark, if_neg c1, if_pos c2, if_neg c3, if_neg c4, if_pos c5, if_neg c9, if_neg c13]; done) | contradiction⟩
                refine g_if_ne (tgt := 116) ok dX3_mark_108 (by decide) (fun c14 => ?_) (fun c14 => ?_)
                · refine g_iload_n ok 3 dX3_mark_116 rfl ?_
                  simp only [if_neg c14] at kj15
                  exact g_sub [] [] rfl kj15
                · refine g_iload_n ok 3 dX3_mark_111 rfl ?_
                  refine g_i2s ok dX3_mark_112 ?_
                  refine g_goto (tgt := 117) ok dX3_mark_113 (by decide) ?_
                  simp only [if_pos c14] at kj15
                  exact g_sub [] [] rfl kj15
              · have hw := hw.1 c13
                refine g_ldc (v := -1000000001) ok q1477 dX3_mark_89 ?_
                exact g_iret ok dX3_mark_91 ⟨by first | (simp only [v_X3_mark, if_neg c1, if_pos c2, if_neg c3, if_neg c4, if_pos c5, if_neg c9, if_pos c13]; done) | contradiction, by first | (simp only [n_X3_mark, if_neg c1, if_pos c2, if_neg c3, if_neg c4, if_pos c5, if_neg c9, if_pos c13]; done) | contradiction⟩
        · have hw := hw.1 c4
          refine g_iload_n ok 3 dX3_mark_51 rfl ?_
          refine g_ldc (v := -1000000005) ok q1560 dX3_mark_52 ?_
          refine g_icmp_ne (tgt := 60) ok dX3_mark_54 (by decide) (fun c17 => ?_) (fun c17 => ?_)
          · have hw := hw.2 c17
            refine g_aload_n ok 0 dX3_mark_60 rfl ?_
            refine g_get ok 1 rfl rfl in_X3 26 (by decide) q1385 rfl dX3_mark_61 ?_
            refine g_iload_n ok 1 dX3_mark_64 rfl ?_
            obtain ⟨hg, hw⟩ := hw
            refine g_iald ok 51 rfl hg _ rfl dX3_mark_65 ?_
            refine g_iconst (v := 1) ok dX3_mark_66 (by decide) ?_
            refine g_icmp_ne (tgt := 92) ok dX3_mark_67 (by decide) (fun c18 => ?_) (fun c18 => ?_)
            · have hw := hw.2 c18
              refine g_aload_n ok 0 dX3_mark_92 rfl ?_
              refine g_get ok 1 rfl rfl in_X3 28 (by decide) q1387 rfl dX3_mark_93 ?_
              refine g_bipush (v := 24) ok dX3_mark_96 (by decide) ?_
              refine g_iload_n ok 1 dX3_mark_98 rfl ?_
              refine g_imul ok dX3_mark_99 ?_
              refine g_iload_n ok 2 dX3_mark_100 rfl ?_
              refine g_iadd ok dX3_mark_101 ?_
              refine g_aload_n ok 0 dX3_mark_102 rfl ?_
              refine g_get ok 1 rfl rfl in_X3 26 (by decide) q1385 rfl dX3_mark_103 ?_
              refine g_iload_n ok 1 dX3_mark_106 rfl ?_
              obtain ⟨hg, hw⟩ := hw
              refine g_iald ok 51 rfl hg _ rfl dX3_mark_107 ?_
              have kj20 : G w x 4 0 0 (QM w x (pI (v_X3_mark C a0 a1 a2) (n_X3_mark C a0 a1 a2)) 0 0) C 117 [] [.int (if (C.2.1 51 (Int32.toNatClampNeg a0)) = 0 then (Int32.toInt16 a2).toInt32 else a2), .int ((24 * a0) + a1), .ref (ad w 53)] := by
                obtain ⟨hg, hw⟩ := hw
                refine g_iast ok 53 rfl hg _ rfl dX3_mark_117 (fun C21 eC21 => ?_)
                subst eC21
                refine g_iconst (v := 1) ok dX3_mark_118 (by decide) ?_
                exact g_iret ok dX3_mark_119 ⟨by first | (simp only [v_X3_mark, if_neg c1, if_pos c2, if_neg c3, if_pos c4, if_neg c17, if_neg c18]; done) | contradiction, by first | (simp only [n_X3_mark, if_neg c1, if_pos c2, if_neg c3, if_pos c4, if_neg c17, if_neg c18]; done) | contradiction⟩
              refine g_if_ne (tgt := 116) ok dX3_mark_108 (by decide) (fun c19 => ?_) (fun c19 => ?_)
              · refine g_iload_n ok 3 dX3_mark_116 rfl ?_
                simp only [if_neg c19] at kj20
                exact g_sub [] [] rfl kj20
              · refine g_iload_n ok 3 dX3_mark_111 rfl ?_
                refine g_i2s ok dX3_mark_112 ?_
                refine g_goto (tgt := 117) ok dX3_mark_113 (by decide) ?_
                simp only [if_pos c19] at kj20
                exact g_sub [] [] rfl kj20
            · have hw := hw.1 c18
              refine g_iload_n ok 3 dX3_mark_70 rfl ?_
              refine g_ldc (v := -1000000005) ok q1560 dX3_mark_71 ?_
              refine g_icmp_eq (tgt := 92) ok dX3_mark_73 (by decide) (fun c22 => ?_) (fun c22 => ?_)
              · have hw := hw.1 c22
                refine g_aload_n ok 0 dX3_mark_92 rfl ?_
                refine g_get ok 1 rfl rfl in_X3 28 (by decide) q1387 rfl dX3_mark_93 ?_
                refine g_bipush (v := 24) ok dX3_mark_96 (by decide) ?_
                refine g_iload_n ok 1 dX3_mark_98 rfl ?_
                refine g_imul ok dX3_mark_99 ?_
                refine g_iload_n ok 2 dX3_mark_100 rfl ?_
                refine g_iadd ok dX3_mark_101 ?_
                refine g_aload_n ok 0 dX3_mark_102 rfl ?_
                refine g_get ok 1 rfl rfl in_X3 26 (by decide) q1385 rfl dX3_mark_103 ?_
                refine g_iload_n ok 1 dX3_mark_106 rfl ?_
                obtain ⟨hg, hw⟩ := hw
                refine g_iald ok 51 rfl hg _ rfl dX3_mark_107 ?_
                have kj24 : G w x 4 0 0 (QM w x (pI (v_X3_mark C a0 a1 a2) (n_X3_mark C a0 a1 a2)) 0 0) C 117 [] [.int (if (C.2.1 51 (Int32.toNatClampNeg a0)) = 0 then (Int32.toInt16 a2).toInt32 else a2), .int ((24 * a0) + a1), .ref (ad w 53)] := by
                  obtain ⟨hg, hw⟩ := hw
                  refine g_iast ok 53 rfl hg _ rfl dX3_mark_117 (fun C25 eC25 => ?_)
                  subst eC25
                  refine g_iconst (v := 1) ok dX3_mark_118 (by decide) ?_
                  exact g_iret ok dX3_mark_119 ⟨by first | (simp only [v_X3_mark, if_neg c1, if_pos c2, if_neg c3, if_pos c4, if_neg c17, if_pos c18, if_pos c22]; done) | contradiction, by first | (simp only [n_X3_mark, if_neg c1, if_pos c2, if_neg c3, if_pos c4, if_neg c17, if_pos c18, if_pos c22]; done) | contradiction⟩
                refine g_if_ne (tgt := 116) ok dX3_mark_108 (by decide) (fun c23 => ?_) (fun c23 => ?_)
                · refine g_iload_n ok 3 dX3_mark_116 rfl ?_
                  simp only [if_neg c23] at kj24
                  exact g_sub [] [] rfl kj24
                · refine g_iload_n ok 3 dX3_mark_111 rfl ?_
                  refine g_i2s ok dX3_mark_112 ?_
                  refine g_goto (tgt := 117) ok dX3_mark_113 (by decide) ?_
                  simp only [if_pos c23] at kj24
                  exact g_sub [] [] rfl kj24
              · have hw := hw.2 c22
                refine g_iload_n ok 3 dX3_mark_76 rfl ?_
                refine g_ldc_w (v := -99999) ok q1785 dX3_mark_77 ?_
                refine g_ldc_w (v := 99999) ok q1786 dX3_mark_80 ?_
                refine g_callSI ok [.int a2, .int (-99999), .int 99999] cf_X3_in q1474 (mc_X3_in ok.wo (xL x) C a2 (-99999) 99999) rfl rfl (Nat.le_of_ble_eq_true rfl) ⟨by decide, by decide⟩ ⟨by decide, by decide⟩ dX3_mark_83 ?_
                refine g_if_ne (tgt := 92) ok dX3_mark_86 (by decide) (fun c26 => ?_) (fun c26 => ?_)
                · have hw := hw.2 c26
                  refine g_aload_n ok 0 dX3_mark_92 rfl ?_
                  refine g_get ok 1 rfl rfl in_X3 28 (by decide) q1387 rfl dX3_mark_93 ?_
                  refine g_bipush (v := 24) ok dX3_mark_96 (by decide) ?_
                  refine g_iload_n ok 1 dX3_mark_98 rfl ?_
                  refine g_imul ok dX3_mark_99 ?_
                  refine g_iload_n ok 2 dX3_mark_100 rfl ?_
                  refine g_iadd ok dX3_mark_101 ?_
                  refine g_aload_n ok 0 dX3_mark_102 rfl ?_
                  refine g_get ok 1 rfl rfl in_X3 26 (by decide) q1385 rfl dX3_mark_103 ?_
                  refine g_iload_n ok 1 dX3_mark_106 rfl ?_
                  obtain ⟨hg, hw⟩ := hw
                  refine g_iald ok 51 rfl hg _ rfl dX3_mark_107 ?_
                  have kj28 : G w x 4 0 0 (QM w x (pI (v_X3_mark C a0 a1 a2) (n_X3_mark C a0 a1 a2)) 0 0) C 117 [] [.int (if (C.2.1 51 (Int32.toNatClampNeg a0)) = 0 then (Int32.toInt16 a2).toInt32 else a2), .int ((24 * a0) + a1), .ref (ad w 53)] := by
                    obtain ⟨hg, hw⟩ := hw
                    refine g_iast ok 53 rfl hg _ rfl dX3_mark_117 (fun C29 eC29 => ?_)
                    subst eC29
                    refine g_iconst (v := 1) ok dX3_mark_118 (by decide) ?_
                    exact g_iret ok dX3_mark_119 ⟨by first | (simp only [v_X3_mark, if_neg c1, if_pos c2, if_neg c3, if_pos c4, if_neg c17, if_pos c18, if_neg c22, if_neg c26]; done) | contradiction, by first | (simp only [n_X3_mark, if_neg c1, if_pos c2, if_neg c3, if_pos c4, if_neg c17, if_pos c18, if_neg c22, if_neg c26]; done) | contradiction⟩
                  refine g_if_ne (tgt := 116) ok dX3_mark_108 (by decide) (fun c27 => ?_) (fun c27 => ?_)
                  · refine g_iload_n ok 3 dX3_mark_116 rfl ?_
                    simp only [if_neg c27] at kj28
                    exact g_sub [] [] rfl kj28
                  · refine g_iload_n ok 3 dX3_mark_111 rfl ?_
                    refine g_i2s ok dX3_mark_112 ?_
                    refine g_goto (tgt := 117) ok dX3_mark_113 (by decide) ?_
                    simp only [if_pos c27] at kj28
                    exact g_sub [] [] rfl kj28
                · have hw := hw.1 c26
                  refine g_ldc (v := -1000000001) ok q1477 dX3_mark_89 ?_
                  exact g_iret ok dX3_mark_91 ⟨by first | (simp only [v_X3_mark, if_neg c1, if_pos c2, if_neg c3, if_pos c4, if_neg c17, if_pos c18, if_neg c22, if_pos c26]; done) | contradiction, by first | (simp only [n_X3_mark, if_neg c1, if_pos c2, if_neg c3, if_pos c4, if_neg c17, if_pos c18, if_neg c22, if_pos c26]; done) | contradiction⟩
          · have hw := hw.1 c17
            refine g_ldc (v := -1000000012) ok q1510 dX3_mark_57 ?_
            exact g_iret ok dX3_mark_59 ⟨by first | (simp only [v_X3_mark, if_neg c1, if_pos c2, if_neg c3, if_pos c4, if_pos c17]; done) | contradiction, by first | (simp only [n_X3_mark, if_neg c1, if_pos c2, if_neg c3, if_pos c4, if_pos c17]; done) | contradiction⟩
      · have hw := hw.1 c3
        refine g_ldc_w (v := -1000000013) ok q1784 dX3_mark_38 ?_
        exact g_iret ok dX3_mark_41 ⟨by first | (simp only [v_X3_mark, if_neg c1, if_pos c2, if_pos c3]; done) | contradiction, by first | (simp only [n_X3_mark, if_neg c1, if_pos c2, if_pos c3]; done) | contradiction⟩
    · have hw := hw.2 c2
      refine g_ldc (v := -1000000011) ok q1611 dX3_mark_19 ?_
      exact g_iret ok dX3_mark_21 ⟨by first | (simp only [v_X3_mark, if_neg c1, if_neg c2]; done) | contradiction, by first | (simp only [n_X3_mark, if_neg c1, if_neg c2]; done) | contradiction⟩
  · have hw := hw.1 c1
    refine g_ldc (v := -1000000001) ok q1477 dX3_mark_7 ?_
    exact g_iret ok dX3_mark_9 ⟨by first | (simp only [v_X3_mark, if_pos c1]; done) | contradiction, by first | (simp only [n_X3_mark, if_pos c1]; done) | contradiction⟩
theorem cf_X3_ask : CfV yX3_ask "TwoGuildsModel" cX3_ask 3 (some .int) 2 := ⟨⟨by decide, by decide, by decide⟩, q75, q1809, q1807, q1808⟩
def v_X3_ask (C : CS) (a0 : Int32) (a1 : Int32) : Int32 :=
  if (v_X3_isSlot a0) = 0 then
    ((-1000000001))
    else
    (if (v_X3_in a1 0 5) = 0 then
      ((-1000000001))
      else
      (if (C.2.1 54 (Int32.toNatClampNeg a0)) = 0 then
        ((-1000000011))
        else
        (if (C.2.1 54 (Int32.toNatClampNeg a0)) = 1 then
          (if (v_X3_isUnder (C.2.1 55 (Int32.toNatClampNeg a0)) a1) = 0 then
            ((-1000000012))
            else
            ((C.2.1 56 (Int32.toNatClampNeg a0))))
          else
          ((-1000000012)))))
def p_X3_ask (C : CS) (a0 : Int32) (a1 : Int32) : Prop :=
  ((v_X3_isSlot a0) = 0 → 
    True) ∧
    (¬ (v_X3_isSlot a0) = 0 → 
    ((v_X3_in a1 0 5) = 0 → 
      True) ∧
      (¬ (v_X3_in a1 0 5) = 0 → 
      vp_in a0 5 ∧
        (((C.2.1 54 (Int32.toNatClampNeg a0)) = 0 → 
        True) ∧
        (¬ (C.2.1 54 (Int32.toNatClampNeg a0)) = 0 → 
        vp_in a0 5 ∧
          (((C.2.1 54 (Int32.toNatClampNeg a0)) = 1 → 
          vp_in a0 5 ∧
            (((v_X3_isUnder (C.2.1 55 (Int32.toNatClampNeg a0)) a1) = 0 → 
            True) ∧
            (¬ (v_X3_isUnder (C.2.1 55 (Int32.toNatClampNeg a0)) a1) = 0 → 
            vp_in a0 5 ∧
              (True)))) ∧
          (¬ (C.2.1 54 (Int32.toNatClampNeg a0)) = 1 → 
          True))))))
set_option maxHeartbeats 4000000 in
set_option maxRecDepth 100000 in
theorem mc_X3_ask {w : WD} (wk : wOk w) (l : Launch) (C : CS) (a0 : Int32) (a1 : Int32) (hw : p_X3_ask C a0 a1) : MC w l yX3_ask cX3_ask 3 (some .int) 2 0 0 [.ref (ad w 1), .int a0, .int a1] C (pI (v_X3_ask C a0 a1) C) := by
  unfold p_X3_ask at hw
  refine MC.of wk (by decide) (Nat.le_of_ble_eq_true rfl) (fun x hx ok => ?_)
  subst hx
  show G w x 3 0 0 (QM w x _ 0 0) C 0 [(0, .ref (ad w 1)), (1, .int a0), (2, .int a1)] []
  refine g_iload_n ok 1 dX3_ask_0 rfl ?_
  refine g_callSI ok [.int a0] cf_X3_isSlot q1803 (mc_X3_isSlot ok.wo (xL x) C a0) rfl rfl (Nat.le_of_ble_eq_true rfl) ⟨by decide, by decide⟩ ⟨by decide, by decide⟩ dX3_ask_1 ?_
  refine g_if_eq (tgt := 16) ok dX3_ask_4 (by decide) (fun c1 => ?_) (fun c1 => ?_)
  · have hw := hw.1 c1
    refine g_ldc (v := -1000000001) ok q1477 dX3_ask_16 ?_
    exact g_iret ok dX3_ask_18 ⟨by first | (simp only [v_X3_ask, if_pos c1]; done) | contradiction, rfl⟩
  · have hw := hw.2 c1
    refine g_iload_n ok 2 dX3_ask_7 rfl ?_
    refine g_iconst (v := 0) ok dX3_ask_8 (by decide) ?_
    refine g_iconst (v := 5) ok dX3_ask_9 (by decide) ?_
    refine g_callSI ok [.int a1, .int 0, .int 5] cf_X3_in q1474 (mc_X3_in ok.wo (xL x) C a1 0 5) rfl rfl (Nat.le_of_ble_eq_true rfl) ⟨by decide, by decide⟩ ⟨by decide, by decide⟩ dX3_ask_10 ?_
    refine g_if_ne (tgt := 19) ok dX3_ask_13 (by decide) (fun c2 => ?_) (fun c2 => ?_)
    · have hw := hw.2 c2
      refine g_aload_n ok 0 dX3_ask_19 rfl ?_
      refine g_get ok 1 rfl rfl in_X3 29 (by decide) q1388 rfl dX3_ask_20 ?_
      refine g_iload_n ok 1 dX3_ask_23 rfl ?_
      obtain ⟨hg, hw⟩ := hw
      refine g_iald ok 54 rfl hg _ rfl dX3_ask_24 ?_
      refine g_if_ne (tgt := 31) ok dX3_ask_25 (by decide) (fun c3 => ?_) (fun c3 => ?_)
      · have hw := hw.2 c3
        refine g_aload_n ok 0 dX3_ask_31 rfl ?_
        refine g_get ok 1 rfl rfl in_X3 29 (by decide) q1388 rfl dX3_ask_32 ?_
        refine g_iload_n ok 1 dX3_ask_35 rfl ?_
        obtain ⟨hg, hw⟩ := hw
        refine g_iald ok 54 rfl hg _ rfl dX3_ask_36 ?_
        refine g_iconst (v := 1) ok dX3_ask_37 (by decide) ?_
        refine g_icmp_ne (tgt := 63) ok dX3_ask_38 (by decide) (fun c4 => ?_) (fun c4 => ?_)
        · have hw := hw.2 c4
          refine g_ldc (v := -1000000012) ok q1510 dX3_ask_63 ?_
          exact g_iret ok dX3_ask_65 ⟨by first | (simp only [v_X3_ask, if_neg c1, if_neg c2, if_neg c3, if_neg c4]; done) | contradiction, rfl⟩
        · have hw := hw.1 c4
          refine g_aload_n ok 0 dX3_ask_41 rfl ?_
          refine g_get ok 1 rfl rfl in_X3 30 (by decide) q1389 rfl dX3_ask_42 ?_
          refine g_iload_n ok 1 dX3_ask_45 rfl ?_
          obtain ⟨hg, hw⟩ := hw
          refine g_iald ok 55 rfl hg _ rfl dX3_ask_46 ?_
          refine g_iload_n ok 2 dX3_ask_47 rfl ?_
          refine g_callSI ok [.int (C.2.1 55 (Int32.toNatClampNeg a0)), .int a1] cf_X3_isUnder q1507 (mc_X3_isUnder ok.wo (xL x) C (C.2.1 55 (Int32.toNatClampNeg a0)) a1) rfl rfl (Nat.le_of_ble_eq_true rfl) ⟨by decide, by decide⟩ ⟨by decide, by decide⟩ dX3_ask_48 ?_
          refine g_if_eq (tgt := 63) ok dX3_ask_51 (by decide) (fun c5 => ?_) (fun c5 => ?_)
          · have hw := hw.1 c5
            refine g_ldc (v := -1000000012) ok q1510 dX3_ask_63 ?_
            exact g_iret ok dX3_ask_65 ⟨by first | (simp only [v_X3_ask, if_neg c1, if_neg c2, if_neg c3, if_pos c4, if_pos c5]; done) | contradiction, rfl⟩
          · have hw := hw.2 c5
            refine g_aload_n ok 0 dX3_ask_54 rfl ?_
            refine g_get ok 1 rfl rfl in_X3 31 (by decide) q1390 rfl dX3_ask_55 ?_
            refine g_iload_n ok 1 dX3_ask_58 rfl ?_
            obtain ⟨hg, hw⟩ := hw
            refine g_iald ok 56 rfl hg _ rfl dX3_ask_59 ?_
            refine g_goto (tgt := 65) ok dX3_ask_60 (by decide) ?_
            exact g_iret ok dX3_ask_65 ⟨by first | (simp only [v_X3_ask, if_neg c1, if_neg c2, if_neg c3, if_pos c4, if_neg c5]; done) | contradiction, rfl⟩
      · have hw := hw.1 c3
        refine g_ldc (v := -1000000011) ok q1611 dX3_ask_28 ?_
        exact g_iret ok dX3_ask_30 ⟨by first | (simp only [v_X3_ask, if_neg c1, if_neg c2, if_pos c3]; done) | contradiction, rfl⟩
    · have hw := hw.1 c2
      refine g_ldc (v := -1000000001) ok q1477 dX3_ask_16 ?_
      exact g_iret ok dX3_ask_18 ⟨by first | (simp only [v_X3_ask, if_neg c1, if_pos c2]; done) | contradiction, rfl⟩
theorem cf_X3_item : CfV yX3_item "TwoGuildsModel" cX3_item 4 (some .int) 2 := ⟨⟨by decide, by decide, by decide⟩, q75, q1813, q1811, q1812⟩
def v_X3_item (C : CS) (a0 : Int32) (a1 : Int32) : Int32 :=
  if (v_X3_isSlot a0) = 0 then
    ((-1000000001))
    else
    (if (C.2.1 54 (Int32.toNatClampNeg a0)) = 0 then
      ((-1000000011))
      else
      (if (C.2.1 54 (Int32.toNatClampNeg a0)) = 2 then
        (if (v_X3_in a1 0 ((C.2.1 55 (Int32.toNatClampNeg a0)) - 1)) = 0 then
          ((-1000000013))
          else
          (if (C.2.1 57 (Int32.toNatClampNeg ((24 * a0) + a1))) = (-1000000005) then
            ((-1000000012))
            else
            ((C.2.1 57 (Int32.toNatClampNeg ((24 * a0) + a1))))))
        else
        ((-1000000012))))
def p_X3_item (C : CS) (a0 : Int32) (a1 : Int32) : Prop :=
  ((v_X3_isSlot a0) = 0 → 
    True) ∧
    (¬ (v_X3_isSlot a0) = 0 → 
    vp_in a0 5 ∧
      (((C.2.1 54 (Int32.toNatClampNeg a0)) = 0 → 
      True) ∧
      (¬ (C.2.1 54 (Int32.toNatClampNeg a0)) = 0 → 
      vp_in a0 5 ∧
        (((C.2.1 54 (Int32.toNatClampNeg a0)) = 2 → 
        vp_in a0 5 ∧
          (((v_X3_in a1 0 ((C.2.1 55 (Int32.toNatClampNeg a0)) - 1)) = 0 → 
          True) ∧
          (¬ (v_X3_in a1 0 ((C.2.1 55 (Int32.toNatClampNeg a0)) - 1)) = 0 → 
          vp_in ((24 * a0) + a1) 120 ∧
            (True)))) ∧
        (¬ (C.2.1 54 (Int32.toNatClampNeg a0)) = 2 → 
        True)))))
set_option maxHeartbeats 4000000 in
set_option maxRecDepth 100000 in
theorem mc_X3_item {w : WD} (wk : wOk w) (l : Launch) (C : CS) (a0 : Int32) (a1 : Int32) (hw : p_X3_item C a0 a1) : MC w l yX3_item cX3_item 4 (some .int) 2 0 0 [.ref (ad w 1), .int a0, .int a1] C (pI (v_X3_item C a0 a1) C) := by
  unfold p_X3_item at hw
  refine MC.of wk (by decide) (Nat.le_of_ble_eq_true rfl) (fun x hx ok => ?_)
  subst hx
  show G w x 4 0 0 (QM w x _ 0 0) C 0 [(0, .ref (ad w 1)), (1, .int a0), (2, .int a1)] []
  refine g_iload_n ok 1 dX3_item_0 rfl ?_
  refine g_callSI ok [.int a0] cf_X3_isSlot q1803 (mc_X3_isSlot ok.wo (xL x) C a0) rfl rfl (Nat.le_of_ble_eq_true rfl) ⟨by decide, by decide⟩ ⟨by decide, by decide⟩ dX3_item_1 ?_
  refine g_if_ne (tgt := 10) ok dX3_item_4 (by decide) (fun c1 => ?_) (fun c1 => ?_)
  · have hw := hw.2 c1
    refine g_aload_n ok 0 dX3_item_10 rfl ?_
    refine g_get ok 1 rfl rfl in_X3 29 (by decide) q1388 rfl dX3_item_11 ?_
    refine g_iload_n ok 1 dX3_item_14 rfl ?_
    obtain ⟨hg, hw⟩ := hw
    refine g_iald ok 54 rfl hg _ rfl dX3_item_15 ?_
    refine g_if_ne (tgt := 22) ok dX3_item_16 (by decide) (fun c2 => ?_) (fun c2 => ?_)
    · have hw := hw.2 c2
      refine g_aload_n ok 0 dX3_item_22 rfl ?_
      refine g_get ok 1 rfl rfl in_X3 29 (by decide) q1388 rfl dX3_item_23 ?_
      refine g_iload_n ok 1 dX3_item_26 rfl ?_
      obtain ⟨hg, hw⟩ := hw
      refine g_iald ok 54 rfl hg _ rfl dX3_item_27 ?_
      refine g_iconst (v := 2) ok dX3_item_28 (by decide) ?_
      refine g_icmp_eq (tgt := 35) ok dX3_item_29 (by decide) (fun c3 => ?_) (fun c3 => ?_)
      · have hw := hw.1 c3
        refine g_iload_n ok 2 dX3_item_35 rfl ?_
        refine g_iconst (v := 0) ok dX3_item_36 (by decide) ?_
        refine g_aload_n ok 0 dX3_item_37 rfl ?_
        refine g_get ok 1 rfl rfl in_X3 30 (by decide) q1389 rfl dX3_item_38 ?_
        refine g_iload_n ok 1 dX3_item_41 rfl ?_
        obtain ⟨hg, hw⟩ := hw
        refine g_iald ok 55 rfl hg _ rfl dX3_item_42 ?_
        refine g_iconst (v := 1) ok dX3_item_43 (by decide) ?_
        refine g_isub ok dX3_item_44 ?_
        refine g_callSI ok [.int a1, .int 0, .int ((C.2.1 55 (Int32.toNatClampNeg a0)) - 1)] cf_X3_in q1474 (mc_X3_in ok.wo (xL x) C a1 0 ((C.2.1 55 (Int32.toNatClampNeg a0)) - 1)) rfl rfl (Nat.le_of_ble_eq_true rfl) ⟨by decide, by decide⟩ ⟨by decide, by decide⟩ dX3_item_45 ?_
        refine g_if_ne (tgt := 55) ok dX3_item_48 (by decide) (fun c4 => ?_) (fun c4 => ?_)
        · have hw := hw.2 c4
          refine g_aload_n ok 0 dX3_item_55 rfl ?_
          refine g_get ok 1 rfl rfl in_X3 32 (by decide) q1391 rfl dX3_item_56 ?_
          refine g_bipush (v := 24) ok dX3_item_59 (by decide) ?_
          refine g_iload_n ok 1 dX3_item_61 rfl ?_
          refine g_imul ok dX3_item_62 ?_
          refine g_iload_n ok 2 dX3_item_63 rfl ?_
          refine g_iadd ok dX3_item_64 ?_
          obtain ⟨hg, hw⟩ := hw
          refine g_iald ok 57 rfl hg _ rfl dX3_item_65 ?_
          refine g_istore_n0 ok [(3, .int (C.2.1 57 (Int32.toNatClampNeg ((24 * a0) + a1)))), (0, .ref (ad w 1)), (1, .int a0), (2, .int a1)] dX3_item_66 (by decide) rfl ?_
          refine g_iload_n ok 0 dX3_item_67 rfl ?_
          refine g_ldc (v := -1000000005) ok q1560 dX3_item_68 ?_
          refine g_icmp_ne (tgt := 78) ok dX3_item_70 (by decide) (fun c5 => ?_) (fun c5 => ?_)
          · refine g_iload_n ok 0 dX3_item_78 rfl ?_
            exact g_iret ok dX3_item_79 ⟨by first | (simp only [v_X3_item, if_neg c1, if_neg c2, if_pos c3, if_neg c4, if_neg c5]; done) | contradiction, rfl⟩
          · refine g_ldc (v := -1000000012) ok q1510 dX3_item_73 ?_
            refine g_goto (tgt := 79) ok dX3_item_75 (by decide) ?_
            exact g_iret ok dX3_item_79 ⟨by first | (simp only [v_X3_item, if_neg c1, if_neg c2, if_pos c3, if_neg c4, if_pos c5]; done) | contradiction, rfl⟩
        · have hw := hw.1 c4
          refine g_ldc_w (v := -1000000013) ok q1784 dX3_item_51 ?_
          exact g_iret ok dX3_item_54 ⟨by first | (simp only [v_X3_item, if_neg c1, if_neg c2, if_pos c3, if_pos c4]; done) | contradiction, rfl⟩
      · have hw := hw.2 c3
        refine g_ldc (v := -1000000012) ok q1510 dX3_item_32 ?_
        exact g_iret ok dX3_item_34 ⟨by first | (simp only [v_X3_item, if_neg c1, if_neg c2, if_neg c3]; done) | contradiction, rfl⟩
    · have hw := hw.1 c2
      refine g_ldc (v := -1000000011) ok q1611 dX3_item_19 ?_
      exact g_iret ok dX3_item_21 ⟨by first | (simp only [v_X3_item, if_neg c1, if_pos c2]; done) | contradiction, rfl⟩
  · have hw := hw.1 c1
    refine g_ldc (v := -1000000001) ok q1477 dX3_item_7 ?_
    exact g_iret ok dX3_item_9 ⟨by first | (simp only [v_X3_item, if_pos c1]; done) | contradiction, rfl⟩
theorem cf_X3_rest : CfV yX3_rest "TwoGuildsModel" cX3_rest 3 (some .int) 2 := ⟨⟨by decide, by decide, by decide⟩, q75, q1817, q1815, q1816⟩
def v_X3_rest (C : CS) (a0 : Int32) (a1 : Int32) : Int32 :=
  if (v_X3_isSlot a0) = 0 then
    ((-1000000001))
    else
    (if (C.2.1 54 (Int32.toNatClampNeg a0)) = 0 then
      ((-1000000011))
      else
      (if (C.2.1 54 (Int32.toNatClampNeg a0)) = 3 then
        (if a1 = 0 then
          ((-1000000002))
          else
          (if a1 = (-1) then
            (0)
            else
            (((C.2.1 55 (Int32.toNatClampNeg a0)) - (C.2.1 55 (Int32.toNatClampNeg a0)) / a1 * a1))))
        else
        ((-1000000012))))
def p_X3_rest (C : CS) (a0 : Int32) (a1 : Int32) : Prop :=
  ((v_X3_isSlot a0) = 0 → 
    True) ∧
    (¬ (v_X3_isSlot a0) = 0 → 
    vp_in a0 5 ∧
      (((C.2.1 54 (Int32.toNatClampNeg a0)) = 0 → 
      True) ∧
      (¬ (C.2.1 54 (Int32.toNatClampNeg a0)) = 0 → 
      vp_in a0 5 ∧
        (((C.2.1 54 (Int32.toNatClampNeg a0)) = 3 → 
        (a1 = 0 → 
          True) ∧
          (¬ a1 = 0 → 
          (a1 = (-1) → 
            True) ∧
            (¬ a1 = (-1) → 
            vp_in a0 5 ∧
              (¬ a1 = 0 ∧
              (True))))) ∧
        (¬ (C.2.1 54 (Int32.toNatClampNeg a0)) = 3 → 
        True)))))
set_option maxHeartbeats 4000000 in
set_option maxRecDepth 100000 in
theorem mc_X3_rest {w : WD} (wk : wOk w) (l : Launch) (C : CS) (a0 : Int32) (a1 : Int32) (hw : p_X3_rest C a0 a1) : MC w l yX3_rest cX3_rest 3 (some .int) 2 0 0 [.ref (ad w 1), .int a0, .int a1] C (pI (v_X3_rest C a0 a1) C) := by
  unfold p_X3_rest at hw
  refine MC.of wk (by decide) (Nat.le_of_ble_eq_true rfl) (fun x hx ok => ?_)
  subst hx
  show G w x 3 0 0 (QM w x _ 0 0) C 0 [(0, .ref (ad w 1)), (1, .int a0), (2, .int a1)] []
  refine g_iload_n ok 1 dX3_rest_0 rfl ?_
  refine g_callSI ok [.int a0] cf_X3_isSlot q1803 (mc_X3_isSlot ok.wo (xL x) C a0) rfl rfl (Nat.le_of_ble_eq_true rfl) ⟨by decide, by decide⟩ ⟨by decide, by decide⟩ dX3_rest_1 ?_
  refine g_if_ne (tgt := 10) ok dX3_rest_4 (by decide) (fun c1 => ?_) (fun c1 => ?_)
  · have hw := hw.2 c1
    refine g_aload_n ok 0 dX3_rest_10 rfl ?_
    refine g_get ok 1 rfl rfl in_X3 29 (by decide) q1388 rfl dX3_rest_11 ?_
    refine g_iload_n ok 1 dX3_rest_14 rfl ?_
    obtain ⟨hg, hw⟩ := hw
    refine g_iald ok 54 rfl hg _ rfl dX3_rest_15 ?_
    refine g_if_ne (tgt := 22) ok dX3_rest_16 (by decide) (fun c2 => ?_) (fun c2 => ?_)
    · have hw := hw.2 c2
      refine g_aload_n ok 0 dX3_rest_22 rfl ?_
      refine g_get ok 1 rfl rfl in_X3 29 (by decide) q1388 rfl dX3_rest_23 ?_
      refine g_iload_n ok 1 dX3_rest_26 rfl ?_
      obtain ⟨hg, hw⟩ := hw
      refine g_iald ok 54 rfl hg _ rfl dX3_rest_27 ?_
      refine g_iconst (v := 3) ok dX3_rest_28 (by decide) ?_
      refine g_icmp_eq (tgt := 35) ok dX3_rest_29 (by decide) (fun c3 => ?_) (fun c3 => ?_)
      · have hw := hw.1 c3
        refine g_iload_n ok 2 dX3_rest_35 rfl ?_
        refine g_if_ne (tgt := 45) ok dX3_rest_36 (by decide) (fun c4 => ?_) (fun c4 => ?_)
        · have hw := hw.2 c4
          refine g_iload_n ok 2 dX3_rest_45 rfl ?_
          refine g_iconst (v := -1) ok dX3_rest_46 (by decide) ?_
          refine g_icmp_ne (tgt := 54) ok dX3_rest_47 (by decide) (fun c5 => ?_) (fun c5 => ?_)
          · have hw := hw.2 c5
            refine g_aload_n ok 0 dX3_rest_54 rfl ?_
            refine g_get ok 1 rfl rfl in_X3 30 (by decide) q1389 rfl dX3_rest_55 ?_
            refine g_iload_n ok 1 dX3_rest_58 rfl ?_
            obtain ⟨hg, hw⟩ := hw
            refine g_iald ok 55 rfl hg _ rfl dX3_rest_59 ?_
            refine g_iload_n ok 2 dX3_rest_60 rfl ?_
            obtain ⟨hg, hw⟩ := hw
            refine g_irem ok dX3_rest_61 hg ?_
            exact g_iret ok dX3_rest_62 ⟨by first | (simp only [v_X3_rest, if_neg c1, if_neg c2, if_pos c3, if_neg c4, if_neg c5]; done) | contradiction, rfl⟩
          · have hw := hw.1 c5
            refine g_iconst (v := 0) ok dX3_rest_50 (by decide) ?_
            refine g_goto (tgt := 62) ok dX3_rest_51 (by decide) ?_
            exact g_iret ok dX3_rest_62 ⟨by first | (simp only [v_X3_rest, if_neg c1, if_neg c2, if_pos c3, if_neg c4, if_pos c5]; done) | contradiction, rfl⟩
        · have hw := hw.1 c4
          refine g_ldc_w (v := -1000000002) ok q1818 dX3_rest_39 ?_
          refine g_goto (tgt := 62) ok dX3_rest_42 (by decide) ?_
          exact g_iret ok dX3_rest_62 ⟨by first | (simp only [v_X3_rest, if_neg c1, if_neg c2, if_pos c3, if_pos c4]; done) | contradiction, rfl⟩
      · have hw := hw.2 c3
        refine g_ldc (v := -1000000012) ok q1510 dX3_rest_32 ?_
        exact g_iret ok dX3_rest_34 ⟨by first | (simp only [v_X3_rest, if_neg c1, if_neg c2, if_neg c3]; done) | contradiction, rfl⟩
    · have hw := hw.1 c2
      refine g_ldc (v := -1000000011) ok q1611 dX3_rest_19 ?_
      exact g_iret ok dX3_rest_21 ⟨by first | (simp only [v_X3_rest, if_neg c1, if_pos c2]; done) | contradiction, rfl⟩
  · have hw := hw.1 c1
    refine g_ldc (v := -1000000001) ok q1477 dX3_rest_7 ?_
    exact g_iret ok dX3_rest_9 ⟨by first | (simp only [v_X3_rest, if_pos c1]; done) | contradiction, rfl⟩
theorem cf_X3_tell : CfV yX3_tell "TwoGuildsModel" cX3_tell 2 (some .int) 1 := ⟨⟨by decide, by decide, by decide⟩, q75, q1822, q1820, q1821⟩
def v_X3_tell (C : CS) (a0 : Int32) : Int32 :=
  if (C.1 1 35) = 60 then
    ((-1000000003))
    else
    (((wI (wA C 59 (Int32.toNatClampNeg (C.1 1 35)) a0) 1 35 (((wA C 59 (Int32.toNatClampNeg (C.1 1 35)) a0).1 1 35) + 1)).1 1 35))
def n_X3_tell (C : CS) (a0 : Int32) : CS :=
  if (C.1 1 35) = 60 then
    (C)
    else
    ((wI (wA C 59 (Int32.toNatClampNeg (C.1 1 35)) a0) 1 35 (((wA C 59 (Int32.toNatClampNeg (C.1 1 35)) a0).1 1 35) + 1)))
def p_X3_tell (C : CS) (a0 : Int32) : Prop :=
  ((C.1 1 35) = 60 → 
    True) ∧
    (¬ (C.1 1 35) = 60 → 
    vp_in (C.1 1 35) 60 ∧
      (True))
set_option maxHeartbeats 4000000 in
set_option maxRecDepth 100000 in
theorem mc_X3_tell {w : WD} (wk : wOk w) (l : Launch) (C : CS) (a0 : Int32) (hw : p_X3_tell C a0) : MC w l yX3_tell cX3_tell 2 (some .int) 0 0 0 [.ref (ad w 1), .int a0] C (pI (v_X3_tell C a0) (n_X3_tell C a0)) := by
  unfold p_X3_tell at hw
  refine MC.of wk (by decide) (Nat.le_of_ble_eq_true rfl) (fun x hx ok => ?_)
  subst hx
  show G w x 2 0 0 (QM w x _ 0 0) C 0 [(0, .ref (ad w 1)), (1, .int a0)] []
  refine g_aload_n ok 0 dX3_tell_0 rfl ?_
  refine g_get ok 1 rfl rfl in_X3 35 (by decide) q1394 rfl dX3_tell_1 ?_
  refine g_bipush (v := 60) ok dX3_tell_4 (by decide) ?_
  refine g_icmp_ne (tgt := 12) ok dX3_tell_6 (by decide) (fun c1 => ?_) (fun c1 => ?_)
  · have hw := hw.2 c1
    refine g_aload_n ok 0 dX3_tell_12 rfl ?_
    refine g_get ok 1 rfl rfl in_X3 34 (by decide) q1393 rfl dX3_tell_13 ?_
    refine g_aload_n ok 0 dX3_tell_16 rfl ?_
    refine g_get ok 1 rfl rfl in_X3 35 (by decide) q1394 rfl dX3_tell_17 ?_
    refine g_iload_n ok 1 dX3_tell_20 rfl ?_
    obtain ⟨hg, hw⟩ := hw
    refine g_iast ok 59 rfl hg _ rfl dX3_tell_21 (fun C2 eC2 => ?_)
    subst eC2
    refine g_aload_n ok 0 dX3_tell_22 rfl ?_
    refine g_dup ok dX3_tell_23 rfl ?_
    refine g_get ok 1 rfl rfl in_X3 35 (by decide) q1394 rfl dX3_tell_24 ?_
    refine g_iconst (v := 1) ok dX3_tell_27 (by decide) ?_
    refine g_iadd ok dX3_tell_28 ?_
    refine g_putI ok 1 rfl rfl in_X3 tyX3 tyX3_ok nmX3 35 (by decide) q1394 rfl rfl rfl (putV_m rfl) dX3_tell_29 (fun C3 eC3 => ?_)
    subst eC3
    refine g_aload_n ok 0 dX3_tell_32 rfl ?_
    refine g_get ok 1 rfl rfl in_X3 35 (by decide) q1394 rfl dX3_tell_33 ?_
    exact g_iret ok dX3_tell_36 ⟨by first | (simp only [v_X3_tell, if_neg c1]; done) | contradiction, by first | (simp only [n_X3_tell, if_neg c1]; done) | contradiction⟩
  · have hw := hw.1 c1
    refine g_ldc (v := -1000000003) ok q1478 dX3_tell_9 ?_
    exact g_iret ok dX3_tell_11 ⟨by first | (simp only [v_X3_tell, if_pos c1]; done) | contradiction, by first | (simp only [n_X3_tell, if_pos c1]; done) | contradiction⟩
theorem cf_X3_textTold : CfV yX3_textTold "TwoGuildsModel" cX3_textTold 3 (some .int) 2 := ⟨⟨by decide, by decide, by decide⟩, q75, q1770, q1768, q1769⟩
def v_X3_textTold (C : CS) (a0 : Int32) (a1 : Int32) : Int32 :=
  if (v_X3_in a0 0 ((C.2.1 36 5) - 1)) = 0 then
    ((-1000000001))
    else
    (if (v_X3_in a1 0 1) = 0 then
      ((-1000000001))
      else
      (if a1 = 0 then
        (((C.2.1 36 (Int32.toNatClampNeg (76 + (2 * a0)))) / 1000))
        else
        ((C.2.1 36 (Int32.toNatClampNeg ((76 + (2 * a0)) + 1))))))
def p_X3_textTold (C : CS) (a0 : Int32) (a1 : Int32) : Prop :=
  ((v_X3_in a0 0 ((C.2.1 36 5) - 1)) = 0 → 
    True) ∧
    (¬ (v_X3_in a0 0 ((C.2.1 36 5) - 1)) = 0 → 
    ((v_X3_in a1 0 1) = 0 → 
      True) ∧
      (¬ (v_X3_in a1 0 1) = 0 → 
      (a1 = 0 → 
        vp_in (76 + (2 * a0)) 1448 ∧
          (True)) ∧
        (¬ a1 = 0 → 
        vp_in ((76 + (2 * a0)) + 1) 1448 ∧
          (True))))
set_option maxHeartbeats 4000000 in
set_option maxRecDepth 100000 in
theorem mc_X3_textTold {w : WD} (wk : wOk w) (l : Launch) (C : CS) (a0 : Int32) (a1 : Int32) (hw : p_X3_textTold C a0 a1) : MC w l yX3_textTold cX3_textTold 3 (some .int) 1 0 0 [.ref (ad w 1), .int a0, .int a1] C (pI (v_X3_textTold C a0 a1) C) := by
  unfold p_X3_textTold at hw
  refine MC.of wk (by decide) (Nat.le_of_ble_eq_true rfl) (fun x hx ok => ?_)
  subst hx
  show G w x 3 0 0 (QM w x _ 0 0) C 0 [(0, .ref (ad w 1)), (1, .int a0), (2, .int a1)] []
  refine g_iload_n ok 1 dX3_textTold_0 rfl ?_
  refine g_iconst (v := 0) ok dX3_textTold_1 (by decide) ?_
  refine g_aload_n ok 0 dX3_textTold_2 rfl ?_
  refine g_get ok 1 rfl rfl in_X3 0 (by decide) q1359 rfl dX3_textTold_3 ?_
  refine g_iconst (v := 5) ok dX3_textTold_6 (by decide) ?_
  refine g_iald ok 36 rfl (by unfold vp_in; decide) 5 (by decide) dX3_textTold_7 ?_
  refine g_iconst (v := 1) ok dX3_textTold_8 (by decide) ?_
  refine g_isub ok dX3_textTold_9 ?_
  refine g_callSI ok [.int a0, .int 0, .int ((C.2.1 36 5) - 1)] cf_X3_in q1474 (mc_X3_in ok.wo (xL x) C a0 0 ((C.2.1 36 5) - 1)) rfl rfl (Nat.le_of_ble_eq_true rfl) ⟨by decide, by decide⟩ ⟨by decide, by decide⟩ dX3_textTold_10 ?_
  refine g_if_eq (tgt := 25) ok dX3_textTold_13 (by decide) (fun c1 => ?_) (fun c1 => ?_)
  · have hw := hw.1 c1
    refine g_ldc (v := -1000000001) ok q1477 dX3_textTold_25 ?_
    exact g_iret ok dX3_textTold_27 ⟨by first | (simp only [v_X3_textTold, if_pos c1]; done) | contradiction, rfl⟩
  · have hw := hw.2 c1
    refine g_iload_n ok 2 dX3_textTold_16 rfl ?_
    refine g_iconst (v := 0) ok dX3_textTold_17 (by decide) ?_
    refine g_iconst (v := 1) ok dX3_textTold_18 (by decide) ?_
    refine g_callSI ok [.int a1, .int 0, .int 1] cf_X3_in q1474 (mc_X3_in ok.wo (xL x) C a1 0 1) rfl rfl (Nat.le_of_ble_eq_true rfl) ⟨by decide, by decide⟩ ⟨by decide, by decide⟩ dX3_textTold_19 ?_
    refine g_if_ne (tgt := 28) ok dX3_textTold_22 (by decide) (fun c2 => ?_) (fun c2 => ?_)
    · have hw := hw.2 c2
      refine g_iload_n ok 2 dX3_textTold_28 rfl ?_
      refine g_if_ne (tgt := 50) ok dX3_textTold_29 (by decide) (fun c3 => ?_) (fun c3 => ?_)
      · have hw := hw.2 c3
        refine g_aload_n ok 0 dX3_textTold_50 rfl ?_
        refine g_get ok 1 rfl rfl in_X3 0 (by decide) q1359 rfl dX3_textTold_51 ?_
        refine g_bipush (v := 76) ok dX3_textTold_54 (by decide) ?_
        refine g_iconst (v := 2) ok dX3_textTold_56 (by decide) ?_
        refine g_iload_n ok 1 dX3_textTold_57 rfl ?_
        refine g_imul ok dX3_textTold_58 ?_
        refine g_iadd ok dX3_textTold_59 ?_
        refine g_iconst (v := 1) ok dX3_textTold_60 (by decide) ?_
        refine g_iadd ok dX3_textTold_61 ?_
        obtain ⟨hg, hw⟩ := hw
        refine g_iald ok 36 rfl hg _ rfl dX3_textTold_62 ?_
        exact g_iret ok dX3_textTold_63 ⟨by first | (simp only [v_X3_textTold, if_neg c1, if_neg c2, if_neg c3]; done) | contradiction, rfl⟩
      · have hw := hw.1 c3
        refine g_aload_n ok 0 dX3_textTold_32 rfl ?_
        refine g_get ok 1 rfl rfl in_X3 0 (by decide) q1359 rfl dX3_textTold_33 ?_
        refine g_bipush (v := 76) ok dX3_textTold_36 (by decide) ?_
        refine g_iconst (v := 2) ok dX3_textTold_38 (by decide) ?_
        refine g_iload_n ok 1 dX3_textTold_39 rfl ?_
        refine g_imul ok dX3_textTold_40 ?_
        refine g_iadd ok dX3_textTold_41 ?_
        obtain ⟨hg, hw⟩ := hw
        refine g_iald ok 36 rfl hg _ rfl dX3_textTold_42 ?_
        refine g_sipush (v := 1000) ok dX3_textTold_43 (by decide) ?_
        refine g_idiv ok dX3_textTold_46 (by decide) ?_
        refine g_goto (tgt := 63) ok dX3_textTold_47 (by decide) ?_
        exact g_iret ok dX3_textTold_63 ⟨by first | (simp only [v_X3_textTold, if_neg c1, if_neg c2, if_pos c3]; done) | contradiction, rfl⟩
    · have hw := hw.1 c2
      refine g_ldc (v := -1000000001) ok q1477 dX3_textTold_25 ?_
      exact g_iret ok dX3_textTold_27 ⟨by first | (simp only [v_X3_textTold, if_neg c1, if_pos c2]; done) | contradiction, rfl⟩
theorem cf_X3_isTold : CfV yX3_isTold "TwoGuildsModel" cX3_isTold 4 (some .boolean) 3 := ⟨⟨by decide, by decide, by decide⟩, q75, q1623, q1622, qs50⟩
def v_X3_isTold (C : CS) (a0 : Int32) (a1 : Int32) (a2 : Int32) : Int32 :=
  if (C.2.1 52 (Int32.toNatClampNeg a0)) ≤ a1 then
    (0)
    else
    (if (C.2.1 53 (Int32.toNatClampNeg ((24 * a0) + a1))) = a2 then
      (1)
      else
      (0))
theorem vb_X3_isTold (C : CS) (a0 : Int32) (a1 : Int32) (a2 : Int32) : v_X3_isTold C a0 a1 a2 = 0 ∨ v_X3_isTold C a0 a1 a2 = 1 := by
  unfold v_X3_isTold
  exact (ib_ite (Or.inl rfl) (ib_ite (Or.inr rfl) (Or.inl rfl)))
def p_X3_isTold (C : CS) (a0 : Int32) (a1 : Int32) (a2 : Int32) : Prop :=
  vp_in a0 4 ∧
    (((C.2.1 52 (Int32.toNatClampNeg a0)) ≤ a1 → 
    True) ∧
    (¬ (C.2.1 52 (Int32.toNatClampNeg a0)) ≤ a1 → 
    vp_in ((24 * a0) + a1) 96 ∧
      (True)))
set_option maxHeartbeats 4000000 in
set_option maxRecDepth 100000 in
theorem mc_X3_isTold {w : WD} (wk : wOk w) (l : Launch) (C : CS) (a0 : Int32) (a1 : Int32) (a2 : Int32) (hw : p_X3_isTold C a0 a1 a2) : MC w l yX3_isTold cX3_isTold 4 (some .boolean) 0 0 0 [.ref (ad w 1), .int a0, .int a1, .int a2] C (pI (v_X3_isTold C a0 a1 a2) C) := by
  unfold p_X3_isTold at hw
  refine MC.of wk (by decide) (Nat.le_of_ble_eq_true rfl) (fun x hx ok => ?_)
  subst hx
  show G w x 4 0 0 (QM w x _ 0 0) C 0 [(0, .ref (ad w 1)), (1, .int a0), (2, .int a1), (3, .int a2)] []
  refine g_iload_n ok 2 dX3_isTold_0 rfl ?_
  refine g_aload_n ok 0 dX3_isTold_1 rfl ?_
  refine g_get ok 1 rfl rfl in_X3 27 (by decide) q1386 rfl dX3_isTold_2 ?_
  refine g_iload_n ok 1 dX3_isTold_5 rfl ?_
  obtain ⟨hg, hw⟩ := hw
  refine g_iald ok 52 rfl hg _ rfl dX3_isTold_6 ?_
  refine g_icmp_ge (tgt := 29) ok dX3_isTold_7 (by decide) (fun c1 => ?_) (fun c1 => ?_)
  · have hw := hw.1 c1
    refine g_iconst (v := 0) ok dX3_isTold_29 (by decide) ?_
    exact g_zret ok dX3_isTold_30 (Or.inl rfl) ⟨by first | (simp only [v_X3_isTold, if_pos c1]; done) | contradiction, rfl⟩
  · have hw := hw.2 c1
    refine g_aload_n ok 0 dX3_isTold_10 rfl ?_
    refine g_get ok 1 rfl rfl in_X3 28 (by decide) q1387 rfl dX3_isTold_11 ?_
    refine g_bipush (v := 24) ok dX3_isTold_14 (by decide) ?_
    refine g_iload_n ok 1 dX3_isTold_16 rfl ?_
    refine g_imul ok dX3_isTold_17 ?_
    refine g_iload_n ok 2 dX3_isTold_18 rfl ?_
    refine g_iadd ok dX3_isTold_19 ?_
    obtain ⟨hg, hw⟩ := hw
    refine g_iald ok 53 rfl hg _ rfl dX3_isTold_20 ?_
    refine g_iload_n ok 3 dX3_isTold_21 rfl ?_
    refine g_icmp_ne (tgt := 29) ok dX3_isTold_22 (by decide) (fun c2 => ?_) (fun c2 => ?_)
    · refine g_iconst (v := 0) ok dX3_isTold_29 (by decide) ?_
      exact g_zret ok dX3_isTold_30 (Or.inl rfl) ⟨by first | (simp only [v_X3_isTold, if_neg c1, if_neg c2]; done) | contradiction, rfl⟩
    · refine g_iconst (v := 1) ok dX3_isTold_25 (by decide) ?_
      refine g_goto (tgt := 30) ok dX3_isTold_26 (by decide) ?_
      exact g_zret ok dX3_isTold_30 (Or.inr rfl) ⟨by first | (simp only [v_X3_isTold, if_neg c1, if_pos c2]; done) | contradiction, rfl⟩
theorem cf_X3_arePartners : CfV yX3_arePartners "TwoGuildsModel" cX3_arePartners 4 (some .boolean) 3 := ⟨⟨by decide, by decide, by decide⟩, q75, q1619, q1618, qs49⟩
def v_X3_arePartners (C : CS) (a0 : Int32) (a1 : Int32) (a2 : Int32) : Int32 :=
  if (C.2.1 39 (Int32.toNatClampNeg ((10 * a1) + a2))) < 0 then
    (0)
    else
    (if (v_X3_isTold C a0 a1 a2) = 0 then
      (0)
      else
      (if (v_X3_isTold C a0 a2 a1) = 0 then
        (0)
        else
        (1)))
theorem vb_X3_arePartners (C : CS) (a0 : Int32) (a1 : Int32) (a2 : Int32) : v_X3_arePartners C a0 a1 a2 = 0 ∨ v_X3_arePartners C a0 a1 a2 = 1 := by
  unfold v_X3_arePartners
  exact (ib_ite (Or.inl rfl) (ib_ite (Or.inl rfl) (ib_ite (Or.inl rfl) (Or.inr rfl))))
def p_X3_arePartners (C : CS) (a0 : Int32) (a1 : Int32) (a2 : Int32) : Prop :=
  vp_in ((10 * a1) + a2) 100 ∧
    (((C.2.1 39 (Int32.toNatClampNeg ((10 * a1) + a2))) < 0 → 
    True) ∧
    (¬ (C.2.1 39 (Int32.toNatClampNeg ((10 * a1) + a2))) < 0 → 
    p_X3_isTold C a0 a1 a2 ∧
      (((v_X3_isTold C a0 a1 a2) = 0 → 
      True) ∧
      (¬ (v_X3_isTold C a0 a1 a2) = 0 → 
      p_X3_isTold C a0 a2 a1 ∧
        (True)))))
set_option maxHeartbeats 4000000 in
set_option maxRecDepth 100000 in
theorem mc_X3_arePartners {w : WD} (wk : wOk w) (l : Launch) (C : CS) (a0 : Int32) (a1 : Int32) (a2 : Int32) (hw : p_X3_arePartners C a0 a1 a2) : MC w l yX3_arePartners cX3_arePartners 4 (some .boolean) 1 0 0 [.ref (ad w 1), .int a0, .int a1, .int a2] C (pI (v_X3_arePartners C a0 a1 a2) C) := by
  unfold p_X3_arePartners at hw
  refine MC.of wk (by decide) (Nat.le_of_ble_eq_true rfl) (fun x hx ok => ?_)
  subst hx
  show G w x 4 0 0 (QM w x _ 0 0) C 0 [(0, .ref (ad w 1)), (1, .int a0), (2, .int a1), (3, .int a2)] []
  refine g_aload_n ok 0 dX3_arePartners_0 rfl ?_
  refine g_get ok 1 rfl rfl in_X3 4 (by decide) q1363 rfl dX3_arePartners_1 ?_
  refine g_bipush (v := 10) ok dX3_arePartners_4 (by decide) ?_
  refine g_iload_n ok 2 dX3_arePartners_6 rfl ?_
  refine g_imul ok dX3_arePartners_7 ?_
  refine g_iload_n ok 3 dX3_arePartners_8 rfl ?_
  refine g_iadd ok dX3_arePartners_9 ?_
  obtain ⟨hg, hw⟩ := hw
  refine g_iald ok 39 rfl hg _ rfl dX3_arePartners_10 ?_
  refine g_if_lt (tgt := 38) ok dX3_arePartners_11 (by decide) (fun c1 => ?_) (fun c1 => ?_)
  · have hw := hw.1 c1
    refine g_iconst (v := 0) ok dX3_arePartners_38 (by decide) ?_
    exact g_zret ok dX3_arePartners_39 (Or.inl rfl) ⟨by first | (simp only [v_X3_arePartners, if_pos c1]; done) | contradiction, rfl⟩
  · have hw := hw.2 c1
    refine g_aload_n ok 0 dX3_arePartners_14 rfl ?_
    refine g_iload_n ok 1 dX3_arePartners_15 rfl ?_
    refine g_iload_n ok 2 dX3_arePartners_16 rfl ?_
    refine g_iload_n ok 3 dX3_arePartners_17 rfl ?_
    obtain ⟨hp, hw⟩ := hw
    refine g_callVI ok [.int a0, .int a1, .int a2] cf_X3_isTold q1620 (mc_X3_isTold ok.wo (xL x) C a0 a1 a2 hp) (recvF ok 1 rfl rfl) rfl rfl (Nat.le_of_ble_eq_true rfl) ⟨by decide, by decide⟩ ⟨by decide, by decide⟩ dX3_arePartners_18 ?_
    refine g_if_eq (tgt := 38) ok dX3_arePartners_21 (by decide) (fun c2 => ?_) (fun c2 => ?_)
    · have hw := hw.1 c2
      refine g_iconst (v := 0) ok dX3_arePartners_38 (by decide) ?_
      exact g_zret ok dX3_arePartners_39 (Or.inl rfl) ⟨by first | (simp only [v_X3_arePartners, if_neg c1, if_pos c2]; done) | contradiction, rfl⟩
    · have hw := hw.2 c2
      refine g_aload_n ok 0 dX3_arePartners_24 rfl ?_
      refine g_iload_n ok 1 dX3_arePartners_25 rfl ?_
      refine g_iload_n ok 3 dX3_arePartners_26 rfl ?_
      refine g_iload_n ok 2 dX3_arePartners_27 rfl ?_
      obtain ⟨hp, hw⟩ := hw
      refine g_callVI ok [.int a0, .int a2, .int a1] cf_X3_isTold q1620 (mc_X3_isTold ok.wo (xL x) C a0 a2 a1 hp) (recvF ok 1 rfl rfl) rfl rfl (Nat.le_of_ble_eq_true rfl) ⟨by decide, by decide⟩ ⟨by decide, by decide⟩ dX3_arePartners_28 ?_
      refine g_if_eq (tgt := 38) ok dX3_arePartners_31 (by decide) (fun c3 => ?_) (fun c3 => ?_)
      · refine g_iconst (v := 0) ok dX3_arePartners_38 (by decide) ?_
        exact g_zret ok dX3_arePartners_39 (Or.inl rfl) ⟨by first | (simp only [v_X3_arePartners, if_neg c1, if_neg c2, if_pos c3]; done) | contradiction, rfl⟩
      · refine g_iconst (v := 1) ok dX3_arePartners_34 (by decide) ?_
        refine g_goto (tgt := 39) ok dX3_arePartners_35 (by decide) ?_
        exact g_zret ok dX3_arePartners_39 (Or.inr rfl) ⟨by first | (simp only [v_X3_arePartners, if_neg c1, if_neg c2, if_neg c3]; done) | contradiction, rfl⟩
theorem of_k (C : CS) {g : Nat} (k : Nat) (h : g < 1000000) (hk : k < 1000) : v_X3_of C (nI g) (nI k) = C.2.1 36 (16 + 6 * g + k) := by
  unfold v_X3_of
  rw [show (16 : Int32) = nI 16 from rfl, show (6 : Int32) = nI 6 from rfl, pk_mul, nI_add, nI_add, nI_clamp (by omega)]
theorem pof_k (C : CS) {g : Nat} (k : Nat) (h : 16 + 6 * g + k < 1448) : p_X3_of C (nI g) (nI k) := by
  unfold p_X3_of
  rw [show (16 : Int32) = nI 16 from rfl, show (6 : Int32) = nI 6 from rfl, pk_mul, nI_add, nI_add]
  exact ⟨vp_k h, trivial⟩
