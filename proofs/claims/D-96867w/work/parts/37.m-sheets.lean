theorem cf_X3_keep : CfV yX3_keep "TwoGuildsModel" cX3_keep 1 (some .int) 0 := ⟨⟨by decide, by decide, by decide⟩, q75, q1833, q1831, q1832⟩
def v_X3_keep (C : CS)  : Int32 :=
  ((wI (n_X3_copyAll_36_37 C) 1 3 1).2.1 36 1)
def n_X3_keep (C : CS)  : CS :=
  (wI (n_X3_copyAll_36_37 C) 1 3 1)
set_option maxHeartbeats 4000000 in
set_option maxRecDepth 100000 in
theorem mc_X3_keep {w : WD} (wk : wOk w) (l : Launch) (C : CS)  : MC w l yX3_keep cX3_keep 1 (some .int) 1 0 0 [.ref (ad w 1)] C (pI (v_X3_keep C ) (n_X3_keep C )) := by
  refine MC.of wk (by decide) (Nat.le_of_ble_eq_true rfl) (fun x hx ok => ?_)
  subst hx
  show G w x 1 0 0 (QM w x _ 0 0) C 0 [(0, .ref (ad w 1))] []
  refine g_aload_n ok 0 dX3_keep_0 rfl ?_
  refine g_get ok 1 rfl rfl in_X3 0 (by decide) q1359 rfl dX3_keep_1 ?_
  refine g_aload_n ok 0 dX3_keep_4 rfl ?_
  refine g_get ok 1 rfl rfl in_X3 1 (by decide) q1360 rfl dX3_keep_5 ?_
  refine g_callSV ok [.ref (ad w 36), .ref (ad w 37)] cf_X3_copyAll q1827 (mc_X3_copyAll_36_37 ok.wo (xL x) C) rfl rfl (Nat.le_of_ble_eq_true rfl) ⟨by decide, by decide⟩ ⟨by decide, by decide⟩ dX3_keep_8 ?_
  refine g_aload_n ok 0 dX3_keep_11 rfl ?_
  refine g_iconst (v := 1) ok dX3_keep_12 (by decide) ?_
  refine g_putI ok 1 rfl rfl in_X3 tyX3 tyX3_ok nmX3 3 (by decide) q1362 rfl (nb_of (Or.inr rfl)) (fb_of (Or.inr rfl)) (putV_m rfl) dX3_keep_13 (fun C1 eC1 => ?_)
  subst eC1
  refine g_aload_n ok 0 dX3_keep_16 rfl ?_
  refine g_get ok 1 rfl rfl in_X3 0 (by decide) q1359 rfl dX3_keep_17 ?_
  refine g_iconst (v := 1) ok dX3_keep_20 (by decide) ?_
  refine g_iald ok 36 rfl (by unfold vp_in; decide) 1 (by decide) dX3_keep_21 ?_
  exact g_iret ok dX3_keep_22 ⟨by rw [v_X3_keep], by rw [n_X3_keep]⟩
theorem cf_X3_back : CfV yX3_back "TwoGuildsModel" cX3_back 1 (some .int) 0 := ⟨⟨by decide, by decide, by decide⟩, q75, q1837, q1835, q1836⟩
def v_X3_back (C : CS)  : Int32 :=
  if (C.1 1 3) = 0 then
    ((-1000000002))
    else
    (((n_X3_copyAll_37_36 C).2.1 36 1))
def n_X3_back (C : CS)  : CS :=
  if (C.1 1 3) = 0 then
    (C)
    else
    ((n_X3_copyAll_37_36 C))
set_option maxHeartbeats 4000000 in
set_option maxRecDepth 100000 in
theorem mc_X3_back {w : WD} (wk : wOk w) (l : Launch) (C : CS)  : MC w l yX3_back cX3_back 1 (some .int) 1 0 0 [.ref (ad w 1)] C (pI (v_X3_back C ) (n_X3_back C )) := by
  refine MC.of wk (by decide) (Nat.le_of_ble_eq_true rfl) (fun x hx ok => ?_)
  subst hx
  show G w x 1 0 0 (QM w x _ 0 0) C 0 [(0, .ref (ad w 1))] []
  refine g_aload_n ok 0 dX3_back_0 rfl ?_
  refine g_get ok 1 rfl rfl in_X3 3 (by decide) q1362 rfl dX3_back_1 ?_
  refine g_if_ne (tgt := 11) ok dX3_back_4 (by decide) (fun c1 => ?_) (fun c1 => ?_)
  · refine g_aload_n ok 0 dX3_back_11 rfl ?_
    refine g_get ok 1 rfl rfl in_X3 1 (by decide) q1360 rfl dX3_back_12 ?_
    refine g_aload_n ok 0 dX3_back_15 rfl ?_
    refine g_get ok 1 rfl rfl in_X3 0 (by decide) q1359 rfl dX3_back_16 ?_
    refine g_callSV ok [.ref (ad w 37), .ref (ad w 36)] cf_X3_copyAll q1827 (mc_X3_copyAll_37_36 ok.wo (xL x) C) rfl rfl (Nat.le_of_ble_eq_true rfl) ⟨by decide, by decide⟩ ⟨by decide, by decide⟩ dX3_back_19 ?_
    refine g_aload_n ok 0 dX3_back_22 rfl ?_
    refine g_get ok 1 rfl rfl in_X3 0 (by decide) q1359 rfl dX3_back_23 ?_
    refine g_iconst (v := 1) ok dX3_back_26 (by decide) ?_
    refine g_iald ok 36 rfl (by unfold vp_in; decide) 1 (by decide) dX3_back_27 ?_
    exact g_iret ok dX3_back_28 ⟨by first | (simp only [v_X3_back, if_neg c1]; done) | contradiction, by first | (simp only [n_X3_back, if_neg c1]; done) | contradiction⟩
  · refine g_ldc_w (v := -1000000002) ok q1818 dX3_back_7 ?_
    exact g_iret ok dX3_back_10 ⟨by first | (simp only [v_X3_back, if_pos c1]; done) | contradiction, by first | (simp only [n_X3_back, if_pos c1]; done) | contradiction⟩
theorem cf_X3_count : CfV yX3_count "TwoGuildsModel" cX3_count 2 (some .int) 1 := ⟨⟨by decide, by decide, by decide⟩, q75, q1841, q1839, q1840⟩
def v_X3_count (C : CS) (a0 : Int32) : Int32 :=
  if a0 = 0 then
    ((C.2.1 36 1))
    else
    (if a0 = 1 then
      ((v_X3_lostMany C))
      else
      (if a0 = 2 then
        ((C.2.1 36 2))
        else
        (if a0 = 3 then
          ((C.2.1 36 3))
          else
          (if a0 = 4 then
            ((C.2.1 36 4))
            else
            (if a0 = 5 then
              ((C.2.1 36 5))
              else
              (if a0 = 6 then
                ((C.1 1 35))
                else
                (if a0 = 7 then
                  ((C.1 1 9))
                  else
                  (if a0 = 8 then
                    ((C.2.1 36 0))
                    else
                    ((-1000000001))))))))))
def p_X3_count (C : CS) (a0 : Int32) : Prop :=
  (a0 = 0 → 
    True) ∧
    (¬ a0 = 0 → 
    (a0 = 1 → 
      p_X3_lostMany C ∧
        (True)) ∧
      (¬ a0 = 1 → 
      True))
set_option maxHeartbeats 4000000 in
set_option maxRecDepth 100000 in
theorem mc_X3_count {w : WD} (wk : wOk w) (l : Launch) (C : CS) (a0 : Int32) (hw : p_X3_count C a0) : MC w l yX3_count cX3_count 2 (some .int) 2 0 0 [.ref (ad w 1), .int a0] C (pI (v_X3_count C a0) C) := by
  unfold p_X3_count at hw
  refine MC.of wk (by decide) (Nat.le_of_ble_eq_true rfl) (fun x hx ok => ?_)
  subst hx
  show G w x 2 0 0 (QM w x _ 0 0) C 0 [(0, .ref (ad w 1)), (1, .int a0)] []
  refine g_iload_n ok 1 dX3_count_0 rfl ?_
  by_cases c1 : a0 = 0
  · have hw := hw.1 c1
    refine g_swIn (tgt := 52) ok (0) dX3_count_1 (c1.trans (by decide)) (by decide) rfl (by decide) ?_
    refine g_aload_n ok 0 dX3_count_52 rfl ?_
    refine g_get ok 1 rfl rfl in_X3 0 (by decide) q1359 rfl dX3_count_53 ?_
    refine g_iconst (v := 1) ok dX3_count_56 (by decide) ?_
    refine g_iald ok 36 rfl (by unfold vp_in; decide) 1 (by decide) dX3_count_57 ?_
    exact g_iret ok dX3_count_58 ⟨by first | (simp only [v_X3_count, if_pos c1]; done) | contradiction, rfl⟩
  · have hw := hw.2 c1
    by_cases c2 : a0 = 1
    · have hw := hw.1 c2
      refine g_swIn (tgt := 59) ok (1) dX3_count_1 (c2.trans (by decide)) (by decide) rfl (by decide) ?_
      refine g_aload_n ok 0 dX3_count_59 rfl ?_
      obtain ⟨hp, hw⟩ := hw
      refine g_callVI ok [] cf_X3_lostMany q1656 (mc_X3_lostMany ok.wo (xL x) C hp) (recvF ok 1 rfl rfl) rfl rfl (Nat.le_of_ble_eq_true rfl) ⟨by decide, by decide⟩ ⟨by decide, by decide⟩ dX3_count_60 ?_
      exact g_iret ok dX3_count_63 ⟨by first | (simp only [v_X3_count, if_neg c1, if_pos c2]; done) | contradiction, rfl⟩
    · have hw := hw.2 c2
      by_cases c3 : a0 = 2
      · refine g_swIn (tgt := 64) ok (2) dX3_count_1 (c3.trans (by decide)) (by decide) rfl (by decide) ?_
        refine g_aload_n ok 0 dX3_count_64 rfl ?_
        refine g_get ok 1 rfl rfl in_X3 0 (by decide) q1359 rfl dX3_count_65 ?_
        refine g_iconst (v := 2) ok dX3_count_68 (by decide) ?_
        refine g_iald ok 36 rfl (by unfold vp_in; decide) 2 (by decide) dX3_count_69 ?_
        exact g_iret ok dX3_count_70 ⟨by first | (simp only [v_X3_count, if_neg c1, if_neg c2, if_pos c3]; done) | contradiction, rfl⟩
      · skip
        by_cases c4 : a0 = 3
        · refine g_swIn (tgt := 71) ok (3) dX3_count_1 (c4.trans (by decide)) (by decide) rfl (by decide) ?_
          refine g_aload_n ok 0 dX3_count_71 rfl ?_
          refine g_get ok 1 rfl rfl in_X3 0 (by decide) q1359 rfl dX3_count_72 ?_
          refine g_iconst (v := 3) ok dX3_count_75 (by decide) ?_
          refine g_iald ok 36 rfl (by unfold vp_in; decide) 3 (by decide) dX3_count_76 ?_
          exact g_iret ok dX3_count_77 ⟨by first | (simp only [v_X3_count, if_neg c1, if_neg c2, if_neg c3, if_pos c4]; done) | contradiction, rfl⟩
        · skip
          by_cases c5 : a0 = 4
          · refine g_swIn (tgt := 78) ok (4) dX3_count_1 (c5.trans (by decide)) (by decide) rfl (by decide) ?_
            refine g_aload_n ok 0 dX3_count_78 rfl ?_
            refine g_get ok 1 rfl rfl in_X3 0 (by decide) q1359 rfl dX3_count_79 ?_
            refine g_iconst (v := 4) ok dX3_count_82 (by decide) ?_
            refine g_iald ok 36 rfl (by unfold vp_in; decide) 4 (by decide) dX3_count_83 ?_
            exact g_iret ok dX3_count_84 ⟨by first | (simp only [v_X3_count, if_neg c1, if_neg c2, if_neg c3, if_neg c4, if_pos c5]; done) | contradiction, rfl⟩
          · skip
            by_cases c6 : a0 = 5
            · refine g_swIn (tgt := 85) ok (5) dX3_count_1 (c6.trans (by decide)) (by decide) rfl (by decide) ?_
              refine g_aload_n ok 0 dX3_count_85 rfl ?_
              refine g_get ok 1 rfl rfl in_X3 0 (by decide) q1359 rfl dX3_count_86 ?_
              refine g_iconst (v := 5) ok dX3_count_89 (by decide) ?_
              refine g_iald ok 36 rfl (by unfold vp_in; decide) 5 (by decide) dX3_count_90 ?_
              exact g_iret ok dX3_count_91 ⟨by first | (simp only [v_X3_count, if_neg c1, if_neg c2, if_neg c3, if_neg c4, if_neg c5, if_pos c6]; done) | contradiction, rfl⟩
            · skip
              by_cases c7 : a0 = 6
              · refine g_swIn (tgt := 92) ok (6) dX3_count_1 (c7.trans (by decide)) (by decide) rfl (by decide) ?_
                refine g_aload_n ok 0 dX3_count_92 rfl ?_
                refine g_get ok 1 rfl rfl in_X3 35 (by decide) q1394 rfl dX3_count_93 ?_
                exact g_iret ok dX3_count_96 ⟨by first | (simp only [v_X3_count, if_neg c1, if_neg c2, if_neg c3, if_neg c4, if_neg c5, if_neg c6, if_pos c7]; done) | contradiction, rfl⟩
              · skip
                by_cases c8 : a0 = 7
                · refine g_swIn (tgt := 97) ok (7) dX3_count_1 (c8.trans (by decide)) (by decide) rfl (by decide) ?_
                  refine g_aload_n ok 0 dX3_count_97 rfl ?_
                  refine g_get ok 1 rfl rfl in_X3 9 (by decide) q1368 rfl dX3_count_98 ?_
                  exact g_iret ok dX3_count_101 ⟨by first | (simp only [v_X3_count, if_neg c1, if_neg c2, if_neg c3, if_neg c4, if_neg c5, if_neg c6, if_neg c7, if_pos c8]; done) | contradiction, rfl⟩
                · skip
                  by_cases c9 : a0 = 8
                  · refine g_swIn (tgt := 102) ok (8) dX3_count_1 (c9.trans (by decide)) (by decide) rfl (by decide) ?_
                    refine g_aload_n ok 0 dX3_count_102 rfl ?_
                    refine g_get ok 1 rfl rfl in_X3 0 (by decide) q1359 rfl dX3_count_103 ?_
                    refine g_iconst (v := 0) ok dX3_count_106 (by decide) ?_
                    refine g_iald ok 36 rfl (by unfold vp_in; decide) 0 (by decide) dX3_count_107 ?_
                    exact g_iret ok dX3_count_108 ⟨by first | (simp only [v_X3_count, if_neg c1, if_neg c2, if_neg c3, if_neg c4, if_neg c5, if_neg c6, if_neg c7, if_neg c8, if_pos c9]; done) | contradiction, rfl⟩
                  · skip
                    refine g_swOut (tgt := 109) ok dX3_count_1 (fun k k1 k2 => ?_) (by decide) ?_
                    · rcases (show k = 0 ∨ k = 1 ∨ k = 2 ∨ k = 3 ∨ k = 4 ∨ k = 5 ∨ k = 6 ∨ k = 7 ∨ k = 8 by omega) with rfl | rfl | rfl | rfl | rfl | rfl | rfl | rfl | rfl
                      · exact fun h => c1 (h.trans (by decide))
                      · exact fun h => c2 (h.trans (by decide))
                      · exact fun h => c3 (h.trans (by decide))
                      · exact fun h => c4 (h.trans (by decide))
                      · exact fun h => c5 (h.trans (by decide))
                      · exact fun h => c6 (h.trans (by decide))
                      · exact fun h => c7 (h.trans (by decide))
                      · exact fun h => c8 (h.trans (by decide))
                      · exact fun h => c9 (h.trans (by decide))
                    · refine g_ldc (v := -1000000001) ok q1477 dX3_count_109 ?_
                      exact g_iret ok dX3_count_111 ⟨by first | (simp only [v_X3_count, if_neg c1, if_neg c2, if_neg c3, if_neg c4, if_neg c5, if_neg c6, if_neg c7, if_neg c8, if_neg c9]; done) | contradiction, rfl⟩
theorem cf_X3_why : CfV yX3_why "TwoGuildsModel" cX3_why 3 (some .int) 1 := ⟨⟨by decide, by decide, by decide⟩, q75, q1774, q1772, q1773⟩
def v_X3_why (C : CS) (a0 : Int32) : Int32 :=
  if (v_X3_in a0 0 2) = 0 then
    ((-1000000001))
    else
    (if 0 ≤ (v_X3_counts C a0) then
      ((v_X3_counts C a0))
      else
      ((-1000000005)))
def p_X3_why (C : CS) (a0 : Int32) : Prop :=
  ((v_X3_in a0 0 2) = 0 → 
    True) ∧
    (¬ (v_X3_in a0 0 2) = 0 → 
    p_X3_counts C a0 ∧
      (True))
set_option maxHeartbeats 4000000 in
set_option maxRecDepth 100000 in
theorem mc_X3_why {w : WD} (wk : wOk w) (l : Launch) (C : CS) (a0 : Int32) (hw : p_X3_why C a0) : MC w l yX3_why cX3_why 3 (some .int) 1 0 0 [.ref (ad w 1), .int a0] C (pI (v_X3_why C a0) C) := by
  unfold p_X3_why at hw
  refine MC.of wk (by decide) (Nat.le_of_ble_eq_true rfl) (fun x hx ok => ?_)
  subst hx
  show G w x 3 0 0 (QM w x _ 0 0) C 0 [(0, .ref (ad w 1)), (1, .int a0)] []
  refine g_iload_n ok 1 dX3_why_0 rfl ?_
  refine g_iconst (v := 0) ok dX3_why_1 (by decide) ?_
  refine g_iconst (v := 2) ok dX3_why_2 (by decide) ?_
  refine g_callSI ok [.int a0, .int 0, .int 2] cf_X3_in q1474 (mc_X3_in ok.wo (xL x) C a0 0 2) rfl rfl (Nat.le_of_ble_eq_true rfl) ⟨by decide, by decide⟩ ⟨by decide, by decide⟩ dX3_why_3 ?_
  refine g_if_ne (tgt := 12) ok dX3_why_6 (by decide) (fun c1 => ?_) (fun c1 => ?_)
  · have hw := hw.2 c1
    refine g_aload_n ok 0 dX3_why_12 rfl ?_
    refine g_iload_n ok 1 dX3_why_13 rfl ?_
    obtain ⟨hp, hw⟩ := hw
    refine g_callVI ok [.int a0] cf_X3_counts q1546 (mc_X3_counts ok.wo (xL x) C a0 hp) (recvF ok 1 rfl rfl) rfl rfl (Nat.le_of_ble_eq_true rfl) ⟨by decide, by decide⟩ ⟨by decide, by decide⟩ dX3_why_14 ?_
    refine g_istore_n0 ok [(2, .int (v_X3_counts C a0)), (0, .ref (ad w 1)), (1, .int a0)] dX3_why_17 (by decide) rfl ?_
    refine g_iload_n ok 0 dX3_why_18 rfl ?_
    refine g_if_ge (tgt := 27) ok dX3_why_19 (by decide) (fun c2 => ?_) (fun c2 => ?_)
    · refine g_iload_n ok 0 dX3_why_27 rfl ?_
      exact g_iret ok dX3_why_28 ⟨by first | (simp only [v_X3_why, if_neg c1, if_pos c2]; done) | contradiction, rfl⟩
    · refine g_ldc (v := -1000000005) ok q1560 dX3_why_22 ?_
      refine g_goto (tgt := 28) ok dX3_why_24 (by decide) ?_
      exact g_iret ok dX3_why_28 ⟨by first | (simp only [v_X3_why, if_neg c1, if_neg c2]; done) | contradiction, rfl⟩
  · have hw := hw.1 c1
    refine g_ldc (v := -1000000001) ok q1477 dX3_why_9 ?_
    exact g_iret ok dX3_why_11 ⟨by first | (simp only [v_X3_why, if_pos c1]; done) | contradiction, rfl⟩
/-- sizes of the sheets -/
def szOk (C : CS) : Prop := ∀ s, s < 4 → ∃ n, C.2.1 52 s = nI n ∧ n ≤ 24
theorem isSheet_iff {a : Int32} : ¬ v_X3_isSheet a = 0 ↔ ∃ s, s < 4 ∧ a = nI s := by
  unfold v_X3_isSheet
  rw [in_iff]
  constructor
  · intro h
    obtain ⟨s, e, -, hs⟩ := nI_btw (lo := 0) (hi := 3) h.1 h.2 (by decide)
    exact ⟨s, by omega, e⟩
  · intro ⟨s, hs, e⟩
    subst e
    exact ⟨nI_pos' (by omega), nI_le (show s ≤ 3 by omega) (by decide)⟩
theorem isSlot_iff {a : Int32} : ¬ v_X3_isSlot a = 0 ↔ ∃ s, s < 5 ∧ a = nI s := by
  unfold v_X3_isSlot
  rw [in_iff]
  constructor
  · intro h
    obtain ⟨s, e, -, hs⟩ := nI_btw (lo := 0) (hi := 4) h.1 h.2 (by decide)
    exact ⟨s, by omega, e⟩
  · intro ⟨s, hs, e⟩
    subst e
    exact ⟨nI_pos' (by omega), nI_le (show s ≤ 4 by omega) (by decide)⟩
theorem cf_X3_sheet : CfV yX3_sheet "TwoGuildsModel" cX3_sheet 5 (some .int) 3 := ⟨⟨by decide, by decide, by decide⟩, q75, q1778, q1776, q1777⟩
def v_X3_sheet (C : CS) (a0 a1 a2 : Int32) : Int32 := if v_X3_isSheet a0 = 0 then -1000000001 else if v_X3_in a1 (-1) 1 = 0 then -1000000001 else if a1 < 0 then 0 else if a2 ≤ 24 then (if 0 ≤ a2 then a2 else -1000000014) else -1000000001
def q_X3_sheet (C : CS) (a0 a1 a2 : Int32) (C1 : CS) : Prop :=
  if ¬ v_X3_isSheet a0 = 0 ∧ ¬ v_X3_in a1 (-1) 1 = 0 ∧ (a1 < 0 ∨ (a2 ≤ 24 ∧ 0 ≤ a2)) then
    frm [51, 52, 53] C C1 ∧ C1.2.1 51 = upd (C.2.1 51) a0.toNatClampNeg a1 ∧ C1.2.1 52 = upd (C.2.1 52) a0.toNatClampNeg (if 0 ≤ a1 then a2 else 0) ∧ ∀ i, C1.2.1 53 i = if 24 * a0.toNatClampNeg ≤ i ∧ i < 24 * a0.toNatClampNeg + 24 then 0 else C.2.1 53 i
  else C1 = C
def wp_X3_sheet_l66 (Post : Int32 → CS → Prop) : Nat → CS → Int32 → Int32 → Prop
  | 0, _, _, _ => False
  | n + 1, C, i1, i4 => (24 ≤ i4 → 
  vp_in i1 4 ∧
    (Post (C.2.1 52 (Int32.toNatClampNeg i1)) C)) ∧
  (¬ 24 ≤ i4 → 
  vp_in ((24 * i1) + i4) 96 ∧
    (∀ C13 : CS, C13 = (wA C 53 (Int32.toNatClampNeg ((24 * i1) + i4)) 0) → 
    ∀ x14 : Int32, x14 = (i4 + Int32.ofInt 1) → 
    wp_X3_sheet_l66 Post n C13 i1 x14))
def wp_X3_sheet_j41 (Post : Int32 → CS → Prop) (C : CS) (i1 : Int32) (i2 : Int32) (i3 : Int32) : Prop := vp_in i1 4 ∧
  (∀ C7 : CS, C7 = (wA C 51 (Int32.toNatClampNeg i1) i2) → 
  ∀ x10 : Int32, x10 = (if 0 ≤ i2 then i3 else 0) → 
  vp_in i1 4 ∧
  (∀ C11 : CS, C11 = (wA C7 52 (Int32.toNatClampNeg i1) x10) → 
  ∃ m66, wp_X3_sheet_l66 Post m66 C11 i1 0))
def wp_X3_sheet_j29 (Post : Int32 → CS → Prop) (C : CS) (i1 : Int32) (i2 : Int32) (i3 : Int32) : Prop := (i2 < 0 → 
  wp_X3_sheet_j41 Post C i1 i2 i3) ∧
  (¬ i2 < 0 → 
  (0 ≤ i3 → 
    wp_X3_sheet_j41 Post C i1 i2 i3) ∧
    (¬ 0 ≤ i3 → 
    Post (-1000000014) C))
def wp_X3_sheet (Post : Int32 → CS → Prop) (C : CS) (a0 : Int32) (a1 : Int32) (a2 : Int32) : Prop :=
  ∀ r1 : Int32, r1 = (v_X3_isSheet a0) → 
    (r1 = 0 → 
    Post (-1000000001) C) ∧
    (¬ r1 = 0 → 
    ∀ r3 : Int32, r3 = (v_X3_in a1 (-1) 1) → 
      (r3 = 0 → 
      Post (-1000000001) C) ∧
      (¬ r3 = 0 → 
      (a1 < 0 → 
        wp_X3_sheet_j29 Post C a0 a1 a2) ∧
        (¬ a1 < 0 → 
        (a2 ≤ 24 → 
          wp_X3_sheet_j29 Post C a0 a1 a2) ∧
          (¬ a2 ≤ 24 → 
          Post (-1000000001) C))))
set_option maxHeartbeats 4000000 in
set_option maxRecDepth 100000 in
theorem gw_X3_sheet_l66 {w : WD} {x : Cx} (ok : Ok w x cX3_sheet 5 yX3_sheet.cls (some .int) (rmL 2 0 0)) {Post : Int32 → CS → Prop} : ∀ (n : Nat) (C : CS) (i1 : Int32) (i4 : Int32), wp_X3_sheet_l66 Post  n C i1 i4 → G w x 5 0 0 (QM w x (fun v C1 => ∃ r : Int32, v = some (.int r) ∧ Post r C1) 0 0) C 66 [(0, .ref (ad w 1)), (1, .int i1), (4, .int i4)] [] := by
  intro n
  induction n with
  | zero => intro C i1 i4 hw; exact hw.elim
  | succ n ih =>
    intro C i1 i4 hw
    unfold wp_X3_sheet_l66 at hw
    refine g_iload ok 2 dX3_sheet_66 rfl ?_
    refine g_bipush (v := 24) ok dX3_sheet_68 (by decide) ?_
    refine g_icmp_ge (tgt := 92) ok dX3_sheet_70 (by decide) (fun c12 => ?_) (fun c12 => ?_)
    · have hw := hw.1 c12
      refine g_aload_n ok 0 dX3_sheet_92 rfl ?_
      refine g_get ok 1 rfl rfl in_X3 27 (by decide) q1386 rfl dX3_sheet_93 ?_
      refine g_iload_n ok 1 dX3_sheet_96 rfl ?_
      obtain ⟨hg, hw⟩ := hw
      refine g_iald ok 52 rfl hg _ rfl dX3_sheet_97 ?_
      exact g_iret ok dX3_sheet_98 ⟨_, rfl, hw⟩
    · have hw := hw.2 c12
      refine g_aload_n ok 0 dX3_sheet_73 rfl ?_
      refine g_get ok 1 rfl rfl in_X3 28 (by decide) q1387 rfl dX3_sheet_74 ?_
      refine g_bipush (v := 24) ok dX3_sheet_77 (by decide) ?_
      refine g_iload_n ok 1 dX3_sheet_79 rfl ?_
      refine g_imul ok dX3_sheet_80 ?_
      refine g_iload ok 2 dX3_sheet_81 rfl ?_
      refine g_iadd ok dX3_sheet_83 ?_
      refine g_iconst (v := 0) ok dX3_sheet_84 (by decide) ?_
      obtain ⟨hg, hw⟩ := hw
      refine g_iast ok 53 rfl hg _ rfl dX3_sheet_85 (fun C13 eC13 => ?_)
      have hw := hw C13 eC13
      refine g_iinc ok 2 (fun z => [(4, .int z), (0, .ref (ad w 1)), (1, .int i1)]) dX3_sheet_86 rfl (by decide) (fun _ => rfl) (fun x14 ex14 => ?_)
      have hw := hw x14 ex14
      refine g_goto (tgt := 66) ok dX3_sheet_89 (by decide) ?_
      refine g_sub [1, 2, 0] [(0, .ref (ad w 1)), (1, .int i1), (4, .int x14)] rfl ?_
      exact ih C13 i1 x14 hw
set_option maxHeartbeats 4000000 in
set_option maxRecDepth 100000 in
theorem gw_X3_sheet_j41 {w : WD} {x : Cx} (ok : Ok w x cX3_sheet 5 yX3_sheet.cls (some .int) (rmL 2 0 0)) {Post : Int32 → CS → Prop} : ∀ (C : CS) (i1 : Int32) (i2 : Int32) (i3 : Int32), wp_X3_sheet_j41 Post  C i1 i2 i3 → G w x 5 0 0 (QM w x (fun v C1 => ∃ r : Int32, v = some (.int r) ∧ Post r C1) 0 0) C 41 [(0, .ref (ad w 1)), (1, .int i1), (2, .int i2), (3, .int i3)] [] := by
  intro C i1 i2 i3 hw
  unfold wp_X3_sheet_j41 at hw
  refine g_aload_n ok 0 dX3_sheet_41 rfl ?_
  refine g_get ok 1 rfl rfl in_X3 26 (by decide) q1385 rfl dX3_sheet_42 ?_
  refine g_iload_n ok 1 dX3_sheet_45 rfl ?_
  refine g_iload_n ok 2 dX3_sheet_46 rfl ?_
  obtain ⟨hg, hw⟩ := hw
  refine g_iast ok 51 rfl hg _ rfl dX3_sheet_47 (fun C7 eC7 => ?_)
  have hw := hw C7 eC7
  refine g_aload_n ok 0 dX3_sheet_48 rfl ?_
  refine g_get ok 1 rfl rfl in_X3 27 (by decide) q1386 rfl dX3_sheet_49 ?_
  refine g_iload_n ok 1 dX3_sheet_52 rfl ?_
  refine g_iload_n ok 2 dX3_sheet_53 rfl ?_
  have kj9 : ∀ x10 : Int32, x10 = (if 0 ≤ i2 then i3 else 0) → G w x 5 0 0 (QM w x (fun v C1 => ∃ r : Int32, v = some (.int r) ∧ Post r C1) 0 0) C7 62 [(0, .ref (ad w 1)), (1, .int i1)] [.int x10, .int i1, .ref (ad w 52)] := by
    intro x10 ex10
    have hw := hw x10 ex10
    obtain ⟨hg, hw⟩ := hw
    refine g_iast ok 52 rfl hg _ rfl dX3_sheet_62 (fun C11 eC11 => ?_)
    have hw := hw C11 eC11
    refine g_iconst (v := 0) ok dX3_sheet_63 (by decide) ?_
    refine g_istore0 ok [(4, .int 0), (0, .ref (ad w 1)), (1, .int i1)] dX3_sheet_64 (by decide) rfl ?_
    refine g_sub [1, 2, 0] [(0, .ref (ad w 1)), (1, .int i1), (4, .int 0)] rfl ?_
    obtain ⟨n15, hw⟩ := hw
    exact gw_X3_sheet_l66 ok n15 C11 i1 0 hw
  refine g_if_ge (tgt := 61) ok dX3_sheet_54 (by decide) (fun c8 => ?_) (fun c8 => ?_)
  · refine g_iload_n ok 3 dX3_sheet_61 rfl ?_
    exact g_sub [0, 1] [(0, .ref (ad w 1)), (1, .int i1)] rfl (kj9 _ (by simp only [if_pos c8]))
  · refine g_iconst (v := 0) ok dX3_sheet_57 (by decide) ?_
    refine g_goto (tgt := 62) ok dX3_sheet_58 (by decide) ?_
    exact g_sub [0, 1] [(0, .ref (ad w 1)), (1, .int i1)] rfl (kj9 _ (by simp only [if_neg c8]))
set_option maxHeartbeats 4000000 in
set_option maxRecDepth 100000 in
theorem gw_X3_sheet_j29 {w : WD} {x : Cx} (ok : Ok w x cX3_sheet 5 yX3_sheet.cls (some .int) (rmL 2 0 0)) {Post : Int32 → CS → Prop} : ∀ (C : CS) (i1 : Int32) (i2 : Int32) (i3 : Int32), wp_X3_sheet_j29 Post  C i1 i2 i3 → G w x 5 0 0 (QM w x (fun v C1 => ∃ r : Int32, v = some (.int r) ∧ Post r C1) 0 0) C 29 [(0, .ref (ad w 1)), (1, .int i1), (2, .int i2), (3, .int i3)] [] := by
  intro C i1 i2 i3 hw
  unfold wp_X3_sheet_j29 at hw
  refine g_iload_n ok 2 dX3_sheet_29 rfl ?_
  refine g_if_lt (tgt := 41) ok dX3_sheet_30 (by decide) (fun c6 => ?_) (fun c6 => ?_)
  · have hw := hw.1 c6
    exact gw_X3_sheet_j41 ok C i1 i2 i3 hw
  · have hw := hw.2 c6
    refine g_iload_n ok 3 dX3_sheet_33 rfl ?_
    refine g_if_ge (tgt := 41) ok dX3_sheet_34 (by decide) (fun c16 => ?_) (fun c16 => ?_)
    · have hw := hw.1 c16
      exact gw_X3_sheet_j41 ok C i1 i2 i3 hw
    · have hw := hw.2 c16
      refine g_ldc_w (v := -1000000014) ok q1779 dX3_sheet_37 ?_
      exact g_iret ok dX3_sheet_40 ⟨_, rfl, hw⟩
set_option maxHeartbeats 4000000 in
set_option maxRecDepth 100000 in
theorem gw_X3_sheet {w : WD} (wk : wOk w) (l : Launch) (C : CS) (a0 : Int32) (a1 : Int32) (a2 : Int32) {Post : Int32 → CS → Prop} (hw : wp_X3_sheet Post C a0 a1 a2) : MC w l yX3_sheet cX3_sheet 5 (some .int) 2 0 0 [.ref (ad w 1), .int a0, .int a1, .int a2] C (fun v C1 => ∃ r : Int32, v = some (.int r) ∧ Post r C1) := by
  unfold wp_X3_sheet at hw
  refine MC.of wk (by decide) (Nat.le_of_ble_eq_true rfl) (fun x hx ok => ?_)
  subst hx
  show G w x 5 0 0 (QM w x _ 0 0) C 0 [(0, .ref (ad w 1)), (1, .int a0), (2, .int a1), (3, .int a2)] []
  refine g_iload_n ok 1 dX3_sheet_0 rfl ?_
  refine g_callSI ok [.int a0] cf_X3_isSheet q1608 (mc_X3_isSheet ok.wo (xL x) C a0) rfl rfl (Nat.le_of_ble_eq_true rfl) ⟨by decide, by decide⟩ ⟨by decide, by decide⟩ dX3_sheet_1 ?_
  refine g_nmI (fun r1 er1 => ?_)
  have hw := hw r1 er1
  refine g_if_eq (tgt := 26) ok dX3_sheet_4 (by decide) (fun c2 => ?_) (fun c2 => ?_)
  · have hw := hw.1 c2
    refine g_ldc (v := -1000000001) ok q1477 dX3_sheet_26 ?_
    exact g_iret ok dX3_sheet_28 ⟨_, rfl, hw⟩
  · have hw := hw.2 c2
    refine g_iload_n ok 2 dX3_sheet_7 rfl ?_
    refine g_iconst (v := -1) ok dX3_sheet_8 (by decide) ?_
    refine g_iconst (v := 1) ok dX3_sheet_9 (by decide) ?_
    refine g_callSI ok [.int a1, .int (-1), .int 1] cf_X3_in q1474 (mc_X3_in ok.wo (xL x) C a1 (-1) 1) rfl rfl (Nat.le_of_ble_eq_true rfl) ⟨by decide, by decide⟩ ⟨by decide, by decide⟩ dX3_sheet_10 ?_
    refine g_nmI (fun r3 er3 => ?_)
    have hw := hw r3 er3
    refine g_if_eq (tgt := 26) ok dX3_sheet_13 (by decide) (fun c4 => ?_) (fun c4 => ?_)
    · have hw := hw.1 c4
      refine g_ldc (v := -1000000001) ok q1477 dX3_sheet_26 ?_
      exact g_iret ok dX3_sheet_28 ⟨_, rfl, hw⟩
    · have hw := hw.2 c4
      refine g_iload_n ok 2 dX3_sheet_16 rfl ?_
      refine g_if_lt (tgt := 29) ok dX3_sheet_17 (by decide) (fun c5 => ?_) (fun c5 => ?_)
      · have hw := hw.1 c5
        exact gw_X3_sheet_j29 ok C a0 a1 a2 hw
      · have hw := hw.2 c5
        refine g_iload_n ok 3 dX3_sheet_20 rfl ?_
        refine g_bipush (v := 24) ok dX3_sheet_21 (by decide) ?_
        refine g_icmp_le (tgt := 29) ok dX3_sheet_23 (by decide) (fun c17 => ?_) (fun c17 => ?_)
        · have hw := hw.1 c17
          exact gw_X3_sheet_j29 ok C a0 a1 a2 hw
        · have hw := hw.2 c17
          refine g_ldc (v := -1000000001) ok q1477 dX3_sheet_26 ?_
          exact g_iret ok dX3_sheet_28 ⟨_, rfl, hw⟩
theorem sp_X3_sheet (C : CS) (a0 a1 a2 : Int32) : wp_X3_sheet (fun r C1 => r = v_X3_sheet C a0 a1 a2 ∧ q_X3_sheet C a0 a1 a2 C1) C a0 a1 a2 := by
  intro r1 e1
  refine ⟨fun c => ⟨by unfold v_X3_sheet; rw [← e1, if_pos c], by unfold q_X3_sheet; rw [← e1, if_neg (fun z => z.1 c)]⟩, fun c r3 e3 => ?_⟩
  refine ⟨fun c3 => ⟨by unfold v_X3_sheet; rw [← e1, if_neg c, ← e3, if_pos c3], by unfold q_X3_sheet; rw [← e3, if_neg (fun z => z.2.1 c3)]⟩, fun c3 => ?_⟩
  have c' := c
  rw [e1, isSheet_iff] at c'
  obtain ⟨s, hs, rfl⟩ := c'
  have main : (a1 < 0 ∨ (a2 ≤ 24 ∧ 0 ≤ a2)) → wp_X3_sheet_j41 (fun r C1 => r = v_X3_sheet C (nI s) a1 a2 ∧ q_X3_sheet C (nI s) a1 a2 C1) C (nI s) a1 a2 := by
    intro hg
    refine ⟨vp_k hs, fun C7 e7 x10 e10 => ⟨vp_k hs, fun C11 e11 => ?_⟩⟩
    rw [cl_k (by omega)] at e7 e11
    have f11 : frm [51, 52, 53] C C11 := by rw [e11, e7]; exact ((frm.rf _ C).w (by decide)).w (by decide)
    have h51 : C11.2.1 51 = upd (C.2.1 51) s a1 := by rw [e11, wA_ne _ _ _ (by decide), e7, wA_row]
    have h52 : C11.2.1 52 = upd (C.2.1 52) s x10 := by rw [e11, wA_row, e7, wA_ne _ _ _ (by decide)]
    have h53 : C11.2.1 53 = C.2.1 53 := by rw [e11, wA_ne _ _ _ (by decide), e7, wA_ne _ _ _ (by decide)]
    have H : ∀ d k, k + d = 24 → ∀ D : CS, frm [51, 52, 53] C D → D.2.1 51 = upd (C.2.1 51) s a1 → D.2.1 52 = upd (C.2.1 52) s x10 → (∀ i, D.2.1 53 i = if 24 * s ≤ i ∧ i < 24 * s + k then 0 else C.2.1 53 i) → wp_X3_sheet_l66 (fun r C1 => r = v_X3_sheet C (nI s) a1 a2 ∧ q_X3_sheet C (nI s) a1 a2 C1) (d + 1) D (nI s) (nI k) := by
      intro d
      induction d with
      | zero =>
        intro k hk D hf g1 g2 g3
        have ek : k = 24 := by omega
        subst ek
        refine ⟨fun _ => ⟨vp_k hs, ?_, ?_⟩, fun c1 => absurd (by decide) c1⟩
        · rw [g2, cl_k (by omega), upd, if_pos rfl, e10]
          unfold v_X3_sheet
          rw [← e1, if_neg c, ← e3, if_neg c3]
          by_cases h0 : a1 < 0
          · rw [if_pos h0, if_neg (Int32.not_le.mpr h0)]
          · rcases hg with hg | hg
            · exact absurd hg h0
            · rw [if_neg h0, if_pos hg.1, if_pos hg.2, if_pos (Int32.not_lt.mp h0)]
        · unfold q_X3_sheet
          rw [if_pos ⟨by rw [← e1]; exact c, by rw [← e3]; exact c3, hg⟩, cl_k (by omega), ← e10]
          exact ⟨hf, g1, g2, g3⟩
      | succ d ih =>
        intro k hk D hf g1 g2 g3
        refine ⟨fun c1 => ?_, fun _ => ⟨by rw [ix24]; exact vp_k (by omega), fun C13 e13 x14 e14 => ?_⟩⟩
        · rw [show (24 : Int32) = nI 24 from rfl, nI_leI (by omega) (by omega)] at c1; omega
        · rw [ix24, cl_k (by omega)] at e13
          rw [e14, o1, nI_add]
          refine ih (k + 1) (by omega) C13 (by rw [e13]; exact hf.w (by decide)) (by rw [e13, wA_ne _ _ _ (by decide)]; exact g1) (by rw [e13, wA_ne _ _ _ (by decide)]; exact g2) (fun i => ?_)
          rw [e13, wA_row, upd]
          by_cases hi : i = 24 * s + k
          · rw [if_pos hi, if_pos (by omega)]
          · rw [if_neg hi, g3 i]
            by_cases h2 : 24 * s ≤ i ∧ i < 24 * s + k
            · rw [if_pos h2, if_pos (by omega)]
            · rw [if_neg h2, if_neg (by omega)]
    exact ⟨_, H 24 0 (by omega) C11 f11 h51 h52 (fun i => by rw [h53, if_neg (by omega)])⟩
  have bad : ¬ a1 < 0 → ¬ a2 ≤ 24 → (-1000000001 : Int32) = v_X3_sheet C (nI s) a1 a2 ∧ q_X3_sheet C (nI s) a1 a2 C := by
    intro h0 h1
    refine ⟨by unfold v_X3_sheet; rw [← e1, if_neg c, ← e3, if_neg c3, if_neg h0, if_neg h1], ?_⟩
    unfold q_X3_sheet
    rw [if_neg (fun z => by rcases z.2.2 with h | h; exact h0 h; exact h1 h.1)]
  refine ⟨fun c4 => ⟨fun _ => main (Or.inl c4), fun c5 => absurd c4 c5⟩, fun c4 => ⟨fun c5 => ⟨fun c6 => absurd c6 c4, fun _ => ⟨fun c6 => main (Or.inr ⟨c5, c6⟩), fun c6 => ⟨?_, ?_⟩⟩⟩, fun c5 => bad c4 c5⟩⟩
  · unfold v_X3_sheet; rw [← e1, if_neg c, ← e3, if_neg c3, if_neg c4, if_pos c5, if_neg c6]
  · unfold q_X3_sheet
    rw [if_neg (fun z => by rcases z.2.2 with h | h; exact c4 h; exact c6 h.2)]
theorem mc_X3_sheet {w : WD} (wk : wOk w) (l : Launch) (C : CS) (a0 : Int32) (a1 : Int32) (a2 : Int32) : MC w l yX3_sheet cX3_sheet 5 (some .int) 2 0 0 [.ref (ad w 1), .int a0, .int a1, .int a2] C (pIR (v_X3_sheet C a0 a1 a2) (q_X3_sheet C a0 a1 a2)) := MC.postIR (gw_X3_sheet wk l C a0 a1 a2 (sp_X3_sheet C a0 a1 a2))
def pourS (cl : Nat → Int32) (s : Nat) (g : Nat) (q : (Nat → Int32) × Int32) : (Nat → Int32) × Int32 :=
  (upd q.1 (16 + 6 * g + 3) (if cl (24 * s + g) = -1000000005 then q.1 (16 + 6 * g + 3) else v_X3_within (cl (24 * s + g)) 0 99),
   q.2 + (if q.1 (16 + 6 * g + 3) = (if cl (24 * s + g) = -1000000005 then q.1 (16 + 6 * g + 3) else v_X3_within (cl (24 * s + g)) 0 99) then 0 else 1))
theorem pourI_same (cl : Nat → Int32) (s : Nat) (q : (Nat → Int32) × Int32) : ∀ n, n ≤ 10 → ∀ i, i < 16 ∨ 76 ≤ i → (itr (pourS cl s) n q).1 i = q.1 i := by
  intro n
  induction n with
  | zero => intro _ i _; rfl
  | succ n ih => intro hn i hi; rw [itr, pourS]; simp only [upd]; rw [if_neg (by omega)]; exact ih (by omega) i hi
def pourR (r sz cl : Nat → Int32) (s : Nat) : (Nat → Int32) × Int32 := itr (pourS cl s) (min (sz s).toNatClampNeg (r 1).toNatClampNeg) (r, 0)
theorem cf_X3_pour : CfV yX3_pour "TwoGuildsModel" cX3_pour 6 (some .int) 1 := ⟨⟨by decide, by decide, by decide⟩, q75, q1790, q1788, q1789⟩
def p_X3_pour (C : CS) (a0 : Int32) : Prop := szOk C ∧ ∃ N, gOk C N
def v_X3_pour (C : CS) (a0 : Int32) : Int32 := if v_X3_isSheet a0 = 0 then -1000000001 else if 0 ≤ C.2.1 51 a0.toNatClampNeg then (pourR (C.2.1 36) (C.2.1 52) (C.2.1 53) a0.toNatClampNeg).2 else -1000000011
def q_X3_pour (C : CS) (a0 : Int32) (C1 : CS) : Prop := if ¬ v_X3_isSheet a0 = 0 ∧ 0 ≤ C.2.1 51 a0.toNatClampNeg then frm [36] C C1 ∧ C1.2.1 36 = (pourR (C.2.1 36) (C.2.1 52) (C.2.1 53) a0.toNatClampNeg).1 else C1 = C
def wp_X3_pour_l26 (Post : Int32 → CS → Prop) : Nat → CS → Int32 → Int32 → Int32 → Prop
  | 0, _, _, _, _ => False
  | n + 1, C, i1, i2, i3 => vp_in i1 4 ∧
  (((C.2.1 52 (Int32.toNatClampNeg i1)) ≤ i3 → 
  Post i2 C) ∧
  (¬ (C.2.1 52 (Int32.toNatClampNeg i1)) ≤ i3 → 
  ((C.2.1 36 1) ≤ i3 → 
    Post i2 C) ∧
    (¬ (C.2.1 36 1) ≤ i3 → 
    vp_in ((24 * i1) + i3) 96 ∧
      (∀ x6 : Int32, x6 = (C.2.1 53 (Int32.toNatClampNeg ((24 * i1) + i3))) → 
      ((x6 = (-1000000005) → 
        p_X3_of C i3 3 ∧
          (True)) ∧
        (¬ x6 = (-1000000005) → 
        True)) ∧
      (∀ x9 : Int32, x9 = (if x6 = (-1000000005) then (v_X3_of C i3 3) else (v_X3_within x6 0 99)) → 
      p_X3_becomes C ((16 + (6 * i3)) + 3) x9 ∧
      (∀ r10 : Int32, r10 = (v_X3_becomes C ((16 + (6 * i3)) + 3) x9) → 
      ∀ C11 : CS, C11 = (n_X3_becomes C ((16 + (6 * i3)) + 3) x9) → 
      ∀ x14 : Int32, x14 = (if r10 = x9 then (0 : Int32) else 1) → 
      ∀ x15 : Int32, x15 = (i2 + x14) → 
      ∀ x16 : Int32, x16 = (i3 + Int32.ofInt 1) → 
      wp_X3_pour_l26 Post n C11 i1 x15 x16))))))
def wp_X3_pour (Post : Int32 → CS → Prop) (C : CS) (a0 : Int32) : Prop :=
  ∀ r1 : Int32, r1 = (v_X3_isSheet a0) → 
    (r1 = 0 → 
    Post (-1000000001) C) ∧
    (¬ r1 = 0 → 
    vp_in a0 4 ∧
      ((0 ≤ (C.2.1 51 (Int32.toNatClampNeg a0)) → 
      ∃ m26, wp_X3_pour_l26 Post m26 C a0 0 0) ∧
      (¬ 0 ≤ (C.2.1 51 (Int32.toNatClampNeg a0)) → 
      Post (-1000000011) C)))
set_option maxHeartbeats 4000000 in
set_option maxRecDepth 100000 in
theorem gw_X3_pour_l26 {w : WD} {x : Cx} (ok : Ok w x cX3_pour 6 yX3_pour.cls (some .int) (rmL 2 0 0)) {Post : Int32 → CS → Prop} : ∀ (n : Nat) (C : CS) (i1 : Int32) (i2 : Int32) (i3 : Int32), wp_X3_pour_l26 Post  n C i1 i2 i3 → G w x 6 0 0 (QM w x (fun v C1 => ∃ r : Int32, v = some (.int r) ∧ Post r C1) 0 0) C 26 [(0, .ref (ad w 1)), (1, .int i1), (2, .int i2), (3, .int i3)] [] := by
  intro n
  induction n with
  | zero => intro C i1 i2 i3 hw; exact hw.elim
  | succ n ih =>
    intro C i1 i2 i3 hw
    unfold wp_X3_pour_l26 at hw
    refine g_iload_n ok 3 dX3_pour_26 rfl ?_
    refine g_aload_n ok 0 dX3_pour_27 rfl ?_
    refine g_get ok 1 rfl rfl in_X3 27 (by decide) q1386 rfl dX3_pour_28 ?_
    refine g_iload_n ok 1 dX3_pour_31 rfl ?_
    obtain ⟨hg, hw⟩ := hw
    refine g_iald ok 52 rfl hg _ rfl dX3_pour_32 ?_
    refine g_icmp_ge (tgt := 119) ok dX3_pour_33 (by decide) (fun c4 => ?_) (fun c4 => ?_)
    · have hw := hw.1 c4
      refine g_iload_n ok 2 dX3_pour_119 rfl ?_
      exact g_iret ok dX3_pour_120 ⟨_, rfl, hw⟩
    · have hw := hw.2 c4
      refine g_iload_n ok 3 dX3_pour_36 rfl ?_
      refine g_aload_n ok 0 dX3_pour_37 rfl ?_
      refine g_get ok 1 rfl rfl in_X3 0 (by decide) q1359 rfl dX3_pour_38 ?_
      refine g_iconst (v := 1) ok dX3_pour_41 (by decide) ?_
      refine g_iald ok 36 rfl (by unfold vp_in; decide) 1 (by decide) dX3_pour_42 ?_
      refine g_icmp_ge (tgt := 119) ok dX3_pour_43 (by decide) (fun c5 => ?_) (fun c5 => ?_)
      · have hw := hw.1 c5
        refine g_iload_n ok 2 dX3_pour_119 rfl ?_
        exact g_iret ok dX3_pour_120 ⟨_, rfl, hw⟩
      · have hw := hw.2 c5
        refine g_aload_n ok 0 dX3_pour_46 rfl ?_
        refine g_get ok 1 rfl rfl in_X3 28 (by decide) q1387 rfl dX3_pour_47 ?_
        refine g_bipush (v := 24) ok dX3_pour_50 (by decide) ?_
        refine g_iload_n ok 1 dX3_pour_52 rfl ?_
        refine g_imul ok dX3_pour_53 ?_
        refine g_iload_n ok 3 dX3_pour_54 rfl ?_
        refine g_iadd ok dX3_pour_55 ?_
        obtain ⟨hg, hw⟩ := hw
        refine g_iald ok 53 rfl hg _ rfl dX3_pour_56 ?_
        refine g_istore ok (fun z => [(4, .int z), (0, .ref (ad w 1)), (1, .int i1), (2, .int i2), (3, .int i3)]) dX3_pour_57 (by decide) (fun _ => rfl) (fun x6 ex6 => ?_)
        have hw := hw x6 ex6
        refine g_iload ok 0 dX3_pour_59 rfl ?_
        refine g_ldc (v := -1000000005) ok q1560 dX3_pour_61 ?_
        obtain ⟨hr, hw⟩ := hw
        have kj8 : ∀ x9 : Int32, x9 = (if x6 = (-1000000005) then (v_X3_of C i3 3) else (v_X3_within x6 0 99)) → G w x 6 0 0 (QM w x (fun v C1 => ∃ r : Int32, v = some (.int r) ∧ Post r C1) 0 0) C 83 [(0, .ref (ad w 1)), (1, .int i1), (2, .int i2), (3, .int i3)] [.int x9] := by
          intro x9 ex9
          have hw := hw x9 ex9
          refine g_istore0 ok [(5, .int x9), (0, .ref (ad w 1)), (1, .int i1), (2, .int i2), (3, .int i3)] dX3_pour_83 (by decide) rfl ?_
          refine g_iload_n ok 3 dX3_pour_85 rfl ?_
          refine g_aload_n ok 1 dX3_pour_86 rfl ?_
          refine g_bipush (v := 16) ok dX3_pour_87 (by decide) ?_
          refine g_bipush (v := 6) ok dX3_pour_89 (by decide) ?_
          refine g_iload_n ok 4 dX3_pour_91 rfl ?_
          refine g_imul ok dX3_pour_92 ?_
          refine g_iadd ok dX3_pour_93 ?_
          refine g_iconst (v := 3) ok dX3_pour_94 (by decide) ?_
          refine g_iadd ok dX3_pour_95 ?_
          refine g_iload ok 0 dX3_pour_96 rfl ?_
          obtain ⟨hp, hw⟩ := hw
          refine g_callVI ok [.int ((16 + (6 * i3)) + 3), .int x9] cf_X3_becomes q1515 (mc_X3_becomes ok.wo (xL x) C ((16 + (6 * i3)) + 3) x9 hp) (recvF ok 1 rfl rfl) rfl rfl (Nat.le_of_ble_eq_true rfl) ⟨by decide, by decide⟩ ⟨by decide, by decide⟩ dX3_pour_98 ?_
          refine g_nmI (fun r10 er10 => ?_)
          have hw := hw r10 er10
          refine g_nmC (fun C11 eC11 => ?_)
          have hw := hw C11 eC11
          refine g_iload ok 0 dX3_pour_101 rfl ?_
          have kj13 : ∀ x14 : Int32, x14 = (if r10 = x9 then (0 : Int32) else 1) → G w x 6 0 0 (QM w x (fun v C1 => ∃ r : Int32, v = some (.int r) ∧ Post r C1) 0 0) C11 111 [(0, .ref (ad w 1)), (1, .int i1), (3, .int i3)] [.int x14, .int i2] := by
            intro x14 ex14
            have hw := hw x14 ex14
            refine g_iadd ok dX3_pour_111 ?_
            refine g_istore_n ok (fun z => [(2, .int z), (0, .ref (ad w 1)), (1, .int i1), (3, .int i3)]) dX3_pour_112 (by decide) (fun _ => rfl) (fun x15 ex15 => ?_)
            have hw := hw x15 ex15
            refine g_iinc ok 3 (fun z => [(3, .int z), (2, .int x15), (0, .ref (ad w 1)), (1, .int i1)]) dX3_pour_113 rfl (by decide) (fun _ => rfl) (fun x16 ex16 => ?_)
            have hw := hw x16 ex16
            refine g_goto (tgt := 26) ok dX3_pour_116 (by decide) ?_
            refine g_sub [2, 3, 1, 0] [(0, .ref (ad w 1)), (1, .int i1), (2, .int x15), (3, .int x16)] rfl ?_
            exact ih C11 i1 x15 x16 hw
          refine g_icmp_ne (tgt := 110) ok dX3_pour_103 (by decide) (fun c12 => ?_) (fun c12 => ?_)
          · refine g_iconst (v := 1) ok dX3_pour_110 (by decide) ?_
            exact g_sub [1, 2, 4] [(0, .ref (ad w 1)), (1, .int i1), (3, .int i3)] rfl (kj13 _ (by simp only [if_neg c12]))
          · refine g_iconst (v := 0) ok dX3_pour_106 (by decide) ?_
            refine g_goto (tgt := 111) ok dX3_pour_107 (by decide) ?_
            exact g_sub [1, 2, 4] [(0, .ref (ad w 1)), (1, .int i1), (3, .int i3)] rfl (kj13 _ (by simp only [if_pos c12]))
        have hw := hr
        refine g_icmp_ne (tgt := 75) ok dX3_pour_63 (by decide) (fun c7 => ?_) (fun c7 => ?_)
        · have hw := hw.2 c7
          refine g_iload ok 0 dX3_pour_75 rfl ?_
          refine g_iconst (v := 0) ok dX3_pour_77 (by decide) ?_
          refine g_bipush (v := 99) ok dX3_pour_78 (by decide) ?_
          refine g_callSI ok [.int x6, .int 0, .int 99] cf_X3_within q1550 (mc_X3_within ok.wo (xL x) C x6 0 99) rfl rfl (Nat.le_of_ble_eq_true rfl) ⟨by decide, by decide⟩ ⟨by decide, by decide⟩ dX3_pour_80 ?_
          exact g_sub [1, 2, 3, 4] [(0, .ref (ad w 1)), (1, .int i1), (2, .int i2), (3, .int i3)] rfl (kj8 _ (by simp only [if_neg c7]))
        · have hw := hw.1 c7
          refine g_aload_n ok 1 dX3_pour_66 rfl ?_
          refine g_iload_n ok 4 dX3_pour_67 rfl ?_
          refine g_iconst (v := 3) ok dX3_pour_68 (by decide) ?_
          obtain ⟨hp, hw⟩ := hw
          refine g_callVI ok [.int i3, .int 3] cf_X3_of q1495 (mc_X3_of ok.wo (xL x) C i3 3 hp) (recvF ok 1 rfl rfl) rfl rfl (Nat.le_of_ble_eq_true rfl) ⟨by decide, by decide⟩ ⟨by decide, by decide⟩ dX3_pour_69 ?_
          refine g_goto (tgt := 83) ok dX3_pour_72 (by decide) ?_
          exact g_sub [1, 2, 3, 4] [(0, .ref (ad w 1)), (1, .int i1), (2, .int i2), (3, .int i3)] rfl (kj8 _ (by simp only [if_pos c7]))
set_option maxHeartbeats 4000000 in
set_option maxRecDepth 100000 in
theorem gw_X3_pour {w : WD} (wk : wOk w) (l : Launch) (C : CS) (a0 : Int32) {Post : Int32 → CS → Prop} (hw : wp_X3_pour Post C a0) : MC w l yX3_pour cX3_pour 6 (some .int) 2 0 0 [.ref (ad w 1), .int a0] C (fun v C1 => ∃ r : Int32, v = some (.int r) ∧ Post r C1) := by
  unfold wp_X3_pour at hw
  refine MC.of wk (by decide) (Nat.le_of_ble_eq_true rfl) (fun x hx ok => ?_)
  subst hx
  show G w x 6 0 0 (QM w x _ 0 0) C 0 [(0, .ref (ad w 1)), (1, .int a0)] []
  refine g_iload_n ok 1 dX3_pour_0 rfl ?_
  refine g_callSI ok [.int a0] cf_X3_isSheet q1608 (mc_X3_isSheet ok.wo (xL x) C a0) rfl rfl (Nat.le_of_ble_eq_true rfl) ⟨by decide, by decide⟩ ⟨by decide, by decide⟩ dX3_pour_1 ?_
  refine g_nmI (fun r1 er1 => ?_)
  have hw := hw r1 er1
  refine g_if_ne (tgt := 10) ok dX3_pour_4 (by decide) (fun c2 => ?_) (fun c2 => ?_)
  · have hw := hw.2 c2
    refine g_aload_n ok 0 dX3_pour_10 rfl ?_
    refine g_get ok 1 rfl rfl in_X3 26 (by decide) q1385 rfl dX3_pour_11 ?_
    refine g_iload_n ok 1 dX3_pour_14 rfl ?_
    obtain ⟨hg, hw⟩ := hw
    refine g_iald ok 51 rfl hg _ rfl dX3_pour_15 ?_
    refine g_if_ge (tgt := 22) ok dX3_pour_16 (by decide) (fun c3 => ?_) (fun c3 => ?_)
    · have hw := hw.1 c3
      refine g_iconst (v := 0) ok dX3_pour_22 (by decide) ?_
      refine g_istore_n0 ok [(2, .int 0), (0, .ref (ad w 1)), (1, .int a0)] dX3_pour_23 (by decide) rfl ?_
      refine g_iconst (v := 0) ok dX3_pour_24 (by decide) ?_
      refine g_istore_n0 ok [(3, .int 0), (2, .int 0), (0, .ref (ad w 1)), (1, .int a0)] dX3_pour_25 (by decide) rfl ?_
      refine g_sub [2, 3, 1, 0] [(0, .ref (ad w 1)), (1, .int a0), (2, .int 0), (3, .int 0)] rfl ?_
      obtain ⟨n17, hw⟩ := hw
      exact gw_X3_pour_l26 ok n17 C a0 0 0 hw
    · have hw := hw.2 c3
      refine g_ldc (v := -1000000011) ok q1611 dX3_pour_19 ?_
      exact g_iret ok dX3_pour_21 ⟨_, rfl, hw⟩
  · have hw := hw.1 c2
    refine g_ldc (v := -1000000001) ok q1477 dX3_pour_7 ?_
    exact g_iret ok dX3_pour_9 ⟨_, rfl, hw⟩
theorem sp_X3_pour (C : CS) (a0 : Int32) (hp : p_X3_pour C a0) : wp_X3_pour (fun r C1 => r = v_X3_pour C a0 ∧ q_X3_pour C a0 C1) C a0 := by
  obtain ⟨hsz, N, e, hN⟩ := hp
  intro r1 e1
  refine ⟨fun c => ⟨by unfold v_X3_pour; rw [← e1, if_pos c], by unfold q_X3_pour; rw [← e1, if_neg (fun z => z.1 c)]⟩, fun c => ?_⟩
  have c' := c
  rw [e1, isSheet_iff] at c'
  obtain ⟨s, hs, rfl⟩ := c'
  obtain ⟨n, en, hn⟩ := hsz s hs
  refine ⟨vp_k hs, fun c2 => ?_, fun c2 => ⟨by unfold v_X3_pour; rw [← e1, if_neg c, if_neg c2], by unfold q_X3_pour; rw [if_neg (fun z => c2 z.2)]⟩⟩
  have hk : pourR (C.2.1 36) (C.2.1 52) (C.2.1 53) s = itr (pourS (C.2.1 53) s) (min n N) (C.2.1 36, 0) := by unfold pourR; rw [en, e, cl_k (by omega), cl_k (by omega)]
  have done : ∀ D : CS, frm [36] C D → D.2.1 36 = (itr (pourS (C.2.1 53) s) (min n N) (C.2.1 36, 0)).1 → (itr (pourS (C.2.1 53) s) (min n N) (C.2.1 36, 0)).2 = v_X3_pour C (nI s) ∧ q_X3_pour C (nI s) D := by
    intro D hf hr
    refine ⟨?_, ?_⟩
    · unfold v_X3_pour; rw [← e1, if_neg c, if_pos c2, cl_k (by omega), hk]
    · unfold q_X3_pour; rw [← e1, if_pos ⟨c, c2⟩, cl_k (by omega), hk]; exact ⟨hf, hr⟩
  have H : ∀ d k, k + d = min n N → ∀ D : CS, frm [36] C D → D.2.1 36 = (itr (pourS (C.2.1 53) s) k (C.2.1 36, 0)).1 → wp_X3_pour_l26 (fun r C1 => r = v_X3_pour C (nI s) ∧ q_X3_pour C (nI s) C1) (d + 1) D (nI s) (itr (pourS (C.2.1 53) s) k (C.2.1 36, 0)).2 (nI k) := by
    intro d
    induction d with
    | zero =>
      intro k hk1 D hf hr
      have ek : k = min n N := by omega
      subst ek
      have h52 : D.2.1 52 s = nI n := by rw [hf.2.2 52 (by decide)]; exact en
      have h1 : D.2.1 36 1 = nI N := by rw [hr, pourI_same _ _ _ _ (by omega) _ (by omega)]; exact e
      rw [wp_X3_pour_l26, cl_k (by omega), h52, h1]
      refine ⟨vp_k hs, fun _ => done D hf hr, fun q1 => ⟨fun _ => done D hf hr, fun q2 => ?_⟩⟩
      rw [nI_leI (by omega) (by omega)] at q1 q2
      omega
    | succ d ih =>
      intro k hk1 D hf hr
      have h52 : D.2.1 52 s = nI n := by rw [hf.2.2 52 (by decide)]; exact en
      have h53 : D.2.1 53 = C.2.1 53 := hf.2.2 53 (by decide)
      have h1 : D.2.1 36 1 = nI N := by rw [hr, pourI_same _ _ _ _ (by omega) _ (by omega)]; exact e
      rw [wp_X3_pour_l26, cl_k (by omega), h52, h1]
      refine ⟨vp_k hs, fun q1 => ?_, fun q1 => ⟨fun q2 => ?_, fun q2 => ⟨by rw [ix24]; exact vp_k (by omega), fun x6 e6 => ⟨⟨fun _ => ⟨(pofn D (by omega)).2.2.2.1, trivial⟩, fun _ => trivial⟩, fun x9 e9 => ?_⟩⟩⟩⟩
      · rw [nI_leI (by omega) (by omega)] at q1; omega
      · rw [nI_leI (by omega) (by omega)] at q2; omega
      · have ib : (16 + 6 * nI k + 3 : Int32) = nI (16 + 6 * k + 3) := by rw [show (16 : Int32) = nI 16 from rfl, show (6 : Int32) = nI 6 from rfl, show (3 : Int32) = nI 3 from rfl, pk_mul, nI_add, nI_add]
        rw [ib]
        refine ⟨⟨vp_k (by omega), vp_k (by omega), trivial⟩, fun r10 e10 C11 e11 x14 e14 x15 e15 x16 e16 => ?_⟩
        rw [ix24, cl_k (by omega), h53] at e6
        rw [(ofn D (by omega)).2.2.2.1] at e9
        unfold v_X3_becomes at e10
        unfold n_X3_becomes at e11
        rw [cl_k (by omega)] at e10 e11
        have e2 : itr (pourS (C.2.1 53) s) (k + 1) (C.2.1 36, 0) = (C11.2.1 36, x15) := by
          rw [itr, pourS, ← hr, ← e6, ← e9, e11, wA_row, e15, e14, e10]
        have h3 := ih (k + 1) (by omega) C11 (by rw [e11]; exact hf.w (by decide)) (by rw [e2])
        rw [e2] at h3
        rw [e16, o1, nI_add]
        exact h3
  exact ⟨_, H (min n N) 0 (by omega) C (frm.rf _ _) rfl⟩
theorem mc_X3_pour {w : WD} (wk : wOk w) (l : Launch) (C : CS) (a0 : Int32) (hp : p_X3_pour C a0) : MC w l yX3_pour cX3_pour 6 (some .int) 2 0 0 [.ref (ad w 1), .int a0] C (pIR (v_X3_pour C a0) (q_X3_pour C a0)) := MC.postIR (gw_X3_pour wk l C a0 (sp_X3_pour C a0 hp))
/-- the first number of a sheet that is no WEAR -/
def rdL (r cl : Nat → Int32) (N s : Nat) : Nat → Nat → Int32
  | 0, _ => -1000000005
  | d + 1, k => if cl (24 * s + k) = -1000000005 then rdL r cl N s d (k + 1) else if k < N then (if cl (24 * s + k) = r (16 + 6 * k + 4) then rdL r cl N s d (k + 1) else nI k) else nI k
theorem cf_X3_reads : CfV yX3_reads "TwoGuildsModel" cX3_reads 4 (some .int) 1 := ⟨⟨by decide, by decide, by decide⟩, q75, q1794, q1792, q1793⟩
def p_X3_reads (C : CS) (a0 : Int32) : Prop := szOk C ∧ ∃ N, gOk C N
def v_X3_reads (C : CS) (a0 : Int32) : Int32 := if v_X3_isSheet a0 = 0 then -1000000001 else if 0 ≤ C.2.1 51 a0.toNatClampNeg then rdL (C.2.1 36) (C.2.1 53) (C.2.1 36 1).toNatClampNeg a0.toNatClampNeg (C.2.1 52 a0.toNatClampNeg).toNatClampNeg 0 else -1000000011
def wp_X3_reads_j72 (Post : Int32 → CS → Prop) (R24 : CS → Int32 → Int32 → Prop) (C : CS) (i1 : Int32) (i2 : Int32) : Prop := ∀ x7 : Int32, x7 = (i2 + Int32.ofInt 1) → 
  R24 C i1 x7
def wp_X3_reads_l24 (Post : Int32 → CS → Prop) : Nat → CS → Int32 → Int32 → Prop
  | 0, _, _, _ => False
  | n + 1, C, i1, i2 => vp_in i1 4 ∧
  (((C.2.1 52 (Int32.toNatClampNeg i1)) ≤ i2 → 
  Post (-1000000005) C) ∧
  (¬ (C.2.1 52 (Int32.toNatClampNeg i1)) ≤ i2 → 
  vp_in ((24 * i1) + i2) 96 ∧
    (∀ x5 : Int32, x5 = (C.2.1 53 (Int32.toNatClampNeg ((24 * i1) + i2))) → 
    (x5 = (-1000000005) → 
    wp_X3_reads_j72 Post (fun C i1 i2 => wp_X3_reads_l24 Post n C i1 i2) C i1 i2) ∧
    (¬ x5 = (-1000000005) → 
    ∀ r8 : Int32, r8 = (v_X3_isGlove C i2) → 
      (r8 = 0 → 
      Post i2 C) ∧
      (¬ r8 = 0 → 
      p_X3_of C i2 4 ∧
        (∀ r10 : Int32, r10 = (v_X3_of C i2 4) → 
        (x5 = r10 → 
        wp_X3_reads_j72 Post (fun C i1 i2 => wp_X3_reads_l24 Post n C i1 i2) C i1 i2) ∧
        (¬ x5 = r10 → 
        Post i2 C)))))))
def wp_X3_reads (Post : Int32 → CS → Prop) (C : CS) (a0 : Int32) : Prop :=
  ∀ r1 : Int32, r1 = (v_X3_isSheet a0) → 
    (r1 = 0 → 
    Post (-1000000001) C) ∧
    (¬ r1 = 0 → 
    vp_in a0 4 ∧
      ((0 ≤ (C.2.1 51 (Int32.toNatClampNeg a0)) → 
      ∃ m24, wp_X3_reads_l24 Post m24 C a0 0) ∧
      (¬ 0 ≤ (C.2.1 51 (Int32.toNatClampNeg a0)) → 
      Post (-1000000011) C)))
set_option maxHeartbeats 4000000 in
set_option maxRecDepth 100000 in
theorem gw_X3_reads_j72 {w : WD} {x : Cx} (ok : Ok w x cX3_reads 4 yX3_reads.cls (some .int) (rmL 2 0 0)) {Post : Int32 → CS → Prop} {R24 : CS → Int32 → Int32 → Prop} (hR24 : ∀ C (i1 : Int32) (i2 : Int32), R24 C i1 i2 → G w x 4 0 0 (QM w x (fun v C1 => ∃ r : Int32, v = some (.int r) ∧ Post r C1) 0 0) C 24 [(0, .ref (ad w 1)), (1, .int i1), (2, .int i2)] []) : ∀ (C : CS) (i1 : Int32) (i2 : Int32), wp_X3_reads_j72 Post R24 C i1 i2 → G w x 4 0 0 (QM w x (fun v C1 => ∃ r : Int32, v = some (.int r) ∧ Post r C1) 0 0) C 72 [(0, .ref (ad w 1)), (1, .int i1), (2, .int i2)] [] := by
  intro C i1 i2 hw
  unfold wp_X3_reads_j72 at hw
  refine g_iinc ok 2 (fun z => [(2, .int z), (0, .ref (ad w 1)), (1, .int i1)]) dX3_reads_72 rfl (by decide) (fun _ => rfl) (fun x7 ex7 => ?_)
  have hw := hw x7 ex7
  refine g_goto (tgt := 24) ok dX3_reads_75 (by decide) ?_
  refine g_sub [1, 2, 0] [(0, .ref (ad w 1)), (1, .int i1), (2, .int x7)] rfl ?_
  exact hR24 C i1 x7 hw
set_option maxHeartbeats 4000000 in
set_option maxRecDepth 100000 in
theorem gw_X3_reads_l24 {w : WD} {x : Cx} (ok : Ok w x cX3_reads 4 yX3_reads.cls (some .int) (rmL 2 0 0)) {Post : Int32 → CS → Prop} : ∀ (n : Nat) (C : CS) (i1 : Int32) (i2 : Int32), wp_X3_reads_l24 Post  n C i1 i2 → G w x 4 0 0 (QM w x (fun v C1 => ∃ r : Int32, v = some (.int r) ∧ Post r C1) 0 0) C 24 [(0, .ref (ad w 1)), (1, .int i1), (2, .int i2)] [] := by
  intro n
  induction n with
  | zero => intro C i1 i2 hw; exact hw.elim
  | succ n ih =>
    intro C i1 i2 hw
    unfold wp_X3_reads_l24 at hw
    refine g_iload_n ok 2 dX3_reads_24 rfl ?_
    refine g_aload_n ok 0 dX3_reads_25 rfl ?_
    refine g_get ok 1 rfl rfl in_X3 27 (by decide) q1386 rfl dX3_reads_26 ?_
    refine g_iload_n ok 1 dX3_reads_29 rfl ?_
    obtain ⟨hg, hw⟩ := hw
    refine g_iald ok 52 rfl hg _ rfl dX3_reads_30 ?_
    refine g_icmp_ge (tgt := 78) ok dX3_reads_31 (by decide) (fun c4 => ?_) (fun c4 => ?_)
    · have hw := hw.1 c4
      refine g_ldc (v := -1000000005) ok q1560 dX3_reads_78 ?_
      exact g_iret ok dX3_reads_80 ⟨_, rfl, hw⟩
    · have hw := hw.2 c4
      refine g_aload_n ok 0 dX3_reads_34 rfl ?_
      refine g_get ok 1 rfl rfl in_X3 28 (by decide) q1387 rfl dX3_reads_35 ?_
      refine g_bipush (v := 24) ok dX3_reads_38 (by decide) ?_
      refine g_iload_n ok 1 dX3_reads_40 rfl ?_
      refine g_imul ok dX3_reads_41 ?_
      refine g_iload_n ok 2 dX3_reads_42 rfl ?_
      refine g_iadd ok dX3_reads_43 ?_
      obtain ⟨hg, hw⟩ := hw
      refine g_iald ok 53 rfl hg _ rfl dX3_reads_44 ?_
      refine g_istore_n ok (fun z => [(3, .int z), (0, .ref (ad w 1)), (1, .int i1), (2, .int i2)]) dX3_reads_45 (by decide) (fun _ => rfl) (fun x5 ex5 => ?_)
      have hw := hw x5 ex5
      refine g_iload_n ok 0 dX3_reads_46 rfl ?_
      refine g_ldc (v := -1000000005) ok q1560 dX3_reads_47 ?_
      refine g_icmp_eq (tgt := 72) ok dX3_reads_49 (by decide) (fun c6 => ?_) (fun c6 => ?_)
      · have hw := hw.1 c6
        refine g_sub [1, 2, 3] [(0, .ref (ad w 1)), (1, .int i1), (2, .int i2)] rfl ?_
        exact gw_X3_reads_j72 ok (fun C i1 i2 hw => ih C i1 i2 hw) C i1 i2 hw
      · have hw := hw.2 c6
        refine g_aload_n ok 1 dX3_reads_52 rfl ?_
        refine g_iload_n ok 3 dX3_reads_53 rfl ?_
        refine g_callVI ok [.int i2] cf_X3_isGlove q1491 (mc_X3_isGlove ok.wo (xL x) C i2) (recvF ok 1 rfl rfl) rfl rfl (Nat.le_of_ble_eq_true rfl) ⟨by decide, by decide⟩ ⟨by decide, by decide⟩ dX3_reads_54 ?_
        refine g_nmI (fun r8 er8 => ?_)
        have hw := hw r8 er8
        refine g_if_eq (tgt := 70) ok dX3_reads_57 (by decide) (fun c9 => ?_) (fun c9 => ?_)
        · have hw := hw.1 c9
          refine g_iload_n ok 3 dX3_reads_70 rfl ?_
          exact g_iret ok dX3_reads_71 ⟨_, rfl, hw⟩
        · have hw := hw.2 c9
          refine g_iload_n ok 0 dX3_reads_60 rfl ?_
          refine g_aload_n ok 1 dX3_reads_61 rfl ?_
          refine g_iload_n ok 3 dX3_reads_62 rfl ?_
          refine g_iconst (v := 4) ok dX3_reads_63 (by decide) ?_
          obtain ⟨hp, hw⟩ := hw
          refine g_callVI ok [.int i2, .int 4] cf_X3_of q1495 (mc_X3_of ok.wo (xL x) C i2 4 hp) (recvF ok 1 rfl rfl) rfl rfl (Nat.le_of_ble_eq_true rfl) ⟨by decide, by decide⟩ ⟨by decide, by decide⟩ dX3_reads_64 ?_
          refine g_nmI (fun r10 er10 => ?_)
          have hw := hw r10 er10
          refine g_icmp_eq (tgt := 72) ok dX3_reads_67 (by decide) (fun c11 => ?_) (fun c11 => ?_)
          · have hw := hw.1 c11
            refine g_sub [1, 2, 3] [(0, .ref (ad w 1)), (1, .int i1), (2, .int i2)] rfl ?_
            exact gw_X3_reads_j72 ok (fun C i1 i2 hw => ih C i1 i2 hw) C i1 i2 hw
          · have hw := hw.2 c11
            refine g_iload_n ok 3 dX3_reads_70 rfl ?_
            exact g_iret ok dX3_reads_71 ⟨_, rfl, hw⟩
set_option maxHeartbeats 4000000 in
set_option maxRecDepth 100000 in
theorem gw_X3_reads {w : WD} (wk : wOk w) (l : Launch) (C : CS) (a0 : Int32) {Post : Int32 → CS → Prop} (hw : wp_X3_reads Post C a0) : MC w l yX3_reads cX3_reads 4 (some .int) 2 0 0 [.ref (ad w 1), .int a0] C (fun v C1 => ∃ r : Int32, v = some (.int r) ∧ Post r C1) := by
  unfold wp_X3_reads at hw
  refine MC.of wk (by decide) (Nat.le_of_ble_eq_true rfl) (fun x hx ok => ?_)
  subst hx
  show G w x 4 0 0 (QM w x _ 0 0) C 0 [(0, .ref (ad w 1)), (1, .int a0)] []
  refine g_iload_n ok 1 dX3_reads_0 rfl ?_
  refine g_callSI ok [.int a0] cf_X3_isSheet q1608 (mc_X3_isSheet ok.wo (xL x) C a0) rfl rfl (Nat.le_of_ble_eq_true rfl) ⟨by decide, by decide⟩ ⟨by decide, by decide⟩ dX3_reads_1 ?_
  refine g_nmI (fun r1 er1 => ?_)
  have hw := hw r1 er1
  refine g_if_ne (tgt := 10) ok dX3_reads_4 (by decide) (fun c2 => ?_) (fun c2 => ?_)
  · have hw := hw.2 c2
    refine g_aload_n ok 0 dX3_reads_10 rfl ?_
    refine g_get ok 1 rfl rfl in_X3 26 (by decide) q1385 rfl dX3_reads_11 ?_
    refine g_iload_n ok 1 dX3_reads_14 rfl ?_
    obtain ⟨hg, hw⟩ := hw
    refine g_iald ok 51 rfl hg _ rfl dX3_reads_15 ?_
    refine g_if_ge (tgt := 22) ok dX3_reads_16 (by decide) (fun c3 => ?_) (fun c3 => ?_)
    · have hw := hw.1 c3
      refine g_iconst (v := 0) ok dX3_reads_22 (by decide) ?_
      refine g_istore_n0 ok [(2, .int 0), (0, .ref (ad w 1)), (1, .int a0)] dX3_reads_23 (by decide) rfl ?_
      refine g_sub [1, 2, 0] [(0, .ref (ad w 1)), (1, .int a0), (2, .int 0)] rfl ?_
      obtain ⟨n12, hw⟩ := hw
      exact gw_X3_reads_l24 ok n12 C a0 0 hw
    · have hw := hw.2 c3
      refine g_ldc (v := -1000000011) ok q1611 dX3_reads_19 ?_
      exact g_iret ok dX3_reads_21 ⟨_, rfl, hw⟩
  · have hw := hw.1 c2
    refine g_ldc (v := -1000000001) ok q1477 dX3_reads_7 ?_
    exact g_iret ok dX3_reads_9 ⟨_, rfl, hw⟩
theorem sp_X3_reads (C : CS) (a0 : Int32) (hp : p_X3_reads C a0) : wp_X3_reads (fun r C1 => r = v_X3_reads C a0 ∧ C1 = C) C a0 := by
  obtain ⟨hsz, N, e, hN⟩ := hp
  intro r1 e1
  refine ⟨fun c => ⟨by unfold v_X3_reads; rw [← e1, if_pos c], rfl⟩, fun c => ?_⟩
  have c' := c
  rw [e1, isSheet_iff] at c'
  obtain ⟨s, hs, rfl⟩ := c'
  obtain ⟨n, en, hn⟩ := hsz s hs
  refine ⟨vp_k hs, fun c2 => ?_, fun c2 => ⟨by unfold v_X3_reads; rw [← e1, if_neg c, if_neg c2], rfl⟩⟩
  have hv : v_X3_reads C (nI s) = rdL (C.2.1 36) (C.2.1 53) N s n 0 := by unfold v_X3_reads; rw [← e1, if_neg c, if_pos c2, cl_k (by omega), e, cl_k (by omega), en, cl_k (by omega)]
  have H : ∀ d k, k + d = n → v_X3_reads C (nI s) = rdL (C.2.1 36) (C.2.1 53) N s d k → wp_X3_reads_l24 (fun r C1 => r = v_X3_reads C (nI s) ∧ C1 = C) (d + 1) C (nI s) (nI k) := by
    intro d
    induction d with
    | zero =>
      intro k hk1 hvk
      rw [wp_X3_reads_l24, cl_k (by omega), en]
      refine ⟨vp_k hs, fun _ => ⟨hvk.symm, rfl⟩, fun q1 => absurd ?_ q1⟩
      rw [nI_leI (by omega) (by omega)]; omega
    | succ d ih =>
      intro k hk1 hvk
      rw [rdL] at hvk
      rw [wp_X3_reads_l24, cl_k (by omega), en]
      refine ⟨vp_k hs, fun q1 => ?_, fun q1 => ⟨by rw [ix24]; exact vp_k (by omega), fun x5 e5 => ?_⟩⟩
      · rw [nI_leI (by omega) (by omega)] at q1; omega
      · rw [ix24, cl_k (by omega)] at e5
        rw [← e5] at hvk
        have hg := isGlove_iff (C := C) (N := N) ⟨e, hN⟩ (a := nI k)
        have hg2 : (∃ g, g < N ∧ nI k = nI g) ↔ k < N := by
          constructor
          · intro ⟨g, h1, h2⟩
            rw [nI_eq (by omega) (by omega)] at h2
            omega
          · intro h; exact ⟨k, h, rfl⟩
        refine ⟨fun q2 x7 e7 => ?_, fun q2 r8 e8 => ⟨fun q3 => ⟨?_, rfl⟩, fun q3 => ?_⟩⟩
        · rw [if_pos q2] at hvk
          rw [e7, o1, nI_add]
          exact ih (k + 1) (by omega) hvk
        · rw [if_neg q2, if_neg (fun z => hg.mpr (hg2.mpr z) (by rw [← e8]; exact q3))] at hvk
          exact hvk.symm
        · have hkN : k < N := hg2.mp (hg.mp (by rw [← e8]; exact q3))
          refine ⟨(pofn C (by omega)).2.2.2.2.1, fun r10 e10 => ?_⟩
          rw [(ofn C (by omega)).2.2.2.2.1] at e10
          rw [if_neg q2, if_pos hkN, ← e10] at hvk
          refine ⟨fun q4 x7 e7 => ?_, fun q4 => ⟨?_, rfl⟩⟩
          · rw [if_pos q4] at hvk
            rw [e7, o1, nI_add]
            exact ih (k + 1) (by omega) hvk
          · rw [if_neg q4] at hvk
            exact hvk.symm
  exact ⟨_, H n 0 (by omega) hv⟩
theorem mc_X3_reads {w : WD} (wk : wOk w) (l : Launch) (C : CS) (a0 : Int32) (hp : p_X3_reads C a0) : MC w l yX3_reads cX3_reads 4 (some .int) 2 0 0 [.ref (ad w 1), .int a0] C (pI (v_X3_reads C a0) C) := MC.postI (gw_X3_reads wk l C a0 (sp_X3_reads C a0 hp))
