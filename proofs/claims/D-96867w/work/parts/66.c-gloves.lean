theorem cfP_Lined_X4_kind : CfP "TwoGuilds$Lined" yX4_kind cX4_kind 1 (some .int) 0 := ⟨⟨by decide, by decide⟩, q76, q439, q416, q418, q340⟩
theorem cfP_Loose_X4_kind : CfP "TwoGuilds$Loose" yX4_kind cX4_kind 1 (some .int) 0 := ⟨⟨by decide, by decide⟩, q76, q439, q416, q418, q356⟩
theorem cfP_Mitten_X4_kind : CfP "TwoGuilds$Mitten" yX4_kind cX4_kind 1 (some .int) 0 := ⟨⟨by decide, by decide⟩, q76, q439, q416, q418, q406⟩
theorem cfP_Lined_X4_worth : CfP "TwoGuilds$Lined" yX4_worth cX4_worth 1 (some .int) 0 := ⟨⟨by decide, by decide⟩, q76, q466, q444, q446, q340⟩
theorem cfP_Loose_X4_worth : CfP "TwoGuilds$Loose" yX4_worth cX4_worth 1 (some .int) 0 := ⟨⟨by decide, by decide⟩, q76, q466, q444, q446, q356⟩
theorem cfP_Lined_X4_fits : CfP "TwoGuilds$Lined" yX4_fits cX4_fits 2 (some .boolean) 1 := ⟨⟨by decide, by decide⟩, q76, q629, q590, q592, q340⟩
def v_X5_kind (a : Nat) : Int32 :=
  ((v_X4_kind a) + 1)
def p_X5_kind (C : CS) (a : Nat) : Prop :=
  isGl C a ∧
    (True)
set_option maxHeartbeats 4000000 in
set_option maxRecDepth 100000 in
theorem mc_X5_kind {w : WD} (wk : wOk w) (l : Launch) (C : CS) (a : Nat) (hw : p_X5_kind C a) : MC w l yX5_kind cX5_kind 1 (some .int) 1 0 0 [.ref a] C (pI (v_X5_kind a) C) := by
  unfold p_X5_kind at hw
  refine MC.of wk (by decide) (Nat.le_of_ble_eq_true rfl) (fun x hx ok => ?_)
  subst hx
  show G w x 1 0 0 (QM w x _ 0 0) C 0 [(0, .ref a)] []
  refine g_aload_n ok 0 dX5_kind_0 rfl ?_
  obtain ⟨hf1, hw⟩ := hw
  refine g_supG ok [] cfP_Lined_X4_kind q432 (mc_X4_kind ok.wo (xL x) C a) hf1 rfl rfl (Nat.le_of_ble_eq_true rfl) ⟨by decide, by decide⟩ ⟨by decide, by decide⟩ dX5_kind_1 (resI ?_)
  refine g_iconst (v := 1) ok dX5_kind_4 (by decide) ?_
  refine g_iadd ok dX5_kind_5 ?_
  exact g_iret ok dX5_kind_6 ⟨by rw [v_X5_kind], rfl⟩
def v_X6_kind (a : Nat) : Int32 :=
  ((v_X4_kind a) + 2)
def p_X6_kind (C : CS) (a : Nat) : Prop :=
  isGl C a ∧
    (True)
set_option maxHeartbeats 4000000 in
set_option maxRecDepth 100000 in
theorem mc_X6_kind {w : WD} (wk : wOk w) (l : Launch) (C : CS) (a : Nat) (hw : p_X6_kind C a) : MC w l yX6_kind cX6_kind 1 (some .int) 1 0 0 [.ref a] C (pI (v_X6_kind a) C) := by
  unfold p_X6_kind at hw
  refine MC.of wk (by decide) (Nat.le_of_ble_eq_true rfl) (fun x hx ok => ?_)
  subst hx
  show G w x 1 0 0 (QM w x _ 0 0) C 0 [(0, .ref a)] []
  refine g_aload_n ok 0 dX6_kind_0 rfl ?_
  obtain ⟨hf1, hw⟩ := hw
  refine g_supG ok [] cfP_Loose_X4_kind q425 (mc_X4_kind ok.wo (xL x) C a) hf1 rfl rfl (Nat.le_of_ble_eq_true rfl) ⟨by decide, by decide⟩ ⟨by decide, by decide⟩ dX6_kind_1 (resI ?_)
  refine g_iconst (v := 2) ok dX6_kind_4 (by decide) ?_
  refine g_iadd ok dX6_kind_5 ?_
  exact g_iret ok dX6_kind_6 ⟨by rw [v_X6_kind], rfl⟩
def v_X9_kind (a : Nat) : Int32 :=
  ((v_X4_kind a) + 5)
def p_X9_kind (C : CS) (a : Nat) : Prop :=
  isGl C a ∧
    (True)
set_option maxHeartbeats 4000000 in
set_option maxRecDepth 100000 in
theorem mc_X9_kind {w : WD} (wk : wOk w) (l : Launch) (C : CS) (a : Nat) (hw : p_X9_kind C a) : MC w l yX9_kind cX9_kind 1 (some .int) 1 0 0 [.ref a] C (pI (v_X9_kind a) C) := by
  unfold p_X9_kind at hw
  refine MC.of wk (by decide) (Nat.le_of_ble_eq_true rfl) (fun x hx ok => ?_)
  subst hx
  show G w x 1 0 0 (QM w x _ 0 0) C 0 [(0, .ref a)] []
  refine g_aload_n ok 0 dX9_kind_0 rfl ?_
  obtain ⟨hf1, hw⟩ := hw
  refine g_supG ok [] cfP_Mitten_X4_kind q438 (mc_X4_kind ok.wo (xL x) C a) hf1 rfl rfl (Nat.le_of_ble_eq_true rfl) ⟨by decide, by decide⟩ ⟨by decide, by decide⟩ dX9_kind_1 (resI ?_)
  refine g_iconst (v := 5) ok dX9_kind_4 (by decide) ?_
  refine g_iadd ok dX9_kind_5 ?_
  exact g_iret ok dX9_kind_6 ⟨by rw [v_X9_kind], rfl⟩
def v_X5_worth (C : CS) (a : Nat) : Int32 :=
  ((v_X4_worth C a) + 5)
def p_X5_worth (C : CS) (a : Nat) : Prop :=
  isGl C a ∧
    (p_X4_worth C a ∧
    (True))
set_option maxHeartbeats 4000000 in
set_option maxRecDepth 100000 in
theorem mc_X5_worth {w : WD} (wk : wOk w) (l : Launch) (C : CS) (a : Nat) (hw : p_X5_worth C a) : MC w l yX5_worth cX5_worth 1 (some .int) 1 0 0 [.ref a] C (pI (v_X5_worth C a) C) := by
  unfold p_X5_worth at hw
  refine MC.of wk (by decide) (Nat.le_of_ble_eq_true rfl) (fun x hx ok => ?_)
  subst hx
  show G w x 1 0 0 (QM w x _ 0 0) C 0 [(0, .ref a)] []
  refine g_aload_n ok 0 dX5_worth_0 rfl ?_
  obtain ⟨hf2, hw⟩ := hw
  obtain ⟨hp1, hw⟩ := hw
  refine g_supG ok [] cfP_Lined_X4_worth q460 (mc_X4_worth ok.wo (xL x) C a hp1) hf2 rfl rfl (Nat.le_of_ble_eq_true rfl) ⟨by decide, by decide⟩ ⟨by decide, by decide⟩ dX5_worth_1 (resI ?_)
  refine g_iconst (v := 5) ok dX5_worth_4 (by decide) ?_
  refine g_iadd ok dX5_worth_5 ?_
  exact g_iret ok dX5_worth_6 ⟨by rw [v_X5_worth], rfl⟩
def v_X6_worth (C : CS) (a : Nat) : Int32 :=
  (99 - (v_X4_worth C a))
def p_X6_worth (C : CS) (a : Nat) : Prop :=
  isGl C a ∧
    (p_X4_worth C a ∧
    (True))
set_option maxHeartbeats 4000000 in
set_option maxRecDepth 100000 in
theorem mc_X6_worth {w : WD} (wk : wOk w) (l : Launch) (C : CS) (a : Nat) (hw : p_X6_worth C a) : MC w l yX6_worth cX6_worth 1 (some .int) 1 0 0 [.ref a] C (pI (v_X6_worth C a) C) := by
  unfold p_X6_worth at hw
  refine MC.of wk (by decide) (Nat.le_of_ble_eq_true rfl) (fun x hx ok => ?_)
  subst hx
  show G w x 1 0 0 (QM w x _ 0 0) C 0 [(0, .ref a)] []
  refine g_bipush (v := 99) ok dX6_worth_0 (by decide) ?_
  refine g_aload_n ok 0 dX6_worth_2 rfl ?_
  obtain ⟨hf2, hw⟩ := hw
  obtain ⟨hp1, hw⟩ := hw
  refine g_supG ok [] cfP_Loose_X4_worth q453 (mc_X4_worth ok.wo (xL x) C a hp1) hf2 rfl rfl (Nat.le_of_ble_eq_true rfl) ⟨by decide, by decide⟩ ⟨by decide, by decide⟩ dX6_worth_3 (resI ?_)
  refine g_isub ok dX6_worth_6 ?_
  exact g_iret ok dX6_worth_7 ⟨by rw [v_X6_worth], rfl⟩
def v_X9_worth (a : Nat) : Int32 :=
  8
set_option maxHeartbeats 4000000 in
set_option maxRecDepth 100000 in
theorem mc_X9_worth {w : WD} (wk : wOk w) (l : Launch) (C : CS) (a : Nat) : MC w l yX9_worth cX9_worth 1 (some .int) 0 0 0 [.ref a] C (pI (v_X9_worth a) C) := by
  refine MC.of wk (by decide) (Nat.le_of_ble_eq_true rfl) (fun x hx ok => ?_)
  subst hx
  show G w x 1 0 0 (QM w x _ 0 0) C 0 [(0, .ref a)] []
  refine g_bipush (v := 8) ok dX9_worth_0 (by decide) ?_
  exact g_iret ok dX9_worth_2 ⟨by rw [v_X9_worth], rfl⟩
def v_X5_fits (C : CS) (a : Nat) (a0 : Nat) : Int32 :=
  if (v_X4_fits C a a0) = 0 then
    (0)
    else
    (if 50 ≤ (cDI C 43 a) then
      (0)
      else
      (if 50 ≤ (cDI C 43 a0) then
        (0)
        else
        (1)))
theorem vb_X5_fits (C : CS) (a : Nat) (a0 : Nat) : v_X5_fits C a a0 = 0 ∨ v_X5_fits C a a0 = 1 := by
  unfold v_X5_fits
  exact (ib_ite (Or.inl rfl) (ib_ite (Or.inl rfl) (ib_ite (Or.inl rfl) (Or.inr rfl))))
def p_X5_fits (C : CS) (a : Nat) (a0 : Nat) : Prop :=
  isGl C a ∧
    (p_X4_fits C a a0 ∧
    (((v_X4_fits C a a0) = 0 → 
    True) ∧
    (¬ (v_X4_fits C a a0) = 0 → 
    (50 ≤ (cDI C 43 a) → 
      True) ∧
      (¬ 50 ≤ (cDI C 43 a) → 
      isGl C a0 ∧
        (True)))))
set_option maxHeartbeats 4000000 in
set_option maxRecDepth 100000 in
theorem mc_X5_fits {w : WD} (wk : wOk w) (l : Launch) (C : CS) (a : Nat) (a0 : Nat) (hw : p_X5_fits C a a0) : MC w l yX5_fits cX5_fits 2 (some .boolean) 1 0 0 [.ref a, .ref a0] C (pI (v_X5_fits C a a0) C) := by
  unfold p_X5_fits at hw
  refine MC.of wk (by decide) (Nat.le_of_ble_eq_true rfl) (fun x hx ok => ?_)
  subst hx
  show G w x 2 0 0 (QM w x _ 0 0) C 0 [(0, .ref a), (1, .ref a0)] []
  refine g_aload_n ok 0 dX5_fits_0 rfl ?_
  refine g_aload_n ok 1 dX5_fits_1 rfl ?_
  obtain ⟨hf2, hw⟩ := hw
  obtain ⟨hp1, hw⟩ := hw
  refine g_supG ok [.ref a0] cfP_Lined_X4_fits q623 (mc_X4_fits ok.wo (xL x) C a a0 hp1) hf2 rfl rfl (Nat.le_of_ble_eq_true rfl) ⟨by decide, by decide⟩ ⟨by decide, by decide⟩ dX5_fits_2 (resI ?_)
  refine g_if_eq (tgt := 30) ok dX5_fits_5 (by decide) (fun c3 => ?_) (fun c3 => ?_)
  · have hw := hw.1 c3
    refine g_iconst (v := 0) ok dX5_fits_30 (by decide) ?_
    exact g_zret ok dX5_fits_31 (Or.inl rfl) ⟨by first | (simp only [v_X5_fits, if_pos c3]; done) | contradiction, rfl⟩
  · have hw := hw.2 c3
    refine g_aload_n ok 0 dX5_fits_8 rfl ?_
    refine g_gget ok hf2 3 (by decide) q302 (Or.inr q303) dX5_fits_9 ?_
    refine g_bipush (v := 50) ok dX5_fits_12 (by decide) ?_
    refine g_icmp_ge (tgt := 30) ok dX5_fits_14 (by decide) (fun c4 => ?_) (fun c4 => ?_)
    · have hw := hw.1 c4
      refine g_iconst (v := 0) ok dX5_fits_30 (by decide) ?_
      exact g_zret ok dX5_fits_31 (Or.inl rfl) ⟨by first | (simp only [v_X5_fits, if_neg c3, if_pos c4]; done) | contradiction, rfl⟩
    · have hw := hw.2 c4
      refine g_aload_n ok 1 dX5_fits_17 rfl ?_
      obtain ⟨hf5, hw⟩ := hw
      refine g_gget ok hf5 3 (by decide) q304 (Or.inl rfl) dX5_fits_18 ?_
      refine g_bipush (v := 50) ok dX5_fits_21 (by decide) ?_
      refine g_icmp_ge (tgt := 30) ok dX5_fits_23 (by decide) (fun c6 => ?_) (fun c6 => ?_)
      · refine g_iconst (v := 0) ok dX5_fits_30 (by decide) ?_
        exact g_zret ok dX5_fits_31 (Or.inl rfl) ⟨by first | (simp only [v_X5_fits, if_neg c3, if_neg c4, if_pos c6]; done) | contradiction, rfl⟩
      · refine g_iconst (v := 1) ok dX5_fits_26 (by decide) ?_
        refine g_goto (tgt := 31) ok dX5_fits_27 (by decide) ?_
        exact g_zret ok dX5_fits_31 (Or.inr rfl) ⟨by first | (simp only [v_X5_fits, if_neg c3, if_neg c4, if_neg c6]; done) | contradiction, rfl⟩
def v_X6_fits (C : CS) (a : Nat) (a0 : Nat) : Int32 :=
  if 1 < (v_J5_abs ((cDI C 41 a) - (cDI C 41 a0))) then
    (0)
    else
    (1)
theorem vb_X6_fits (C : CS) (a : Nat) (a0 : Nat) : v_X6_fits C a a0 = 0 ∨ v_X6_fits C a a0 = 1 := by
  unfold v_X6_fits
  exact (ib_ite (Or.inl rfl) (Or.inr rfl))
def p_X6_fits (C : CS) (a : Nat) (a0 : Nat) : Prop :=
  isGl C a ∧
    (isGl C a0 ∧
    (True))
set_option maxHeartbeats 4000000 in
set_option maxRecDepth 100000 in
theorem mc_X6_fits {w : WD} (wk : wOk w) (l : Launch) (C : CS) (a : Nat) (a0 : Nat) (hw : p_X6_fits C a a0) : MC w l yX6_fits cX6_fits 2 (some .boolean) 1 0 0 [.ref a, .ref a0] C (pI (v_X6_fits C a a0) C) := by
  unfold p_X6_fits at hw
  refine MC.of wk (by decide) (Nat.le_of_ble_eq_true rfl) (fun x hx ok => ?_)
  subst hx
  show G w x 2 0 0 (QM w x _ 0 0) C 0 [(0, .ref a), (1, .ref a0)] []
  refine g_aload_n ok 0 dX6_fits_0 rfl ?_
  obtain ⟨hf1, hw⟩ := hw
  refine g_gget ok hf1 1 (by decide) q292 (Or.inr q293) dX6_fits_1 ?_
  refine g_aload_n ok 1 dX6_fits_4 rfl ?_
  obtain ⟨hf2, hw⟩ := hw
  refine g_gget ok hf2 1 (by decide) q294 (Or.inl rfl) dX6_fits_5 ?_
  refine g_isub ok dX6_fits_8 ?_
  refine g_mabs ok q599 (Nat.le_of_ble_eq_true rfl) ⟨by decide, by decide⟩ ⟨by decide, by decide⟩ dX6_fits_9 ?_
  refine g_iconst (v := 1) ok dX6_fits_12 (by decide) ?_
  refine g_icmp_gt (tgt := 20) ok dX6_fits_13 (by decide) (fun c3 => ?_) (fun c3 => ?_)
  · refine g_iconst (v := 0) ok dX6_fits_20 (by decide) ?_
    exact g_zret ok dX6_fits_21 (Or.inl rfl) ⟨by first | (simp only [v_X6_fits, if_pos c3]; done) | contradiction, rfl⟩
  · refine g_iconst (v := 1) ok dX6_fits_16 (by decide) ?_
    refine g_goto (tgt := 21) ok dX6_fits_17 (by decide) ?_
    exact g_zret ok dX6_fits_21 (Or.inr rfl) ⟨by first | (simp only [v_X6_fits, if_neg c3]; done) | contradiction, rfl⟩
def v_X9_fits (a : Nat) (a0 : Nat) : Int32 :=
  1
theorem vb_X9_fits (a : Nat) (a0 : Nat) : v_X9_fits a a0 = 0 ∨ v_X9_fits a a0 = 1 := by
  unfold v_X9_fits
  exact (Or.inr rfl)
set_option maxHeartbeats 4000000 in
set_option maxRecDepth 100000 in
theorem mc_X9_fits {w : WD} (wk : wOk w) (l : Launch) (C : CS) (a : Nat) (a0 : Nat) : MC w l yX9_fits cX9_fits 2 (some .boolean) 0 0 0 [.ref a, .ref a0] C (pI (v_X9_fits a a0) C) := by
  refine MC.of wk (by decide) (Nat.le_of_ble_eq_true rfl) (fun x hx ok => ?_)
  subst hx
  show G w x 2 0 0 (QM w x _ 0 0) C 0 [(0, .ref a), (1, .ref a0)] []
  refine g_iconst (v := 1) ok dX9_fits_0 (by decide) ?_
  exact g_zret ok dX9_fits_1 (Or.inr rfl) ⟨by rw [v_X9_fits], rfl⟩
theorem cfP_Furred_X5_kind : CfP "TwoGuilds$Furred" yX5_kind cX5_kind 1 (some .int) 0 := ⟨⟨by decide, by decide⟩, q77, q431, q430, q1843, q373⟩
theorem cfP_Forged_X6_kind : CfP "TwoGuilds$Forged" yX6_kind cX6_kind 1 (some .int) 0 := ⟨⟨by decide, by decide⟩, q78, q424, q423, q1842, q390⟩
theorem cfP_Furred_X5_worth : CfP "TwoGuilds$Furred" yX5_worth cX5_worth 1 (some .int) 0 := ⟨⟨by decide, by decide⟩, q77, q459, q458, q1845, q373⟩
theorem cfP_Forged_X6_worth : CfP "TwoGuilds$Forged" yX6_worth cX6_worth 1 (some .int) 0 := ⟨⟨by decide, by decide⟩, q78, q452, q451, q1844, q390⟩
theorem cfP_Furred_X5_fits : CfP "TwoGuilds$Furred" yX5_fits cX5_fits 2 (some .boolean) 1 := ⟨⟨by decide, by decide⟩, q77, q622, q621, q1848, q373⟩
theorem cfP_Forged_X6_fits : CfP "TwoGuilds$Forged" yX6_fits cX6_fits 2 (some .boolean) 1 := ⟨⟨by decide, by decide⟩, q78, q598, q597, q1847, q390⟩
def v_X7_kind (a : Nat) : Int32 :=
  ((v_X5_kind a) + 2)
def p_X7_kind (C : CS) (a : Nat) : Prop :=
  isGl C a ∧
    (p_X5_kind C a ∧
    (True))
set_option maxHeartbeats 4000000 in
set_option maxRecDepth 100000 in
theorem mc_X7_kind {w : WD} (wk : wOk w) (l : Launch) (C : CS) (a : Nat) (hw : p_X7_kind C a) : MC w l yX7_kind cX7_kind 1 (some .int) 2 0 0 [.ref a] C (pI (v_X7_kind a) C) := by
  unfold p_X7_kind at hw
  refine MC.of wk (by decide) (Nat.le_of_ble_eq_true rfl) (fun x hx ok => ?_)
  subst hx
  show G w x 1 0 0 (QM w x _ 0 0) C 0 [(0, .ref a)] []
  refine g_aload_n ok 0 dX7_kind_0 rfl ?_
  obtain ⟨hf2, hw⟩ := hw
  obtain ⟨hp1, hw⟩ := hw
  refine g_supG ok [] cfP_Furred_X5_kind q429 (mc_X5_kind ok.wo (xL x) C a hp1) hf2 rfl rfl (Nat.le_of_ble_eq_true rfl) ⟨by decide, by decide⟩ ⟨by decide, by decide⟩ dX7_kind_1 (resI ?_)
  refine g_iconst (v := 2) ok dX7_kind_4 (by decide) ?_
  refine g_iadd ok dX7_kind_5 ?_
  exact g_iret ok dX7_kind_6 ⟨by rw [v_X7_kind], rfl⟩
def v_X8_kind (a : Nat) : Int32 :=
  ((v_X6_kind a) + 2)
def p_X8_kind (C : CS) (a : Nat) : Prop :=
  isGl C a ∧
    (p_X6_kind C a ∧
    (True))
set_option maxHeartbeats 4000000 in
set_option maxRecDepth 100000 in
theorem mc_X8_kind {w : WD} (wk : wOk w) (l : Launch) (C : CS) (a : Nat) (hw : p_X8_kind C a) : MC w l yX8_kind cX8_kind 1 (some .int) 2 0 0 [.ref a] C (pI (v_X8_kind a) C) := by
  unfold p_X8_kind at hw
  refine MC.of wk (by decide) (Nat.le_of_ble_eq_true rfl) (fun x hx ok => ?_)
  subst hx
  show G w x 1 0 0 (QM w x _ 0 0) C 0 [(0, .ref a)] []
  refine g_aload_n ok 0 dX8_kind_0 rfl ?_
  obtain ⟨hf2, hw⟩ := hw
  obtain ⟨hp1, hw⟩ := hw
  refine g_supG ok [] cfP_Forged_X6_kind q422 (mc_X6_kind ok.wo (xL x) C a hp1) hf2 rfl rfl (Nat.le_of_ble_eq_true rfl) ⟨by decide, by decide⟩ ⟨by decide, by decide⟩ dX8_kind_1 (resI ?_)
  refine g_iconst (v := 2) ok dX8_kind_4 (by decide) ?_
  refine g_iadd ok dX8_kind_5 ?_
  exact g_iret ok dX8_kind_6 ⟨by rw [v_X8_kind], rfl⟩
def v_X7_worth (C : CS) (a : Nat) : Int32 :=
  (2 * (v_X5_worth C a))
def p_X7_worth (C : CS) (a : Nat) : Prop :=
  isGl C a ∧
    (p_X5_worth C a ∧
    (True))
set_option maxHeartbeats 4000000 in
set_option maxRecDepth 100000 in
theorem mc_X7_worth {w : WD} (wk : wOk w) (l : Launch) (C : CS) (a : Nat) (hw : p_X7_worth C a) : MC w l yX7_worth cX7_worth 1 (some .int) 2 0 0 [.ref a] C (pI (v_X7_worth C a) C) := by
  unfold p_X7_worth at hw
  refine MC.of wk (by decide) (Nat.le_of_ble_eq_true rfl) (fun x hx ok => ?_)
  subst hx
  show G w x 1 0 0 (QM w x _ 0 0) C 0 [(0, .ref a)] []
  refine g_iconst (v := 2) ok dX7_worth_0 (by decide) ?_
  refine g_aload_n ok 0 dX7_worth_1 rfl ?_
  obtain ⟨hf2, hw⟩ := hw
  obtain ⟨hp1, hw⟩ := hw
  refine g_supG ok [] cfP_Furred_X5_worth q457 (mc_X5_worth ok.wo (xL x) C a hp1) hf2 rfl rfl (Nat.le_of_ble_eq_true rfl) ⟨by decide, by decide⟩ ⟨by decide, by decide⟩ dX7_worth_2 (resI ?_)
  refine g_imul ok dX7_worth_5 ?_
  exact g_iret ok dX7_worth_6 ⟨by rw [v_X7_worth], rfl⟩
def v_X8_worth (C : CS) (a : Nat) : Int32 :=
  ((v_X6_worth C a) - 3)
def p_X8_worth (C : CS) (a : Nat) : Prop :=
  isGl C a ∧
    (p_X6_worth C a ∧
    (True))
set_option maxHeartbeats 4000000 in
set_option maxRecDepth 100000 in
theorem mc_X8_worth {w : WD} (wk : wOk w) (l : Launch) (C : CS) (a : Nat) (hw : p_X8_worth C a) : MC w l yX8_worth cX8_worth 1 (some .int) 2 0 0 [.ref a] C (pI (v_X8_worth C a) C) := by
  unfold p_X8_worth at hw
  refine MC.of wk (by decide) (Nat.le_of_ble_eq_true rfl) (fun x hx ok => ?_)
  subst hx
  show G w x 1 0 0 (QM w x _ 0 0) C 0 [(0, .ref a)] []
  refine g_aload_n ok 0 dX8_worth_0 rfl ?_
  obtain ⟨hf2, hw⟩ := hw
  obtain ⟨hp1, hw⟩ := hw
  refine g_supG ok [] cfP_Forged_X6_worth q450 (mc_X6_worth ok.wo (xL x) C a hp1) hf2 rfl rfl (Nat.le_of_ble_eq_true rfl) ⟨by decide, by decide⟩ ⟨by decide, by decide⟩ dX8_worth_1 (resI ?_)
  refine g_iconst (v := 3) ok dX8_worth_4 (by decide) ?_
  refine g_isub ok dX8_worth_5 ?_
  exact g_iret ok dX8_worth_6 ⟨by rw [v_X8_worth], rfl⟩
def v_X7_fits (C : CS) (a : Nat) (a0 : Nat) : Int32 :=
  if (v_X5_fits C a a0) = 0 then
    (0)
    else
    (if (cDI C 42 a0) < ((cDI C 42 a) / 2) then
      (0)
      else
      (1))
theorem vb_X7_fits (C : CS) (a : Nat) (a0 : Nat) : v_X7_fits C a a0 = 0 ∨ v_X7_fits C a a0 = 1 := by
  unfold v_X7_fits
  exact (ib_ite (Or.inl rfl) (ib_ite (Or.inl rfl) (Or.inr rfl)))
def p_X7_fits (C : CS) (a : Nat) (a0 : Nat) : Prop :=
  isGl C a ∧
    (p_X5_fits C a a0 ∧
    (((v_X5_fits C a a0) = 0 → 
    True) ∧
    (¬ (v_X5_fits C a a0) = 0 → 
    isGl C a0 ∧
      (True))))
set_option maxHeartbeats 4000000 in
set_option maxRecDepth 100000 in
theorem mc_X7_fits {w : WD} (wk : wOk w) (l : Launch) (C : CS) (a : Nat) (a0 : Nat) (hw : p_X7_fits C a a0) : MC w l yX7_fits cX7_fits 2 (some .boolean) 2 0 0 [.ref a, .ref a0] C (pI (v_X7_fits C a a0) C) := by
  unfold p_X7_fits at hw
  refine MC.of wk (by decide) (Nat.le_of_ble_eq_true rfl) (fun x hx ok => ?_)
  subst hx
  show G w x 2 0 0 (QM w x _ 0 0) C 0 [(0, .ref a), (1, .ref a0)] []
  refine g_aload_n ok 0 dX7_fits_0 rfl ?_
  refine g_aload_n ok 1 dX7_fits_1 rfl ?_
  obtain ⟨hf2, hw⟩ := hw
  obtain ⟨hp1, hw⟩ := hw
  refine g_supG ok [.ref a0] cfP_Furred_X5_fits q620 (mc_X5_fits ok.wo (xL x) C a a0 hp1) hf2 rfl rfl (Nat.le_of_ble_eq_true rfl) ⟨by decide, by decide⟩ ⟨by decide, by decide⟩ dX7_fits_2 (resI ?_)
  refine g_if_eq (tgt := 25) ok dX7_fits_5 (by decide) (fun c3 => ?_) (fun c3 => ?_)
  · have hw := hw.1 c3
    refine g_iconst (v := 0) ok dX7_fits_25 (by decide) ?_
    exact g_zret ok dX7_fits_26 (Or.inl rfl) ⟨by first | (simp only [v_X7_fits, if_pos c3]; done) | contradiction, rfl⟩
  · have hw := hw.2 c3
    refine g_aload_n ok 1 dX7_fits_8 rfl ?_
    obtain ⟨hf4, hw⟩ := hw
    refine g_gget ok hf4 2 (by decide) q297 (Or.inl rfl) dX7_fits_9 ?_
    refine g_aload_n ok 0 dX7_fits_12 rfl ?_
    refine g_gget ok hf2 2 (by decide) q298 (Or.inr q299) dX7_fits_13 ?_
    refine g_iconst (v := 2) ok dX7_fits_16 (by decide) ?_
    refine g_idiv ok dX7_fits_17 (by decide) ?_
    refine g_icmp_lt (tgt := 25) ok dX7_fits_18 (by decide) (fun c5 => ?_) (fun c5 => ?_)
    · refine g_iconst (v := 0) ok dX7_fits_25 (by decide) ?_
      exact g_zret ok dX7_fits_26 (Or.inl rfl) ⟨by first | (simp only [v_X7_fits, if_neg c3, if_pos c5]; done) | contradiction, rfl⟩
    · refine g_iconst (v := 1) ok dX7_fits_21 (by decide) ?_
      refine g_goto (tgt := 26) ok dX7_fits_22 (by decide) ?_
      exact g_zret ok dX7_fits_26 (Or.inr rfl) ⟨by first | (simp only [v_X7_fits, if_neg c3, if_neg c5]; done) | contradiction, rfl⟩
section SUPUP
variable {w : WD} {x : Cx} {cc : ByteArray} {nL : Nat} {own : String} {ret : Option FieldType} {rm : Room} {cells slots : Nat} {Q : State → Prop} {C : CS} {pc : Nat} {lv : List (Nat × Value)} {st : List Value}
/-- super.m() that the superclass itself inherits -/
theorem g_supUp (ok : Ok w x cc nL own ret rm) {yN y : MethodName} {code : ByteArray} {nL2 n idx L mc ms a : Nat} {ret2 : Option FieldType} {post : Option Value → CS → Prop} {rest : List Value} (As : List Value) (hg : isGl C a) (hyn : (⟨y.cls, yN.name, yN.desc⟩ : MethodName) = y) (ql : Cond.methodLink own idx yN ∈ lw_all) (q2 : Cond.sameMethod yN.cls y.cls yN.name yN.desc ∈ lw_all) (q3 : Cond.superclass own yN.cls ∈ lw_all) (q4 : Cond.superclass yN.cls y.cls ∈ lw_all) (q5 : Cond.instanceMethod y ∈ lw_all) (q6 : Cond.initialized y.cls ∈ lw_all) (q7 : Cond.code y code nL2 ret2 ∈ lw_all) (hno : yN.name ≠ "<init>") (hpar : (parseMethodDescriptor y.desc).map (fun d => d.parameters.length) = some n)
    (hM : MC w (xL x) y code nL2 ret2 L mc ms (.ref a :: As) C post) (hn : As.length = n) (hs : st = As.reverse ++ .ref a :: rest) (hw : (rest.map fun v => v.category).sum ≤ 8)
    (hR : L + 1 ≤ rm.frames ∧ 8 + (nL2 + 11) + 40 * L ≤ rm.locals) (hcap : cells + mc ≤ rm.cells ∧ slots + ms ≤ rm.slots) (d : decode cc pc = .ok (.invokespecial idx, 3))
    (k : ∀ v C1, post v C1 → G w x nL (cells + mc) (slots + ms) Q C1 (pc + 3) lv (v.toList ++ rest)) : G w x nL cells slots Q C pc lv st := by
  obtain ⟨c, n0, cn, T0, t1, t2, t3, t4⟩ := hg.cn
  refine g_run ok (a := (Value.ref a :: As).toArray) (fun H locs ls h1 h3 => ?_) k
  have hK : Back (xL x) (xR x) (xP x) (xE x) (xB x) (xS x) (xA x) y 3 8 (PreOf (xR x) mc ms _) (PostOf _ mc ms (fr w)) := back_of (bytes := code) (maxL := nL2) (ret := ret2) hM blindA rfl rfl (by rw [ok.ro]; exact hR.1) (by rw [ok.ro]; exact hR.2) (pay_in ok.ts (goodL fun q hq => by rw [List.mem_singleton.mp hq]; exact q7)) (List.mem_singleton.mpr rfl) (fun a' U hW => word_at hW (lw_self _ q6).2 (ok.wd q6))
  obtain ⟨cellB, hcB, hoB, hclB⟩ := recvD ok t1 t2 t3 H h1
  obtain ⟨hfc, kB, hkB, -⟩ := classAtD ok t3
  rw [Option.some.inj (hfc.symm.trans hclB)] at hkB
  intro T hT X
  obtain ⟨mk, methM, hnamed, hmethM, hstM, habM⟩ := Cond.instanceMethod_spec (ok.wd q5)
  obtain ⟨methM', cM, hmethM', -, -, -, -, -, -, hsigM⟩ := Cond.code_spec hnamed (ok.wd q7)
  cases hmethM.symm.trans hmethM'
  obtain ⟨ps, dk, kp, hps, hdk, hkp, hsuper, -, -, hnid⟩ := Cond.superclass_spec ok.ow (ok.wd q3)
  obtain ⟨ps2, dk2, kp2, hps2, hdk2, hkp2, hsuper2, -, -, -⟩ := Cond.superclass_spec hps (ok.wd q4)
  have hpm : ps2 = mk.cls := Option.some.inj (hps2.symm.trans (findClass_of_methodNamed hnamed))
  have hsz : ∃ z, (xS x).vm.classes.size = z + 1 := by
    have := (Array.getElem?_eq_some_iff.mp hdk2).1
    exact ⟨(xS x).vm.classes.size - 1, by omega⟩
  obtain ⟨z, hz⟩ := hsz
  have hsub : (xS x).vm.isSubclass ps mk.cls = true := by
    unfold Vm.isSubclass
    rw [hz]
    simp [Vm.isSubclassAux, hdk2, hsuper2, hpm]
  obtain ⟨vm₁, X₁, hstep₁⟩ := X.invokespecialUp ok.ex (owner := y.cls) ok.ow (ok.wd ql) (ok.wd q2) (by rw [hyn]; exact hnamed) hmethM hstM habM hno hdk hnid hps hsuper hsub (a := a) (cell := cellB) (by rw [hT]; exact hcB)
    (fun z h => by rw [h] at hoB; cases hoB) hkB (g := F0 (xM x) pc ls st) rfl (argsL := As) (rest := rest) (by
      rw [hsigM] at hpar
      exact hn.trans (Option.some.inj hpar).symm) hs (by rw [ok.cd]; exact d)
  obtain ⟨v, B, X', hpost, hsteps⟩ := hK (xM x) (xT x) (xC x) ⟨T.setVm vm₁, locs, cells, slots⟩ { F0 (xM x) pc ls st with stack := rest } (.invokespecial idx) mk (Value.ref a :: As).toArray X₁ rfl (h3.1.trans ok.ml.symm) (by rw [ok.cd]; exact d) (lv_room hw) (X₁.named hnamed) ⟨by rw [ok.ro]; exact hcap.1, by rw [ok.ro]; exact hcap.2, rfl, ok.kw.on X₁.warmed, by show hA w C T.heap; rw [hT]; exact h1⟩
  obtain ⟨U', l2, c2, s2⟩ := B
  obtain ⟨g', mk', t, L2, e1, e2, hq, r1, hL, r2, r3⟩ := hpost
  dsimp only [Pt.U, Pt.locs, Pt.cells, Pt.slots] at X' e1 e2 r1 r2 r3
  subst r1; subst r2; subst r3
  exact ⟨v, (T.setVm vm₁).calling g' mk' (Value.ref a :: As).toArray, t, U', L2, hT, X', hL, e1, e2, hq, fun target h => hstep₁ _ (by rw [doInvoke_state]; exact hsteps.trans h)⟩
def p_GS_turns (C : CS) (a : Nat) : Prop := isGl C a
def v_GS_turns (C : CS) (a : Nat) : Int32 := 0
theorem vb_GS_turns (C : CS) (a : Nat) : v_GS_turns C a = 0 ∨ v_GS_turns C a = 1 := Or.inl rfl
theorem g_GS_turns (ok : Ok w x cc nL "TwoGuilds$Forged" ret rm) {a idx : Nat} (hg : p_GS_turns C a) (ql : Cond.methodLink "TwoGuilds$Forged" idx ⟨"TwoGuilds$Loose", "turns", "()Z"⟩ ∈ lw_all) (hR : 1 ≤ rm.frames ∧ 20 ≤ rm.locals) {rest : List Value} (hw : (rest.map fun v => v.category).sum ≤ 8) (hcap : cells ≤ rm.cells ∧ slots ≤ rm.slots) (d : decode cc pc = .ok (.invokespecial idx, 3))
    (k : G w x nL cells slots Q C (pc + 3) lv (.int (v_GS_turns C a) :: rest)) : G w x nL cells slots Q C pc lv (.ref a :: rest) :=
  g_supUp ok [] hg (y := yX4_turns) (L := 0) (mc := 0) (ms := 0) rfl ql q610 q390 q356 q603 q76 q616 (by decide) (by decide) (mc_X4_turns ok.wo (xL x) C a) rfl rfl hw ⟨hR.1, by have := hR.2; omega⟩ hcap d (resI k)
end SUPUP
theorem cfO_X4_kind_Glove : CfO yX4_kind yX4_kind "TwoGuilds$Glove" cX4_kind 1 (some .int) 0 := ⟨⟨by decide, by decide, by decide⟩, q76, q439, q416, q417, q418, q416, _, _, _, q439⟩
theorem cfO_X5_kind_Lined : CfO yX4_kind yX5_kind "TwoGuilds$Lined" cX5_kind 1 (some .int) 0 := ⟨⟨by decide, by decide, by decide⟩, q77, q431, q430, q433, q418, q416, _, _, _, q439⟩
theorem cfO_X6_kind_Loose : CfO yX4_kind yX6_kind "TwoGuilds$Loose" cX6_kind 1 (some .int) 0 := ⟨⟨by decide, by decide, by decide⟩, q78, q424, q423, q434, q418, q416, _, _, _, q439⟩
theorem cfO_X7_kind_Furred : CfO yX4_kind yX7_kind "TwoGuilds$Furred" cX7_kind 1 (some .int) 0 := ⟨⟨by decide, by decide, by decide⟩, q79, q428, q427, q426, q418, q416, _, _, _, q439⟩
theorem cfO_X8_kind_Forged : CfO yX4_kind yX8_kind "TwoGuilds$Forged" cX8_kind 1 (some .int) 0 := ⟨⟨by decide, by decide, by decide⟩, q80, q421, q420, q419, q418, q416, _, _, _, q439⟩
theorem cfO_X9_kind_Mitten : CfO yX4_kind yX9_kind "TwoGuilds$Mitten" cX9_kind 1 (some .int) 0 := ⟨⟨by decide, by decide, by decide⟩, q81, q437, q436, q435, q418, q416, _, _, _, q439⟩
def p_GL_kind (C : CS) (a : Nat) : Prop := isGl C a
def v_GL_kind (C : CS) (a : Nat) : Int32 := kdG C a
section GL_kind
variable {w : WD} {x : Cx} {cc : ByteArray} {nL : Nat} {own : String} {ret : Option FieldType} {rm : Room} {cells slots : Nat} {Q : State → Prop} {C : CS} {pc : Nat} {lv : List (Nat × Value)} {st rest : List Value} {a b idx : Nat}
theorem g_GL_kind (ok : Ok w x cc nL own ret rm) (hp : p_GL_kind C a) (ql : Cond.methodLink own idx yX4_kind ∈ lw_all) (hR : 3 ≤ rm.frames ∧ 101 ≤ rm.locals) (hw : (rest.map fun v => v.category).sum ≤ 8) (hcap : cells ≤ rm.cells ∧ slots ≤ rm.slots) (d : decode cc pc = .ok (.invokevirtual idx, 3))
    (k : G w x nL cells slots Q C (pc + 3) lv (.int (v_GL_kind C a) :: rest)) : G w x nL cells slots Q C pc lv (.ref a :: rest) := by
  obtain ⟨r1, r2⟩ := hR
  have hg : isGl C a := hp
  obtain ⟨c, n, t1, t2, t6⟩ := isGl.tag hg
  unfold v_GL_kind at k
  rcases t6 with t | t | t | t | t | t <;> subst t
  · refine g_callO ok [] cfO_X4_kind_Glove ql (mc_X4_kind ok.wo (xL x) C a) (recvD ok t1 (by decide) rfl) rfl rfl hw ⟨by omega, by omega⟩ hcap d (resI ?_)
    unfold kdG at k
    rw [t2] at k
    exact k
  · refine g_callO ok [] cfO_X5_kind_Lined ql (mc_X5_kind ok.wo (xL x) C a (by unfold p_X5_kind; exact ⟨hg, trivial⟩)) (recvD ok t1 (by decide) rfl) rfl rfl hw ⟨by omega, by omega⟩ hcap d (resI ?_)
    unfold kdG at k
    rw [t2] at k
    exact k
  · refine g_callO ok [] cfO_X6_kind_Loose ql (mc_X6_kind ok.wo (xL x) C a (by unfold p_X6_kind; exact ⟨hg, trivial⟩)) (recvD ok t1 (by decide) rfl) rfl rfl hw ⟨by omega, by omega⟩ hcap d (resI ?_)
    unfold kdG at k
    rw [t2] at k
    exact k
  · refine g_callO ok [] cfO_X7_kind_Furred ql (mc_X7_kind ok.wo (xL x) C a (by unfold p_X7_kind p_X5_kind; exact ⟨hg, ⟨hg, trivial⟩, trivial⟩)) (recvD ok t1 (by decide) rfl) rfl rfl hw ⟨by omega, by omega⟩ hcap d (resI ?_)
    unfold kdG at k
    rw [t2] at k
    exact k
  · refine g_callO ok [] cfO_X8_kind_Forged ql (mc_X8_kind ok.wo (xL x) C a (by unfold p_X8_kind p_X6_kind; exact ⟨hg, ⟨hg, trivial⟩, trivial⟩)) (recvD ok t1 (by decide) rfl) rfl rfl hw ⟨by omega, by omega⟩ hcap d (resI ?_)
    unfold kdG at k
    rw [t2] at k
    exact k
  · refine g_callO ok [] cfO_X9_kind_Mitten ql (mc_X9_kind ok.wo (xL x) C a (by unfold p_X9_kind; exact ⟨hg, trivial⟩)) (recvD ok t1 (by decide) rfl) rfl rfl hw ⟨by omega, by omega⟩ hcap d (resI ?_)
    unfold kdG at k
    rw [t2] at k
    exact k
end GL_kind
def v_X8_turns (C : CS) (a : Nat) : Int32 :=
  if (v_GS_turns C a) = 0 then
    (1)
    else
    (0)
theorem vb_X8_turns (C : CS) (a : Nat) : v_X8_turns C a = 0 ∨ v_X8_turns C a = 1 := by
  unfold v_X8_turns
  exact (ib_ite (Or.inr rfl) (Or.inl rfl))
def p_X8_turns (C : CS) (a : Nat) : Prop :=
  p_GS_turns C a ∧
    (True)
set_option maxHeartbeats 4000000 in
set_option maxRecDepth 100000 in
theorem mc_X8_turns {w : WD} (wk : wOk w) (l : Launch) (C : CS) (a : Nat) (hw : p_X8_turns C a) : MC w l yX8_turns cX8_turns 1 (some .boolean) 1 0 0 [.ref a] C (pI (v_X8_turns C a) C) := by
  unfold p_X8_turns at hw
  refine MC.of wk (by decide) (Nat.le_of_ble_eq_true rfl) (fun x hx ok => ?_)
  subst hx
  show G w x 1 0 0 (QM w x _ 0 0) C 0 [(0, .ref a)] []
  refine g_aload_n ok 0 dX8_turns_0 rfl ?_
  obtain ⟨hp1, hw⟩ := hw
  refine g_GS_turns ok hp1 q609 ⟨by decide, by decide⟩ (Nat.le_of_ble_eq_true rfl) ⟨by decide, by decide⟩ dX8_turns_1 ?_
  refine g_if_ne (tgt := 11) ok dX8_turns_4 (by decide) (fun c2 => ?_) (fun c2 => ?_)
  · refine g_iconst (v := 0) ok dX8_turns_11 (by decide) ?_
    exact g_zret ok dX8_turns_12 (Or.inl rfl) ⟨by first | (simp only [v_X8_turns, if_neg c2]; done) | contradiction, rfl⟩
  · refine g_iconst (v := 1) ok dX8_turns_7 (by decide) ?_
    refine g_goto (tgt := 12) ok dX8_turns_8 (by decide) ?_
    exact g_zret ok dX8_turns_12 (Or.inr rfl) ⟨by first | (simp only [v_X8_turns, if_pos c2]; done) | contradiction, rfl⟩
theorem cfO_X4_turns_Glove : CfO yX4_turns yX4_turns "TwoGuilds$Glove" cX4_turns 1 (some .boolean) 0 := ⟨⟨by decide, by decide, by decide⟩, q76, q616, q603, q604, q605, q603, _, _, _, q616⟩
theorem cfO_X4_turns_Lined : CfO yX4_turns yX4_turns "TwoGuilds$Lined" cX4_turns 1 (some .boolean) 0 := ⟨⟨by decide, by decide, by decide⟩, q76, q616, q603, q613, q605, q603, _, _, _, q616⟩
theorem cfO_X4_turns_Loose : CfO yX4_turns yX4_turns "TwoGuilds$Loose" cX4_turns 1 (some .boolean) 0 := ⟨⟨by decide, by decide, by decide⟩, q76, q616, q603, q614, q605, q603, _, _, _, q616⟩
theorem cfO_X4_turns_Furred : CfO yX4_turns yX4_turns "TwoGuilds$Furred" cX4_turns 1 (some .boolean) 0 := ⟨⟨by decide, by decide, by decide⟩, q76, q616, q603, q612, q605, q603, _, _, _, q616⟩
theorem cfO_X8_turns_Forged : CfO yX4_turns yX8_turns "TwoGuilds$Forged" cX8_turns 1 (some .boolean) 0 := ⟨⟨by decide, by decide, by decide⟩, q80, q608, q607, q606, q605, q603, _, _, _, q616⟩
theorem cfO_X4_turns_Mitten : CfO yX4_turns yX4_turns "TwoGuilds$Mitten" cX4_turns 1 (some .boolean) 0 := ⟨⟨by decide, by decide, by decide⟩, q76, q616, q603, q615, q605, q603, _, _, _, q616⟩
def p_GL_turns (C : CS) (a : Nat) : Prop := isGl C a
def v_GL_turns (C : CS) (a : Nat) : Int32 := if kdN C a = 4 then 1 else 0
theorem vb_GL_turns (C : CS) (a : Nat) : v_GL_turns C a = 0 ∨ v_GL_turns C a = 1 := by unfold v_GL_turns; split <;> simp
section GL_turns
variable {w : WD} {x : Cx} {cc : ByteArray} {nL : Nat} {own : String} {ret : Option FieldType} {rm : Room} {cells slots : Nat} {Q : State → Prop} {C : CS} {pc : Nat} {lv : List (Nat × Value)} {st rest : List Value} {a b idx : Nat}
theorem g_GL_turns (ok : Ok w x cc nL own ret rm) (hp : p_GL_turns C a) (ql : Cond.methodLink own idx yX4_turns ∈ lw_all) (hR : 2 ≤ rm.frames ∧ 61 ≤ rm.locals) (hw : (rest.map fun v => v.category).sum ≤ 8) (hcap : cells ≤ rm.cells ∧ slots ≤ rm.slots) (d : decode cc pc = .ok (.invokevirtual idx, 3))
    (k : G w x nL cells slots Q C (pc + 3) lv (.int (v_GL_turns C a) :: rest)) : G w x nL cells slots Q C pc lv (.ref a :: rest) := by
  obtain ⟨r1, r2⟩ := hR
  have hg : isGl C a := hp
  obtain ⟨c, n, t1, t2, t6⟩ := isGl.tag hg
  unfold v_GL_turns at k
  rcases t6 with t | t | t | t | t | t <;> subst t
  · refine g_callO ok [] cfO_X4_turns_Glove ql (mc_X4_turns ok.wo (xL x) C a) (recvD ok t1 (by decide) rfl) rfl rfl hw ⟨by omega, by omega⟩ hcap d (resI ?_)
    rw [t2] at k
    exact k
  · refine g_callO ok [] cfO_X4_turns_Lined ql (mc_X4_turns ok.wo (xL x) C a) (recvD ok t1 (by decide) rfl) rfl rfl hw ⟨by omega, by omega⟩ hcap d (resI ?_)
    rw [t2] at k
    exact k
  · refine g_callO ok [] cfO_X4_turns_Loose ql (mc_X4_turns ok.wo (xL x) C a) (recvD ok t1 (by decide) rfl) rfl rfl hw ⟨by omega, by omega⟩ hcap d (resI ?_)
    rw [t2] at k
    exact k
  · refine g_callO ok [] cfO_X4_turns_Furred ql (mc_X4_turns ok.wo (xL x) C a) (recvD ok t1 (by decide) rfl) rfl rfl hw ⟨by omega, by omega⟩ hcap d (resI ?_)
    rw [t2] at k
    exact k
  · refine g_callO ok [] cfO_X8_turns_Forged ql (mc_X8_turns ok.wo (xL x) C a (by unfold p_X8_turns; exact ⟨hg, trivial⟩)) (recvD ok t1 (by decide) rfl) rfl rfl hw ⟨by omega, by omega⟩ hcap d (resI ?_)
    rw [t2] at k
    exact k
  · refine g_callO ok [] cfO_X4_turns_Mitten ql (mc_X4_turns ok.wo (xL x) C a) (recvD ok t1 (by decide) rfl) rfl rfl hw ⟨by omega, by omega⟩ hcap d (resI ?_)
    rw [t2] at k
    exact k
end GL_turns
def v_X8_fits (C : CS) (a : Nat) (a0 : Nat) : Int32 :=
  if (v_X6_fits C a a0) = 0 then
    (0)
    else
    (if (v_GL_turns C a0) = 0 then
      (1)
      else
      (0))
theorem vb_X8_fits (C : CS) (a : Nat) (a0 : Nat) : v_X8_fits C a a0 = 0 ∨ v_X8_fits C a a0 = 1 := by
  unfold v_X8_fits
  exact (ib_ite (Or.inl rfl) (ib_ite (Or.inr rfl) (Or.inl rfl)))
def p_X8_fits (C : CS) (a : Nat) (a0 : Nat) : Prop :=
  isGl C a ∧
    (p_X6_fits C a a0 ∧
    (((v_X6_fits C a a0) = 0 → 
    True) ∧
    (¬ (v_X6_fits C a a0) = 0 → 
    p_GL_turns C a0 ∧
      (True))))
set_option maxHeartbeats 4000000 in
set_option maxRecDepth 100000 in
theorem mc_X8_fits {w : WD} (wk : wOk w) (l : Launch) (C : CS) (a : Nat) (a0 : Nat) (hw : p_X8_fits C a a0) : MC w l yX8_fits cX8_fits 2 (some .boolean) 2 0 0 [.ref a, .ref a0] C (pI (v_X8_fits C a a0) C) := by
  unfold p_X8_fits at hw
  refine MC.of wk (by decide) (Nat.le_of_ble_eq_true rfl) (fun x hx ok => ?_)
  subst hx
  show G w x 2 0 0 (QM w x _ 0 0) C 0 [(0, .ref a), (1, .ref a0)] []
  refine g_aload_n ok 0 dX8_fits_0 rfl ?_
  refine g_aload_n ok 1 dX8_fits_1 rfl ?_
  obtain ⟨hf2, hw⟩ := hw
  obtain ⟨hp1, hw⟩ := hw
  refine g_supG ok [.ref a0] cfP_Forged_X6_fits q596 (mc_X6_fits ok.wo (xL x) C a a0 hp1) hf2 rfl rfl (Nat.le_of_ble_eq_true rfl) ⟨by decide, by decide⟩ ⟨by decide, by decide⟩ dX8_fits_2 (resI ?_)
  refine g_if_eq (tgt := 19) ok dX8_fits_5 (by decide) (fun c3 => ?_) (fun c3 => ?_)
  · have hw := hw.1 c3
    refine g_iconst (v := 0) ok dX8_fits_19 (by decide) ?_
    exact g_zret ok dX8_fits_20 (Or.inl rfl) ⟨by first | (simp only [v_X8_fits, if_pos c3]; done) | contradiction, rfl⟩
  · have hw := hw.2 c3
    refine g_aload_n ok 1 dX8_fits_8 rfl ?_
    obtain ⟨hp4, hw⟩ := hw
    refine g_GL_turns ok hp4 q602 ⟨by decide, by decide⟩ (Nat.le_of_ble_eq_true rfl) ⟨by decide, by decide⟩ dX8_fits_9 ?_
    refine g_if_ne (tgt := 19) ok dX8_fits_12 (by decide) (fun c5 => ?_) (fun c5 => ?_)
    · refine g_iconst (v := 0) ok dX8_fits_19 (by decide) ?_
      exact g_zret ok dX8_fits_20 (Or.inl rfl) ⟨by first | (simp only [v_X8_fits, if_neg c3, if_neg c5]; done) | contradiction, rfl⟩
    · refine g_iconst (v := 1) ok dX8_fits_15 (by decide) ?_
      refine g_goto (tgt := 20) ok dX8_fits_16 (by decide) ?_
      exact g_zret ok dX8_fits_20 (Or.inr rfl) ⟨by first | (simp only [v_X8_fits, if_neg c3, if_pos c5]; done) | contradiction, rfl⟩
