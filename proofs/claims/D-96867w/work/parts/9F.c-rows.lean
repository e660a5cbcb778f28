/-! rows, things: what the small methods answer -/
theorem sub_S (s : Nat) : subT s 104 = true ↔ s = 104 := by simp [subT]
theorem sub_F (s : Nat) : subT s 105 = true ↔ s = 105 := by simp [subT]
theorem sub_N (s : Nat) : subT s 15 = true ↔ s = 15 := by simp [subT]
theorem sub_G (s : Nat) : subT s 4 = true ↔ (4 ≤ s ∧ s ≤ 9) := by simp [subT]; omega
theorem isO0 {C : CS} {o : Option Nat} {t : Nat} : isO C o t = 0 ↔ ¬ subT (tgO C o) t = true := by
  unfold isO
  by_cases h : subT (tgO C o) t = true
  · rw [if_pos h]; simp [h]
  · rw [if_neg h]; simp [h]
def isR (C : CS) (o : Option Nat) : Prop := tgO C o = 104 ∨ tgO C o = 105
theorem isR.th {C : CS} {o : Option Nat} (h : isR C o) : thO C o := by
  rcases h with h | h
  · exact Or.inr (by rw [h]; decide)
  · exact Or.inr (by rw [h]; decide)
/-- a float as a number -/
def fNum (x : UInt32) : Int32 := if Op.cmpValue (FP.fcmp x x) .l = 0 then FP.f2i x else -1000000005
/-- a number of a row -/
def rwN (C : CS) (o : Option Nat) (i : Nat) : Int32 := if tgO C o = 104 then atS C o i else fNum (atF C o i)
theorem cf_X0_lengthOf : CfS yX0_lengthOf cX0_lengthOf 1 (some .int) 1 := ⟨⟨by decide, by decide, by decide⟩, q72, q805, q804⟩
def p_X0_lengthOf (C : CS) (a0 : Option Nat) : Prop := isR C a0
def v_X0_lengthOf (C : CS) (a0 : Option Nat) : Int32 := nI (lnO C a0)
def wp_X0_lengthOf (Post : Int32 → CS → Prop) (C : CS) (a0 : (Option Nat)) : Prop :=
  thO C a0 ∧
    (∀ r2 : Int32, r2 = (isO C a0 104) → 
    (r2 = 0 → 
    (a0 = none ∨ subT (tgO C a0) 105 = true) ∧
      ((tgO C a0 = 104 ∨ tgO C a0 = 105) ∧
      (∀ r6 : Int32, r6 = (nI (lnO C a0)) → 
      Post r6 C))) ∧
    (¬ r2 = 0 → 
    (a0 = none ∨ subT (tgO C a0) 104 = true) ∧
      ((tgO C a0 = 104 ∨ tgO C a0 = 105) ∧
      (∀ r9 : Int32, r9 = (nI (lnO C a0)) → 
      Post r9 C))))
set_option maxHeartbeats 4000000 in
set_option maxRecDepth 100000 in
theorem gw_X0_lengthOf {w : WD} (wk : wOk w) (l : Launch) (C : CS) (a0 : (Option Nat)) {Post : Int32 → CS → Prop} (hw : wp_X0_lengthOf Post C a0) : MC w l yX0_lengthOf cX0_lengthOf 1 (some .int) 1 0 0 [va_rf a0] C (fun v C1 => ∃ r : Int32, v = some (.int r) ∧ Post r C1) := by
  unfold wp_X0_lengthOf at hw
  refine MC.of wk (by decide) (by cases a0 <;> exact Nat.le_of_ble_eq_true rfl) (fun x hx ok => ?_)
  subst hx
  rw [show lv_args 0 [va_rf a0] = [(0, va_rf a0)] from by cases a0 <;> rfl]
  show G w x 1 0 0 (QM w x _ 0 0) C 0 [(0, va_rf a0)] []
  refine g_oload_n ok 0 dX0_lengthOf_0 rfl ?_
  obtain ⟨hf1, hw⟩ := hw
  refine g_inst (o := a0) ok hf1 (t := 104) (by decide) q806 dX0_lengthOf_1 ?_
  refine g_nmI (fun r2 er2 => ?_)
  have hw := hw r2 er2
  refine g_if_eq (tgt := 15) ok dX0_lengthOf_4 (by decide) (fun c3 => ?_) (fun c3 => ?_)
  · have hw := hw.1 c3
    refine g_oload_n ok 0 dX0_lengthOf_15 rfl ?_
    obtain ⟨hc4, hw⟩ := hw
    refine g_castO (o := a0) ok hf1 (t := 105) (by decide) q807 dX0_lengthOf_16 hc4 ?_
    obtain ⟨hc5, hw⟩ := hw
    refine g_alenO (o := a0) ok hc5 dX0_lengthOf_19 ?_
    refine g_nmI (fun r6 er6 => ?_)
    have hw := hw r6 er6
    exact g_iret ok dX0_lengthOf_20 ⟨_, rfl, hw⟩
  · have hw := hw.2 c3
    refine g_oload_n ok 0 dX0_lengthOf_7 rfl ?_
    obtain ⟨hc7, hw⟩ := hw
    refine g_castO (o := a0) ok hf1 (t := 104) (by decide) q806 dX0_lengthOf_8 hc7 ?_
    obtain ⟨hc8, hw⟩ := hw
    refine g_alenO (o := a0) ok hc8 dX0_lengthOf_11 ?_
    refine g_nmI (fun r9 er9 => ?_)
    have hw := hw r9 er9
    refine g_goto (tgt := 20) ok dX0_lengthOf_12 (by decide) ?_
    exact g_iret ok dX0_lengthOf_20 ⟨_, rfl, hw⟩
theorem sp_X0_lengthOf (C : CS) (a0 : Option Nat) (hp : p_X0_lengthOf C a0) : wp_X0_lengthOf (fun x C1 => x = v_X0_lengthOf C a0 ∧ C1 = C) C a0 := by
  have hp : isR C a0 := hp
  refine ⟨hp.th, fun r e => ⟨fun c => ⟨Or.inr ?_, hp, fun r6 e6 => ⟨e6, rfl⟩⟩, fun c => ⟨Or.inr ?_, hp, fun r6 e6 => ⟨e6, rfl⟩⟩⟩⟩
  · rw [e, isO0, sub_S] at c
    rw [sub_F]
    exact hp.resolve_left c
  · rw [e, isO0] at c
    exact Classical.byContradiction c
theorem mc_X0_lengthOf {w : WD} (wk : wOk w) (l : Launch) (C : CS) (a0 : (Option Nat)) (hp : p_X0_lengthOf C a0) : MC w l yX0_lengthOf cX0_lengthOf 1 (some .int) 1 0 0 [va_rf a0] C (pI (v_X0_lengthOf C a0) C) := MC.postI (gw_X0_lengthOf wk l C a0 (sp_X0_lengthOf C a0 hp))
def pt_X0_lengthOfN (C : CS) (a0 : Option Nat) : Prop := a0 = none
def wp_X0_lengthOfN (Post : Prop) (C : CS) (a0 : (Option Nat)) : Prop :=
  thO C a0 ∧
    (∀ r2 : Int32, r2 = (isO C a0 104) → 
    (r2 = 0 → 
    (a0 = none ∨ subT (tgO C a0) 105 = true) ∧
      (((tgO C a0 = 104 ∨ tgO C a0 = 105) ∧
        (∀ r6 : Int32, r6 = (nI (lnO C a0)) → 
        False))
      ∨ (a0 = none ∧
        (True)))) ∧
    (¬ r2 = 0 → 
    (a0 = none ∨ subT (tgO C a0) 104 = true) ∧
      (((tgO C a0 = 104 ∨ tgO C a0 = 105) ∧
        (∀ r9 : Int32, r9 = (nI (lnO C a0)) → 
        False))
      ∨ (a0 = none ∧
        (True)))))
set_option maxHeartbeats 4000000 in
set_option maxRecDepth 100000 in
theorem gw_X0_lengthOfN {w : WD} (wk : wOk w) (l : Launch) (hl : l.stackTraces = false) (C : CS) (a0 : (Option Nat)) {Post : Prop} (hw : wp_X0_lengthOfN Post C a0) : MT w l yX0_lengthOf cX0_lengthOf 1 (some .int) 260 1 8 [va_rf a0] C (pT w "java/lang/NullPointerException" C) := by
  unfold wp_X0_lengthOfN at hw
  refine MT.of2 wk (by decide) (by cases a0 <;> exact Nat.le_of_ble_eq_true rfl) (fun x hx ok ht ho => ?_)
  subst hx
  rw [show lv_args 0 [va_rf a0] = [(0, va_rf a0)] from by cases a0 <;> rfl]
  show G w x 1 0 0 (QT w x _ 1 8) C 0 [(0, va_rf a0)] []
  refine g_oload_n ok 0 dX0_lengthOf_0 rfl ?_
  obtain ⟨hf1, hw⟩ := hw
  refine g_inst (o := a0) ok hf1 (t := 104) (by decide) q806 dX0_lengthOf_1 ?_
  refine g_nmI (fun r2 er2 => ?_)
  have hw := hw r2 er2
  refine g_if_eq (tgt := 15) ok dX0_lengthOf_4 (by decide) (fun c3 => ?_) (fun c3 => ?_)
  · have hw := hw.1 c3
    refine g_oload_n ok 0 dX0_lengthOf_15 rfl ?_
    obtain ⟨hc4, hw⟩ := hw
    refine g_castO (o := a0) ok hf1 (t := 105) (by decide) q807 dX0_lengthOf_16 hc4 ?_
    rcases hw with ⟨hc5, hw⟩ | ⟨hc5, hw⟩
    · refine g_alenO (o := a0) ok hc5 dX0_lengthOf_19 ?_
      refine g_nmI (fun r6 er6 => ?_)
      have hw := hw r6 er6
      exact hw.elim
    · refine g_alenOx (o := a0) ok ho hl hc5 ⟨by show 0 + 1 ≤ 1; omega, by show 0 + 8 ≤ 8; omega⟩ ⟨by decide, by decide⟩ (Nat.le_of_ble_eq_true rfl) dX0_lengthOf_19 (fun e => ?_)
      exact gt_leave ok ht (fun _ _ h => ⟨h, rfl⟩)
  · have hw := hw.2 c3
    refine g_oload_n ok 0 dX0_lengthOf_7 rfl ?_
    obtain ⟨hc7, hw⟩ := hw
    refine g_castO (o := a0) ok hf1 (t := 104) (by decide) q806 dX0_lengthOf_8 hc7 ?_
    rcases hw with ⟨hc8, hw⟩ | ⟨hc8, hw⟩
    · refine g_alenO (o := a0) ok hc8 dX0_lengthOf_11 ?_
      refine g_nmI (fun r9 er9 => ?_)
      have hw := hw r9 er9
      refine g_goto (tgt := 20) ok dX0_lengthOf_12 (by decide) ?_
      exact hw.elim
    · refine g_alenOx (o := a0) ok ho hl hc8 ⟨by show 0 + 1 ≤ 1; omega, by show 0 + 8 ≤ 8; omega⟩ ⟨by decide, by decide⟩ (Nat.le_of_ble_eq_true rfl) dX0_lengthOf_11 (fun e => ?_)
      exact gt_leave ok ht (fun _ _ h => ⟨h, rfl⟩)
theorem sp_X0_lengthOfN (C : CS) (a0 : Option Nat) (hp : pt_X0_lengthOfN C a0) : wp_X0_lengthOfN True C a0 := by
  have hp : a0 = none := hp
  exact ⟨Or.inl hp, fun r e => ⟨fun c => ⟨Or.inl hp, Or.inr ⟨hp, trivial⟩⟩, fun c => ⟨Or.inl hp, Or.inr ⟨hp, trivial⟩⟩⟩⟩
theorem mt_X0_lengthOfN {w : WD} (wk : wOk w) (l : Launch) (hl : l.stackTraces = false) (C : CS) (a0 : (Option Nat)) (hp : pt_X0_lengthOfN C a0) : MT w l yX0_lengthOf cX0_lengthOf 1 (some .int) 260 1 8 [va_rf a0] C (pT w "java/lang/NullPointerException" C) := gw_X0_lengthOfN wk l hl C a0 (Post := True) (sp_X0_lengthOfN C a0 hp)
def pt_X0_lengthOfC (C : CS) (a0 : Option Nat) : Prop := ¬ a0 = none ∧ thO C a0 ∧ ¬ isR C a0
def wp_X0_lengthOfC (Post : Prop) (C : CS) (a0 : (Option Nat)) : Prop :=
  thO C a0 ∧
    (∀ r2 : Int32, r2 = (isO C a0 104) → 
    (r2 = 0 → 
    ((a0 = none ∨ subT (tgO C a0) 105 = true) ∧
        ((tgO C a0 = 104 ∨ tgO C a0 = 105) ∧
        (∀ r6 : Int32, r6 = (nI (lnO C a0)) → 
        False)))
      ∨ ((¬ a0 = none ∧ subT (tgO C a0) 105 = false) ∧
        (True))) ∧
    (¬ r2 = 0 → 
    ((a0 = none ∨ subT (tgO C a0) 104 = true) ∧
        ((tgO C a0 = 104 ∨ tgO C a0 = 105) ∧
        (∀ r9 : Int32, r9 = (nI (lnO C a0)) → 
        False)))
      ∨ ((¬ a0 = none ∧ subT (tgO C a0) 104 = false) ∧
        (True))))
set_option maxHeartbeats 4000000 in
set_option maxRecDepth 100000 in
theorem gw_X0_lengthOfC {w : WD} (wk : wOk w) (l : Launch) (hl : l.stackTraces = false) (C : CS) (a0 : (Option Nat)) {Post : Prop} (hw : wp_X0_lengthOfC Post C a0) : MT w l yX0_lengthOf cX0_lengthOf 1 (some .int) 260 3 2410 [va_rf a0] C (pT w "java/lang/ClassCastException" C) := by
  unfold wp_X0_lengthOfC at hw
  refine MT.of2 wk (by decide) (by cases a0 <;> exact Nat.le_of_ble_eq_true rfl) (fun x hx ok ht ho => ?_)
  subst hx
  rw [show lv_args 0 [va_rf a0] = [(0, va_rf a0)] from by cases a0 <;> rfl]
  show G w x 1 0 0 (QT w x _ 3 2410) C 0 [(0, va_rf a0)] []
  refine g_oload_n ok 0 dX0_lengthOf_0 rfl ?_
  obtain ⟨hf1, hw⟩ := hw
  refine g_inst (o := a0) ok hf1 (t := 104) (by decide) q806 dX0_lengthOf_1 ?_
  refine g_nmI (fun r2 er2 => ?_)
  have hw := hw r2 er2
  refine g_if_eq (tgt := 15) ok dX0_lengthOf_4 (by decide) (fun c3 => ?_) (fun c3 => ?_)
  · have hw := hw.1 c3
    refine g_oload_n ok 0 dX0_lengthOf_15 rfl ?_
    rcases hw with ⟨hc4, hw⟩ | ⟨hc4, hw⟩
    · refine g_castO (o := a0) ok hf1 (t := 105) (by decide) q807 dX0_lengthOf_16 hc4 ?_
      obtain ⟨hc5, hw⟩ := hw
      refine g_alenO (o := a0) ok hc5 dX0_lengthOf_19 ?_
      refine g_nmI (fun r6 er6 => ?_)
      have hw := hw r6 er6
      exact hw.elim
    · refine g_castOx (o := a0) ok ho hl hf1 (t := 105) (by decide) q807 dX0_lengthOf_16 hc4 ⟨by show 0 + 3 ≤ 3; omega, by show 0 + 2410 ≤ 2410; omega⟩ ⟨by decide, by decide⟩ (Nat.le_of_ble_eq_true rfl) (fun e => ?_)
      exact gt_leave ok ht (fun _ _ h => ⟨h, rfl⟩)
  · have hw := hw.2 c3
    refine g_oload_n ok 0 dX0_lengthOf_7 rfl ?_
    rcases hw with ⟨hc7, hw⟩ | ⟨hc7, hw⟩
    · refine g_castO (o := a0) ok hf1 (t := 104) (by decide) q806 dX0_lengthOf_8 hc7 ?_
      obtain ⟨hc8, hw⟩ := hw
      refine g_alenO (o := a0) ok hc8 dX0_lengthOf_11 ?_
      refine g_nmI (fun r9 er9 => ?_)
      have hw := hw r9 er9
      refine g_goto (tgt := 20) ok dX0_lengthOf_12 (by decide) ?_
      exact hw.elim
    · refine g_castOx (o := a0) ok ho hl hf1 (t := 104) (by decide) q806 dX0_lengthOf_8 hc7 ⟨by show 0 + 3 ≤ 3; omega, by show 0 + 2410 ≤ 2410; omega⟩ ⟨by decide, by decide⟩ (Nat.le_of_ble_eq_true rfl) (fun e => ?_)
      exact gt_leave ok ht (fun _ _ h => ⟨h, rfl⟩)
theorem sp_X0_lengthOfC (C : CS) (a0 : Option Nat) (hp : pt_X0_lengthOfC C a0) : wp_X0_lengthOfC True C a0 := by
  obtain ⟨h1, h2, h3⟩ := hp
  refine ⟨h2, fun r e => ⟨fun c => Or.inr ⟨⟨h1, ?_⟩, trivial⟩, fun c => Or.inr ⟨⟨h1, ?_⟩, trivial⟩⟩⟩
  · rw [← Bool.not_eq_true, sub_F]; exact fun z => h3 (Or.inr z)
  · rw [← Bool.not_eq_true, sub_S]; exact fun z => h3 (Or.inl z)
theorem mt_X0_lengthOfC {w : WD} (wk : wOk w) (l : Launch) (hl : l.stackTraces = false) (C : CS) (a0 : (Option Nat)) (hp : pt_X0_lengthOfC C a0) : MT w l yX0_lengthOf cX0_lengthOf 1 (some .int) 260 3 2410 [va_rf a0] C (pT w "java/lang/ClassCastException" C) := gw_X0_lengthOfC wk l hl C a0 (Post := True) (sp_X0_lengthOfC C a0 hp)
theorem cf_X0_numberAt : CfS yX0_numberAt cX0_numberAt 3 (some .int) 2 := ⟨⟨by decide, by decide, by decide⟩, q72, q810, q809⟩
def p_X0_numberAt (C : CS) (a0 : Option Nat) (a1 : Int32) : Prop := isR C a0 ∧ vp_in a1 (lnO C a0)
def v_X0_numberAt (C : CS) (a0 : Option Nat) (a1 : Int32) : Int32 := rwN C a0 a1.toNatClampNeg
def wp_X0_numberAt (Post : Int32 → CS → Prop) (C : CS) (a0 : (Option Nat)) (a1 : Int32) : Prop :=
  thO C a0 ∧
    (∀ r2 : Int32, r2 = (isO C a0 104) → 
    (r2 = 0 → 
    (a0 = none ∨ subT (tgO C a0) 105 = true) ∧
      (tgO C a0 = 105 ∧
      (vp_in a1 (lnO C a0) ∧
      (((Op.cmpValue (FP.fcmp (atF C a0 (Int32.toNatClampNeg a1)) (atF C a0 (Int32.toNatClampNeg a1))) .l) = 0 → 
      Post (FP.f2i (atF C a0 (Int32.toNatClampNeg a1))) C) ∧
      (¬ (Op.cmpValue (FP.fcmp (atF C a0 (Int32.toNatClampNeg a1)) (atF C a0 (Int32.toNatClampNeg a1))) .l) = 0 → 
      Post (-1000000005) C))))) ∧
    (¬ r2 = 0 → 
    (a0 = none ∨ subT (tgO C a0) 104 = true) ∧
      (tgO C a0 = 104 ∧
      (vp_in a1 (lnO C a0) ∧
      (Post (atS C a0 (Int32.toNatClampNeg a1)) C)))))
set_option maxHeartbeats 4000000 in
set_option maxRecDepth 100000 in
theorem gw_X0_numberAt {w : WD} (wk : wOk w) (l : Launch) (C : CS) (a0 : (Option Nat)) (a1 : Int32) {Post : Int32 → CS → Prop} (hw : wp_X0_numberAt Post C a0 a1) : MC w l yX0_numberAt cX0_numberAt 3 (some .int) 1 0 0 [va_rf a0, .int a1] C (fun v C1 => ∃ r : Int32, v = some (.int r) ∧ Post r C1) := by
  unfold wp_X0_numberAt at hw
  refine MC.of wk (by decide) (by cases a0 <;> exact Nat.le_of_ble_eq_true rfl) (fun x hx ok => ?_)
  subst hx
  rw [show lv_args 0 [va_rf a0, .int a1] = [(0, va_rf a0), (1, .int a1)] from by cases a0 <;> rfl]
  show G w x 3 0 0 (QM w x _ 0 0) C 0 [(0, va_rf a0), (1, .int a1)] []
  refine g_oload_n ok 0 dX0_numberAt_0 rfl ?_
  obtain ⟨hf1, hw⟩ := hw
  refine g_inst (o := a0) ok hf1 (t := 104) (by decide) q806 dX0_numberAt_1 ?_
  refine g_nmI (fun r2 er2 => ?_)
  have hw := hw r2 er2
  refine g_if_eq (tgt := 14) ok dX0_numberAt_4 (by decide) (fun c3 => ?_) (fun c3 => ?_)
  · have hw := hw.1 c3
    refine g_oload_n ok 0 dX0_numberAt_14 rfl ?_
    obtain ⟨hc4, hw⟩ := hw
    refine g_castO (o := a0) ok hf1 (t := 105) (by decide) q807 dX0_numberAt_15 hc4 ?_
    refine g_iload_n ok 1 dX0_numberAt_18 rfl ?_
    obtain ⟨hf5, hw⟩ := hw
    obtain ⟨hf6, hw⟩ := hw
    refine g_faldO (o := a0) ok hf5 hf6 dX0_numberAt_19 ?_
    refine g_fstore_n ok [(2, .float (atF C a0 (Int32.toNatClampNeg a1))), (0, va_rf a0), (1, .int a1)] dX0_numberAt_20 (by decide) rfl ?_
    refine g_fload_n ok 0 dX0_numberAt_21 rfl ?_
    refine g_fload_n ok 0 dX0_numberAt_22 rfl ?_
    refine g_fcmp ok dX0_numberAt_23 ?_
    refine g_if_eq (tgt := 32) ok dX0_numberAt_24 (by decide) (fun c7 => ?_) (fun c7 => ?_)
    · have hw := hw.1 c7
      refine g_fload_n ok 0 dX0_numberAt_32 rfl ?_
      refine g_f2i ok dX0_numberAt_33 ?_
      exact g_iret ok dX0_numberAt_34 ⟨_, rfl, hw⟩
    · have hw := hw.2 c7
      refine g_ldc (v := -1000000005) ok q740 dX0_numberAt_27 ?_
      refine g_goto (tgt := 34) ok dX0_numberAt_29 (by decide) ?_
      exact g_iret ok dX0_numberAt_34 ⟨_, rfl, hw⟩
  · have hw := hw.2 c3
    refine g_oload_n ok 0 dX0_numberAt_7 rfl ?_
    obtain ⟨hc8, hw⟩ := hw
    refine g_castO (o := a0) ok hf1 (t := 104) (by decide) q806 dX0_numberAt_8 hc8 ?_
    refine g_iload_n ok 1 dX0_numberAt_11 rfl ?_
    obtain ⟨hf9, hw⟩ := hw
    obtain ⟨hf10, hw⟩ := hw
    refine g_saldO (o := a0) ok hf9 hf10 dX0_numberAt_12 ?_
    exact g_iret ok dX0_numberAt_13 ⟨_, rfl, hw⟩
theorem sp_X0_numberAt (C : CS) (a0 : Option Nat) (a1 : Int32) (hp : p_X0_numberAt C a0 a1) : wp_X0_numberAt (fun x C1 => x = v_X0_numberAt C a0 a1 ∧ C1 = C) C a0 a1 := by
  obtain ⟨h1, h2⟩ := hp
  refine ⟨h1.th, fun r e => ⟨fun c => ?_, fun c => ?_⟩⟩
  · rw [e, isO0, sub_S] at c
    have h5 := h1.resolve_left c
    refine ⟨Or.inr ((sub_F _).mpr h5), h5, h2, fun d => ⟨?_, rfl⟩, fun d => ⟨?_, rfl⟩⟩
    · unfold v_X0_numberAt rwN fNum; rw [if_neg c, if_pos d]
    · unfold v_X0_numberAt rwN fNum; rw [if_neg c, if_neg d]
  · rw [e, isO0] at c
    have h4 : tgO C a0 = 104 := (sub_S _).mp (Classical.byContradiction c)
    refine ⟨Or.inr ((sub_S _).mpr h4), h4, h2, ?_, rfl⟩
    unfold v_X0_numberAt rwN
    rw [if_pos h4]
theorem mc_X0_numberAt {w : WD} (wk : wOk w) (l : Launch) (C : CS) (a0 : (Option Nat)) (a1 : Int32) (hp : p_X0_numberAt C a0 a1) : MC w l yX0_numberAt cX0_numberAt 3 (some .int) 1 0 0 [va_rf a0, .int a1] C (pI (v_X0_numberAt C a0 a1) C) := MC.postI (gw_X0_numberAt wk l C a0 a1 (sp_X0_numberAt C a0 a1 hp))
theorem cf_X0_within : CfS yX0_within cX0_within 3 none 3 := ⟨⟨by decide, by decide, by decide⟩, q72, q1214, q1213⟩
def p_X0_within (C : CS) (a0 a1 a2 : Int32) : Prop := ¬ a0 < 0 ∧ ¬ a1 < 0 ∧ a0 ≤ a2 - a1
def wp_X0_within (Post : CS → Prop) (C : CS) (a0 : Int32) (a1 : Int32) (a2 : Int32) : Prop :=
  (a0 < 0 → 
    False) ∧
    (¬ a0 < 0 → 
    (a1 < 0 → 
      False) ∧
      (¬ a1 < 0 → 
      (a0 ≤ (a2 - a1) → 
        Post C) ∧
        (¬ a0 ≤ (a2 - a1) → 
        False)))
set_option maxHeartbeats 4000000 in
set_option maxRecDepth 100000 in
theorem gw_X0_within {w : WD} (wk : wOk w) (l : Launch) (C : CS) (a0 : Int32) (a1 : Int32) (a2 : Int32) {Post : CS → Prop} (hw : wp_X0_within Post C a0 a1 a2) : MC w l yX0_within cX0_within 3 none 1 0 0 [.int a0, .int a1, .int a2] C (fun v C1 => v = none ∧ Post C1) := by
  unfold wp_X0_within at hw
  refine MC.of wk (by decide) (Nat.le_of_ble_eq_true rfl) (fun x hx ok => ?_)
  subst hx
  show G w x 3 0 0 (QM w x _ 0 0) C 0 [(0, .int a0), (1, .int a1), (2, .int a2)] []
  refine g_iload_n ok 0 dX0_within_0 rfl ?_
  refine g_if_lt (tgt := 15) ok dX0_within_1 (by decide) (fun c1 => ?_) (fun c1 => ?_)
  · have hw := hw.1 c1
    exact hw.elim
  · have hw := hw.2 c1
    refine g_iload_n ok 1 dX0_within_4 rfl ?_
    refine g_if_lt (tgt := 15) ok dX0_within_5 (by decide) (fun c2 => ?_) (fun c2 => ?_)
    · have hw := hw.1 c2
      exact hw.elim
    · have hw := hw.2 c2
      refine g_iload_n ok 0 dX0_within_8 rfl ?_
      refine g_iload_n ok 2 dX0_within_9 rfl ?_
      refine g_iload_n ok 1 dX0_within_10 rfl ?_
      refine g_isub ok dX0_within_11 ?_
      refine g_icmp_le (tgt := 23) ok dX0_within_12 (by decide) (fun c3 => ?_) (fun c3 => ?_)
      · have hw := hw.1 c3
        exact g_vret ok dX0_within_23 ⟨rfl, hw⟩
      · have hw := hw.2 c3
        exact hw.elim
theorem sp_X0_within (C : CS) (a0 a1 a2 : Int32) (hp : p_X0_within C a0 a1 a2) : wp_X0_within (fun C1 => C1 = C) C a0 a1 a2 := by
  obtain ⟨h1, h2, h3⟩ := hp
  exact ⟨fun c => h1 c, fun _ => ⟨fun c => h2 c, fun _ => ⟨fun _ => rfl, fun c => c h3⟩⟩⟩
theorem mc_X0_within {w : WD} (wk : wOk w) (l : Launch) (C : CS) (a0 : Int32) (a1 : Int32) (a2 : Int32) (hp : p_X0_within C a0 a1 a2) : MC w l yX0_within cX0_within 3 none 1 0 0 [.int a0, .int a1, .int a2] C (pV C) := MC.postV (gw_X0_within wk l C a0 a1 a2 (sp_X0_within C a0 a1 a2 hp))
def pt_X0_withinI (C : CS) (a0 a1 a2 : Int32) : Prop := ¬ (¬ a0 < 0 ∧ ¬ a1 < 0 ∧ a0 ≤ a2 - a1)
def wp_X0_withinI (Post : Prop) (C : CS) (a0 : Int32) (a1 : Int32) (a2 : Int32) : Prop :=
  (a0 < 0 → 
    True) ∧
    (¬ a0 < 0 → 
    (a1 < 0 → 
      True) ∧
      (¬ a1 < 0 → 
      (a0 ≤ (a2 - a1) → 
        False) ∧
        (¬ a0 ≤ (a2 - a1) → 
        True)))
set_option maxHeartbeats 4000000 in
set_option maxRecDepth 100000 in
theorem gw_X0_withinI {w : WD} (wk : wOk w) (l : Launch) (hl : l.stackTraces = false) (C : CS) (a0 : Int32) (a1 : Int32) (a2 : Int32) {Post : Prop} (hw : wp_X0_withinI Post C a0 a1 a2) : MT w l yX0_within cX0_within 3 none 260 1 6 [.int a0, .int a1, .int a2] C (pT w "java/lang/IndexOutOfBoundsException" C) := by
  unfold wp_X0_withinI at hw
  refine MT.of2 wk (by decide) (Nat.le_of_ble_eq_true rfl) (fun x hx ok ht ho => ?_)
  subst hx
  show G w x 3 0 0 (QT w x _ 1 6) C 0 [(0, .int a0), (1, .int a1), (2, .int a2)] []
  refine g_iload_n ok 0 dX0_within_0 rfl ?_
  refine g_if_lt (tgt := 15) ok dX0_within_1 (by decide) (fun c1 => ?_) (fun c1 => ?_)
  · have hw := hw.1 c1
    refine g_thrIOE ok ho hl ⟨by show 0 + 1 ≤ 1; omega, by show 0 + 6 ≤ 6; omega⟩ ⟨by decide, by decide⟩ (Nat.le_of_ble_eq_true rfl) dX0_within_15 dX0_within_18 dX0_within_19 dX0_within_22 (fun e => ?_)
    exact gt_leave ok ht (fun _ _ h => ⟨h, rfl⟩)
  · have hw := hw.2 c1
    refine g_iload_n ok 1 dX0_within_4 rfl ?_
    refine g_if_lt (tgt := 15) ok dX0_within_5 (by decide) (fun c2 => ?_) (fun c2 => ?_)
    · have hw := hw.1 c2
      refine g_thrIOE ok ho hl ⟨by show 0 + 1 ≤ 1; omega, by show 0 + 6 ≤ 6; omega⟩ ⟨by decide, by decide⟩ (Nat.le_of_ble_eq_true rfl) dX0_within_15 dX0_within_18 dX0_within_19 dX0_within_22 (fun e => ?_)
      exact gt_leave ok ht (fun _ _ h => ⟨h, rfl⟩)
    · have hw := hw.2 c2
      refine g_iload_n ok 0 dX0_within_8 rfl ?_
      refine g_iload_n ok 2 dX0_within_9 rfl ?_
      refine g_iload_n ok 1 dX0_within_10 rfl ?_
      refine g_isub ok dX0_within_11 ?_
      refine g_icmp_le (tgt := 23) ok dX0_within_12 (by decide) (fun c3 => ?_) (fun c3 => ?_)
      · have hw := hw.1 c3
        exact hw.elim
      · have hw := hw.2 c3
        refine g_thrIOE ok ho hl ⟨by show 0 + 1 ≤ 1; omega, by show 0 + 6 ≤ 6; omega⟩ ⟨by decide, by decide⟩ (Nat.le_of_ble_eq_true rfl) dX0_within_15 dX0_within_18 dX0_within_19 dX0_within_22 (fun e => ?_)
        exact gt_leave ok ht (fun _ _ h => ⟨h, rfl⟩)
theorem sp_X0_withinI (C : CS) (a0 a1 a2 : Int32) (hp : pt_X0_withinI C a0 a1 a2) : wp_X0_withinI True C a0 a1 a2 :=
  ⟨fun c => trivial, fun c => ⟨fun _ => trivial, fun c2 => ⟨fun c3 => hp ⟨c, c2, c3⟩, fun _ => trivial⟩⟩⟩
theorem mt_X0_withinI {w : WD} (wk : wOk w) (l : Launch) (hl : l.stackTraces = false) (C : CS) (a0 : Int32) (a1 : Int32) (a2 : Int32) (hp : pt_X0_withinI C a0 a1 a2) : MT w l yX0_within cX0_within 3 none 260 1 6 [.int a0, .int a1, .int a2] C (pT w "java/lang/IndexOutOfBoundsException" C) := gw_X0_withinI wk l hl C a0 a1 a2 (Post := True) (sp_X0_withinI C a0 a1 a2 hp)
theorem cf_X0_written : CfS yX0_written cX0_written 3 (some .int) 3 := ⟨⟨by decide, by decide, by decide⟩, q72, q1231, q1230⟩
def p_X0_written (C : CS) (a0 : Option Nat) (a1 a2 : Int32) : Prop := isR C a0 ∧ vp_in a1 (lnO C a0)
def v_X0_written (C : CS) (a0 : Option Nat) (a1 a2 : Int32) : Int32 := if tgO C a0 = 104 then (if a2 = -1000000005 then -1000000012 else 1) else if a2 = -1000000005 then 1 else if v_X0_isIn (Int32.toInt64 a2) (-99999) 99999 = 0 then -1000000001 else 1
def n_X0_written (C : CS) (a0 : Option Nat) (a1 a2 : Int32) : CS := if tgO C a0 = 104 then (if a2 = -1000000005 then C else stS C a0 a1.toNatClampNeg a2.toInt16.toInt32) else if a2 = -1000000005 then stF C a0 a1.toNatClampNeg 2143289344 else if v_X0_isIn (Int32.toInt64 a2) (-99999) 99999 = 0 then C else stF C a0 a1.toNatClampNeg (FP.i2f a2)
def wp_X0_written_j49 (Post : Int32 → CS → Prop) (C : CS) (o0 : (Option Nat)) (i1 : Int32) (i2 : Int32) : Prop := thO C o0 ∧
  ((o0 = none ∨ subT (tgO C o0) 105 = true) ∧
  ((i2 = (-1000000005) → 
  tgO C o0 = 105 ∧
    (vp_in i1 (lnO C o0) ∧
    (∀ C13 : CS, C13 = (stF C o0 (Int32.toNatClampNeg i1) (2143289344 : UInt32)) → 
    Post 1 C13))) ∧
  (¬ i2 = (-1000000005) → 
  tgO C o0 = 105 ∧
    (vp_in i1 (lnO C o0) ∧
    (∀ C10 : CS, C10 = (stF C o0 (Int32.toNatClampNeg i1) (FP.i2f i2)) → 
    Post 1 C10)))))
def wp_X0_written (Post : Int32 → CS → Prop) (C : CS) (a0 : (Option Nat)) (a1 : Int32) (a2 : Int32) : Prop :=
  thO C a0 ∧
    (∀ r2 : Int32, r2 = (isO C a0 104) → 
    (r2 = 0 → 
    (a2 = (-1000000005) → 
      wp_X0_written_j49 Post C a0 a1 a2) ∧
      (¬ a2 = (-1000000005) → 
      ∀ r14 : Int32, r14 = (v_X0_isIn (Int32.toInt64 a2) (-99999) 99999) → 
        (r14 = 0 → 
        Post (-1000000001) C) ∧
        (¬ r14 = 0 → 
        wp_X0_written_j49 Post C a0 a1 a2))) ∧
    (¬ r2 = 0 → 
    (a2 = (-1000000005) → 
      Post (-1000000012) C) ∧
      (¬ a2 = (-1000000005) → 
      (a0 = none ∨ subT (tgO C a0) 104 = true) ∧
        (tgO C a0 = 104 ∧
        (vp_in a1 (lnO C a0) ∧
        (∀ C20 : CS, C20 = (stS C a0 (Int32.toNatClampNeg a1) ((Int32.toInt16 a2).toInt32)) → 
        Post 1 C20))))))
set_option maxHeartbeats 4000000 in
set_option maxRecDepth 100000 in
theorem gw_X0_written_j49 {w : WD} {x : Cx} (ok : Ok w x cX0_written 3 yX0_written.cls (some .int) (rmL 2 0 0)) {Post : Int32 → CS → Prop} : ∀ (C : CS) (o0 : (Option Nat)) (i1 : Int32) (i2 : Int32), wp_X0_written_j49 Post  C o0 i1 i2 → G w x 3 0 0 (QM w x (fun v C1 => ∃ r : Int32, v = some (.int r) ∧ Post r C1) 0 0) C 49 [(0, va_rf o0), (1, .int i1), (2, .int i2)] [] := by
  intro C o0 i1 i2 hw
  unfold wp_X0_written_j49 at hw
  refine g_oload_n ok 0 dX0_written_49 rfl ?_
  obtain ⟨hf5, hw⟩ := hw
  obtain ⟨hc6, hw⟩ := hw
  refine g_castO (o := o0) ok hf5 (t := 105) (by decide) q807 dX0_written_50 hc6 ?_
  refine g_iload_n ok 1 dX0_written_53 rfl ?_
  refine g_iload_n ok 2 dX0_written_54 rfl ?_
  refine g_ldc (v := -1000000005) ok q740 dX0_written_55 ?_
  refine g_icmp_ne (tgt := 66) ok dX0_written_57 (by decide) (fun c7 => ?_) (fun c7 => ?_)
  · have hw := hw.2 c7
    refine g_iload_n ok 2 dX0_written_66 rfl ?_
    refine g_i2f ok dX0_written_67 ?_
    obtain ⟨hf8, hw⟩ := hw
    obtain ⟨hf9, hw⟩ := hw
    refine g_fastO (o := o0) ok hf8 hf9 dX0_written_68 (fun C10 eC10 => ?_)
    have hw := hw C10 eC10
    refine g_iconst (v := 1) ok dX0_written_69 (by decide) ?_
    exact g_iret ok dX0_written_70 ⟨_, rfl, hw⟩
  · have hw := hw.1 c7
    refine g_ldcwf ok q1234 dX0_written_60 ?_
    refine g_goto (tgt := 68) ok dX0_written_63 (by decide) ?_
    obtain ⟨hf11, hw⟩ := hw
    obtain ⟨hf12, hw⟩ := hw
    refine g_fastO (o := o0) ok hf11 hf12 dX0_written_68 (fun C13 eC13 => ?_)
    have hw := hw C13 eC13
    refine g_iconst (v := 1) ok dX0_written_69 (by decide) ?_
    exact g_iret ok dX0_written_70 ⟨_, rfl, hw⟩
set_option maxHeartbeats 4000000 in
set_option maxRecDepth 100000 in
theorem gw_X0_written {w : WD} (wk : wOk w) (l : Launch) (C : CS) (a0 : (Option Nat)) (a1 : Int32) (a2 : Int32) {Post : Int32 → CS → Prop} (hw : wp_X0_written Post C a0 a1 a2) : MC w l yX0_written cX0_written 3 (some .int) 2 0 0 [va_rf a0, .int a1, .int a2] C (fun v C1 => ∃ r : Int32, v = some (.int r) ∧ Post r C1) := by
  unfold wp_X0_written at hw
  refine MC.of wk (by decide) (by cases a0 <;> exact Nat.le_of_ble_eq_true rfl) (fun x hx ok => ?_)
  subst hx
  rw [show lv_args 0 [va_rf a0, .int a1, .int a2] = [(0, va_rf a0), (1, .int a1), (2, .int a2)] from by cases a0 <;> rfl]
  show G w x 3 0 0 (QM w x _ 0 0) C 0 [(0, va_rf a0), (1, .int a1), (2, .int a2)] []
  refine g_oload_n ok 0 dX0_written_0 rfl ?_
  obtain ⟨hf1, hw⟩ := hw
  refine g_inst (o := a0) ok hf1 (t := 104) (by decide) q806 dX0_written_1 ?_
  refine g_nmI (fun r2 er2 => ?_)
  have hw := hw r2 er2
  refine g_if_eq (tgt := 26) ok dX0_written_4 (by decide) (fun c3 => ?_) (fun c3 => ?_)
  · have hw := hw.1 c3
    refine g_iload_n ok 2 dX0_written_26 rfl ?_
    refine g_ldc (v := -1000000005) ok q740 dX0_written_27 ?_
    refine g_icmp_eq (tgt := 49) ok dX0_written_29 (by decide) (fun c4 => ?_) (fun c4 => ?_)
    · have hw := hw.1 c4
      exact gw_X0_written_j49 ok C a0 a1 a2 hw
    · have hw := hw.2 c4
      refine g_iload_n ok 2 dX0_written_32 rfl ?_
      refine g_i2l ok dX0_written_33 ?_
      refine g_ldc2 (v := -99999) ok q1232 dX0_written_34 ?_
      refine g_ldc2 (v := 99999) ok q1233 dX0_written_37 ?_
      refine g_callS ok [.long (Int32.toInt64 a2), .long (-99999), .long 99999] cf_X0_isIn q269 (mc_X0_isIn ok.wo (xL x) C (Int32.toInt64 a2) (-99999) 99999) rfl rfl (Nat.le_of_ble_eq_true rfl) ⟨by decide, by decide⟩ ⟨by decide, by decide⟩ dX0_written_40 (resI ?_)
      refine g_nmI (fun r14 er14 => ?_)
      have hw := hw r14 er14
      refine g_if_ne (tgt := 49) ok dX0_written_43 (by decide) (fun c15 => ?_) (fun c15 => ?_)
      · have hw := hw.2 c15
        exact gw_X0_written_j49 ok C a0 a1 a2 hw
      · have hw := hw.1 c15
        refine g_ldc (v := -1000000001) ok q274 dX0_written_46 ?_
        exact g_iret ok dX0_written_48 ⟨_, rfl, hw⟩
  · have hw := hw.2 c3
    refine g_iload_n ok 2 dX0_written_7 rfl ?_
    refine g_ldc (v := -1000000005) ok q740 dX0_written_8 ?_
    refine g_icmp_ne (tgt := 16) ok dX0_written_10 (by decide) (fun c16 => ?_) (fun c16 => ?_)
    · have hw := hw.2 c16
      refine g_oload_n ok 0 dX0_written_16 rfl ?_
      obtain ⟨hc17, hw⟩ := hw
      refine g_castO (o := a0) ok hf1 (t := 104) (by decide) q806 dX0_written_17 hc17 ?_
      refine g_iload_n ok 1 dX0_written_20 rfl ?_
      refine g_iload_n ok 2 dX0_written_21 rfl ?_
      refine g_i2s ok dX0_written_22 ?_
      obtain ⟨hf18, hw⟩ := hw
      obtain ⟨hf19, hw⟩ := hw
      refine g_sastO (o := a0) ok hf18 hf19 (narrS _) dX0_written_23 (fun C20 eC20 => ?_)
      have hw := hw C20 eC20
      refine g_iconst (v := 1) ok dX0_written_24 (by decide) ?_
      exact g_iret ok dX0_written_25 ⟨_, rfl, hw⟩
    · have hw := hw.1 c16
      refine g_ldc (v := -1000000012) ok q561 dX0_written_13 ?_
      exact g_iret ok dX0_written_15 ⟨_, rfl, hw⟩
theorem sp_X0_written (C : CS) (a0 : Option Nat) (a1 a2 : Int32) (hp : p_X0_written C a0 a1 a2) : wp_X0_written (fun x C1 => x = v_X0_written C a0 a1 a2 ∧ C1 = n_X0_written C a0 a1 a2) C a0 a1 a2 := by
  obtain ⟨h1, h2⟩ := hp
  unfold v_X0_written n_X0_written
  refine ⟨h1.th, fun r e => ⟨fun c => ?_, fun c => ?_⟩⟩
  · rw [e, isO0, sub_S] at c
    have h5 := h1.resolve_left c
    have hs := (sub_F _).mpr h5
    simp only [if_neg c]
    refine ⟨fun d => ⟨h1.th, Or.inr hs, fun _ => ⟨h5, h2, fun C1 e1 => ?_⟩, fun z => absurd d z⟩, fun d r2 e2 => ⟨fun z => ?_, fun z => ⟨h1.th, Or.inr hs, fun y => absurd y d, fun _ => ⟨h5, h2, fun C1 e1 => ?_⟩⟩⟩⟩
    · rw [if_pos d, if_pos d]; exact ⟨rfl, e1⟩
    · rw [if_neg d, if_neg d]; rw [e2] at z; rw [if_pos z, if_pos z]; exact ⟨rfl, rfl⟩
    · rw [if_neg d, if_neg d]; rw [e2] at z; rw [if_neg z, if_neg z]; exact ⟨rfl, e1⟩
  · rw [e, isO0] at c
    have h4 : tgO C a0 = 104 := (sub_S _).mp (Classical.byContradiction c)
    simp only [if_pos h4]
    refine ⟨fun d => ?_, fun d => ⟨Or.inr ((sub_S _).mpr h4), h4, h2, fun C1 e1 => ?_⟩⟩
    · rw [if_pos d, if_pos d]; exact ⟨rfl, rfl⟩
    · rw [if_neg d, if_neg d]; exact ⟨rfl, e1⟩
theorem mc_X0_written {w : WD} (wk : wOk w) (l : Launch) (C : CS) (a0 : (Option Nat)) (a1 : Int32) (a2 : Int32) (hp : p_X0_written C a0 a1 a2) : MC w l yX0_written cX0_written 3 (some .int) 2 0 0 [va_rf a0, .int a1, .int a2] C (pI (v_X0_written C a0 a1 a2) (n_X0_written C a0 a1 a2)) := MC.postI (gw_X0_written wk l C a0 a1 a2 (sp_X0_written C a0 a1 a2 hp))
theorem cf_X0_thingOf : CfS yX0_thingOf cX0_thingOf 1 (some .int) 1 := ⟨⟨by decide, by decide, by decide⟩, q72, q1273, q1272⟩
def p_X0_thingOf (C : CS) (a0 : Option Nat) : Prop := thO C a0
def v_X0_thingOf (C : CS) (a0 : Option Nat) : Int32 := if a0 = none then 0 else if 4 ≤ tgO C a0 ∧ tgO C a0 ≤ 9 then 1 else if tgO C a0 = 15 then 3 else 2
def wp_X0_thingOf (Post : Int32 → CS → Prop) (C : CS) (a0 : (Option Nat)) : Prop :=
  (a0 = none → 
    Post 0 C) ∧
    (¬ a0 = none → 
    thO C a0 ∧
      (∀ r3 : Int32, r3 = (isO C a0 4) → 
      (r3 = 0 → 
      ∀ r5 : Int32, r5 = (isO C a0 15) → 
        (r5 = 0 → 
        Post 2 C) ∧
        (¬ r5 = 0 → 
        Post 3 C)) ∧
      (¬ r3 = 0 → 
      Post 1 C)))
set_option maxHeartbeats 4000000 in
set_option maxRecDepth 100000 in
theorem gw_X0_thingOf {w : WD} (wk : wOk w) (l : Launch) (C : CS) (a0 : (Option Nat)) {Post : Int32 → CS → Prop} (hw : wp_X0_thingOf Post C a0) : MC w l yX0_thingOf cX0_thingOf 1 (some .int) 1 0 0 [va_rf a0] C (fun v C1 => ∃ r : Int32, v = some (.int r) ∧ Post r C1) := by
  unfold wp_X0_thingOf at hw
  refine MC.of wk (by decide) (by cases a0 <;> exact Nat.le_of_ble_eq_true rfl) (fun x hx ok => ?_)
  subst hx
  rw [show lv_args 0 [va_rf a0] = [(0, va_rf a0)] from by cases a0 <;> rfl]
  show G w x 1 0 0 (QM w x _ 0 0) C 0 [(0, va_rf a0)] []
  refine g_oload_n ok 0 dX0_thingOf_0 rfl ?_
  refine g_ifnonnull (tgt := 8) ok dX0_thingOf_1 (by decide) (fun c1 => ?_) (fun c1 => ?_)
  · have hw := hw.2 c1
    refine g_oload_n ok 0 dX0_thingOf_8 rfl ?_
    obtain ⟨hf2, hw⟩ := hw
    refine g_inst (o := a0) ok hf2 (t := 4) (by decide) q284 dX0_thingOf_9 ?_
    refine g_nmI (fun r3 er3 => ?_)
    have hw := hw r3 er3
    refine g_if_eq (tgt := 19) ok dX0_thingOf_12 (by decide) (fun c4 => ?_) (fun c4 => ?_)
    · have hw := hw.1 c4
      refine g_oload_n ok 0 dX0_thingOf_19 rfl ?_
      refine g_inst (o := a0) ok hf2 (t := 15) (by decide) q1260 dX0_thingOf_20 ?_
      refine g_nmI (fun r5 er5 => ?_)
      have hw := hw r5 er5
      refine g_if_eq (tgt := 30) ok dX0_thingOf_23 (by decide) (fun c6 => ?_) (fun c6 => ?_)
      · have hw := hw.1 c6
        refine g_iconst (v := 2) ok dX0_thingOf_30 (by decide) ?_
        exact g_iret ok dX0_thingOf_31 ⟨_, rfl, hw⟩
      · have hw := hw.2 c6
        refine g_iconst (v := 3) ok dX0_thingOf_26 (by decide) ?_
        refine g_goto (tgt := 31) ok dX0_thingOf_27 (by decide) ?_
        exact g_iret ok dX0_thingOf_31 ⟨_, rfl, hw⟩
    · have hw := hw.2 c4
      refine g_iconst (v := 1) ok dX0_thingOf_15 (by decide) ?_
      refine g_goto (tgt := 31) ok dX0_thingOf_16 (by decide) ?_
      exact g_iret ok dX0_thingOf_31 ⟨_, rfl, hw⟩
  · have hw := hw.1 c1
    refine g_iconst (v := 0) ok dX0_thingOf_4 (by decide) ?_
    refine g_goto (tgt := 31) ok dX0_thingOf_5 (by decide) ?_
    exact g_iret ok dX0_thingOf_31 ⟨_, rfl, hw⟩
theorem sp_X0_thingOf (C : CS) (a0 : Option Nat) (hp : p_X0_thingOf C a0) : wp_X0_thingOf (fun x C1 => x = v_X0_thingOf C a0 ∧ C1 = C) C a0 := by
  unfold v_X0_thingOf
  refine ⟨fun c => ⟨by rw [if_pos c], rfl⟩, fun c => ⟨hp, fun r e => ⟨fun z r2 e2 => ⟨fun z2 => ⟨?_, rfl⟩, fun z2 => ⟨?_, rfl⟩⟩, fun z => ⟨?_, rfl⟩⟩⟩⟩
  · rw [e, isO0, sub_G] at z
    rw [e2, isO0, sub_N] at z2
    rw [if_neg c, if_neg z, if_neg z2]
  · rw [e, isO0, sub_G] at z
    rw [e2, isO0, sub_N] at z2
    rw [if_neg c, if_neg z, if_pos (Classical.byContradiction z2)]
  · rw [e, isO0, sub_G] at z
    rw [if_neg c, if_pos (Classical.byContradiction z)]
theorem mc_X0_thingOf {w : WD} (wk : wOk w) (l : Launch) (C : CS) (a0 : (Option Nat)) (hp : p_X0_thingOf C a0) : MC w l yX0_thingOf cX0_thingOf 1 (some .int) 1 0 0 [va_rf a0] C (pI (v_X0_thingOf C a0) C) := MC.postI (gw_X0_thingOf wk l C a0 (sp_X0_thingOf C a0 hp))
