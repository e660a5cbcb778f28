/-! what sheets are: sheet, mark, copy -/
def shR (C : CS) (k : Nat) : Prop :=
  (cH C (27 + k) = none ∧ C.2.1 51 k = -1) ∨
  (rwC C (cH C (27 + k)) (fun i => C.2.1 53 (24 * k + i)) ∧ C.2.1 52 k = nI (lnO C (cH C (27 + k))) ∧ C.2.1 51 k = if tgO C (cH C (27 + k)) = 104 then 0 else 1)
def shO (C : CS) : Prop := ∀ k, k < 4 → shR C k
theorem shR.no {C : CS} {k : Nat} (h : shR C k) : cH C (27 + k) = none ↔ ¬ (0 : Int32) ≤ C.2.1 51 k := by
  rcases h with ⟨h1, h2⟩ | ⟨h1, h2, h3⟩
  · rw [h2]
    exact ⟨fun _ => by decide, fun _ => h1⟩
  · constructor
    · intro z
      have := h1.r
      rw [z] at this
      rcases this with q | q <;> exact absurd q (by decide : ¬ (0 : Nat) = _)
    · intro z
      rw [h3] at z
      split at z <;> exact absurd (by decide) z
theorem shR.yes {C : CS} {k : Nat} (h : shR C k) (hn : ¬ cH C (27 + k) = none) : rwC C (cH C (27 + k)) (fun i => C.2.1 53 (24 * k + i)) ∧ C.2.1 52 k = nI (lnO C (cH C (27 + k))) ∧ C.2.1 51 k = if tgO C (cH C (27 + k)) = 104 then 0 else 1 := by
  rcases h with ⟨h1, h2⟩ | h
  · exact absurd h1 hn
  · exact h
theorem isSh_eq (a : Int32) : v_X0_isSheet a = v_X3_isSheet a := by
  unfold v_X0_isSheet v_X3_isSheet
  exact isIn0 _ 3 3 rfl
theorem sh_k {a : Int32} (h : ¬ v_X3_isSheet a = 0) : ∃ k, k < 4 ∧ a = nI k := by
  obtain ⟨k, hk, e⟩ := in_nI (m := 3) (by decide) h
  exact ⟨k, by omega, e⟩
def p_X0_mark (C : CS) (a0 a1 a2 : Int32) : Prop := shO C
def v_X0_mark (C : CS) (a0 a1 a2 : Int32) : Int32 := v_X3_mark C a0 a1 a2
def n_X0_mark (C : CS) (a0 a1 a2 : Int32) : CS := if v_X3_mark C a0 a1 a2 = 1 then n_X0_written C (cH C (27 + a0.toNatClampNeg)) a1 a2 else C
def wp_X0_mark (Post : Int32 → CS → Prop) (C : CS) (a0 : Int32) (a1 : Int32) (a2 : Int32) : Prop :=
  ∀ r1 : Int32, r1 = (v_X0_isSheet a0) → 
    (r1 = 0 → 
    Post (-1000000001) C) ∧
    (¬ r1 = 0 → 
    vp_in a0 4 ∧
      ((p_X0_lengthOf C (cH C (27 + Int32.toNatClampNeg a0)) ∧
        (∀ r6 : Int32, r6 = (v_X0_lengthOf C (cH C (27 + Int32.toNatClampNeg a0))) → 
        (p_X0_within C a1 1 r6 ∧
          (p_X0_written C (cH C (27 + Int32.toNatClampNeg a0)) a1 a2 ∧
          (∀ r10 : Int32, r10 = (v_X0_written C (cH C (27 + Int32.toNatClampNeg a0)) a1 a2) → 
          ∀ C11 : CS, C11 = (n_X0_written C (cH C (27 + Int32.toNatClampNeg a0)) a1 a2) → 
          Post r10 C11)))
        ∨ (pt_X0_withinI C a1 1 r6 ∧
          (Post (-1000000013) C))))
      ∨ (pt_X0_lengthOfN C (cH C (27 + Int32.toNatClampNeg a0)) ∧
        (Post (-1000000011) C))))
set_option maxHeartbeats 4000000 in
set_option maxRecDepth 100000 in
theorem gw_X0_mark {w : WD} (wk : wOk w) (l : Launch) (hl : l.stackTraces = false) (C : CS) (a0 : Int32) (a1 : Int32) (a2 : Int32) {Post : Int32 → CS → Prop} (hw : wp_X0_mark Post C a0 a1 a2) : MCW w l yX0_mark cX0_mark 5 (some .int) [(10, 38, 39, 460), (10, 38, 44, 437)] 262 3 2410 [.ref (ad w 0), .int a0, .int a1, .int a2] C (fun v C1 => ∃ r : Int32, v = some (.int r) ∧ Post r C1) := by
  unfold wp_X0_mark at hw
  refine MCW.of2 wk (by decide) (Nat.le_of_ble_eq_true rfl) (fun x hx ok ht ho => ?_)
  subst hx
  show G w x 5 0 0 (QM w x _ 3 2410) C 0 [(0, .ref (ad w 0)), (1, .int a0), (2, .int a1), (3, .int a2)] []
  refine g_iload_n ok 1 dX0_mark_0 rfl ?_
  refine g_callS ok [.int a0] cf_X0_isSheet q794 (mc_X0_isSheet ok.wo (xL x) C a0) rfl rfl (Nat.le_of_ble_eq_true rfl) ⟨by decide, by decide⟩ ⟨by decide, by decide⟩ dX0_mark_1 (resI ?_)
  refine g_nmI (fun r1 er1 => ?_)
  have hw := hw r1 er1
  refine g_if_ne (tgt := 10) ok dX0_mark_4 (by decide) (fun c2 => ?_) (fun c2 => ?_)
  · have hw := hw.2 c2
    refine g_aload_n ok 0 dX0_mark_10 rfl ?_
    refine g_get ok 0 rfl rfl in_X0 21 (by decide) q203 rfl dX0_mark_11 ?_
    refine g_iload_n ok 1 dX0_mark_14 rfl ?_
    obtain ⟨hf3, hw⟩ := hw
    refine g_hald12 ok hf3 dX0_mark_15 ?_
    refine g_get ok (27 + Int32.toNatClampNeg a0) (fObjH (by have := vp_lt hf3; omega) (by have := vp_lt hf3; omega)) rfl in_X2 0 (by decide) q175 rfl dX0_mark_16 ?_
    refine g_ostore ok [(4, va_rf (cH C (27 + Int32.toNatClampNeg a0))), (0, .ref (ad w 0)), (1, .int a0), (2, .int a1), (3, .int a2)] dX0_mark_19 (by decide) rfl ?_
    refine g_iload_n ok 3 dX0_mark_21 rfl ?_
    refine g_iconst (v := 1) ok dX0_mark_22 (by decide) ?_
    refine g_oload ok 0 dX0_mark_23 rfl ?_
    rcases hw with hw | ⟨hx, hw⟩
    · obtain ⟨hp5, hw⟩ := hw
      refine g_callS ok [va_rf (cH C (27 + Int32.toNatClampNeg a0))] cf_X0_lengthOf q803 (mc_X0_lengthOf ok.wo (xL x) C (cH C (27 + Int32.toNatClampNeg a0)) hp5) rfl rfl (Nat.le_of_ble_eq_true rfl) ⟨by decide, by decide⟩ ⟨by decide, by decide⟩ dX0_mark_25 (resI ?_)
      refine g_nmI (fun r6 er6 => ?_)
      have hw := hw r6 er6
      rcases hw with hw | ⟨hx, hw⟩
      · obtain ⟨hp8, hw⟩ := hw
        refine g_callS ok [.int a1, .int 1, .int r6] cf_X0_within q1212 (mc_X0_within ok.wo (xL x) C a1 1 r6 hp8) rfl rfl (Nat.le_of_ble_eq_true rfl) ⟨by decide, by decide⟩ ⟨by decide, by decide⟩ dX0_mark_28 (resV ?_)
        refine g_oload ok 0 dX0_mark_31 rfl ?_
        refine g_iload_n ok 3 dX0_mark_33 rfl ?_
        refine g_iload_n ok 4 dX0_mark_34 rfl ?_
        obtain ⟨hp9, hw⟩ := hw
        refine g_callS ok [va_rf (cH C (27 + Int32.toNatClampNeg a0)), .int a1, .int a2] cf_X0_written q1229 (mc_X0_written ok.wo (xL x) C (cH C (27 + Int32.toNatClampNeg a0)) a1 a2 hp9) rfl rfl (Nat.le_of_ble_eq_true rfl) ⟨by decide, by decide⟩ ⟨by decide, by decide⟩ dX0_mark_35 (resI ?_)
        refine g_nmI (fun r10 er10 => ?_)
        have hw := hw r10 er10
        refine g_nmC (fun C11 eC11 => ?_)
        have hw := hw C11 eC11
        refine g_widen 3 2410 (by omega) (by omega) ?_
        exact g_iret ok dX0_mark_38 ⟨_, rfl, hw⟩
      · refine g_callTx ok [.int a1, .int 1, .int r6] cf_X0_within q1212 (mt_X0_withinI ok.wo (xL x) hl C a1 1 r6 hx) rfl rfl (Nat.le_of_ble_eq_true rfl) ⟨by decide, by decide⟩ ⟨by show 0 + 1 ≤ 3; omega, by show 0 + 6 ≤ 2410; omega⟩ dX0_mark_28 (fun e => ?_)
        refine gt_catch ok ht (fun _ _ h => h) (Srch.miss (by decide) (by decide) q1168 (nc_IOE_NPE ok.wo) (Srch.hit (by decide) (by decide) q1193 q1216)) ?_
        refine g_astore ok [(4, .ref e), (0, .ref (ad w 0)), (1, .int a0), (2, .int a1), (3, .int a2)] dX0_mark_44 (by decide) rfl ?_
        refine g_ldc_w (v := -1000000013) ok q1235 dX0_mark_46 ?_
        refine g_widen 3 2410 (by omega) (by omega) ?_
        exact g_iret ok dX0_mark_49 ⟨_, rfl, hw⟩
    · refine g_callTx ok [va_rf (cH C (27 + Int32.toNatClampNeg a0))] cf_X0_lengthOf q803 (mt_X0_lengthOfN ok.wo (xL x) hl C (cH C (27 + Int32.toNatClampNeg a0)) hx) rfl rfl (Nat.le_of_ble_eq_true rfl) ⟨by decide, by decide⟩ ⟨by show 0 + 1 ≤ 3; omega, by show 0 + 8 ≤ 2410; omega⟩ dX0_mark_25 (fun e => ?_)
      refine gt_catch ok ht (fun _ _ h => h) (Srch.hit (by decide) (by decide) q1168 q1190) ?_
      refine g_astore ok [(4, .ref e), (0, .ref (ad w 0)), (1, .int a0), (2, .int a1), (3, .int a2)] dX0_mark_39 (by decide) rfl ?_
      refine g_ldc (v := -1000000011) ok q798 dX0_mark_41 ?_
      refine g_widen 3 2410 (by omega) (by omega) ?_
      exact g_iret ok dX0_mark_43 ⟨_, rfl, hw⟩
  · have hw := hw.1 c2
    refine g_ldc (v := -1000000001) ok q274 dX0_mark_7 ?_
    refine g_widen 3 2410 (by omega) (by omega) ?_
    exact g_iret ok dX0_mark_9 ⟨_, rfl, hw⟩
theorem mark_wr {C : CS} {k : Nat} {p v : Int32} (h1 : C.2.1 51 k = if tgO C (cH C (27 + k)) = 104 then 0 else 1) (hk : k < 4) (hp : ¬ v_X3_in p 0 (C.2.1 52 k - 1) = 0) : v_X3_mark C (nI k) p v = v_X0_written C (cH C (27 + k)) p v ∧ (¬ v_X3_mark C (nI k) p v = 1 → n_X0_written C (cH C (27 + k)) p v = C) := by
  have hs : ¬ v_X3_isSheet (nI k) = 0 := by
    unfold v_X3_isSheet
    rw [in_iff]
    exact ⟨(nI_leI (a := 0) (by omega) (by omega)).mpr (by omega), (nI_leI (a := k) (b := 3) (by omega) (by omega)).mpr (by omega)⟩
  unfold v_X3_mark v_X0_written n_X0_written
  rw [cl_k (by omega), if_neg hs, if_neg hp]
  by_cases t : tgO C (cH C (27 + k)) = 104
  · rw [if_pos t] at h1
    simp only [h1, if_pos t]
    by_cases hv : v = -1000000005
    · simp [hv]
    · simp [hv]
  · rw [if_neg t] at h1
    simp only [h1, if_neg t]
    by_cases hv : v = -1000000005
    · simp [hv]
    · have e : v_X0_isIn (Int32.toInt64 v) (-99999) 99999 = v_X3_in v (-99999) 99999 := isIn_eq rfl rfl
      rw [e]
      by_cases hi : v_X3_in v (-99999) 99999 = 0
      · simp [hv, hi]
      · simp [hv, hi]
theorem sp_X0_mark (C : CS) (a0 a1 a2 : Int32) (hp : p_X0_mark C a0 a1 a2) : wp_X0_mark (fun x C1 => x = v_X0_mark C a0 a1 a2 ∧ C1 = n_X0_mark C a0 a1 a2) C a0 a1 a2 := by
  have hp : shO C := hp
  unfold v_X0_mark n_X0_mark
  refine fun r1 e1 => ⟨fun c => ?_, fun c => ?_⟩
  all_goals rw [e1, isSh_eq] at c
  · have e : v_X3_mark C a0 a1 a2 = -1000000001 := by unfold v_X3_mark; rw [if_pos c]
    rw [e]
    exact ⟨rfl, by rw [if_neg (by decide)]⟩
  obtain ⟨k, hk, rfl⟩ := sh_k c
  rw [cl_k (by omega)]
  have hs := hp k hk
  refine ⟨vp_k hk, ?_⟩
  by_cases hn : cH C (27 + k) = none
  · have h0 := hs.no.mp hn
    have e : v_X3_mark C (nI k) a1 a2 = -1000000011 := by unfold v_X3_mark; rw [if_neg c, cl_k (by omega), if_neg h0]
    rw [e]
    exact Or.inr ⟨hn, rfl, by rw [if_neg (by decide)]⟩
  · have h0 : (0 : Int32) ≤ C.2.1 51 k := Classical.byContradiction fun z => hn (hs.no.mpr z)
    obtain ⟨h1, h2, h3⟩ := hs.yes hn
    refine Or.inl ⟨h1.r, fun r6 e6 => ?_⟩
    have e6 : r6 = nI (lnO C (cH C (27 + k))) := e6
    rw [e6]
    have hw := within1 (p := a1) h1.1
    by_cases hc : v_X3_in a1 0 (nI (lnO C (cH C (27 + k))) - 1) = 0
    · have e : v_X3_mark C (nI k) a1 a2 = -1000000013 := by unfold v_X3_mark; rw [if_neg c, cl_k (by omega), if_pos h0, h2, if_pos hc]
      rw [e]
      exact Or.inr ⟨fun z => hw.mp z hc, rfl, by rw [if_neg (by decide)]⟩
    · obtain ⟨m1, m2⟩ := mark_wr (v := a2) h3 hk (by rw [h2]; exact hc)
      obtain ⟨i, hi, rfl⟩ := in_ln h1.1 hc
      have := h1.1
      refine Or.inl ⟨hw.mpr hc, ⟨h1.r, vp_k hi (by omega)⟩, fun r e C1 e2 => ⟨by rw [e, m1], ?_⟩⟩
      rw [e2]
      by_cases hm : v_X3_mark C (nI k) (nI i) a2 = 1
      · rw [if_pos hm]
      · rw [if_neg hm]; exact m2 hm
theorem mc_X0_mark {w : WD} (wk : wOk w) (l : Launch) (hl : l.stackTraces = false) (C : CS) (a0 : Int32) (a1 : Int32) (a2 : Int32) (hp : p_X0_mark C a0 a1 a2) : MCW w l yX0_mark cX0_mark 5 (some .int) [(10, 38, 39, 460), (10, 38, 44, 437)] 262 3 2410 [.ref (ad w 0), .int a0, .int a1, .int a2] C (pI (v_X0_mark C a0 a1 a2) (n_X0_mark C a0 a1 a2)) := MCW.postI (gw_X0_mark wk l hl C a0 a1 a2 (sp_X0_mark C a0 a1 a2 hp))
def p_X0_sheet (C : CS) (a0 a1 a2 : Int32) : Prop := True
def v_X0_sheet (C : CS) (a0 a1 a2 : Int32) : Int32 := v_X3_sheet C a0 a1 a2
/-- which sheet is laid anew -/
def shG (a0 a1 a2 : Int32) : Prop := ¬ v_X3_isSheet a0 = 0 ∧ ¬ v_X3_in a1 (-1) 1 = 0 ∧ ¬ a1 < 0 ∧ a2 ≤ 24 ∧ 0 ≤ a2
def q_X0_sheet (C : CS) (a0 a1 a2 : Int32) (C1 : CS) : Prop :=
  (shG a0 a1 a2 → ∃ d n, cT C d = none ∧ a2 = nI n ∧ n ≤ 24 ∧ C1 = wH (if a1 = 0 then nwS C d n else nwF C d n) (27 + a0.toNatClampNeg) (some d)) ∧
  (¬ v_X3_isSheet a0 = 0 ∧ ¬ v_X3_in a1 (-1) 1 = 0 ∧ a1 < 0 → C1 = wH C (27 + a0.toNatClampNeg) none) ∧
  (¬ shG a0 a1 a2 → ¬ (¬ v_X3_isSheet a0 = 0 ∧ ¬ v_X3_in a1 (-1) 1 = 0 ∧ a1 < 0) → C1 = C)
def wp_X0_sheet_j32 (Post : Int32 → CS → Prop) (C : CS) (i1 : Int32) (i2 : Int32) (i3 : Int32) : Prop := (0 ≤ i2 → 
  (i2 = 0 → 
    vp_in i1 4 ∧
      ((∃ n15 : Nat, (i3 = nI n15 ∧ n15 ≤ 24) ∧
        (∀ d17 : Nat, 
        cT C d17 = none → 
        ∀ C18 : CS, C18 = (nwS C d17 n15) → 
        ∀ C19 : CS, C19 = (wH C18 (27 + Int32.toNatClampNeg i1) (some d17)) → 
        Post i3 C19))
      ∨ (i3 < 0 ∧
        (Post (-1000000014) C)))) ∧
    (¬ i2 = 0 → 
    vp_in i1 4 ∧
      ((∃ n9 : Nat, (i3 = nI n9 ∧ n9 ≤ 24) ∧
        (∀ d11 : Nat, 
        cT C d11 = none → 
        ∀ C12 : CS, C12 = (nwF C d11 n9) → 
        ∀ C13 : CS, C13 = (wH C12 (27 + Int32.toNatClampNeg i1) (some d11)) → 
        Post i3 C13))
      ∨ (i3 < 0 ∧
        (Post (-1000000014) C))))) ∧
  (¬ 0 ≤ i2 → 
  vp_in i1 4 ∧
    (∀ C21 : CS, C21 = (wH C (27 + Int32.toNatClampNeg i1) none) → 
    Post 0 C21))
def wp_X0_sheet (Post : Int32 → CS → Prop) (C : CS) (a0 : Int32) (a1 : Int32) (a2 : Int32) : Prop :=
  ∀ r1 : Int32, r1 = (v_X0_isSheet a0) → 
    (r1 = 0 → 
    Post (-1000000001) C) ∧
    (¬ r1 = 0 → 
    ∀ r3 : Int32, r3 = (v_X0_isIn (Int32.toInt64 a1) (-1) 1) → 
      (r3 = 0 → 
      Post (-1000000001) C) ∧
      (¬ r3 = 0 → 
      (a1 < 0 → 
        wp_X0_sheet_j32 Post C a0 a1 a2) ∧
        (¬ a1 < 0 → 
        (a2 ≤ 24 → 
          wp_X0_sheet_j32 Post C a0 a1 a2) ∧
          (¬ a2 ≤ 24 → 
          Post (-1000000001) C))))
set_option maxHeartbeats 4000000 in
set_option maxRecDepth 100000 in
theorem gw_X0_sheet_j32 {w : WD} {x : Cx} (ok : Ok w x cX0_sheet 5 yX0_sheet.cls (some .int) (rmL 262 3 2410)) (hl : (xL x).stackTraces = false) (ho : Old w x) (ht : hTab (xC x) = [(48, 80, 81, 442)]) {Post : Int32 → CS → Prop} : ∀ (C : CS) (i1 : Int32) (i2 : Int32) (i3 : Int32), wp_X0_sheet_j32 Post  C i1 i2 i3 → G w x 5 0 0 (QM w x (fun v C1 => ∃ r : Int32, v = some (.int r) ∧ Post r C1) 3 2410) C 32 [(0, .ref (ad w 0)), (1, .int i1), (2, .int i2), (3, .int i3)] [] := by
  intro C i1 i2 i3 hw
  unfold wp_X0_sheet_j32 at hw
  refine g_iload_n ok 2 dX0_sheet_32 rfl ?_
  refine g_if_ge (tgt := 48) ok dX0_sheet_33 (by decide) (fun c6 => ?_) (fun c6 => ?_)
  · have hw := hw.1 c6
    refine g_iload_n ok 2 dX0_sheet_48 rfl ?_
    refine g_if_ne (tgt := 67) ok dX0_sheet_49 (by decide) (fun c7 => ?_) (fun c7 => ?_)
    · have hw := hw.2 c7
      refine g_aload_n ok 0 dX0_sheet_67 rfl ?_
      refine g_get ok 0 rfl rfl in_X0 21 (by decide) q203 rfl dX0_sheet_68 ?_
      refine g_iload_n ok 1 dX0_sheet_71 rfl ?_
      obtain ⟨hf8, hw⟩ := hw
      refine g_hald12 ok hf8 dX0_sheet_72 ?_
      refine g_iload_n ok 3 dX0_sheet_73 rfl ?_
      rcases hw with ⟨n9, hc10, hw⟩ | ⟨hc10, hw⟩
      · refine g_newF24 ok hc10 ⟨by show 0 + 1 ≤ 3; omega, by show 0 + 24 ≤ 2410; omega⟩ dX0_sheet_74 (fun d11 hd11 => ?_)
        refine g_nmC (fun C12 eC12 => ?_)
        have hw := hw d11 hd11 C12 eC12
        refine g_putH (o := (some d11)) ok (by have := vp_lt hf8; omega) (by have := vp_lt hf8; omega) q175 dX0_sheet_76 (fun C13 eC13 => ?_)
        have hw := hw C13 eC13
        refine g_iload_n ok 3 dX0_sheet_79 rfl ?_
        refine g_widen 3 2410 (by omega) (by omega) ?_
        exact g_iret ok dX0_sheet_80 ⟨_, rfl, hw⟩
      · refine g_newNeg ok ho hl hc10 ⟨by show 0 + 3 ≤ 3; omega, by show 0 + 54 ≤ 2410; omega⟩ ⟨by decide, by decide⟩ (Nat.le_of_ble_eq_true rfl) dX0_sheet_74 (fun e => ?_)
        refine gt_catch ok ht (fun _ _ h => h) (Srch.hit (by decide) (by decide) q1146 q1158) ?_
        refine g_astore ok [(4, .ref e), (0, .ref (ad w 0)), (1, .int i1), (2, .int i2), (3, .int i3)] dX0_sheet_81 (by decide) rfl ?_
        refine g_ldc_w (v := -1000000014) ok q1161 dX0_sheet_83 ?_
        refine g_widen 3 2410 (by omega) (by omega) ?_
        exact g_iret ok dX0_sheet_86 ⟨_, rfl, hw⟩
    · have hw := hw.1 c7
      refine g_aload_n ok 0 dX0_sheet_52 rfl ?_
      refine g_get ok 0 rfl rfl in_X0 21 (by decide) q203 rfl dX0_sheet_53 ?_
      refine g_iload_n ok 1 dX0_sheet_56 rfl ?_
      obtain ⟨hf14, hw⟩ := hw
      refine g_hald12 ok hf14 dX0_sheet_57 ?_
      refine g_iload_n ok 3 dX0_sheet_58 rfl ?_
      rcases hw with ⟨n15, hc16, hw⟩ | ⟨hc16, hw⟩
      · refine g_newS24 ok hc16 ⟨by show 0 + 1 ≤ 3; omega, by show 0 + 24 ≤ 2410; omega⟩ dX0_sheet_59 (fun d17 hd17 => ?_)
        refine g_nmC (fun C18 eC18 => ?_)
        have hw := hw d17 hd17 C18 eC18
        refine g_putH (o := (some d17)) ok (by have := vp_lt hf14; omega) (by have := vp_lt hf14; omega) q175 dX0_sheet_61 (fun C19 eC19 => ?_)
        have hw := hw C19 eC19
        refine g_goto (tgt := 79) ok dX0_sheet_64 (by decide) ?_
        refine g_iload_n ok 3 dX0_sheet_79 rfl ?_
        refine g_widen 3 2410 (by omega) (by omega) ?_
        exact g_iret ok dX0_sheet_80 ⟨_, rfl, hw⟩
      · refine g_newNeg ok ho hl hc16 ⟨by show 0 + 3 ≤ 3; omega, by show 0 + 54 ≤ 2410; omega⟩ ⟨by decide, by decide⟩ (Nat.le_of_ble_eq_true rfl) dX0_sheet_59 (fun e => ?_)
        refine gt_catch ok ht (fun _ _ h => h) (Srch.hit (by decide) (by decide) q1146 q1158) ?_
        refine g_astore ok [(4, .ref e), (0, .ref (ad w 0)), (1, .int i1), (2, .int i2), (3, .int i3)] dX0_sheet_81 (by decide) rfl ?_
        refine g_ldc_w (v := -1000000014) ok q1161 dX0_sheet_83 ?_
        refine g_widen 3 2410 (by omega) (by omega) ?_
        exact g_iret ok dX0_sheet_86 ⟨_, rfl, hw⟩
  · have hw := hw.2 c6
    refine g_aload_n ok 0 dX0_sheet_36 rfl ?_
    refine g_get ok 0 rfl rfl in_X0 21 (by decide) q203 rfl dX0_sheet_37 ?_
    refine g_iload_n ok 1 dX0_sheet_40 rfl ?_
    obtain ⟨hf20, hw⟩ := hw
    refine g_hald12 ok hf20 dX0_sheet_41 ?_
    refine g_null ok dX0_sheet_42 ?_
    refine g_putH (o := none) ok (by have := vp_lt hf20; omega) (by have := vp_lt hf20; omega) q175 dX0_sheet_43 (fun C21 eC21 => ?_)
    have hw := hw C21 eC21
    refine g_iconst (v := 0) ok dX0_sheet_46 (by decide) ?_
    refine g_widen 3 2410 (by omega) (by omega) ?_
    exact g_iret ok dX0_sheet_47 ⟨_, rfl, hw⟩
set_option maxHeartbeats 4000000 in
set_option maxRecDepth 100000 in
theorem gw_X0_sheet {w : WD} (wk : wOk w) (l : Launch) (hl : l.stackTraces = false) (C : CS) (a0 : Int32) (a1 : Int32) (a2 : Int32) {Post : Int32 → CS → Prop} (hw : wp_X0_sheet Post C a0 a1 a2) : MCW w l yX0_sheet cX0_sheet 5 (some .int) [(48, 80, 81, 442)] 262 3 2410 [.ref (ad w 0), .int a0, .int a1, .int a2] C (fun v C1 => ∃ r : Int32, v = some (.int r) ∧ Post r C1) := by
  unfold wp_X0_sheet at hw
  refine MCW.of2 wk (by decide) (Nat.le_of_ble_eq_true rfl) (fun x hx ok ht ho => ?_)
  subst hx
  show G w x 5 0 0 (QM w x _ 3 2410) C 0 [(0, .ref (ad w 0)), (1, .int a0), (2, .int a1), (3, .int a2)] []
  refine g_iload_n ok 1 dX0_sheet_0 rfl ?_
  refine g_callS ok [.int a0] cf_X0_isSheet q794 (mc_X0_isSheet ok.wo (xL x) C a0) rfl rfl (Nat.le_of_ble_eq_true rfl) ⟨by decide, by decide⟩ ⟨by decide, by decide⟩ dX0_sheet_1 (resI ?_)
  refine g_nmI (fun r1 er1 => ?_)
  have hw := hw r1 er1
  refine g_if_eq (tgt := 29) ok dX0_sheet_4 (by decide) (fun c2 => ?_) (fun c2 => ?_)
  · have hw := hw.1 c2
    refine g_ldc (v := -1000000001) ok q274 dX0_sheet_29 ?_
    refine g_widen 3 2410 (by omega) (by omega) ?_
    exact g_iret ok dX0_sheet_31 ⟨_, rfl, hw⟩
  · have hw := hw.2 c2
    refine g_iload_n ok 2 dX0_sheet_7 rfl ?_
    refine g_i2l ok dX0_sheet_8 ?_
    refine g_ldc2 (v := -1) ok q1160 dX0_sheet_9 ?_
    refine g_lconst (v := 1) ok dX0_sheet_12 (by decide) ?_
    refine g_callS ok [.long (Int32.toInt64 a1), .long (-1), .long 1] cf_X0_isIn q269 (mc_X0_isIn ok.wo (xL x) C (Int32.toInt64 a1) (-1) 1) rfl rfl (Nat.le_of_ble_eq_true rfl) ⟨by decide, by decide⟩ ⟨by decide, by decide⟩ dX0_sheet_13 (resI ?_)
    refine g_nmI (fun r3 er3 => ?_)
    have hw := hw r3 er3
    refine g_if_eq (tgt := 29) ok dX0_sheet_16 (by decide) (fun c4 => ?_) (fun c4 => ?_)
    · have hw := hw.1 c4
      refine g_ldc (v := -1000000001) ok q274 dX0_sheet_29 ?_
      refine g_widen 3 2410 (by omega) (by omega) ?_
      exact g_iret ok dX0_sheet_31 ⟨_, rfl, hw⟩
    · have hw := hw.2 c4
      refine g_iload_n ok 2 dX0_sheet_19 rfl ?_
      refine g_if_lt (tgt := 32) ok dX0_sheet_20 (by decide) (fun c5 => ?_) (fun c5 => ?_)
      · have hw := hw.1 c5
        exact gw_X0_sheet_j32 ok hl ho ht C a0 a1 a2 hw
      · have hw := hw.2 c5
        refine g_iload_n ok 3 dX0_sheet_23 rfl ?_
        refine g_bipush (v := 24) ok dX0_sheet_24 (by decide) ?_
        refine g_icmp_le (tgt := 32) ok dX0_sheet_26 (by decide) (fun c22 => ?_) (fun c22 => ?_)
        · have hw := hw.1 c22
          exact gw_X0_sheet_j32 ok hl ho ht C a0 a1 a2 hw
        · have hw := hw.2 c22
          refine g_ldc (v := -1000000001) ok q274 dX0_sheet_29 ?_
          refine g_widen 3 2410 (by omega) (by omega) ?_
          exact g_iret ok dX0_sheet_31 ⟨_, rfl, hw⟩
theorem sp_X0_sheet (C : CS) (a0 a1 a2 : Int32) (hp : p_X0_sheet C a0 a1 a2) : wp_X0_sheet (fun x C1 => x = v_X0_sheet C a0 a1 a2 ∧ q_X0_sheet C a0 a1 a2 C1) C a0 a1 a2 := by
  unfold v_X0_sheet v_X3_sheet q_X0_sheet shG
  refine fun r1 e1 => ⟨fun c => ?_, fun c => ?_⟩
  all_goals rw [e1, isSh_eq] at c
  · rw [if_pos c]
    exact ⟨rfl, fun z => absurd c z.1, fun z => absurd c z.1, fun _ _ => rfl⟩
  rw [if_neg c]
  refine fun r3 e3 => ⟨fun c3 => ?_, fun c3 => ?_⟩
  all_goals rw [e3, isIn_eq (b := -1) (B := -1) (c := 1) (D := 1) rfl rfl] at c3
  · rw [if_pos c3]
    exact ⟨rfl, fun z => absurd c3 z.2.1, fun z => absurd c3 z.2.1, fun _ _ => rfl⟩
  rw [if_neg c3]
  have tl : ∀ Post : Int32 → CS → Prop, (a1 < 0 → ∀ C1, C1 = wH C (27 + a0.toNatClampNeg) none → Post 0 C1) → (¬ a1 < 0 → a2 < 0 → Post (-1000000014) C) → (¬ a1 < 0 → 0 ≤ a2 → ∀ d n, cT C d = none → a2 = nI n → n ≤ 24 → ∀ C1, C1 = wH (if a1 = 0 then nwS C d n else nwF C d n) (27 + a0.toNatClampNeg) (some d) → Post a2 C1) → (a1 < 0 ∨ a2 ≤ 24) → wp_X0_sheet_j32 Post C a0 a1 a2 := by
    intro Post p1 p2 p3 h24
    obtain ⟨k, hk, e⟩ := sh_k c
    have hin : vp_in a0 4 := by rw [e]; exact vp_k hk
    refine ⟨fun z => ?_, fun z => ⟨hin, fun C1 e1 => p1 (Int32.not_le.mp z) C1 e1⟩⟩
    have hz : ¬ a1 < 0 := Int32.not_lt.mpr z
    have h24 : a2 ≤ 24 := h24.resolve_left hz
    have alt : (∃ n : Nat, (a2 = nI n ∧ n ≤ 24) ∧ 0 ≤ a2) ∨ a2 < 0 := by
      by_cases hn : a2 < 0
      · exact Or.inr hn
      · obtain ⟨n, q1, q2⟩ := nI_of2 (M := 24) (n := 24) (by decide) hn h24
        exact Or.inl ⟨n, ⟨q2, q1⟩, Int32.not_lt.mp hn⟩
    refine ⟨fun y => ⟨hin, ?_⟩, fun y => ⟨hin, ?_⟩⟩
    · rcases alt with ⟨n, hn, hp⟩ | hn
      · exact Or.inl ⟨n, hn, fun d hd C1 e1 C2 e2 => p3 hz hp d n hd hn.1 hn.2 C2 (by rw [e2, e1, if_pos y])⟩
      · exact Or.inr ⟨hn, p2 hz hn⟩
    · rcases alt with ⟨n, hn, hp⟩ | hn
      · exact Or.inl ⟨n, hn, fun d hd C1 e1 C2 e2 => p3 hz hp d n hd hn.1 hn.2 C2 (by rw [e2, e1, if_neg y])⟩
      · exact Or.inr ⟨hn, p2 hz hn⟩
  refine ⟨fun c4 => tl _ (fun z C1 e => ⟨by rw [if_pos z], fun y => absurd z y.2.2.1, fun _ => e, fun _ y => absurd ⟨c, c3, z⟩ y⟩) (fun z => absurd c4 z) (fun z => absurd c4 z) (Or.inl c4), fun c4 => ⟨fun c5 => tl _ (fun z => absurd z c4) (fun _ z => ⟨?_, fun y => absurd y.2.2.2.2 (Int32.not_le.mpr z), fun y => absurd y.2.2 c4, fun _ _ => rfl⟩) (fun _ z d n hd h1 h2 C1 e => ⟨?_, fun _ => ⟨d, n, hd, h1, h2, e⟩, fun y => absurd y.2.2 c4, fun y => absurd ⟨c, c3, c4, c5, z⟩ y⟩) (Or.inr c5), fun c5 => ⟨?_, fun y => absurd y.2.2.2.1 c5, fun y => absurd y.2.2 c4, fun _ _ => rfl⟩⟩⟩
  · rw [if_neg c4, if_pos c5, if_neg (Int32.not_le.mpr z)]
  · rw [if_neg c4, if_pos c5, if_pos z]
  · rw [if_neg c4, if_neg c5]
theorem mc_X0_sheet {w : WD} (wk : wOk w) (l : Launch) (hl : l.stackTraces = false) (C : CS) (a0 : Int32) (a1 : Int32) (a2 : Int32) (hp : p_X0_sheet C a0 a1 a2) : MCW w l yX0_sheet cX0_sheet 5 (some .int) [(48, 80, 81, 442)] 262 3 2410 [.ref (ad w 0), .int a0, .int a1, .int a2] C (pIR (v_X0_sheet C a0 a1 a2) (q_X0_sheet C a0 a1 a2)) := MCW.postIR (gw_X0_sheet wk l hl C a0 a1 a2 (sp_X0_sheet C a0 a1 a2 hp))
theorem within_nat {p m : Int32} {n : Nat} (hn : n ≤ 24) (h : ¬ p < 0 ∧ ¬ m < 0 ∧ p ≤ nI n - m) : ∃ s c, p = nI s ∧ m = nI c ∧ s + c ≤ n := by
  obtain ⟨h1, h2, h3⟩ := h
  have a1 := Int32.le_iff_toInt_le.mp h3
  have a2 := Int32.le_iff_toInt_le.mp (Int32.not_lt.mp h1)
  have a3 := Int32.le_iff_toInt_le.mp (Int32.not_lt.mp h2)
  have b0 : (0 : Int32).toInt = 0 := by decide
  rw [b0] at a2 a3
  have bm := m.toInt_lt
  have bn : (nI n).toInt = n := nI_toInt (by omega)
  have e : (nI n - m).toInt = (n : Int) - m.toInt := by
    rw [Int32.toInt_sub, bn]
    refine Int.bmod_eq_of_le ?_ ?_ <;> omega
  rw [e] at a1
  refine ⟨p.toInt.toNat, m.toInt.toNat, ?_, ?_, by omega⟩
  · exact Int32.toInt_inj.mp (by rw [nI_toInt (by omega)]; omega)
  · exact Int32.toInt_inj.mp (by rw [nI_toInt (by omega)]; omega)
theorem isO_eq {C : CS} {o : Option Nat} : isO C o 104 = if tgO C o = 104 then 1 else 0 := by
  unfold isO
  by_cases h : tgO C o = 104
  · rw [if_pos ((sub_S _).mpr h), if_pos h]
  · rw [if_neg (fun z => h ((sub_S _).mp z)), if_neg h]
def p_X0_copy (C : CS) (a0 a1 a2 a3 a4 : Int32) : Prop := shO C
def v_X0_copy (C : CS) (a0 a1 a2 a3 a4 : Int32) : Int32 := v_X3_copy C a0 a1 a2 a3 a4
def q_X0_copy (C : CS) (a0 a1 a2 a3 a4 : Int32) (C1 : CS) : Prop :=
  (cpG C a0 a1 a2 a3 a4 → ∃ s d n, a1 = nI s ∧ a3 = nI d ∧ a4 = nI n ∧ pcy C (cH C (27 + a0.toNatClampNeg)) (cH C (27 + a2.toNatClampNeg)) s d n ∧ C1 = cyO C (cH C (27 + a0.toNatClampNeg)) (cH C (27 + a2.toNatClampNeg)) s d n) ∧ (¬ cpG C a0 a1 a2 a3 a4 → C1 = C)
def wp_X0_copy (Post : Int32 → CS → Prop) (C : CS) (a0 : Int32) (a1 : Int32) (a2 : Int32) (a3 : Int32) (a4 : Int32) : Prop :=
  ∀ r1 : Int32, r1 = (v_X0_isSheet a0) → 
    (r1 = 0 → 
    Post (-1000000001) C) ∧
    (¬ r1 = 0 → 
    ∀ r3 : Int32, r3 = (v_X0_isSheet a2) → 
      (r3 = 0 → 
      Post (-1000000001) C) ∧
      (¬ r3 = 0 → 
      vp_in a0 4 ∧
        (vp_in a2 4 ∧
        (((cH C (27 + Int32.toNatClampNeg a0)) = none → 
        Post (-1000000011) C) ∧
        (¬ (cH C (27 + Int32.toNatClampNeg a0)) = none → 
        ((cH C (27 + Int32.toNatClampNeg a2)) = none → 
          Post (-1000000011) C) ∧
          (¬ (cH C (27 + Int32.toNatClampNeg a2)) = none → 
          thO C (cH C (27 + Int32.toNatClampNeg a0)) ∧
            (∀ r10 : Int32, r10 = (isO C (cH C (27 + Int32.toNatClampNeg a0)) 104) → 
            thO C (cH C (27 + Int32.toNatClampNeg a2)) ∧
            (∀ r12 : Int32, r12 = (isO C (cH C (27 + Int32.toNatClampNeg a2)) 104) → 
            (r10 = r12 → 
            p_X0_lengthOf C (cH C (27 + Int32.toNatClampNeg a0)) ∧
              (∀ r15 : Int32, r15 = (v_X0_lengthOf C (cH C (27 + Int32.toNatClampNeg a0))) → 
              (p_X0_within C a1 a4 r15 ∧
                (p_X0_lengthOf C (cH C (27 + Int32.toNatClampNeg a2)) ∧
                (∀ r19 : Int32, r19 = (v_X0_lengthOf C (cH C (27 + Int32.toNatClampNeg a2))) → 
                (p_X0_within C a3 a4 r19 ∧
                  (∃ (g22 : Nat) (g23 : Nat) (g24 : Nat), (a1 = nI g22 ∧ a3 = nI g23 ∧ a4 = nI g24 ∧ pcy C (cH C (27 + Int32.toNatClampNeg a0)) (cH C (27 + Int32.toNatClampNeg a2)) g22 g23 g24) ∧
                  (∀ C26 : CS, C26 = (cyO C (cH C (27 + Int32.toNatClampNeg a0)) (cH C (27 + Int32.toNatClampNeg a2)) g22 g23 g24) → 
                  Post a4 C26)))
                ∨ (pt_X0_withinI C a3 a4 r19 ∧
                  (Post (-1000000013) C)))))
              ∨ (pt_X0_withinI C a1 a4 r15 ∧
                (Post (-1000000013) C)))) ∧
            (¬ r10 = r12 → 
            Post (-1000000012) C)))))))))
set_option maxHeartbeats 4000000 in
set_option maxRecDepth 100000 in
theorem gw_X0_copy {w : WD} (wk : wOk w) (l : Launch) (hl : l.stackTraces = false) (C : CS) (a0 : Int32) (a1 : Int32) (a2 : Int32) (a3 : Int32) (a4 : Int32) {Post : Int32 → CS → Prop} (hw : wp_X0_copy Post C a0 a1 a2 a3 a4) : MCW w l yX0_copy cX0_copy 9 (some .int) [(68, 105, 106, 437)] 262 3 2410 [.ref (ad w 0), .int a0, .int a1, .int a2, .int a3, .int a4] C (fun v C1 => ∃ r : Int32, v = some (.int r) ∧ Post r C1) := by
  unfold wp_X0_copy at hw
  refine MCW.of2 wk (by decide) (Nat.le_of_ble_eq_true rfl) (fun x hx ok ht ho => ?_)
  subst hx
  show G w x 9 0 0 (QM w x _ 3 2410) C 0 [(0, .ref (ad w 0)), (1, .int a0), (2, .int a1), (3, .int a2), (4, .int a3), (5, .int a4)] []
  refine g_iload_n ok 1 dX0_copy_0 rfl ?_
  refine g_callS ok [.int a0] cf_X0_isSheet q794 (mc_X0_isSheet ok.wo (xL x) C a0) rfl rfl (Nat.le_of_ble_eq_true rfl) ⟨by decide, by decide⟩ ⟨by decide, by decide⟩ dX0_copy_1 (resI ?_)
  refine g_nmI (fun r1 er1 => ?_)
  have hw := hw r1 er1
  refine g_if_eq (tgt := 14) ok dX0_copy_4 (by decide) (fun c2 => ?_) (fun c2 => ?_)
  · have hw := hw.1 c2
    refine g_ldc (v := -1000000001) ok q274 dX0_copy_14 ?_
    refine g_widen 3 2410 (by omega) (by omega) ?_
    exact g_iret ok dX0_copy_16 ⟨_, rfl, hw⟩
  · have hw := hw.2 c2
    refine g_iload_n ok 3 dX0_copy_7 rfl ?_
    refine g_callS ok [.int a2] cf_X0_isSheet q794 (mc_X0_isSheet ok.wo (xL x) C a2) rfl rfl (Nat.le_of_ble_eq_true rfl) ⟨by decide, by decide⟩ ⟨by decide, by decide⟩ dX0_copy_8 (resI ?_)
    refine g_nmI (fun r3 er3 => ?_)
    have hw := hw r3 er3
    refine g_if_ne (tgt := 17) ok dX0_copy_11 (by decide) (fun c4 => ?_) (fun c4 => ?_)
    · have hw := hw.2 c4
      refine g_aload_n ok 0 dX0_copy_17 rfl ?_
      refine g_get ok 0 rfl rfl in_X0 21 (by decide) q203 rfl dX0_copy_18 ?_
      refine g_iload_n ok 1 dX0_copy_21 rfl ?_
      obtain ⟨hf5, hw⟩ := hw
      refine g_hald12 ok hf5 dX0_copy_22 ?_
      refine g_get ok (27 + Int32.toNatClampNeg a0) (fObjH (by have := vp_lt hf5; omega) (by have := vp_lt hf5; omega)) rfl in_X2 0 (by decide) q175 rfl dX0_copy_23 ?_
      refine g_ostore ok [(6, va_rf (cH C (27 + Int32.toNatClampNeg a0))), (0, .ref (ad w 0)), (1, .int a0), (2, .int a1), (3, .int a2), (4, .int a3), (5, .int a4)] dX0_copy_26 (by decide) rfl ?_
      refine g_aload_n ok 1 dX0_copy_28 rfl ?_
      refine g_get ok 0 rfl rfl in_X0 21 (by decide) q203 rfl dX0_copy_29 ?_
      refine g_iload_n ok 4 dX0_copy_32 rfl ?_
      obtain ⟨hf6, hw⟩ := hw
      refine g_hald12 ok hf6 dX0_copy_33 ?_
      refine g_get ok (27 + Int32.toNatClampNeg a2) (fObjH (by have := vp_lt hf6; omega) (by have := vp_lt hf6; omega)) rfl in_X2 0 (by decide) q175 rfl dX0_copy_34 ?_
      refine g_ostore ok [(7, va_rf (cH C (27 + Int32.toNatClampNeg a2))), (6, va_rf (cH C (27 + Int32.toNatClampNeg a0))), (0, .ref (ad w 0)), (1, .int a0), (2, .int a1), (3, .int a2), (4, .int a3), (5, .int a4)] dX0_copy_37 (by decide) (by generalize (cH C (27 + Int32.toNatClampNeg a0)) = o9; cases o9 <;> rfl) ?_
      refine g_oload ok 1 dX0_copy_39 rfl ?_
      refine g_ifnull (tgt := 49) ok dX0_copy_41 (by decide) (fun c7 => ?_) (fun c7 => ?_)
      · have hw := hw.1 c7
        refine g_ldc (v := -1000000011) ok q798 dX0_copy_49 ?_
        refine g_widen 3 2410 (by omega) (by omega) ?_
        exact g_iret ok dX0_copy_51 ⟨_, rfl, hw⟩
      · have hw := hw.2 c7
        refine g_oload ok 0 dX0_copy_44 rfl ?_
        refine g_ifnonnull (tgt := 52) ok dX0_copy_46 (by decide) (fun c8 => ?_) (fun c8 => ?_)
        · have hw := hw.2 c8
          refine g_oload ok 1 dX0_copy_52 rfl ?_
          obtain ⟨hf9, hw⟩ := hw
          refine g_inst (o := (cH C (27 + Int32.toNatClampNeg a0))) ok hf9 (t := 104) (by decide) q806 dX0_copy_54 ?_
          refine g_nmI (fun r10 er10 => ?_)
          have hw := hw r10 er10
          refine g_oload ok 0 dX0_copy_57 rfl ?_
          obtain ⟨hf11, hw⟩ := hw
          refine g_inst (o := (cH C (27 + Int32.toNatClampNeg a2))) ok hf11 (t := 104) (by decide) q806 dX0_copy_59 ?_
          refine g_nmI (fun r12 er12 => ?_)
          have hw := hw r12 er12
          refine g_icmp_eq (tgt := 68) ok dX0_copy_62 (by decide) (fun c13 => ?_) (fun c13 => ?_)
          · have hw := hw.1 c13
            refine g_iload_n ok 4 dX0_copy_68 rfl ?_
            refine g_iload ok 7 dX0_copy_69 rfl ?_
            refine g_oload ok 1 dX0_copy_71 rfl ?_
            obtain ⟨hp14, hw⟩ := hw
            refine g_callS ok [va_rf (cH C (27 + Int32.toNatClampNeg a0))] cf_X0_lengthOf q803 (mc_X0_lengthOf ok.wo (xL x) C (cH C (27 + Int32.toNatClampNeg a0)) hp14) rfl rfl (Nat.le_of_ble_eq_true rfl) ⟨by decide, by decide⟩ ⟨by decide, by decide⟩ dX0_copy_73 (resI ?_)
            refine g_nmI (fun r15 er15 => ?_)
            have hw := hw r15 er15
            rcases hw with hw | ⟨hx, hw⟩
            · obtain ⟨hp17, hw⟩ := hw
              refine g_callS ok [.int a1, .int a4, .int r15] cf_X0_within q1212 (mc_X0_within ok.wo (xL x) C a1 a4 r15 hp17) rfl rfl (Nat.le_of_ble_eq_true rfl) ⟨by decide, by decide⟩ ⟨by decide, by decide⟩ dX0_copy_76 (resV ?_)
              refine g_iload ok 6 dX0_copy_79 rfl ?_
              refine g_iload ok 7 dX0_copy_81 rfl ?_
              refine g_oload ok 0 dX0_copy_83 rfl ?_
              obtain ⟨hp18, hw⟩ := hw
              refine g_callS ok [va_rf (cH C (27 + Int32.toNatClampNeg a2))] cf_X0_lengthOf q803 (mc_X0_lengthOf ok.wo (xL x) C (cH C (27 + Int32.toNatClampNeg a2)) hp18) rfl rfl (Nat.le_of_ble_eq_true rfl) ⟨by decide, by decide⟩ ⟨by decide, by decide⟩ dX0_copy_85 (resI ?_)
              refine g_nmI (fun r19 er19 => ?_)
              have hw := hw r19 er19
              rcases hw with hw | ⟨hx, hw⟩
              · obtain ⟨hp21, hw⟩ := hw
                refine g_callS ok [.int a3, .int a4, .int r19] cf_X0_within q1212 (mc_X0_within ok.wo (xL x) C a3 a4 r19 hp21) rfl rfl (Nat.le_of_ble_eq_true rfl) ⟨by decide, by decide⟩ ⟨by decide, by decide⟩ dX0_copy_88 (resV ?_)
                refine g_oload ok 1 dX0_copy_91 rfl ?_
                refine g_iload_n ok 4 dX0_copy_93 rfl ?_
                refine g_oload ok 0 dX0_copy_94 rfl ?_
                refine g_iload ok 6 dX0_copy_96 rfl ?_
                refine g_iload ok 7 dX0_copy_98 rfl ?_
                obtain ⟨g22, g23, g24, hy25, hw⟩ := hw
                refine g_cpO (o1 := (cH C (27 + Int32.toNatClampNeg a0))) (o2 := (cH C (27 + Int32.toNatClampNeg a2))) ok hy25 q1248 ⟨by decide, by decide⟩ (Nat.le_of_ble_eq_true rfl) dX0_copy_100 (fun C26 eC26 => ?_)
                have hw := hw C26 eC26
                refine g_iload ok 7 dX0_copy_103 rfl ?_
                refine g_widen 3 2410 (by omega) (by omega) ?_
                exact g_iret ok dX0_copy_105 ⟨_, rfl, hw⟩
              · refine g_callTx ok [.int a3, .int a4, .int r19] cf_X0_within q1212 (mt_X0_withinI ok.wo (xL x) hl C a3 a4 r19 hx) rfl rfl (Nat.le_of_ble_eq_true rfl) ⟨by decide, by decide⟩ ⟨by show 0 + 1 ≤ 3; omega, by show 0 + 6 ≤ 2410; omega⟩ dX0_copy_88 (fun e => ?_)
                refine gt_catch ok ht (fun _ _ h => h) (Srch.hit (by decide) (by decide) q1193 q1216) ?_
                refine g_astore ok [(8, .ref e), (7, va_rf (cH C (27 + Int32.toNatClampNeg a2))), (6, va_rf (cH C (27 + Int32.toNatClampNeg a0))), (0, .ref (ad w 0)), (1, .int a0), (2, .int a1), (3, .int a2), (4, .int a3), (5, .int a4)] dX0_copy_106 (by decide) (by generalize (cH C (27 + Int32.toNatClampNeg a2)) = o9; cases o9 <;> rfl) ?_
                refine g_ldc_w (v := -1000000013) ok q1235 dX0_copy_108 ?_
                refine g_widen 3 2410 (by omega) (by omega) ?_
                exact g_iret ok dX0_copy_111 ⟨_, rfl, hw⟩
            · refine g_callTx ok [.int a1, .int a4, .int r15] cf_X0_within q1212 (mt_X0_withinI ok.wo (xL x) hl C a1 a4 r15 hx) rfl rfl (Nat.le_of_ble_eq_true rfl) ⟨by decide, by decide⟩ ⟨by show 0 + 1 ≤ 3; omega, by show 0 + 6 ≤ 2410; omega⟩ dX0_copy_76 (fun e => ?_)
              refine gt_catch ok ht (fun _ _ h => h) (Srch.hit (by decide) (by decide) q1193 q1216) ?_
              refine g_astore ok [(8, .ref e), (7, va_rf (cH C (27 + Int32.toNatClampNeg a2))), (6, va_rf (cH C (27 + Int32.toNatClampNeg a0))), (0, .ref (ad w 0)), (1, .int a0), (2, .int a1), (3, .int a2), (4, .int a3), (5, .int a4)] dX0_copy_106 (by decide) (by generalize (cH C (27 + Int32.toNatClampNeg a2)) = o9; cases o9 <;> rfl) ?_
              refine g_ldc_w (v := -1000000013) ok q1235 dX0_copy_108 ?_
              refine g_widen 3 2410 (by omega) (by omega) ?_
              exact g_iret ok dX0_copy_111 ⟨_, rfl, hw⟩
          · have hw := hw.2 c13
            refine g_ldc (v := -1000000012) ok q561 dX0_copy_65 ?_
            refine g_widen 3 2410 (by omega) (by omega) ?_
            exact g_iret ok dX0_copy_67 ⟨_, rfl, hw⟩
        · have hw := hw.1 c8
          refine g_ldc (v := -1000000011) ok q798 dX0_copy_49 ?_
          refine g_widen 3 2410 (by omega) (by omega) ?_
          exact g_iret ok dX0_copy_51 ⟨_, rfl, hw⟩
    · have hw := hw.1 c4
      refine g_ldc (v := -1000000001) ok q274 dX0_copy_14 ?_
      refine g_widen 3 2410 (by omega) (by omega) ?_
      exact g_iret ok dX0_copy_16 ⟨_, rfl, hw⟩
theorem sp_X0_copy (C : CS) (a0 a1 a2 a3 a4 : Int32) (hp : p_X0_copy C a0 a1 a2 a3 a4) : wp_X0_copy (fun x C1 => x = v_X0_copy C a0 a1 a2 a3 a4 ∧ q_X0_copy C a0 a1 a2 a3 a4 C1) C a0 a1 a2 a3 a4 := by
  have hp : shO C := hp
  unfold v_X0_copy v_X3_copy q_X0_copy cpG
  refine fun r1 e1 => ⟨fun c => ?_, fun c => ?_⟩
  all_goals rw [e1, isSh_eq] at c
  · rw [if_pos c]
    exact ⟨rfl, fun z => absurd c z.1, fun _ => rfl⟩
  rw [if_neg c]
  refine fun r3 e3 => ⟨fun c3 => ?_, fun c3 => ?_⟩
  all_goals rw [e3, isSh_eq] at c3
  · rw [if_pos c3]
    exact ⟨rfl, fun z => absurd c3 z.2.1, fun _ => rfl⟩
  rw [if_neg c3]
  obtain ⟨k, hk, rfl⟩ := sh_k c
  obtain ⟨j, hj, rfl⟩ := sh_k c3
  rw [cl_k (k := k) (by omega), cl_k (k := j) (by omega)]
  have hs := hp k hk
  have hs2 := hp j hj
  refine ⟨vp_k hk, vp_k hj, fun hn => ?_, fun hn => ⟨fun hn2 => ?_, fun hn2 => ?_⟩⟩
  · have h0 := hs.no.mp hn
    have h0' := Int32.not_le.mp h0
    rw [if_pos h0']
    exact ⟨rfl, fun z => absurd h0' z.2.2.1, fun _ => rfl⟩
  · have h0 : (0 : Int32) ≤ C.2.1 51 k := Classical.byContradiction fun z => hn (hs.no.mpr z)
    have h2 := hs2.no.mp hn2
    rw [if_neg (Int32.not_lt.mpr h0), if_neg h2]
    exact ⟨rfl, fun z => absurd z.2.2.2.1 h2, fun _ => rfl⟩
  · have h0 : (0 : Int32) ≤ C.2.1 51 k := Classical.byContradiction fun z => hn (hs.no.mpr z)
    have h2 : (0 : Int32) ≤ C.2.1 51 j := Classical.byContradiction fun z => hn2 (hs2.no.mpr z)
    rw [if_neg (Int32.not_lt.mpr h0), if_pos h2]
    obtain ⟨x1, x2, x3⟩ := hs.yes hn
    obtain ⟨y1, y2, y3⟩ := hs2.yes hn2
    refine ⟨x1.r.th, fun r10 e10 => ⟨y1.r.th, fun r12 e12 => ⟨fun hd => ?_, fun hd => ?_⟩⟩⟩
    · rw [e10, e12, isO_eq, isO_eq] at hd
      have hk2 : C.2.1 51 k = C.2.1 51 j := by
        rw [x3, y3]
        by_cases q1 : tgO C (cH C (27 + k)) = 104 <;> by_cases q2 : tgO C (cH C (27 + j)) = 104 <;> simp [q1, q2] at hd ⊢
      rw [if_pos hk2]
      refine ⟨x1.r, fun r15 e15 => ?_⟩
      have e15 : r15 = nI (lnO C (cH C (27 + k))) := e15
      rw [e15]
      by_cases w1 : ¬ a1 < 0 ∧ ¬ a4 < 0 ∧ a1 ≤ nI (lnO C (cH C (27 + k))) - a4
      · refine Or.inl ⟨w1, y1.r, fun r19 e19 => ?_⟩
        have e19 : r19 = nI (lnO C (cH C (27 + j))) := e19
        rw [e19]
        by_cases w2 : ¬ a3 < 0 ∧ ¬ a4 < 0 ∧ a3 ≤ nI (lnO C (cH C (27 + j))) - a4
        · obtain ⟨s, n, p1, p2, p3⟩ := within_nat x1.1 w1
          obtain ⟨d, n2, p4, p5, p6⟩ := within_nat y1.1 w2
          have hn24 := x1.1
          have hj24 := y1.1
          have en : n2 = n := (nI_eq (by omega) (by omega)).mp (p5.symm.trans p2)
          subst en
          have hpc : pcy C (cH C (27 + k)) (cH C (27 + j)) s d n2 := by
            refine ⟨?_, p3, p6, hn24, hj24⟩
            rcases x1.2 with ⟨q1, q2⟩ | ⟨q1, q2⟩
            · left
              rw [if_pos q1] at hd
              have q3 : tgO C (cH C (27 + j)) = 104 := Classical.byContradiction fun z => by rw [if_neg z] at hd; exact absurd hd (by decide)
              exact ⟨q1, q3, fun i hi => by rw [(q2 (s + i) (by omega)).1]; exact (q2 (s + i) (by omega)).2⟩
            · right
              rw [if_neg (by rw [q1]; decide)] at hd
              refine ⟨q1, y1.r.resolve_left fun z => ?_⟩
              rw [if_pos z] at hd
              exact absurd hd (by decide)
          refine Or.inl ⟨w2, s, d, n2, ⟨p1, p4, p2, hpc⟩, fun C1 e1 => ⟨?_, fun _ => ⟨s, d, n2, p1, p4, p2, hpc, e1⟩, fun z => ?_⟩⟩
          · rw [if_neg w1.1, if_neg w2.1, if_neg w1.2.1, x2, if_neg (Int32.not_lt.mpr w1.2.2), y2, if_pos w2.2.2]
          · exact absurd ⟨c, c3, Int32.not_lt.mpr h0, h2, hk2, w1.1, w2.1, w1.2.1, by rw [x2]; exact Int32.not_lt.mpr w1.2.2, by rw [y2]; exact w2.2.2⟩ z
        · refine Or.inr ⟨w2, ?_, fun z => absurd ⟨z.2.2.2.2.2.2.1, z.2.2.2.2.2.2.2.1, by rw [← y2]; exact z.2.2.2.2.2.2.2.2.2⟩ w2, fun _ => rfl⟩
          by_cases v1 : a3 < 0
          · rw [if_neg w1.1, if_pos v1]
          · rw [if_neg w1.1, if_neg v1, if_neg w1.2.1, x2, if_neg (Int32.not_lt.mpr w1.2.2), y2, if_neg (fun z => w2 ⟨v1, w1.2.1, z⟩)]
      · refine Or.inr ⟨w1, ?_, fun z => absurd ⟨z.2.2.2.2.2.1, z.2.2.2.2.2.2.2.1, by rw [← x2]; exact Int32.not_lt.mp z.2.2.2.2.2.2.2.2.1⟩ w1, fun _ => rfl⟩
        by_cases v1 : a1 < 0
        · rw [if_pos v1]
        · rw [if_neg v1]
          by_cases v2 : a3 < 0
          · rw [if_pos v2]
          · rw [if_neg v2]
            by_cases v3 : a4 < 0
            · rw [if_pos v3]
            · rw [if_neg v3, x2, if_pos (Int32.not_le.mp fun z => w1 ⟨v1, v3, z⟩)]
    · rw [e10, e12, isO_eq, isO_eq] at hd
      have hk2 : ¬ C.2.1 51 k = C.2.1 51 j := by
        rw [x3, y3]
        by_cases q1 : tgO C (cH C (27 + k)) = 104 <;> by_cases q2 : tgO C (cH C (27 + j)) = 104 <;> simp [q1, q2] at hd ⊢
      rw [if_neg hk2]
      exact ⟨rfl, fun z => absurd z.2.2.2.2.1 hk2, fun _ => rfl⟩
theorem mc_X0_copy {w : WD} (wk : wOk w) (l : Launch) (hl : l.stackTraces = false) (C : CS) (a0 : Int32) (a1 : Int32) (a2 : Int32) (a3 : Int32) (a4 : Int32) (hp : p_X0_copy C a0 a1 a2 a3 a4) : MCW w l yX0_copy cX0_copy 9 (some .int) [(68, 105, 106, 437)] 262 3 2410 [.ref (ad w 0), .int a0, .int a1, .int a2, .int a3, .int a4] C (pIR (v_X0_copy C a0 a1 a2 a3 a4) (q_X0_copy C a0 a1 a2 a3 a4)) := MCW.postIR (gw_X0_copy wk l hl C a0 a1 a2 a3 a4 (sp_X0_copy C a0 a1 a2 a3 a4 hp))
