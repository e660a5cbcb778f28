theorem cf_X0_fine : CfV yX0_fine "TwoGuilds" cX0_fine 1 (some .int) 0 := ⟨⟨by decide, by decide, by decide⟩, q72, q887, q885, q886⟩
def p_X0_fine (C : CS) : Prop := opP C
def v_X0_fine (C : CS) : Int32 := v_X3_fine C
def q_X0_fine (C : CS) (C1 : CS) : Prop := nOp C C1
def wp_X0_fine (Post : Int32 → CS → Prop) (C : CS)  : Prop :=
  isTb (cN C) ∧
    (∀ C2 : CS, C2 = (wA C 10 100 (C.1 (cN C) 3)) → 
    isTb (cN C2) ∧
    (∃ (g3 : (Nat → Int32)), p_X1_lost C2 (cN C2) g3 ∧
    (∀ r6 : Int32, r6 = (v_X1_lost C2 (cN C2) g3) → 
    ∀ C7 : CS, C7 = (wA C2 10 108 r6) → 
    isTb (cN C7) ∧
    (∃ (g8 : (Nat → Int32)), p_X1_lost C7 (cN C7) g8 ∧
    (∀ r11 : Int32, r11 = (v_X1_lost C7 (cN C7) g8) → 
    ∃ (g12 : (Nat → Int32)) (g13 : (Nat → Int32)), p_X0_ruled C7 2 r11 g12 g13 ∧
    (∀ r15 : Int32, r15 = (v_X0_ruled C7 2 r11 g12 g13) → 
    Post r15 C7))))))
set_option maxHeartbeats 4000000 in
set_option maxRecDepth 100000 in
theorem gw_X0_fine {w : WD} (wk : wOk w) (l : Launch) (C : CS)  {Post : Int32 → CS → Prop} (hw : wp_X0_fine Post C ) : MC w l yX0_fine cX0_fine 1 (some .int) 98 0 0 [.ref (ad w 0)] C (fun v C1 => ∃ r : Int32, v = some (.int r) ∧ Post r C1) := by
  unfold wp_X0_fine at hw
  refine MC.of wk (by decide) (Nat.le_of_ble_eq_true rfl) (fun x hx ok => ?_)
  subst hx
  show G w x 1 0 0 (QM w x _ 0 0) C 0 [(0, .ref (ad w 0))] []
  refine g_aload_n ok 0 dX0_fine_0 rfl ?_
  refine g_get ok 0 rfl rfl in_X0 10 (by decide) q191 rfl dX0_fine_1 ?_
  refine g_bipush (v := 100) ok dX0_fine_4 (by decide) ?_
  refine g_aload_n ok 0 dX0_fine_6 rfl ?_
  refine g_get ok 0 rfl rfl in_X0 0 (by decide) q180 rfl dX0_fine_7 ?_
  obtain ⟨hf1, hw⟩ := hw
  refine g_get ok (cN C) (fObjT hf1) rfl in_X1 3 (by decide) q130 rfl dX0_fine_10 ?_
  refine g_iast ok 10 rfl (by unfold vp_in; decide) 100 (by decide) dX0_fine_13 (fun C2 eC2 => ?_)
  have hw := hw C2 eC2
  refine g_aload_n ok 0 dX0_fine_14 rfl ?_
  refine g_get ok 0 rfl rfl in_X0 10 (by decide) q191 rfl dX0_fine_15 ?_
  refine g_bipush (v := 108) ok dX0_fine_18 (by decide) ?_
  refine g_aload_n ok 0 dX0_fine_20 rfl ?_
  refine g_get ok 0 rfl rfl in_X0 0 (by decide) q180 rfl dX0_fine_21 ?_
  obtain ⟨hf5, hw⟩ := hw
  obtain ⟨g3, hp4, hw⟩ := hw
  refine g_callV ok [] cf_X1_lost q824 (mc_X1_lost ok.wo (xL x) C2 (cN C2) g3 hp4) (recvF ok (cN C2) (fObjT hf5) rfl) rfl rfl (Nat.le_of_ble_eq_true rfl) ⟨by decide, by decide⟩ ⟨by decide, by decide⟩ dX0_fine_24 (resI ?_)
  refine g_nmI (fun r6 er6 => ?_)
  have hw := hw r6 er6
  refine g_iast ok 10 rfl (by unfold vp_in; decide) 108 (by decide) dX0_fine_27 (fun C7 eC7 => ?_)
  have hw := hw C7 eC7
  refine g_aload_n ok 0 dX0_fine_28 rfl ?_
  refine g_iconst (v := 2) ok dX0_fine_29 (by decide) ?_
  refine g_aload_n ok 0 dX0_fine_30 rfl ?_
  refine g_get ok 0 rfl rfl in_X0 0 (by decide) q180 rfl dX0_fine_31 ?_
  obtain ⟨hf10, hw⟩ := hw
  obtain ⟨g8, hp9, hw⟩ := hw
  refine g_callV ok [] cf_X1_lost q824 (mc_X1_lost ok.wo (xL x) C7 (cN C7) g8 hp9) (recvF ok (cN C7) (fObjT hf10) rfl) rfl rfl (Nat.le_of_ble_eq_true rfl) ⟨by decide, by decide⟩ ⟨by decide, by decide⟩ dX0_fine_34 (resI ?_)
  refine g_nmI (fun r11 er11 => ?_)
  have hw := hw r11 er11
  obtain ⟨g12, g13, hp14, hw⟩ := hw
  refine g_callV ok [.int 2, .int r11] cf_X0_ruled q694 (mc_X0_ruled ok.wo (xL x) C7 2 r11 g12 g13 hp14) (recvF ok 0 rfl rfl) rfl rfl (Nat.le_of_ble_eq_true rfl) ⟨by decide, by decide⟩ ⟨by decide, by decide⟩ dX0_fine_37 (resI ?_)
  refine g_nmI (fun r15 er15 => ?_)
  have hw := hw r15 er15
  exact g_iret ok dX0_fine_40 ⟨_, rfl, hw⟩
theorem sp_X0_fine (C : CS) (hp : p_X0_fine C) : wp_X0_fine (fun x C1 => x = v_X0_fine C ∧ q_X0_fine C C1) C := by
  have hp : opP C := hp
  have J : ∀ k, 15 ≤ k → k ≤ 26 → k ∉ [10] := by intro k h1 h2; simp; omega
  refine ⟨hp.1.1, fun C2 e2 => ?_⟩
  have f2 : frm [10] C C2 := by rw [e2]; exact (frm.rf _ C).w (by simp)
  have t2 := hp.1.frm f2 J
  refine ⟨t2.1, C.2.1 36, ⟨t2.1, t2.2⟩, fun r6 e6 C7 e7 => ?_⟩
  have e6 : r6 = lostR (C.2.1 36) := e6
  have f7 : frm [10] C C7 := by rw [e7]; exact f2.w (by simp)
  have t7 := hp.1.frm f7 J
  refine ⟨t7.1, C.2.1 36, ⟨t7.1, t7.2⟩, fun r11 e11 => ⟨C.2.1 36, fct2 (C.2.1 36 2) (lostR (C.2.1 36)), ⟨t7, ?_⟩, fun r15 e15 => ⟨?_, f7⟩⟩⟩
  · have ed : C.1 (cN C) 3 = C.2.1 36 2 := hp.1.2.n.2.2.1
    have y : C7.2.1 10 100 = C.2.1 36 2 ∧ C7.2.1 10 108 = lostR (C.2.1 36) := by
      rw [e7, e6, e2, ed]
      simp [wA, up2]
    refine fok_2 ?_ ?_
    · rw [y.1]; simp [fct2]
    · rw [y.2]; simp [fct2]
  · rw [e15]
    unfold v_X0_fine v_X3_fine v_X0_ruled
    rw [e11]
    rfl
theorem mc_X0_fine {w : WD} (wk : wOk w) (l : Launch) (C : CS)  (hp : p_X0_fine C ) : MC w l yX0_fine cX0_fine 1 (some .int) 98 0 0 [.ref (ad w 0)] C (pIR (v_X0_fine C ) (q_X0_fine C )) := MC.postIR (gw_X0_fine wk l C  (sp_X0_fine C  hp))
theorem bE.rf (j : Nat) (C : CS) : bE j C C := (tE.rf j C).bE
theorem bE.fr {j : Nat} {C C1 : CS} (h : frm [5, 6, 10] C C1) : bE j C C1 := by
  obtain ⟨f1, f2, f3⟩ := h
  exact ⟨fun i k _ _ => by rw [f1], fun i p q x _ _ => f3 i (by simp; omega), fun i _ _ => by rw [f2], by rw [f2], fun a tg h => by show C1.2.2.2.2.2.1 a = _; rw [f2]; exact h, fun a tg _ _ => ⟨fun _ => by rw [f2], fun _ => by rw [f2], fun _ => by rw [f2], fun _ => by rw [f2]⟩, fun i a hi h => Or.inr ⟨i, hi, by rw [show cG C1 (17 + 4 * (j - 2)) i = cG C (17 + 4 * (j - 2)) i by show C1.2.2.1 _ _ = _; rw [f2]] at h; exact h⟩⟩
theorem bE.wN {j : Nat} {C C1 : CS} (h : bE j C C1) (k : Nat) : bE j C (wN C1 k) := h
theorem XD.frm {J : List Nat} {C C1 : CS} (hx : XD C) (h : frm J C C1) : XD C1 := by
  obtain ⟨f1, f2, f3⟩ := h
  intro j i y h1 h2 h3
  rw [show cG C1 (18 + 4 * (j - 2)) i = cG C (18 + 4 * (j - 2)) i by show C1.2.2.1 _ _ = _; rw [f2]] at h3
  obtain ⟨n, hn⟩ := hx j i y h1 h2 h3
  exact ⟨n, by rw [f2]; exact hn⟩
/-- only the spare table (and what new things stand on it) has changed -/
def hOp (C C1 : CS) : Prop := cN C1 = cN C ∧ bE 3 C C1 ∧ GD C1 ∧ XD C1
theorem hOp.rf {C : CS} (hg : GD C) (hx : XD C) : hOp C C := ⟨rfl, bE.rf 3 C, hg, hx⟩
/-- all is thought of from C: the spare table is at hand and is the row r -/
def thI (C : CS) (r : Nat → Int32) (C1 : CS) : Prop := cN C1 = 3 ∧ TR C1 3 r ∧ bE 3 C C1 ∧ GD C1 ∧ XD C1
theorem TR.wN {C : CS} {j : Nat} {r : Nat → Int32} (h : TR C j r) (k : Nat) : TR (wN C k) j r := h.keep rfl (fun _ _ => rfl) (fun _ _ => rfl) (fun _ _ => rfl) (fun _ _ => rfl) (fun _ _ _ h _ _ => ⟨h, fun _ => rfl, fun _ => rfl⟩) (fun _ _ _ _ => ⟨rfl, fun _ _ => rfl⟩)
theorem thI.of {C C1 : CS} {a0 : Nat} {r : Nat → Int32} (h : q_X0_thinks C a0 r C1) : thI C r C1 := by
  obtain ⟨C3, ⟨h1, h2, h3, h4⟩, e⟩ := h
  subst e
  exact ⟨rfl, h1.wN 3, h2.2, h3, h4⟩
theorem tb3 : isTb 3 := Or.inr (Or.inl rfl)
theorem thI.ok {C C1 : CS} {r : Nat → Int32} (h : thI C r C1) : tbOk C1 r ∧ GD C1 := by
  obtain ⟨h1, h2, h3, h4, h5⟩ := h
  unfold tbOk
  rw [h1]
  exact ⟨⟨tb3, h2⟩, h4⟩
theorem thI.days {C C1 C2 : CS} {r r2 : Nat → Int32} (h : thI C r C1) (h2 : TR C2 3 r2) (d : dE 3 C1 C2) : thI C r2 C2 := by
  obtain ⟨a1, a2, a3, a4, a5⟩ := h
  exact ⟨d.2.2.2.2.1.trans a1, h2, a3.tr d.tE.bE, d.gd a4, d.tE.xd tb3 a5⟩
theorem thI.fr {C C1 C2 : CS} {r : Nat → Int32} (h : thI C r C1) (f : frm [5, 6, 10] C1 C2) : thI C r C2 := by
  obtain ⟨a1, a2, a3, a4, a5⟩ := h
  refine ⟨?_, a2.frm tb3 f (by intro k h1 h2; simp; omega), a3.tr (bE.fr f), a4.frm f, a5.frm f⟩
  rw [← a1]
  show C2.2.2.2.2.1 = _
  rw [f.2.1]
theorem thI.end {C C1 : CS} {r : Nat → Int32} (h : thI C r C1) : hOp C (wN C1 (cN C)) := ⟨rfl, h.2.2.1.wN _, h.2.2.2.1, h.2.2.2.2⟩
def p_X0_behind (C : CS) (a0 a1 : Int32) : Prop := opP C ∧ XD C ∧ cN C = 2
def v_X0_behind (C : CS) (a0 a1 : Int32) : Int32 := v_X3_behind C a0 a1
def q_X0_behind (C : CS) (a0 a1 : Int32) (C1 : CS) : Prop := hOp C C1
def wp_X0_behind (Post : Int32 → CS → Prop) (C : CS) (a0 : Int32) (a1 : Int32) : Prop :=
  ∀ r1 : Int32, r1 = (v_X0_isIn (Int32.toInt64 a0) 0 100) → 
    (r1 = 0 → 
    Post (-1000000001) C) ∧
    (¬ r1 = 0 → 
    ∀ r3 : Int32, r3 = (v_X0_isIn (Int32.toInt64 a1) 0 2) → 
      (r3 = 0 → 
      Post (-1000000001) C) ∧
      (¬ r3 = 0 → 
      ∃ (g5 : (Nat → Int32)), p_X0_thinks C (cN C) g5 ∧
        (∀ C7 : CS, q_X0_thinks C (cN C) g5 C7 → 
        isTb (cN C7) ∧
        (∃ (g8 : (Nat → Int32)) (g9 : Nat), p_X1_goesOn_2 C7 (cN C7) (-1) a0 g8 g9 ∧
        (∀ C12 : CS, q_X1_goesOn_2 C7 (cN C7) (-1) a0 g8 g9 C12 → 
        (a1 = 0 → 
        isTb (cN C12) ∧
          (p_X1_all C12 (cN C12) ∧
          (∀ r29 : Int32, r29 = (v_X1_all C12 (cN C12)) → 
          ∃ (g30 : (Nat → Int32)), p_X0_best C12 r29 g30 ∧
          (∀ r33 : Int32, r33 = (v_X0_best C12 r29 g30) → 
          ∀ C32 : CS, q_X0_best C12 r29 g30 C32 → 
          isTb (cN C) ∧
          (∀ C35 : CS, C35 = (wN C32 (cN C)) → 
          Post r33 C35))))) ∧
        (¬ a1 = 0 → 
        (a1 = 1 → 
          isTb (cN C12) ∧
            (∃ (g21 : (Nat → Int32)), p_X1_lost C12 (cN C12) g21 ∧
            (∀ r24 : Int32, r24 = (v_X1_lost C12 (cN C12) g21) → 
            isTb (cN C) ∧
            (∀ C26 : CS, C26 = (wN C12 (cN C)) → 
            Post r24 C26)))) ∧
          (¬ a1 = 1 → 
          isTb (cN C12) ∧
            (∃ (g15 : (Nat → Int32)), p_X1_allWear C12 (cN C12) g15 ∧
            (∀ r18 : Int32, r18 = (v_X1_allWear C12 (cN C12) g15) → 
            isTb (cN C) ∧
            (∀ C20 : CS, C20 = (wN C12 (cN C)) → 
            Post r18 C20))))))))))
set_option maxHeartbeats 4000000 in
set_option maxRecDepth 100000 in
theorem gw_X0_behind {w : WD} (wk : wOk w) (l : Launch) (C : CS) (a0 : Int32) (a1 : Int32) {Post : Int32 → CS → Prop} (hw : wp_X0_behind Post C a0 a1) : MCW w l yX0_behind cX0_behind 6 (some .int) [(32, 88, 96, 0), (96, 98, 96, 0)] 102 11 88 [.ref (ad w 0), .int a0, .int a1] C (fun v C1 => ∃ r : Int32, v = some (.int r) ∧ Post r C1) := by
  unfold wp_X0_behind at hw
  refine MCW.of wk (by decide) (Nat.le_of_ble_eq_true rfl) (fun x hx ok ht => ?_)
  subst hx
  show G w x 6 0 0 (QM w x _ 11 88) C 0 [(0, .ref (ad w 0)), (1, .int a0), (2, .int a1)] []
  refine g_iload_n ok 1 dX0_behind_0 rfl ?_
  refine g_i2l ok dX0_behind_1 ?_
  refine g_lconst (v := 0) ok dX0_behind_2 (by decide) ?_
  refine g_ldc2 (v := 100) ok q819 dX0_behind_3 ?_
  refine g_callS ok [.long (Int32.toInt64 a0), .long 0, .long 100] cf_X0_isIn q269 (mc_X0_isIn ok.wo (xL x) C (Int32.toInt64 a0) 0 100) rfl rfl (Nat.le_of_ble_eq_true rfl) ⟨by decide, by decide⟩ ⟨by decide, by decide⟩ dX0_behind_6 (resI ?_)
  refine g_nmI (fun r1 er1 => ?_)
  have hw := hw r1 er1
  refine g_if_eq (tgt := 24) ok dX0_behind_9 (by decide) (fun c2 => ?_) (fun c2 => ?_)
  · have hw := hw.1 c2
    refine g_ldc (v := -1000000001) ok q274 dX0_behind_24 ?_
    refine g_widen 11 88 (by omega) (by omega) ?_
    exact g_iret ok dX0_behind_26 ⟨_, rfl, hw⟩
  · have hw := hw.2 c2
    refine g_iload_n ok 2 dX0_behind_12 rfl ?_
    refine g_i2l ok dX0_behind_13 ?_
    refine g_lconst (v := 0) ok dX0_behind_14 (by decide) ?_
    refine g_ldc2 (v := 2) ok q851 dX0_behind_15 ?_
    refine g_callS ok [.long (Int32.toInt64 a1), .long 0, .long 2] cf_X0_isIn q269 (mc_X0_isIn ok.wo (xL x) C (Int32.toInt64 a1) 0 2) rfl rfl (Nat.le_of_ble_eq_true rfl) ⟨by decide, by decide⟩ ⟨by decide, by decide⟩ dX0_behind_18 (resI ?_)
    refine g_nmI (fun r3 er3 => ?_)
    have hw := hw r3 er3
    refine g_if_ne (tgt := 27) ok dX0_behind_21 (by decide) (fun c4 => ?_) (fun c4 => ?_)
    · have hw := hw.2 c4
      refine g_aload_n ok 0 dX0_behind_27 rfl ?_
      refine g_get ok 0 rfl rfl in_X0 0 (by decide) q180 rfl dX0_behind_28 ?_
      refine g_astore_n ok [(3, .ref (ad w (cN C))), (0, .ref (ad w 0)), (1, .int a0), (2, .int a1)] dX0_behind_31 (by decide) rfl ?_
      refine g_aload_n ok 1 dX0_behind_32 rfl ?_
      refine g_aload_n ok 0 dX0_behind_33 rfl ?_
      obtain ⟨g5, hp6, hw⟩ := hw
      refine g_callV ok [.ref (ad w (cN C))] cf_X0_thinks q852 (mc_X0_thinks ok.wo (xL x) C (cN C) g5 hp6) (recvF ok 0 rfl rfl) rfl rfl (Nat.le_of_ble_eq_true rfl) ⟨by decide, by decide⟩ ⟨by show 0 + 11 ≤ 11; omega, by show 0 + 88 ≤ 88; omega⟩ dX0_behind_34 (resVR fun C7 eC7 => ?_)
      have hw := hw C7 eC7
      refine g_aload_n ok 1 dX0_behind_37 rfl ?_
      refine g_get ok 0 rfl rfl in_X0 0 (by decide) q180 rfl dX0_behind_38 ?_
      refine g_iconst (v := -1) ok dX0_behind_41 (by decide) ?_
      refine g_iload_n ok 2 dX0_behind_42 rfl ?_
      obtain ⟨hf11, hw⟩ := hw
      obtain ⟨g8, g9, hp10, hw⟩ := hw
      refine g_callV ok [.int (-1), .int a0] cf_X1_goesOn_2 q869 (mc_X1_goesOn_2 ok.wo (xL x) C7 (cN C7) (-1) a0 g8 g9 hp10) (recvF ok (cN C7) (fObjT hf11) rfl) rfl rfl (Nat.le_of_ble_eq_true rfl) ⟨by decide, by decide⟩ ⟨by decide, by decide⟩ dX0_behind_43 (resVR fun C12 eC12 => ?_)
      have hw := hw C12 eC12
      refine g_iload_n ok 3 dX0_behind_46 rfl ?_
      refine g_if_ne (tgt := 64) ok dX0_behind_47 (by decide) (fun c13 => ?_) (fun c13 => ?_)
      · have hw := hw.2 c13
        refine g_iload_n ok 3 dX0_behind_64 rfl ?_
        refine g_iconst (v := 1) ok dX0_behind_65 (by decide) ?_
        refine g_icmp_ne (tgt := 79) ok dX0_behind_66 (by decide) (fun c14 => ?_) (fun c14 => ?_)
        · have hw := hw.2 c14
          refine g_aload_n ok 1 dX0_behind_79 rfl ?_
          refine g_get ok 0 rfl rfl in_X0 0 (by decide) q180 rfl dX0_behind_80 ?_
          obtain ⟨hf17, hw⟩ := hw
          obtain ⟨g15, hp16, hw⟩ := hw
          refine g_callV ok [] cf_X1_allWear q875 (mc_X1_allWear ok.wo (xL x) C12 (cN C12) g15 hp16) (recvF ok (cN C12) (fObjT hf17) rfl) rfl rfl (Nat.le_of_ble_eq_true rfl) ⟨by decide, by decide⟩ ⟨by decide, by decide⟩ dX0_behind_83 (resI ?_)
          refine g_nmI (fun r18 er18 => ?_)
          have hw := hw r18 er18
          refine g_istore0 ok [(4, .int r18), (3, .ref (ad w (cN C))), (0, .ref (ad w 0)), (1, .int a0), (2, .int a1)] dX0_behind_86 (by decide) rfl ?_
          refine g_aload_n ok 2 dX0_behind_88 rfl ?_
          refine g_aload_n ok 1 dX0_behind_89 rfl ?_
          obtain ⟨hf19, hw⟩ := hw
          refine g_putN ok hf19 q180 dX0_behind_90 (fun C20 eC20 => ?_)
          have hw := hw C20 eC20
          refine g_iload ok 0 dX0_behind_93 rfl ?_
          exact g_iret ok dX0_behind_95 ⟨_, rfl, hw⟩
        · have hw := hw.1 c14
          refine g_aload_n ok 1 dX0_behind_69 rfl ?_
          refine g_get ok 0 rfl rfl in_X0 0 (by decide) q180 rfl dX0_behind_70 ?_
          obtain ⟨hf23, hw⟩ := hw
          obtain ⟨g21, hp22, hw⟩ := hw
          refine g_callV ok [] cf_X1_lost q824 (mc_X1_lost ok.wo (xL x) C12 (cN C12) g21 hp22) (recvF ok (cN C12) (fObjT hf23) rfl) rfl rfl (Nat.le_of_ble_eq_true rfl) ⟨by decide, by decide⟩ ⟨by decide, by decide⟩ dX0_behind_73 (resI ?_)
          refine g_nmI (fun r24 er24 => ?_)
          have hw := hw r24 er24
          refine g_goto (tgt := 86) ok dX0_behind_76 (by decide) ?_
          refine g_istore0 ok [(4, .int r24), (3, .ref (ad w (cN C))), (0, .ref (ad w 0)), (1, .int a0), (2, .int a1)] dX0_behind_86 (by decide) rfl ?_
          refine g_aload_n ok 2 dX0_behind_88 rfl ?_
          refine g_aload_n ok 1 dX0_behind_89 rfl ?_
          obtain ⟨hf25, hw⟩ := hw
          refine g_putN ok hf25 q180 dX0_behind_90 (fun C26 eC26 => ?_)
          have hw := hw C26 eC26
          refine g_iload ok 0 dX0_behind_93 rfl ?_
          exact g_iret ok dX0_behind_95 ⟨_, rfl, hw⟩
      · have hw := hw.1 c13
        refine g_aload_n ok 1 dX0_behind_50 rfl ?_
        refine g_aload_n ok 1 dX0_behind_51 rfl ?_
        refine g_get ok 0 rfl rfl in_X0 0 (by decide) q180 rfl dX0_behind_52 ?_
        obtain ⟨hf28, hw⟩ := hw
        obtain ⟨hp27, hw⟩ := hw
        refine g_callV ok [] cf_X1_all q759 (mc_X1_all ok.wo (xL x) C12 (cN C12) hp27) (recvF ok (cN C12) (fObjT hf28) rfl) rfl rfl (Nat.le_of_ble_eq_true rfl) ⟨by decide, by decide⟩ ⟨by decide, by decide⟩ dX0_behind_55 (resI ?_)
        refine g_nmI (fun r29 er29 => ?_)
        have hw := hw r29 er29
        obtain ⟨g30, hp31, hw⟩ := hw
        refine g_callV ok [.int r29] cf_X0_best q874 (mc_X0_best ok.wo (xL x) C12 r29 g30 hp31) (recvF ok 0 rfl rfl) rfl rfl (Nat.le_of_ble_eq_true rfl) ⟨by decide, by decide⟩ ⟨by decide, by decide⟩ dX0_behind_58 (resIR fun C32 eC32 => ?_)
        refine g_nmI (fun r33 er33 => ?_)
        have hw := hw r33 er33 C32 eC32
        refine g_goto (tgt := 86) ok dX0_behind_61 (by decide) ?_
        refine g_istore0 ok [(4, .int r33), (3, .ref (ad w (cN C))), (0, .ref (ad w 0)), (1, .int a0), (2, .int a1)] dX0_behind_86 (by decide) rfl ?_
        refine g_aload_n ok 2 dX0_behind_88 rfl ?_
        refine g_aload_n ok 1 dX0_behind_89 rfl ?_
        obtain ⟨hf34, hw⟩ := hw
        refine g_putN ok hf34 q180 dX0_behind_90 (fun C35 eC35 => ?_)
        have hw := hw C35 eC35
        refine g_iload ok 0 dX0_behind_93 rfl ?_
        exact g_iret ok dX0_behind_95 ⟨_, rfl, hw⟩
    · have hw := hw.1 c4
      refine g_ldc (v := -1000000001) ok q274 dX0_behind_24 ?_
      refine g_widen 11 88 (by omega) (by omega) ?_
      exact g_iret ok dX0_behind_26 ⟨_, rfl, hw⟩
theorem sp_X0_behind (C : CS) (a0 a1 : Int32) (hp : p_X0_behind C a0 a1) : wp_X0_behind (fun x C1 => x = v_X0_behind C a0 a1 ∧ q_X0_behind C a0 a1 C1) C a0 a1 := by
  obtain ⟨hp, hx, h2⟩ := hp
  have rf : hOp C C := hOp.rf hp.2 hx
  unfold v_X0_behind v_X3_behind
  refine fun r1 e1 => ⟨fun c1 => ?_, fun c1 => ?_⟩
  all_goals rw [e1, isIn0 _ 100 100 rfl] at c1
  · rw [if_pos c1]; exact ⟨rfl, rf⟩
  rw [if_neg c1]
  refine fun r3 e3 => ⟨fun c3 => ?_, fun c3 => ?_⟩
  all_goals rw [e3, isIn0 _ 2 2 rfl] at c3
  · rw [if_pos c3]; exact ⟨rfl, rf⟩
  rw [if_neg c3]
  obtain ⟨n, hn, rfl⟩ := in_nI (m := 100) (by decide) c1
  refine ⟨C.2.1 36, ⟨hp.1.1, by omega, hp.1.2, hp.2, hx⟩, fun C7 h7 => ?_⟩
  have i7 := thI.of h7
  rw [i7.1]
  refine ⟨tb3, C.2.1 36, n, ⟨i7.1.symm, i7.ok.1, i7.ok.2, rfl, hn⟩, fun C12 h12 => ?_⟩
  have i12 := i7.days h12.1 h12.2
  rw [i12.1, cl_k (by omega)]
  obtain ⟨N, eN, hN, -⟩ := i12.2.1.g
  have e0 : C12.1 3 0 = nI N := i12.2.1.n.2.1.trans eN
  have p2 := p2_le hN
  have : 0 < 2 ^ N := Nat.pow_pos (by decide)
  unfold bhR
  refine ⟨fun c => ⟨tb3, ⟨tb3, trivial⟩, fun r15 e15 => ⟨(goR (C.2.1 36) (-1) n).1, i12.ok, fun r19 e19 C18 h18 => ⟨hp.1.1, fun C21 e21 => ⟨?_, ?_⟩⟩⟩⟩, fun c => ⟨fun c2 => ⟨tb3, (goR (C.2.1 36) (-1) n).1, ⟨tb3, i12.2.1⟩, fun r25 e25 => ⟨hp.1.1, fun C26 e26 => ⟨?_, ?_⟩⟩⟩, fun c2 => ⟨tb3, (goR (C.2.1 36) (-1) n).1, ⟨tb3, i12.2.1⟩, fun r30 e30 => ⟨hp.1.1, fun C31 e31 => ⟨?_, ?_⟩⟩⟩⟩⟩
  · rw [if_pos c, e19, e15, all_c e0 hN]
    unfold v_X0_best
    rw [all_v (C := rowC (goR (C.2.1 36) (-1) n).1) ⟨eN, hN⟩, if_neg (in_iff.mpr ⟨nI_pos' (by omega), Int32.le_refl _⟩), cl_k (by omega)]
    unfold allN
    rw [eN, cl_k (by omega)]
  · rw [e21]; exact (i12.fr h18).end
  · rw [if_neg c, if_pos c2, e25]; rfl
  · rw [e26]; exact i12.end
  · rw [if_neg c, if_neg c2, e30]; rfl
  · rw [e31]; exact i12.end
theorem mc_X0_behind {w : WD} (wk : wOk w) (l : Launch) (C : CS) (a0 : Int32) (a1 : Int32) (hp : p_X0_behind C a0 a1) : MCW w l yX0_behind cX0_behind 6 (some .int) [(32, 88, 96, 0), (96, 98, 96, 0)] 102 11 88 [.ref (ad w 0), .int a0, .int a1] C (pIR (v_X0_behind C a0 a1) (q_X0_behind C a0 a1)) := MCW.postIR (gw_X0_behind wk l C a0 a1 (sp_X0_behind C a0 a1 hp))
