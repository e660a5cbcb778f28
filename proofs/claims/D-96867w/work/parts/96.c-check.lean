theorem wIs {C : CS} {j k : Nat} {v : Int32} : (wI C j k v).1 j k = v := if_pos ⟨rfl, rfl⟩
theorem wIn {C : CS} {j k a b : Nat} {v : Int32} (h : ¬ (a = j ∧ b = k)) : (wI C j k v).1 a b = C.1 a b := if_neg h
def dueB (C : CS) (a0 : Int32) : Int32 := if C.1 0 26 = 0 then 0 else if C.1 0 24 ≤ C.1 0 25 then 0 else if C.2.1 14 (C.1 0 25).toNatClampNeg = a0 then 1 else 0
theorem cf_X0_due : CfV yX0_due "TwoGuilds" cX0_due 2 none 1 := ⟨⟨by decide, by decide, by decide⟩, q72, q1340, q1339, qs32⟩
def p_X0_due (C : CS) (a0 : Int32) : Prop := ¬ C.1 0 26 = 0 → ¬ C.1 0 24 ≤ C.1 0 25 → vp_in (C.1 0 25) 60
def q_X0_due (C : CS) (a0 : Int32) (C1 : CS) : Prop := C1 = wI (wI C 0 26 (dueB C a0)) 0 25 (C.1 0 25 + dueB C a0)
def wp_X0_due (Post : CS → Prop) (C : CS) (a0 : Int32) : Prop :=
  (((C.1 0 26) = 0 → 
      True) ∧
      (¬ (C.1 0 26) = 0 → 
      (((C.1 0 24) ≤ (C.1 0 25) → 
          True) ∧
          (¬ (C.1 0 24) ≤ (C.1 0 25) → 
          vp_in (C.1 0 25) 60 ∧
            (True))) ∧
        (True))) ∧
    (∀ x8 : Int32, x8 = (if (C.1 0 26) = 0 then (0 : Int32) else (if (C.1 0 24) ≤ (C.1 0 25) then (0 : Int32) else (if (C.2.1 14 (Int32.toNatClampNeg (C.1 0 25))) = a0 then (1 : Int32) else 0))) → 
    ∀ C9 : CS, C9 = (wI C 0 26 x8) → 
    ∀ x12 : Int32, x12 = (if (C9.1 0 26) = 0 then (0 : Int32) else 1) → 
    ∀ C13 : CS, C13 = (wI C9 0 25 ((C9.1 0 25) + x12)) → 
    Post C13)
set_option maxHeartbeats 4000000 in
set_option maxRecDepth 100000 in
theorem gw_X0_due {w : WD} (wk : wOk w) (l : Launch) (C : CS) (a0 : Int32) {Post : CS → Prop} (hw : wp_X0_due Post C a0) : MC w l yX0_due cX0_due 2 none 0 0 0 [.ref (ad w 0), .int a0] C (fun v C1 => v = none ∧ Post C1) := by
  unfold wp_X0_due at hw
  refine MC.of wk (by decide) (Nat.le_of_ble_eq_true rfl) (fun x hx ok => ?_)
  subst hx
  show G w x 2 0 0 (QM w x _ 0 0) C 0 [(0, .ref (ad w 0)), (1, .int a0)] []
  refine g_aload_n ok 0 dX0_due_0 rfl ?_
  refine g_aload_n ok 0 dX0_due_1 rfl ?_
  refine g_get ok 0 rfl rfl in_X0 26 (by decide) q208 rfl dX0_due_2 ?_
  obtain ⟨hr, hw⟩ := hw
  have kj7 : ∀ x8 : Int32, x8 = (if (C.1 0 26) = 0 then (0 : Int32) else (if (C.1 0 24) ≤ (C.1 0 25) then (0 : Int32) else (if (C.2.1 14 (Int32.toNatClampNeg (C.1 0 25))) = a0 then (1 : Int32) else 0))) → G w x 2 0 0 (QM w x (fun v C1 => v = none ∧ Post C1) 0 0) C 37 [(0, .ref (ad w 0))] [.int x8, .ref (ad w 0)] := by
    intro x8 ex8
    have hw := hw x8 ex8
    refine g_putI ok 0 rfl rfl in_X0 tyX0 tyX0_ok nmX0 26 (by decide) q208 rfl (nb_of (by rw [ex8]; exact (ib_ite (Or.inl rfl) (ib_ite (Or.inl rfl) (ib_ite (Or.inr rfl) (Or.inl rfl)))))) (fb_of (by rw [ex8]; exact (ib_ite (Or.inl rfl) (ib_ite (Or.inl rfl) (ib_ite (Or.inr rfl) (Or.inl rfl)))))) (putV_x rfl (by decide)) dX0_due_37 (fun C9 eC9 => ?_)
    have hw := hw C9 eC9
    refine g_aload_n ok 0 dX0_due_40 rfl ?_
    refine g_dup ok dX0_due_41 rfl ?_
    refine g_get ok 0 rfl rfl in_X0 25 (by decide) q207 rfl dX0_due_42 ?_
    refine g_aload_n ok 0 dX0_due_45 rfl ?_
    refine g_get ok 0 rfl rfl in_X0 26 (by decide) q208 rfl dX0_due_46 ?_
    have kj11 : ∀ x12 : Int32, x12 = (if (C9.1 0 26) = 0 then (0 : Int32) else 1) → G w x 2 0 0 (QM w x (fun v C1 => v = none ∧ Post C1) 0 0) C9 57 [] [.int x12, .int (C9.1 0 25), .ref (ad w 0)] := by
      intro x12 ex12
      have hw := hw x12 ex12
      refine g_iadd ok dX0_due_57 ?_
      refine g_putI ok 0 rfl rfl in_X0 tyX0 tyX0_ok nmX0 25 (by decide) q207 rfl rfl rfl (putV_x rfl (by decide)) dX0_due_58 (fun C13 eC13 => ?_)
      have hw := hw C13 eC13
      exact g_vret ok dX0_due_61 ⟨rfl, hw⟩
    refine g_if_eq (tgt := 56) ok dX0_due_49 (by decide) (fun c10 => ?_) (fun c10 => ?_)
    · refine g_iconst (v := 0) ok dX0_due_56 (by decide) ?_
      exact g_sub [] [] rfl (kj11 _ (by simp only [if_pos c10]))
    · refine g_iconst (v := 1) ok dX0_due_52 (by decide) ?_
      refine g_goto (tgt := 57) ok dX0_due_53 (by decide) ?_
      exact g_sub [] [] rfl (kj11 _ (by simp only [if_neg c10]))
  have hw := hr
  refine g_if_eq (tgt := 36) ok dX0_due_5 (by decide) (fun c1 => ?_) (fun c1 => ?_)
  · have hw := hw.1 c1
    refine g_iconst (v := 0) ok dX0_due_36 (by decide) ?_
    exact g_sub [0] [(0, .ref (ad w 0))] rfl (kj7 _ (by simp only [if_pos c1]))
  · have hw := hw.2 c1
    refine g_aload_n ok 0 dX0_due_8 rfl ?_
    refine g_get ok 0 rfl rfl in_X0 25 (by decide) q207 rfl dX0_due_9 ?_
    refine g_aload_n ok 0 dX0_due_12 rfl ?_
    refine g_get ok 0 rfl rfl in_X0 24 (by decide) q206 rfl dX0_due_13 ?_
    obtain ⟨hr, hw⟩ := hw
    have kj6 : G w x 2 0 0 (QM w x (fun v C1 => v = none ∧ Post C1) 0 0) C 37 [(0, .ref (ad w 0))] [.int (if (C.1 0 24) ≤ (C.1 0 25) then (0 : Int32) else (if (C.2.1 14 (Int32.toNatClampNeg (C.1 0 25))) = a0 then (1 : Int32) else 0)), .ref (ad w 0)] := by
      exact (kj7 _ (by simp only [if_neg c1]))
    have hw := hr
    refine g_icmp_ge (tgt := 36) ok dX0_due_16 (by decide) (fun c2 => ?_) (fun c2 => ?_)
    · have hw := hw.1 c2
      refine g_iconst (v := 0) ok dX0_due_36 (by decide) ?_
      simp only [if_pos c2] at kj6
      exact g_sub [0] [(0, .ref (ad w 0))] rfl kj6
    · have hw := hw.2 c2
      refine g_aload_n ok 0 dX0_due_19 rfl ?_
      refine g_get ok 0 rfl rfl in_X0 23 (by decide) q205 rfl dX0_due_20 ?_
      refine g_aload_n ok 0 dX0_due_23 rfl ?_
      refine g_get ok 0 rfl rfl in_X0 25 (by decide) q207 rfl dX0_due_24 ?_
      obtain ⟨hf3, hw⟩ := hw
      refine g_iald ok 14 rfl hf3 _ rfl dX0_due_27 ?_
      refine g_iload_n ok 1 dX0_due_28 rfl ?_
      have kj5 : G w x 2 0 0 (QM w x (fun v C1 => v = none ∧ Post C1) 0 0) C 37 [(0, .ref (ad w 0))] [.int (if (C.2.1 14 (Int32.toNatClampNeg (C.1 0 25))) = a0 then (1 : Int32) else 0), .ref (ad w 0)] := by
        simp only [if_neg c2] at kj6
        exact kj6
      refine g_icmp_ne (tgt := 36) ok dX0_due_29 (by decide) (fun c4 => ?_) (fun c4 => ?_)
      · refine g_iconst (v := 0) ok dX0_due_36 (by decide) ?_
        simp only [if_neg c4] at kj5
        exact g_sub [0] [(0, .ref (ad w 0))] rfl kj5
      · refine g_iconst (v := 1) ok dX0_due_32 (by decide) ?_
        refine g_goto (tgt := 37) ok dX0_due_33 (by decide) ?_
        simp only [if_pos c4] at kj5
        exact g_sub [0] [(0, .ref (ad w 0))] rfl kj5
theorem sp_X0_due (C : CS) (a0 : Int32) (hp : p_X0_due C a0) : wp_X0_due (fun C1 => q_X0_due C a0 C1) C a0 := by
  refine ⟨⟨fun _ => trivial, fun c => ⟨⟨fun _ => trivial, fun c2 => ⟨hp c c2, trivial⟩⟩, trivial⟩⟩, fun x8 e8 C9 e9 x12 e12 C13 e13 => ?_⟩
  have e8 : x8 = dueB C a0 := e8
  have a9 : C9.1 0 26 = dueB C a0 := by rw [e9, e8]; exact wIs
  have b9 : C9.1 0 25 = C.1 0 25 := by rw [e9]; exact wIn (by decide)
  have ex : x12 = dueB C a0 := by
    rw [e12, a9]
    unfold dueB
    repeat' split
    all_goals first | rfl | contradiction
  show C13 = _
  rw [e13, b9, ex, e9, e8]
theorem mc_X0_due {w : WD} (wk : wOk w) (l : Launch) (C : CS) (a0 : Int32) (hp : p_X0_due C a0) : MC w l yX0_due cX0_due 2 none 0 0 0 [.ref (ad w 0), .int a0] C (pVR (q_X0_due C a0)) := MC.postVR (gw_X0_due wk l C a0 (sp_X0_due C a0 hp))
theorem cf_X0_tell : CfV yX0_tell "TwoGuilds" cX0_tell 2 (some .int) 1 := ⟨⟨by decide, by decide, by decide⟩, q72, q1332, q1330, q1331⟩
def p_X0_tell (C : CS) (a0 : Int32) : Prop := ∃ m, m ≤ 60 ∧ C.1 0 24 = nI m
def v_X0_tell (C : CS) (a0 : Int32) : Int32 := if C.1 0 24 = 60 then -1000000003 else C.1 0 24 + 1
def n_X0_tell (C : CS) (a0 : Int32) : CS := if C.1 0 24 = 60 then C else wI (wA C 14 (C.1 0 24).toNatClampNeg a0) 0 24 (C.1 0 24 + 1)
def wp_X0_tell (Post : Int32 → CS → Prop) (C : CS) (a0 : Int32) : Prop :=
  ((C.1 0 24) = 60 → 
    Post (-1000000003) C) ∧
    (¬ (C.1 0 24) = 60 → 
    vp_in (C.1 0 24) 60 ∧
      (∀ C3 : CS, C3 = (wA C 14 (Int32.toNatClampNeg (C.1 0 24)) a0) → 
      ∀ C4 : CS, C4 = (wI C3 0 24 ((C3.1 0 24) + 1)) → 
      Post (C4.1 0 24) C4))
set_option maxHeartbeats 4000000 in
set_option maxRecDepth 100000 in
theorem gw_X0_tell {w : WD} (wk : wOk w) (l : Launch) (C : CS) (a0 : Int32) {Post : Int32 → CS → Prop} (hw : wp_X0_tell Post C a0) : MC w l yX0_tell cX0_tell 2 (some .int) 0 0 0 [.ref (ad w 0), .int a0] C (fun v C1 => ∃ r : Int32, v = some (.int r) ∧ Post r C1) := by
  unfold wp_X0_tell at hw
  refine MC.of wk (by decide) (Nat.le_of_ble_eq_true rfl) (fun x hx ok => ?_)
  subst hx
  show G w x 2 0 0 (QM w x _ 0 0) C 0 [(0, .ref (ad w 0)), (1, .int a0)] []
  refine g_aload_n ok 0 dX0_tell_0 rfl ?_
  refine g_get ok 0 rfl rfl in_X0 24 (by decide) q206 rfl dX0_tell_1 ?_
  refine g_bipush (v := 60) ok dX0_tell_4 (by decide) ?_
  refine g_icmp_ne (tgt := 12) ok dX0_tell_6 (by decide) (fun c1 => ?_) (fun c1 => ?_)
  · have hw := hw.2 c1
    refine g_aload_n ok 0 dX0_tell_12 rfl ?_
    refine g_get ok 0 rfl rfl in_X0 23 (by decide) q205 rfl dX0_tell_13 ?_
    refine g_aload_n ok 0 dX0_tell_16 rfl ?_
    refine g_get ok 0 rfl rfl in_X0 24 (by decide) q206 rfl dX0_tell_17 ?_
    refine g_iload_n ok 1 dX0_tell_20 rfl ?_
    obtain ⟨hf2, hw⟩ := hw
    refine g_iast ok 14 rfl hf2 _ rfl dX0_tell_21 (fun C3 eC3 => ?_)
    have hw := hw C3 eC3
    refine g_aload_n ok 0 dX0_tell_22 rfl ?_
    refine g_dup ok dX0_tell_23 rfl ?_
    refine g_get ok 0 rfl rfl in_X0 24 (by decide) q206 rfl dX0_tell_24 ?_
    refine g_iconst (v := 1) ok dX0_tell_27 (by decide) ?_
    refine g_iadd ok dX0_tell_28 ?_
    refine g_putI ok 0 rfl rfl in_X0 tyX0 tyX0_ok nmX0 24 (by decide) q206 rfl rfl rfl (putV_x rfl (by decide)) dX0_tell_29 (fun C4 eC4 => ?_)
    have hw := hw C4 eC4
    refine g_aload_n ok 0 dX0_tell_32 rfl ?_
    refine g_get ok 0 rfl rfl in_X0 24 (by decide) q206 rfl dX0_tell_33 ?_
    exact g_iret ok dX0_tell_36 ⟨_, rfl, hw⟩
  · have hw := hw.1 c1
    refine g_ldc (v := -1000000003) ok q275 dX0_tell_9 ?_
    exact g_iret ok dX0_tell_11 ⟨_, rfl, hw⟩
theorem sp_X0_tell (C : CS) (a0 : Int32) (hp : p_X0_tell C a0) : wp_X0_tell (fun x C1 => x = v_X0_tell C a0 ∧ C1 = n_X0_tell C a0) C a0 := by
  obtain ⟨m, hm, e⟩ := hp
  unfold v_X0_tell n_X0_tell
  refine ⟨fun c => ?_, fun c => ⟨?_, fun C3 e3 C4 e4 => ?_⟩⟩
  · rw [if_pos c]; exact ⟨rfl, by rw [if_pos c]⟩
  · rw [e]
    rw [e] at c
    refine vp_k ?_
    rcases Nat.lt_or_ge m 60 with h | h
    · exact h
    · have : m = 60 := by omega
      subst this
      exact absurd rfl c
  · rw [if_neg c, if_neg c]
    have : C3.1 0 24 = C.1 0 24 := by rw [e3]; rfl
    rw [this, e3] at e4
    exact ⟨by rw [e4]; exact wIs, e4⟩
theorem mc_X0_tell {w : WD} (wk : wOk w) (l : Launch) (C : CS) (a0 : Int32) (hp : p_X0_tell C a0) : MC w l yX0_tell cX0_tell 2 (some .int) 0 0 0 [.ref (ad w 0), .int a0] C (pI (v_X0_tell C a0) (n_X0_tell C a0)) := MC.postI (gw_X0_tell wk l C a0 (sp_X0_tell C a0 hp))
/-- the image's part of what stands between two questions -/
def imO (C : CS) : Prop := C.1 0 3 = C.1 1 3 ∧ (¬ C.1 0 3 = 0 → TR C 4 (C.2.1 37) ∧ ∃ d, d ≤ 9999 ∧ C.2.1 37 2 = nI d)
def wtO (C : CS) (m : Nat) : Prop := m ≤ 60 ∧ C.1 0 24 = nI m ∧ C.1 1 35 = nI m ∧ ∀ i, i < m → C.2.1 14 i = C.2.1 59 i
def p_X0_check (C : CS) (a0 : Int32) : Prop := opP C ∧ XD C ∧ cN C = 2 ∧ imO C ∧ ∃ m, wtO C m
def v_X0_check (C : CS) (a0 : Int32) : Int32 := v_X3_check C a0
def q_X0_check (C : CS) (a0 : Int32) (C1 : CS) : Prop := ∃ C2, hOp C C2 ∧ C1 = wI C2 0 24 0
def wp_X0_check_j129 (Post : Int32 → CS → Prop) (C : CS) (t2 : Nat) : Prop := ∀ x14 : Int32, x14 = (if (C.1 0 26) = 0 then (1 + (C.1 0 25)) else (if (C.1 0 25) = (C.1 0 24) then (0 : Int32) else (1 + (C.1 0 25)))) → 
  isTb t2 ∧
  (∀ C16 : CS, C16 = (wN C t2) → 
  ∀ C17 : CS, C17 = (wI C16 0 24 0) → 
  Post x14 C17)
def wp_X0_check_l75 (Post : Int32 → CS → Prop) : Nat → CS → Int32 → Nat → Int32 → Prop
  | 0, _, _, _, _ => False
  | n + 1, C, i1, t2, i3 => (i1 ≤ i3 → 
  wp_X0_check_j129 Post C t2) ∧
  (¬ i1 ≤ i3 → 
  isTb (cN C) ∧
    ((9999 ≤ (C.1 (cN C) 3) → 
    wp_X0_check_j129 Post C t2) ∧
    (¬ 9999 ≤ (C.1 (cN C) 3) → 
    ∃ (g20 : (Nat → Int32)), p_X1_goesOn C (cN C) (-1) g20 ∧
      (∀ C22 : CS, q_X1_goesOn C (cN C) (-1) g20 C22 → 
      isTb (cN C22) ∧
      (∃ (g23 : (Nat → Int32)), p_X1_lost C22 (cN C22) g23 ∧
      (∀ r26 : Int32, r26 = (v_X1_lost C22 (cN C22) g23) → 
      p_X0_due C22 r26 ∧
      (∀ C28 : CS, q_X0_due C22 r26 C28 → 
      isTb (cN C28) ∧
      (∃ (g29 : (Nat → Int32)), p_X1_allWear C28 (cN C28) g29 ∧
      (∀ r32 : Int32, r32 = (v_X1_allWear C28 (cN C28) g29) → 
      p_X0_due C28 r32 ∧
      (∀ C34 : CS, q_X0_due C28 r32 C34 → 
      ∀ x35 : Int32, x35 = (i3 + Int32.ofInt 1) → 
      wp_X0_check_l75 Post n C34 i1 t2 x35))))))))))
def wp_X0_check (Post : Int32 → CS → Prop) (C : CS) (a0 : Int32) : Prop :=
  ∀ r1 : Int32, r1 = (v_X0_isIn (Int32.toInt64 a0) 1 30) → 
    (r1 = 0 → 
    isTb (cN C) ∧
      (∀ C41 : CS, C41 = (wN C (cN C)) → 
      ∀ C42 : CS, C42 = (wI C41 0 24 0) → 
      Post (-1000000001) C42)) ∧
    (¬ r1 = 0 → 
    ((C.1 0 3) = 0 → 
      isTb (cN C) ∧
        (∀ C38 : CS, C38 = (wN C (cN C)) → 
        ∀ C39 : CS, C39 = (wI C38 0 24 0) → 
        Post (-1000000002) C39)) ∧
      (¬ (C.1 0 3) = 0 → 
      ∃ (g4 : (Nat → Int32)), p_X0_thinks C 4 g4 ∧
        (∀ C6 : CS, q_X0_thinks C 4 g4 C6 → 
        ∀ C7 : CS, C7 = (wI C6 0 25 0) → 
        ∀ C8 : CS, C8 = (wI C7 0 26 1) → 
        ∃ m75, wp_X0_check_l75 Post m75 C8 a0 (cN C) 0)))
set_option maxHeartbeats 4000000 in
set_option maxRecDepth 100000 in
theorem gw_X0_check_j129 {w : WD} {x : Cx} (ok : Ok w x cX0_check 5 yX0_check.cls (some .int) (rmL 101 11 88)) {Post : Int32 → CS → Prop} : ∀ (C : CS) (t2 : Nat), wp_X0_check_j129 Post  C t2 → G w x 5 11 88 (QM w x (fun v C1 => ∃ r : Int32, v = some (.int r) ∧ Post r C1) 11 88) C 129 [(0, .ref (ad w 0)), (2, .ref (ad w t2))] [] := by
  intro C t2 hw
  unfold wp_X0_check_j129 at hw
  refine g_aload_n ok 0 dX0_check_129 rfl ?_
  refine g_get ok 0 rfl rfl in_X0 26 (by decide) q208 rfl dX0_check_130 ?_
  have kj13 : ∀ x14 : Int32, x14 = (if (C.1 0 26) = 0 then (1 + (C.1 0 25)) else (if (C.1 0 25) = (C.1 0 24) then (0 : Int32) else (1 + (C.1 0 25)))) → G w x 5 11 88 (QM w x (fun v C1 => ∃ r : Int32, v = some (.int r) ∧ Post r C1) 11 88) C 157 [(0, .ref (ad w 0)), (2, .ref (ad w t2))] [.int x14] := by
    intro x14 ex14
    have hw := hw x14 ex14
    refine g_istore_n0 ok [(3, .int x14), (0, .ref (ad w 0)), (2, .ref (ad w t2))] dX0_check_157 (by decide) rfl ?_
    refine g_aload_n ok 1 dX0_check_158 rfl ?_
    refine g_aload_n ok 2 dX0_check_159 rfl ?_
    obtain ⟨hf15, hw⟩ := hw
    refine g_putN ok hf15 q180 dX0_check_160 (fun C16 eC16 => ?_)
    have hw := hw C16 eC16
    refine g_aload_n ok 1 dX0_check_163 rfl ?_
    refine g_iconst (v := 0) ok dX0_check_164 (by decide) ?_
    refine g_putI ok 0 rfl rfl in_X0 tyX0 tyX0_ok nmX0 24 (by decide) q206 rfl rfl rfl (putV_x rfl (by decide)) dX0_check_165 (fun C17 eC17 => ?_)
    have hw := hw C17 eC17
    refine g_iload_n ok 0 dX0_check_168 rfl ?_
    exact g_iret ok dX0_check_169 ⟨_, rfl, hw⟩
  refine g_if_eq (tgt := 151) ok dX0_check_133 (by decide) (fun c10 => ?_) (fun c10 => ?_)
  · refine g_iconst (v := 1) ok dX0_check_151 (by decide) ?_
    refine g_aload_n ok 0 dX0_check_152 rfl ?_
    refine g_get ok 0 rfl rfl in_X0 25 (by decide) q207 rfl dX0_check_153 ?_
    refine g_iadd ok dX0_check_156 ?_
    exact (kj13 _ (by simp only [if_pos c10]))
  · refine g_aload_n ok 0 dX0_check_136 rfl ?_
    refine g_get ok 0 rfl rfl in_X0 25 (by decide) q207 rfl dX0_check_137 ?_
    refine g_aload_n ok 0 dX0_check_140 rfl ?_
    refine g_get ok 0 rfl rfl in_X0 24 (by decide) q206 rfl dX0_check_141 ?_
    have kj12 : G w x 5 11 88 (QM w x (fun v C1 => ∃ r : Int32, v = some (.int r) ∧ Post r C1) 11 88) C 157 [(0, .ref (ad w 0)), (2, .ref (ad w t2))] [.int (if (C.1 0 25) = (C.1 0 24) then (0 : Int32) else (1 + (C.1 0 25)))] := by
      exact (kj13 _ (by simp only [if_neg c10]))
    refine g_icmp_ne (tgt := 151) ok dX0_check_144 (by decide) (fun c11 => ?_) (fun c11 => ?_)
    · refine g_iconst (v := 1) ok dX0_check_151 (by decide) ?_
      refine g_aload_n ok 0 dX0_check_152 rfl ?_
      refine g_get ok 0 rfl rfl in_X0 25 (by decide) q207 rfl dX0_check_153 ?_
      refine g_iadd ok dX0_check_156 ?_
      simp only [if_neg c11] at kj12
      exact kj12
    · refine g_iconst (v := 0) ok dX0_check_147 (by decide) ?_
      refine g_goto (tgt := 157) ok dX0_check_148 (by decide) ?_
      simp only [if_pos c11] at kj12
      exact kj12
set_option maxHeartbeats 4000000 in
set_option maxRecDepth 100000 in
theorem gw_X0_check_l75 {w : WD} {x : Cx} (ok : Ok w x cX0_check 5 yX0_check.cls (some .int) (rmL 101 11 88)) {Post : Int32 → CS → Prop} : ∀ (n : Nat) (C : CS) (i1 : Int32) (t2 : Nat) (i3 : Int32), wp_X0_check_l75 Post  n C i1 t2 i3 → G w x 5 11 88 (QM w x (fun v C1 => ∃ r : Int32, v = some (.int r) ∧ Post r C1) 11 88) C 75 [(0, .ref (ad w 0)), (1, .int i1), (2, .ref (ad w t2)), (3, .int i3)] [] := by
  intro n
  induction n with
  | zero => intro C i1 t2 i3 hw; exact hw.elim
  | succ n ih =>
    intro C i1 t2 i3 hw
    unfold wp_X0_check_l75 at hw
    refine g_iload_n ok 3 dX0_check_75 rfl ?_
    refine g_iload_n ok 1 dX0_check_76 rfl ?_
    refine g_icmp_ge (tgt := 129) ok dX0_check_77 (by decide) (fun c9 => ?_) (fun c9 => ?_)
    · have hw := hw.1 c9
      refine g_sub [0, 2] [(0, .ref (ad w 0)), (2, .ref (ad w t2))] rfl ?_
      exact gw_X0_check_j129 ok C t2 hw
    · have hw := hw.2 c9
      refine g_aload_n ok 0 dX0_check_80 rfl ?_
      refine g_get ok 0 rfl rfl in_X0 0 (by decide) q180 rfl dX0_check_81 ?_
      obtain ⟨hf18, hw⟩ := hw
      refine g_get ok (cN C) (fObjT hf18) rfl in_X1 3 (by decide) q130 rfl dX0_check_84 ?_
      refine g_sipush (v := 9999) ok dX0_check_87 (by decide) ?_
      refine g_icmp_ge (tgt := 129) ok dX0_check_90 (by decide) (fun c19 => ?_) (fun c19 => ?_)
      · have hw := hw.1 c19
        refine g_sub [0, 2] [(0, .ref (ad w 0)), (2, .ref (ad w t2))] rfl ?_
        exact gw_X0_check_j129 ok C t2 hw
      · have hw := hw.2 c19
        refine g_aload_n ok 0 dX0_check_93 rfl ?_
        refine g_get ok 0 rfl rfl in_X0 0 (by decide) q180 rfl dX0_check_94 ?_
        refine g_iconst (v := -1) ok dX0_check_97 (by decide) ?_
        obtain ⟨g20, hp21, hw⟩ := hw
        refine g_callV ok [.int (-1)] cf_X1_goesOn q829 (mc_X1_goesOn ok.wo (xL x) C (cN C) (-1) g20 hp21) (recvF ok (cN C) (fObjT hf18) rfl) rfl rfl (Nat.le_of_ble_eq_true rfl) ⟨by decide, by decide⟩ ⟨by decide, by decide⟩ dX0_check_98 (resVR fun C22 eC22 => ?_)
        have hw := hw C22 eC22
        refine g_aload_n ok 0 dX0_check_101 rfl ?_
        refine g_aload_n ok 0 dX0_check_102 rfl ?_
        refine g_get ok 0 rfl rfl in_X0 0 (by decide) q180 rfl dX0_check_103 ?_
        obtain ⟨hf25, hw⟩ := hw
        obtain ⟨g23, hp24, hw⟩ := hw
        refine g_callV ok [] cf_X1_lost q824 (mc_X1_lost ok.wo (xL x) C22 (cN C22) g23 hp24) (recvF ok (cN C22) (fObjT hf25) rfl) rfl rfl (Nat.le_of_ble_eq_true rfl) ⟨by decide, by decide⟩ ⟨by decide, by decide⟩ dX0_check_106 (resI ?_)
        refine g_nmI (fun r26 er26 => ?_)
        have hw := hw r26 er26
        obtain ⟨hp27, hw⟩ := hw
        refine g_callV ok [.int r26] cf_X0_due q1337 (mc_X0_due ok.wo (xL x) C22 r26 hp27) (recvF ok 0 rfl rfl) rfl rfl (Nat.le_of_ble_eq_true rfl) ⟨by decide, by decide⟩ ⟨by decide, by decide⟩ dX0_check_109 (resVR fun C28 eC28 => ?_)
        have hw := hw C28 eC28
        refine g_aload_n ok 0 dX0_check_112 rfl ?_
        refine g_aload_n ok 0 dX0_check_113 rfl ?_
        refine g_get ok 0 rfl rfl in_X0 0 (by decide) q180 rfl dX0_check_114 ?_
        obtain ⟨hf31, hw⟩ := hw
        obtain ⟨g29, hp30, hw⟩ := hw
        refine g_callV ok [] cf_X1_allWear q875 (mc_X1_allWear ok.wo (xL x) C28 (cN C28) g29 hp30) (recvF ok (cN C28) (fObjT hf31) rfl) rfl rfl (Nat.le_of_ble_eq_true rfl) ⟨by decide, by decide⟩ ⟨by decide, by decide⟩ dX0_check_117 (resI ?_)
        refine g_nmI (fun r32 er32 => ?_)
        have hw := hw r32 er32
        obtain ⟨hp33, hw⟩ := hw
        refine g_callV ok [.int r32] cf_X0_due q1337 (mc_X0_due ok.wo (xL x) C28 r32 hp33) (recvF ok 0 rfl rfl) rfl rfl (Nat.le_of_ble_eq_true rfl) ⟨by decide, by decide⟩ ⟨by decide, by decide⟩ dX0_check_120 (resVR fun C34 eC34 => ?_)
        have hw := hw C34 eC34
        refine g_iinc ok 3 (fun z => [(3, .int z), (0, .ref (ad w 0)), (1, .int i1), (2, .ref (ad w t2))]) dX0_check_123 rfl (by decide) (fun _ => rfl) (fun x35 ex35 => ?_)
        have hw := hw x35 ex35
        refine g_goto (tgt := 75) ok dX0_check_126 (by decide) ?_
        refine g_sub [1, 2, 3, 0] [(0, .ref (ad w 0)), (1, .int i1), (2, .ref (ad w t2)), (3, .int x35)] rfl ?_
        exact ih C34 i1 t2 x35 hw
set_option maxHeartbeats 4000000 in
set_option maxRecDepth 100000 in
theorem gw_X0_check {w : WD} (wk : wOk w) (l : Launch) (C : CS) (a0 : Int32) {Post : Int32 → CS → Prop} (hw : wp_X0_check Post C a0) : MCW w l yX0_check cX0_check 5 (some .int) [(5, 20, 170, 0), (32, 43, 170, 0), (55, 158, 170, 0), (170, 172, 170, 0)] 101 11 88 [.ref (ad w 0), .int a0] C (fun v C1 => ∃ r : Int32, v = some (.int r) ∧ Post r C1) := by
  unfold wp_X0_check at hw
  refine MCW.of wk (by decide) (Nat.le_of_ble_eq_true rfl) (fun x hx ok ht => ?_)
  subst hx
  show G w x 5 0 0 (QM w x _ 11 88) C 0 [(0, .ref (ad w 0)), (1, .int a0)] []
  refine g_aload_n ok 0 dX0_check_0 rfl ?_
  refine g_get ok 0 rfl rfl in_X0 0 (by decide) q180 rfl dX0_check_1 ?_
  refine g_astore_n ok [(2, .ref (ad w (cN C))), (0, .ref (ad w 0)), (1, .int a0)] dX0_check_4 (by decide) rfl ?_
  refine g_iload_n ok 2 dX0_check_5 rfl ?_
  refine g_i2l ok dX0_check_6 ?_
  refine g_lconst (v := 1) ok dX0_check_7 (by decide) ?_
  refine g_ldc2 (v := 30) ok q883 dX0_check_8 ?_
  refine g_callS ok [.long (Int32.toInt64 a0), .long 1, .long 30] cf_X0_isIn q269 (mc_X0_isIn ok.wo (xL x) C (Int32.toInt64 a0) 1 30) rfl rfl (Nat.le_of_ble_eq_true rfl) ⟨by decide, by decide⟩ ⟨by decide, by decide⟩ dX0_check_11 (resI ?_)
  refine g_nmI (fun r1 er1 => ?_)
  have hw := hw r1 er1
  refine g_if_ne (tgt := 32) ok dX0_check_14 (by decide) (fun c2 => ?_) (fun c2 => ?_)
  · have hw := hw.2 c2
    refine g_aload_n ok 1 dX0_check_32 rfl ?_
    refine g_get ok 0 rfl rfl in_X0 3 (by decide) q183 rfl dX0_check_33 ?_
    refine g_if_ne (tgt := 55) ok dX0_check_36 (by decide) (fun c3 => ?_) (fun c3 => ?_)
    · have hw := hw.2 c3
      refine g_aload_n ok 1 dX0_check_55 rfl ?_
      refine g_aload_n ok 1 dX0_check_56 rfl ?_
      refine g_get ok 0 rfl rfl in_X0 2 (by decide) q182 rfl dX0_check_57 ?_
      obtain ⟨g4, hp5, hw⟩ := hw
      refine g_callV ok [.ref (ad w 4)] cf_X0_thinks q852 (mc_X0_thinks ok.wo (xL x) C 4 g4 hp5) (recvF ok 0 rfl rfl) rfl rfl (Nat.le_of_ble_eq_true rfl) ⟨by decide, by decide⟩ ⟨by show 0 + 11 ≤ 11; omega, by show 0 + 88 ≤ 88; omega⟩ dX0_check_60 (resVR fun C6 eC6 => ?_)
      have hw := hw C6 eC6
      refine g_aload_n ok 1 dX0_check_63 rfl ?_
      refine g_iconst (v := 0) ok dX0_check_64 (by decide) ?_
      refine g_putI ok 0 rfl rfl in_X0 tyX0 tyX0_ok nmX0 25 (by decide) q207 rfl rfl rfl (putV_x rfl (by decide)) dX0_check_65 (fun C7 eC7 => ?_)
      have hw := hw C7 eC7
      refine g_aload_n ok 1 dX0_check_68 rfl ?_
      refine g_iconst (v := 1) ok dX0_check_69 (by decide) ?_
      refine g_putI ok 0 rfl rfl in_X0 tyX0 tyX0_ok nmX0 26 (by decide) q208 rfl (nb_of (Or.inr rfl)) (fb_of (Or.inr rfl)) (putV_x rfl (by decide)) dX0_check_70 (fun C8 eC8 => ?_)
      have hw := hw C8 eC8
      refine g_iconst (v := 0) ok dX0_check_73 (by decide) ?_
      refine g_istore_n0 ok [(3, .int 0), (2, .ref (ad w (cN C))), (0, .ref (ad w 0)), (1, .int a0)] dX0_check_74 (by decide) rfl ?_
      refine g_sub [2, 3, 1, 0] [(0, .ref (ad w 0)), (1, .int a0), (2, .ref (ad w (cN C))), (3, .int 0)] rfl ?_
      obtain ⟨n36, hw⟩ := hw
      exact gw_X0_check_l75 ok n36 C8 a0 (cN C) 0 hw
    · have hw := hw.1 c3
      refine g_ldc_w (v := -1000000002) ok q1328 dX0_check_39 ?_
      refine g_istore_n0 ok [(3, .int (-1000000002)), (2, .ref (ad w (cN C))), (0, .ref (ad w 0)), (1, .int a0)] dX0_check_42 (by decide) rfl ?_
      refine g_aload_n ok 2 dX0_check_43 rfl ?_
      refine g_aload_n ok 1 dX0_check_44 rfl ?_
      obtain ⟨hf37, hw⟩ := hw
      refine g_putN ok hf37 q180 dX0_check_45 (fun C38 eC38 => ?_)
      have hw := hw C38 eC38
      refine g_aload_n ok 2 dX0_check_48 rfl ?_
      refine g_iconst (v := 0) ok dX0_check_49 (by decide) ?_
      refine g_putI ok 0 rfl rfl in_X0 tyX0 tyX0_ok nmX0 24 (by decide) q206 rfl rfl rfl (putV_x rfl (by decide)) dX0_check_50 (fun C39 eC39 => ?_)
      have hw := hw C39 eC39
      refine g_iload_n ok 0 dX0_check_53 rfl ?_
      refine g_widen 11 88 (by omega) (by omega) ?_
      exact g_iret ok dX0_check_54 ⟨_, rfl, hw⟩
  · have hw := hw.1 c2
    refine g_ldc (v := -1000000001) ok q274 dX0_check_17 ?_
    refine g_istore_n0 ok [(3, .int (-1000000001)), (2, .ref (ad w (cN C))), (0, .ref (ad w 0)), (1, .int a0)] dX0_check_19 (by decide) rfl ?_
    refine g_aload_n ok 2 dX0_check_20 rfl ?_
    refine g_aload_n ok 1 dX0_check_21 rfl ?_
    obtain ⟨hf40, hw⟩ := hw
    refine g_putN ok hf40 q180 dX0_check_22 (fun C41 eC41 => ?_)
    have hw := hw C41 eC41
    refine g_aload_n ok 2 dX0_check_25 rfl ?_
    refine g_iconst (v := 0) ok dX0_check_26 (by decide) ?_
    refine g_putI ok 0 rfl rfl in_X0 tyX0 tyX0_ok nmX0 24 (by decide) q206 rfl rfl rfl (putV_x rfl (by decide)) dX0_check_27 (fun C42 eC42 => ?_)
    have hw := hw C42 eC42
    refine g_iload_n ok 0 dX0_check_30 rfl ?_
    refine g_widen 11 88 (by omega) (by omega) ?_
    exact g_iret ok dX0_check_31 ⟨_, rfl, hw⟩
theorem TR.w0 {C : CS} {j : Nat} {r : Nat → Int32} (h : TR C j r) (hj : j ≠ 0) (k : Nat) (v : Int32) : TR (wI C 0 k v) j r := h.keep (funext fun q => wIn (fun z => hj z.1)) (fun _ _ => rfl) (fun _ _ => rfl) (fun _ _ => rfl) (fun _ _ => rfl) (keepX.of rfl) (fun _ a _ _ => keepG.of rfl a)
theorem bE.w0 {j : Nat} {C C1 : CS} (h : bE j C C1) {k : Nat} (hk : k = 25 ∨ k = 26) (v : Int32) : bE j C (wI C1 0 k v) :=
  h.tr ⟨fun i q _ hq => wIn (fun z => hq ⟨z.1, by omega⟩), fun _ _ _ _ _ _ => rfl, fun _ _ _ => rfl, rfl, fun _ _ h => h, fun _ _ _ _ => ⟨fun _ => rfl, fun _ => rfl, fun _ => rfl, fun _ => rfl⟩, fun i a hi h => Or.inr ⟨i, hi, h⟩⟩
theorem thI.w0 {C C1 : CS} {r : Nat → Int32} (h : thI C r C1) {k : Nat} (hk : k = 25 ∨ k = 26) (v : Int32) : thI C r (wI C1 0 k v) := by
  obtain ⟨a1, a2, a3, a4, a5⟩ := h
  exact ⟨a1, a2.w0 (by decide) k v, a3.w0 hk v, ⟨a4.1, a4.2⟩, a5⟩
theorem sp_X0_check (C : CS) (a0 : Int32) (hp : p_X0_check C a0) : wp_X0_check (fun x C1 => x = v_X0_check C a0 ∧ q_X0_check C a0 C1) C a0 := by
  obtain ⟨hp, hx, h2, ⟨him, hi2⟩, m, hm, em, em2, htl⟩ := hp
  have rf : ∀ D, D = wN C (cN C) → hOp C D := fun D e => by rw [e]; exact ⟨rfl, (bE.rf 3 C).wN _, hp.2, hx⟩
  unfold v_X0_check v_X3_check
  refine fun r1 e1 => ⟨fun c1 => ⟨hp.1.1, fun C41 e41 C42 e42 => ⟨?_, C41, rf C41 e41, e42⟩⟩, fun c1 => ⟨fun c2 => ⟨hp.1.1, fun C38 e38 C39 e39 => ⟨?_, C38, rf C38 e38, e39⟩⟩, fun c2 => ?_⟩⟩
  all_goals rw [e1, isIn_eq (b := 1) (B := 1) (c := 30) (D := 30) rfl rfl] at c1
  · rw [if_pos c1]
  · rw [if_neg c1, ← him, if_pos c2]
  simp only [if_neg c1, ← him, if_neg c2]
  obtain ⟨t4, d, hd, ed⟩ := hi2 c2
  obtain ⟨n, hn1, hn, rfl⟩ := in1 (m := 30) (by decide) c1
  rw [em2, cl_k (by omega)]
  have eD : chD (C.2.1 37) (nI n) = min (9999 - d) n := by
    unfold chD
    rw [ed, show (9999 : Int32) = nI 9999 from rfl, pk_sub hd, within_k (by omega) (by omega), cl_k (by omega)]
  rw [eD]
  obtain ⟨N, eN, hN, -⟩ := t4.g
  refine ⟨C.2.1 37, ⟨Or.inr (Or.inr rfl), by decide, t4, hp.2, hx⟩, fun C6 h6 C7 e7 C8 e8 => ?_⟩
  have i6 := thI.of h6
  have i8 : thI C (C.2.1 37) C8 := by rw [e8, e7]; exact (i6.w0 (Or.inl rfl) _).w0 (Or.inr rfl) _
  have l8 : C8.1 0 26 = 1 := by rw [e8]; exact wIs
  have a8 : C8.1 0 25 = nI 0 := by rw [e8]; exact (wIn (by decide)).trans (by rw [e7]; exact wIs)
  generalize hr : C.2.1 37 = r at *
  generalize hD : min (9999 - d) n = D at *
  rw [h2]
  have wt : ∀ D1 : CS, bE 3 C D1 → D1.1 0 24 = nI m ∧ D1.2.1 14 = C.2.1 14 := fun D1 b => ⟨(b.1 0 24 (by decide) (by decide)).trans em, b.2.1 14 (by decide) (by decide) (by decide) (by decide) (by decide)⟩
  have due : ∀ D1 : CS, bE 3 C D1 → ∀ a v, D1.1 0 26 = 1 → D1.1 0 25 = nI a → a ≤ 60 → p_X0_due D1 v ∧ (∀ D2, q_X0_due D1 v D2 → (a < m ∧ C.2.1 59 a = v → D2.1 0 26 = 1 ∧ D2.1 0 25 = nI (a + 1)) ∧ (¬ (a < m ∧ C.2.1 59 a = v) → D2.1 0 26 = 0 ∧ D2.1 0 25 = nI a)) := by
    intro D1 b a v h1 h2 ha
    obtain ⟨w1, w2⟩ := wt D1 b
    refine ⟨fun _ c => ?_, fun D2 e => ?_⟩
    · rw [w1, h2, nI_leI (by omega) (by omega)] at c
      rw [h2]; exact vp_k (by omega)
    · have e : D2 = _ := e
      have g1 : D2.1 0 26 = dueB D1 v := by rw [e]; exact (wIn (by decide)).trans wIs
      have g2 : D2.1 0 25 = nI a + dueB D1 v := by rw [e, ← h2]; exact wIs
      have dv : dueB D1 v = if a < m ∧ C.2.1 59 a = v then 1 else 0 := by
        unfold dueB
        rw [h1, if_neg (by decide), w1, h2, w2, cl_k (by omega)]
        by_cases c : a < m
        · rw [if_neg (by rw [nI_leI (by omega) (by omega)]; omega), htl a c]
          by_cases c2 : C.2.1 59 a = v
          · rw [if_pos c2, if_pos ⟨c, c2⟩]
          · rw [if_neg c2, if_neg (fun z => c2 z.2)]
        · rw [if_pos (by rw [nI_leI (by omega) (by omega)]; omega), if_neg (fun z => c z.1)]
      refine ⟨fun c => ?_, fun c => ?_⟩
      · rw [g1, g2, dv, if_pos c, show (1 : Int32) = nI 1 from rfl, nI_add]; exact ⟨rfl, rfl⟩
      · rw [g1, g2, dv, if_neg c]; exact ⟨rfl, Int32.add_zero _⟩
  have due0 : ∀ D1 : CS, ∀ a v, D1.1 0 26 = 0 → D1.1 0 25 = nI a → p_X0_due D1 v ∧ (∀ D2, q_X0_due D1 v D2 → D2.1 0 26 = 0 ∧ D2.1 0 25 = nI a) := by
    intro D1 a v h1 h2
    refine ⟨fun c => absurd h1 c, fun D2 e => ?_⟩
    have e : D2 = _ := e
    have dv : dueB D1 v = 0 := by unfold dueB; rw [if_pos h1]
    rw [e, dv]
    exact ⟨(wIn (by decide)).trans wIs, by rw [show (wI (wI D1 0 26 0) 0 25 (D1.1 0 25 + 0)).1 0 25 = D1.1 0 25 + 0 from wIs, h2]; exact Int32.add_zero _⟩
  have fin : ∀ C1 : CS, ∀ rr, thI C rr C1 → (C1.1 0 26 = 1 ∧ C1.1 0 25 = nI (2 * D) ∧ chL (C.2.1 59) m D 0 r = 2 * D) ∨ (C1.1 0 26 = 0 ∧ ∃ a, a < 2 * D ∧ C1.1 0 25 = nI a ∧ chL (C.2.1 59) m D 0 r = a) → wp_X0_check_j129 (fun x C1 => x = chR r (C.2.1 59) m D ∧ q_X0_check C (nI n) C1) C1 2 := by
    intro C1 rr hi hc x14 e14
    refine ⟨Or.inl rfl, fun C16 e16 C17 e17 => ⟨?_, C16, by rw [e16, ← h2]; exact hi.end, e17⟩⟩
    rw [e14, (wt C1 hi.2.2.1).1]
    unfold chR
    rcases hc with ⟨q1, q2, q3⟩ | ⟨q1, a, q2, q3, q4⟩
    · rw [q1, if_neg (by decide), q2, q3]
      by_cases c : 2 * D = m
      · rw [if_pos (by rw [c]), if_pos ⟨c, rfl⟩]
      · rw [if_neg (fun z => c ((nI_eq (by omega) (by omega)).mp z)), if_neg (fun z => c z.1)]
    · rw [q1, if_pos rfl, q3, q4, if_neg (by omega)]
  have H : ∀ f k, k + f = D → ∀ C1 : CS, thI C (goR r (-1) k).1 C1 → ((C1.1 0 26 = 1 ∧ C1.1 0 25 = nI (2 * k) ∧ chL (C.2.1 59) m D 0 r = chL (C.2.1 59) m f k (goR r (-1) k).1) ∨ (C1.1 0 26 = 0 ∧ ∃ a, a < 2 * D ∧ C1.1 0 25 = nI a ∧ chL (C.2.1 59) m D 0 r = a)) → wp_X0_check_l75 (fun x C1 => x = chR r (C.2.1 59) m D ∧ q_X0_check C (nI n) C1) (f + 1) C1 (nI n) 2 (nI k) := by
    intro f
    induction f with
    | zero =>
      intro k hk C1 hi hc
      have hk : k = D := by omega
      have f9 : C1.1 3 3 = nI (d + k) := by rw [hi.2.1.n.2.2.1]; exact goR_day eN hN ed _ k
      have hc2 : (C1.1 0 26 = 1 ∧ C1.1 0 25 = nI (2 * D) ∧ chL (C.2.1 59) m D 0 r = 2 * D) ∨ (C1.1 0 26 = 0 ∧ ∃ a, a < 2 * D ∧ C1.1 0 25 = nI a ∧ chL (C.2.1 59) m D 0 r = a) := by
        rcases hc with ⟨q1, q2, q3⟩ | q
        · exact Or.inl ⟨q1, by rw [q2, hk], by rw [q3, chL, hk]⟩
        · exact Or.inr q
      refine ⟨fun _ => fin C1 _ hi hc2, fun c => ⟨by rw [hi.1]; exact tb3, fun _ => fin C1 _ hi hc2, fun c2 => ?_⟩⟩
      rw [hi.1, f9] at c2
      clear hc hc2 eD fin due due0
      rw [nI_leI (by omega) (by omega)] at c
      exact absurd ((nI_leI (a := 9999) (by omega) (by omega)).mpr (by omega)) c2
    | succ f ih =>
      intro k hk C1 hi hc
      have f9 : C1.1 3 3 = nI (d + k) := by rw [hi.2.1.n.2.2.1]; exact goR_day eN hN ed _ k
      refine ⟨fun c => ?_, fun _ => ⟨by rw [hi.1]; exact tb3, fun c2 => ?_, fun _ => ?_⟩⟩
      · rw [nI_leI (by omega) (by omega)] at c; omega
      · rw [hi.1, f9] at c2
        have := (nI_leI (a := 9999) (by omega) (by omega)).mp c2
        omega
      rw [hi.1]
      refine ⟨(goR r (-1) k).1, ⟨hi.1.symm, hi.ok.1, hi.ok.2⟩, fun C22 h22 => ?_⟩
      have i22 : thI C (goR r (-1) (k + 1)).1 C22 := hi.days h22.1 h22.2
      have k22 : ∀ q, C22.1 0 q = C1.1 0 q := fun q => by rw [h22.2.1 0 (by decide)]
      rw [i22.1]
      refine ⟨tb3, (goR r (-1) (k + 1)).1, ⟨tb3, i22.2.1⟩, fun r26 e26 => ?_⟩
      have e26 : r26 = lostR (goR r (-1) (k + 1)).1 := e26
      have eg : (goR r (-1) (k + 1)).1 = (dayR (goR r (-1) k).1 (-1)).1 := rfl
      -- what the two questions give
      rcases hc with ⟨q1, q2, q3⟩ | ⟨q1, a, qa, q2, q3⟩
      · obtain ⟨p1, s1⟩ := due C22 i22.2.2.1 (2 * k) r26 (by rw [k22]; exact q1) (by rw [k22]; exact q2) (by omega)
        refine ⟨p1, fun C28 h28 => ?_⟩
        have i28 : thI C (goR r (-1) (k + 1)).1 C28 := by rw [show C28 = _ from h28]; exact (i22.w0 (Or.inr rfl) _).w0 (Or.inl rfl) _
        obtain ⟨s2, s3⟩ := s1 C28 h28
        rw [i28.1]
        refine ⟨tb3, (goR r (-1) (k + 1)).1, ⟨tb3, i28.2.1⟩, fun r32 e32 => ?_⟩
        have e32 : r32 = wearR (goR r (-1) (k + 1)).1 := e32
        rw [chL, ← eg, ← e26, ← e32] at q3
        by_cases c : 2 * k < m ∧ C.2.1 59 (2 * k) = r26
        · obtain ⟨z1, z2⟩ := s2 c
          rw [if_pos c] at q3
          obtain ⟨p3, s4⟩ := due C28 i28.2.2.1 (2 * k + 1) r32 z1 z2 (by omega)
          refine ⟨p3, fun C34 h34 x35 e35 => ?_⟩
          have i34 : thI C (goR r (-1) (k + 1)).1 C34 := by rw [show C34 = _ from h34]; exact (i28.w0 (Or.inr rfl) _).w0 (Or.inl rfl) _
          obtain ⟨s5, s6⟩ := s4 C34 h34
          rw [e35, o1, nI_add]
          refine ih (k + 1) (by omega) C34 i34 ?_
          by_cases c2 : 2 * k + 1 < m ∧ C.2.1 59 (2 * k + 1) = r32
          · rw [if_pos c2] at q3
            exact Or.inl ⟨(s5 c2).1, by rw [(s5 c2).2]; congr 1, q3⟩
          · rw [if_neg c2] at q3
            exact Or.inr ⟨(s6 c2).1, 2 * k + 1, by omega, (s6 c2).2, q3⟩
        · obtain ⟨z1, z2⟩ := s3 c
          rw [if_neg c] at q3
          obtain ⟨p3, s4⟩ := due0 C28 (2 * k) r32 z1 z2
          refine ⟨p3, fun C34 h34 x35 e35 => ?_⟩
          have i34 : thI C (goR r (-1) (k + 1)).1 C34 := by rw [show C34 = _ from h34]; exact (i28.w0 (Or.inr rfl) _).w0 (Or.inl rfl) _
          rw [e35, o1, nI_add]
          exact ih (k + 1) (by omega) C34 i34 (Or.inr ⟨(s4 C34 h34).1, 2 * k, by omega, (s4 C34 h34).2, q3⟩)
      · obtain ⟨p1, s1⟩ := due0 C22 a r26 (by rw [k22]; exact q1) (by rw [k22]; exact q2)
        refine ⟨p1, fun C28 h28 => ?_⟩
        have i28 : thI C (goR r (-1) (k + 1)).1 C28 := by rw [show C28 = _ from h28]; exact (i22.w0 (Or.inr rfl) _).w0 (Or.inl rfl) _
        rw [i28.1]
        refine ⟨tb3, (goR r (-1) (k + 1)).1, ⟨tb3, i28.2.1⟩, fun r32 e32 => ?_⟩
        obtain ⟨z1, z2⟩ := s1 C28 h28
        obtain ⟨p3, s4⟩ := due0 C28 a r32 z1 z2
        refine ⟨p3, fun C34 h34 x35 e35 => ?_⟩
        have i34 : thI C (goR r (-1) (k + 1)).1 C34 := by rw [show C34 = _ from h34]; exact (i28.w0 (Or.inr rfl) _).w0 (Or.inl rfl) _
        rw [e35, o1, nI_add]
        exact ih (k + 1) (by omega) C34 i34 (Or.inr ⟨(s4 C34 h34).1, a, qa, (s4 C34 h34).2, q3⟩)
  exact ⟨D + 1, H D 0 (by omega) C8 i8 (Or.inl ⟨l8, a8, rfl⟩)⟩
theorem mc_X0_check {w : WD} (wk : wOk w) (l : Launch) (C : CS) (a0 : Int32) (hp : p_X0_check C a0) : MCW w l yX0_check cX0_check 5 (some .int) [(5, 20, 170, 0), (32, 43, 170, 0), (55, 158, 170, 0), (170, 172, 170, 0)] 101 11 88 [.ref (ad w 0), .int a0] C (pIR (v_X0_check C a0) (q_X0_check C a0)) := MCW.postIR (gw_X0_check wk l C a0 (sp_X0_check C a0 hp))
