/-- a text of the tape: where it fails, or its key, its signs, how many numbers and names -/
def txR (tp : Nat → Int32) (L : Nat) (v : Int32) : Nat ⊕ (Nat × List Int32 × Nat) :=
  match (if (goT tp L 0 v (-1)).2.2.1 = 1 then kyL tp (goT tp L 0 v (-1)).2.1 (goT tp L 0 v (-1)).1 3 0 else none) with
  | none => Sum.inl (goT tp L 0 v (-1)).2.1
  | some w => match eT tp L (nI w) (stp tp L (goT tp L 0 v (-1))) with
    | some (b, c, a, t) => if b = true ∧ t.2.2.1 = 0 then Sum.inr (w, c, a) else Sum.inl t.2.1
    | none => Sum.inl 0
def tRow (r : Nat → Int32) (T w : Nat) (c : List Int32) (a : Nat) : Nat → Int32 := fun i => if i = 5 then nI (T + 1) else if i = 76 + 2 * T then nI (1000 * w + c.length) else if i = 77 + 2 * T then nI a else if 104 + 96 * T ≤ i ∧ i < 104 + 96 * T + c.length then c.getD (i - (104 + 96 * T)) 0 else r i
/-- all but what the reader of a text writes, and the row now, is as it was -/
def xEq (C D : CS) : Prop := D.2.2 = C.2.2 ∧ (∀ j k, ¬ (j = 1 ∧ ((9 ≤ k ∧ k ≤ 15) ∨ k = 19 ∨ k = 20 ∨ k = 22)) → D.1 j k = C.1 j k) ∧ ∀ j, j ≠ 36 → j ≠ 46 → j ≠ 47 → j ≠ 48 → D.2.1 j = C.2.1 j
theorem stk_at {A : Nat → Int32} : ∀ {S : List Int32}, stk A S → ∀ i, i < S.length → A i = S.reverse.getD i 0
  | [], _, i, hi => by cases hi
  | o :: S, h, i, hi => by
    rw [List.reverse_cons]
    by_cases c : i < S.length
    · rw [stk_at h.2 i c, List.getD_eq_getElem?_getD, List.getD_eq_getElem?_getD, List.getElem?_append_left (by rw [List.length_reverse]; exact c)]
    · have e : i = S.length := by rw [List.length_cons] at hi; omega
      rw [List.getD_eq_getElem?_getD, List.getElem?_append_right (by rw [List.length_reverse]; omega), e, List.length_reverse, Nat.sub_self]
      exact h.1
theorem kyL_lt {tp : Nat → Int32} {q r : Nat} : ∀ {d w k : Nat}, kyL tp q r d w = some k → k < w + d
  | 0, _, _, h => by cases h
  | d + 1, w, k, h => by
    rw [kyL] at h
    split at h
    · cases h; omega
    · have := kyL_lt h; omega
theorem cf_X3_text : CfV yX3_text "TwoGuildsModel" cX3_text 4 (some .int) 0 := ⟨⟨by decide, by decide, by decide⟩, q75, q1723, q1721, q1722⟩
def p_X3_text (C : CS) : Prop := kOk C ∧ (∃ L, C.1 1 9 = nI L ∧ L ≤ 96) ∧ ∃ T, C.2.1 36 5 = nI T ∧ T ≤ 14
def txO (C : CS) : Nat ⊕ (Nat × List Int32 × Nat) := txR (C.2.1 43) (C.1 1 9).toNatClampNeg (C.1 1 13)
def v_X3_text (C : CS) : Int32 := match txO C with | Sum.inl p => -100 - nI p | Sum.inr _ => if C.2.1 36 5 = 14 then -1000000003 else C.2.1 36 5
def q_X3_text (C C1 : CS) : Prop := xEq C C1 ∧ C1.1 1 9 = 0 ∧ C1.2.1 36 = (match txO C with | Sum.inl _ => C.2.1 36 | Sum.inr (w, c, a) => if C.2.1 36 5 = 14 then C.2.1 36 else tRow (C.2.1 36) (C.2.1 36 5).toNatClampNeg w c a)
def wp_X3_text_l115 (Post : Int32 → CS → Prop) : Nat → CS → Int32 → Int32 → Prop
  | 0, _, _, _ => False
  | n + 1, C, i2, i3 => ((C.1 1 19) ≤ i3 → 
  ∀ C14 : CS, C14 = (wA C 36 5 ((C.2.1 36 5) + 1)) → 
    Post i2 C14) ∧
  (¬ (C.1 1 19) ≤ i3 → 
  vp_in i3 96 ∧
    (vp_in ((104 + (96 * i2)) + i3) 1448 ∧
    (∀ C15 : CS, C15 = (wA C 36 (Int32.toNatClampNeg ((104 + (96 * i2)) + i3)) (C.2.1 46 (Int32.toNatClampNeg i3))) → 
    ∀ x16 : Int32, x16 = (i3 + Int32.ofInt 1) → 
    wp_X3_text_l115 Post n C15 i2 x16)))
def wp_X3_text_j33 (Post : Int32 → CS → Prop) (C : CS) (s0 : Int32) : Prop := ∀ C7 : CS, C7 = (wI C 1 9 0) → 
  (s0 = 0 → 
  Post ((-100) - (C7.1 1 11)) C7) ∧
  (¬ s0 = 0 → 
  ((C7.2.1 36 5) = 14 → 
    Post (-1000000003) C7) ∧
    (¬ (C7.2.1 36 5) = 14 → 
    ∀ x10 : Int32, x10 = (C7.2.1 36 5) → 
      vp_in (76 + (2 * x10)) 1448 ∧
      (∀ C11 : CS, C11 = (wA C7 36 (Int32.toNatClampNeg (76 + (2 * x10))) ((1000 * (C7.1 1 15)) + (C7.1 1 19))) → 
      vp_in ((76 + (2 * x10)) + 1) 1448 ∧
      (∀ C12 : CS, C12 = (wA C11 36 (Int32.toNatClampNeg ((76 + (2 * x10)) + 1)) (C11.1 1 20)) → 
      ∃ m115, wp_X3_text_l115 Post m115 C12 x10 0))))
def wp_X3_text_j32 (Post : Int32 → CS → Prop) (C : CS)  : Prop := wp_X3_text_j33 Post C 0
def wp_X3_text (Post : Int32 → CS → Prop) (C : CS)  : Prop :=
  ∀ C1 : CS, C1 = (wI C 1 10 0) → 
    ∀ C2 : CS, C2 = (wI C1 1 14 (-1)) → 
    p_X3_go C2 ∧
    (∀ C3 : CS, q_X3_go C2 C3 → 
    p_X3_takesKey C3 ∧
    (∀ r5 : Int32, r5 = (v_X3_takesKey C3) → 
    ∀ C4 : CS, q_X3_takesKey C3 C4 → 
    (r5 = 0 → 
    wp_X3_text_j32 Post C4 ) ∧
    (¬ r5 = 0 → 
    p_X3_takesE C4 ∧
      (∀ r19 : Int32, r19 = (v_X3_takesE C4) → 
      ∀ C18 : CS, q_X3_takesE C4 C18 → 
      ∀ x22 : Int32, x22 = (if r19 = 0 then (0 : Int32) else 1) → 
      ∀ C23 : CS, C23 = (wI C18 1 9 0) → 
      (x22 = 0 → 
      Post ((-100) - (C23.1 1 11)) C23) ∧
      (¬ x22 = 0 → 
      ((C23.2.1 36 5) = 14 → 
        Post (-1000000003) C23) ∧
        (¬ (C23.2.1 36 5) = 14 → 
        ∀ x26 : Int32, x26 = (C23.2.1 36 5) → 
          vp_in (76 + (2 * x26)) 1448 ∧
          (∀ C27 : CS, C27 = (wA C23 36 (Int32.toNatClampNeg (76 + (2 * x26))) ((1000 * (C23.1 1 15)) + (C23.1 1 19))) → 
          vp_in ((76 + (2 * x26)) + 1) 1448 ∧
          (∀ C28 : CS, C28 = (wA C27 36 (Int32.toNatClampNeg ((76 + (2 * x26)) + 1)) (C27.1 1 20)) → 
          ∃ m115, wp_X3_text_l115 Post m115 C28 x26 0))))))))
set_option maxHeartbeats 4000000 in
set_option maxRecDepth 100000 in
theorem gw_X3_text_l115 {w : WD} {x : Cx} (ok : Ok w x cX3_text 4 yX3_text.cls (some .int) (rmL 4 0 0)) {Post : Int32 → CS → Prop} : ∀ (n : Nat) (C : CS) (i2 : Int32) (i3 : Int32), wp_X3_text_l115 Post  n C i2 i3 → G w x 4 0 0 (QM w x (fun v C1 => ∃ r : Int32, v = some (.int r) ∧ Post r C1) 0 0) C 115 [(0, .ref (ad w 1)), (2, .int i2), (3, .int i3)] [] := by
  intro n
  induction n with
  | zero => intro C i2 i3 hw; exact hw.elim
  | succ n ih =>
    intro C i2 i3 hw
    unfold wp_X3_text_l115 at hw
    refine g_iload_n ok 2 dX3_text_115 rfl ?_
    refine g_aload_n ok 0 dX3_text_116 rfl ?_
    refine g_get ok 1 rfl rfl in_X3 19 (by decide) q1378 rfl dX3_text_117 ?_
    refine g_icmp_ge (tgt := 149) ok dX3_text_120 (by decide) (fun c13 => ?_) (fun c13 => ?_)
    · have hw := hw.1 c13
      refine g_aload_n ok 0 dX3_text_149 rfl ?_
      refine g_get ok 1 rfl rfl in_X3 0 (by decide) q1359 rfl dX3_text_150 ?_
      refine g_iconst (v := 5) ok dX3_text_153 (by decide) ?_
      refine g_dup2 ok dX3_text_154 rfl rfl ?_
      refine g_iald ok 36 rfl (by unfold vp_in; decide) 5 (by decide) dX3_text_155 ?_
      refine g_iconst (v := 1) ok dX3_text_156 (by decide) ?_
      refine g_iadd ok dX3_text_157 ?_
      refine g_iast ok 36 rfl (by unfold vp_in; decide) 5 (by decide) dX3_text_158 (fun C14 eC14 => ?_)
      have hw := hw C14 eC14
      refine g_iload_n ok 1 dX3_text_159 rfl ?_
      exact g_iret ok dX3_text_160 ⟨_, rfl, hw⟩
    · have hw := hw.2 c13
      refine g_aload_n ok 0 dX3_text_123 rfl ?_
      refine g_get ok 1 rfl rfl in_X3 0 (by decide) q1359 rfl dX3_text_124 ?_
      refine g_bipush (v := 104) ok dX3_text_127 (by decide) ?_
      refine g_bipush (v := 96) ok dX3_text_129 (by decide) ?_
      refine g_iload_n ok 1 dX3_text_131 rfl ?_
      refine g_imul ok dX3_text_132 ?_
      refine g_iadd ok dX3_text_133 ?_
      refine g_iload_n ok 2 dX3_text_134 rfl ?_
      refine g_iadd ok dX3_text_135 ?_
      refine g_aload_n ok 0 dX3_text_136 rfl ?_
      refine g_get ok 1 rfl rfl in_X3 18 (by decide) q1377 rfl dX3_text_137 ?_
      refine g_iload_n ok 2 dX3_text_140 rfl ?_
      obtain ⟨hg, hw⟩ := hw
      refine g_iald ok 46 rfl hg _ rfl dX3_text_141 ?_
      obtain ⟨hg, hw⟩ := hw
      refine g_iast ok 36 rfl hg _ rfl dX3_text_142 (fun C15 eC15 => ?_)
      have hw := hw C15 eC15
      refine g_iinc ok 2 (fun z => [(3, .int z), (0, .ref (ad w 1)), (2, .int i2)]) dX3_text_143 rfl (by decide) (fun _ => rfl) (fun x16 ex16 => ?_)
      have hw := hw x16 ex16
      refine g_goto (tgt := 115) ok dX3_text_146 (by decide) ?_
      refine g_sub [1, 2, 0] [(0, .ref (ad w 1)), (2, .int i2), (3, .int x16)] rfl ?_
      exact ih C15 i2 x16 hw
set_option maxHeartbeats 4000000 in
set_option maxRecDepth 100000 in
theorem gw_X3_text_j33 {w : WD} {x : Cx} (ok : Ok w x cX3_text 4 yX3_text.cls (some .int) (rmL 4 0 0)) {Post : Int32 → CS → Prop} : ∀ (C : CS) (s0 : Int32), wp_X3_text_j33 Post  C s0 → G w x 4 0 0 (QM w x (fun v C1 => ∃ r : Int32, v = some (.int r) ∧ Post r C1) 0 0) C 33 [(0, .ref (ad w 1))] [.int s0] := by
  intro C s0 hw
  unfold wp_X3_text_j33 at hw
  refine g_istore_n0 ok [(1, .int s0), (0, .ref (ad w 1))] dX3_text_33 (by decide) rfl ?_
  refine g_aload_n ok 1 dX3_text_34 rfl ?_
  refine g_iconst (v := 0) ok dX3_text_35 (by decide) ?_
  refine g_putI ok 1 rfl rfl in_X3 tyX3 tyX3_ok nmX3 9 (by decide) q1368 rfl rfl rfl (putV_m rfl) dX3_text_36 (fun C7 eC7 => ?_)
  have hw := hw C7 eC7
  refine g_iload_n ok 0 dX3_text_39 rfl ?_
  refine g_if_ne (tgt := 51) ok dX3_text_40 (by decide) (fun c8 => ?_) (fun c8 => ?_)
  · have hw := hw.2 c8
    refine g_aload_n ok 1 dX3_text_51 rfl ?_
    refine g_get ok 1 rfl rfl in_X3 0 (by decide) q1359 rfl dX3_text_52 ?_
    refine g_iconst (v := 5) ok dX3_text_55 (by decide) ?_
    refine g_iald ok 36 rfl (by unfold vp_in; decide) 5 (by decide) dX3_text_56 ?_
    refine g_bipush (v := 14) ok dX3_text_57 (by decide) ?_
    refine g_icmp_ne (tgt := 65) ok dX3_text_59 (by decide) (fun c9 => ?_) (fun c9 => ?_)
    · have hw := hw.2 c9
      refine g_aload_n ok 1 dX3_text_65 rfl ?_
      refine g_get ok 1 rfl rfl in_X3 0 (by decide) q1359 rfl dX3_text_66 ?_
      refine g_iconst (v := 5) ok dX3_text_69 (by decide) ?_
      refine g_iald ok 36 rfl (by unfold vp_in; decide) 5 (by decide) dX3_text_70 ?_
      refine g_istore_n ok (fun z => [(2, .int z), (1, .int s0), (0, .ref (ad w 1))]) dX3_text_71 (by decide) (fun _ => rfl) (fun x10 ex10 => ?_)
      have hw := hw x10 ex10
      refine g_aload_n ok 2 dX3_text_72 rfl ?_
      refine g_get ok 1 rfl rfl in_X3 0 (by decide) q1359 rfl dX3_text_73 ?_
      refine g_bipush (v := 76) ok dX3_text_76 (by decide) ?_
      refine g_iconst (v := 2) ok dX3_text_78 (by decide) ?_
      refine g_iload_n ok 0 dX3_text_79 rfl ?_
      refine g_imul ok dX3_text_80 ?_
      refine g_iadd ok dX3_text_81 ?_
      refine g_sipush (v := 1000) ok dX3_text_82 (by decide) ?_
      refine g_aload_n ok 2 dX3_text_85 rfl ?_
      refine g_get ok 1 rfl rfl in_X3 15 (by decide) q1374 rfl dX3_text_86 ?_
      refine g_imul ok dX3_text_89 ?_
      refine g_aload_n ok 2 dX3_text_90 rfl ?_
      refine g_get ok 1 rfl rfl in_X3 19 (by decide) q1378 rfl dX3_text_91 ?_
      refine g_iadd ok dX3_text_94 ?_
      obtain ⟨hg, hw⟩ := hw
      refine g_iast ok 36 rfl hg _ rfl dX3_text_95 (fun C11 eC11 => ?_)
      have hw := hw C11 eC11
      refine g_aload_n ok 2 dX3_text_96 rfl ?_
      refine g_get ok 1 rfl rfl in_X3 0 (by decide) q1359 rfl dX3_text_97 ?_
      refine g_bipush (v := 76) ok dX3_text_100 (by decide) ?_
      refine g_iconst (v := 2) ok dX3_text_102 (by decide) ?_
      refine g_iload_n ok 0 dX3_text_103 rfl ?_
      refine g_imul ok dX3_text_104 ?_
      refine g_iadd ok dX3_text_105 ?_
      refine g_iconst (v := 1) ok dX3_text_106 (by decide) ?_
      refine g_iadd ok dX3_text_107 ?_
      refine g_aload_n ok 2 dX3_text_108 rfl ?_
      refine g_get ok 1 rfl rfl in_X3 20 (by decide) q1379 rfl dX3_text_109 ?_
      obtain ⟨hg, hw⟩ := hw
      refine g_iast ok 36 rfl hg _ rfl dX3_text_112 (fun C12 eC12 => ?_)
      have hw := hw C12 eC12
      refine g_iconst (v := 0) ok dX3_text_113 (by decide) ?_
      refine g_istore_n0 ok [(3, .int 0), (2, .int x10), (1, .int s0), (0, .ref (ad w 1))] dX3_text_114 (by decide) rfl ?_
      refine g_sub [3, 1, 0] [(0, .ref (ad w 1)), (2, .int x10), (3, .int 0)] rfl ?_
      obtain ⟨n17, hw⟩ := hw
      exact gw_X3_text_l115 ok n17 C12 x10 0 hw
    · have hw := hw.1 c9
      refine g_ldc (v := -1000000003) ok q1478 dX3_text_62 ?_
      exact g_iret ok dX3_text_64 ⟨_, rfl, hw⟩
  · have hw := hw.1 c8
    refine g_bipush (v := -100) ok dX3_text_43 (by decide) ?_
    refine g_aload_n ok 1 dX3_text_45 rfl ?_
    refine g_get ok 1 rfl rfl in_X3 11 (by decide) q1370 rfl dX3_text_46 ?_
    refine g_isub ok dX3_text_49 ?_
    exact g_iret ok dX3_text_50 ⟨_, rfl, hw⟩
set_option maxHeartbeats 4000000 in
set_option maxRecDepth 100000 in
theorem gw_X3_text_j32 {w : WD} {x : Cx} (ok : Ok w x cX3_text 4 yX3_text.cls (some .int) (rmL 4 0 0)) {Post : Int32 → CS → Prop} : ∀ (C : CS) , wp_X3_text_j32 Post  C  → G w x 4 0 0 (QM w x (fun v C1 => ∃ r : Int32, v = some (.int r) ∧ Post r C1) 0 0) C 32 [(0, .ref (ad w 1))] [] := by
  intro C  hw
  unfold wp_X3_text_j32 at hw
  refine g_iconst (v := 0) ok dX3_text_32 (by decide) ?_
  exact gw_X3_text_j33 ok C 0 hw
set_option maxHeartbeats 4000000 in
set_option maxRecDepth 100000 in
theorem gw_X3_text {w : WD} (wk : wOk w) (l : Launch) (C : CS)  {Post : Int32 → CS → Prop} (hw : wp_X3_text Post C ) : MC w l yX3_text cX3_text 4 (some .int) 4 0 0 [.ref (ad w 1)] C (fun v C1 => ∃ r : Int32, v = some (.int r) ∧ Post r C1) := by
  unfold wp_X3_text at hw
  refine MC.of wk (by decide) (Nat.le_of_ble_eq_true rfl) (fun x hx ok => ?_)
  subst hx
  show G w x 4 0 0 (QM w x _ 0 0) C 0 [(0, .ref (ad w 1))] []
  refine g_aload_n ok 0 dX3_text_0 rfl ?_
  refine g_iconst (v := 0) ok dX3_text_1 (by decide) ?_
  refine g_putI ok 1 rfl rfl in_X3 tyX3 tyX3_ok nmX3 10 (by decide) q1369 rfl rfl rfl (putV_m rfl) dX3_text_2 (fun C1 eC1 => ?_)
  have hw := hw C1 eC1
  refine g_aload_n ok 0 dX3_text_5 rfl ?_
  refine g_iconst (v := -1) ok dX3_text_6 (by decide) ?_
  refine g_putI ok 1 rfl rfl in_X3 tyX3 tyX3_ok nmX3 14 (by decide) q1373 rfl rfl rfl (putV_m rfl) dX3_text_7 (fun C2 eC2 => ?_)
  have hw := hw C2 eC2
  refine g_aload_n ok 0 dX3_text_10 rfl ?_
  obtain ⟨hp, hw⟩ := hw
  refine g_callVVR ok [] cf_X3_go q1724 (mc_X3_go ok.wo (xL x) C2 hp) (recvF ok 1 rfl rfl) rfl rfl (Nat.le_of_ble_eq_true rfl) ⟨by decide, by decide⟩ ⟨by decide, by decide⟩ dX3_text_11 (fun C3 eC3 => ?_)
  have hw := hw C3 eC3
  refine g_aload_n ok 0 dX3_text_14 rfl ?_
  obtain ⟨hp, hw⟩ := hw
  refine g_callVIR ok [] cf_X3_takesKey q1736 (mc_X3_takesKey ok.wo (xL x) C3 hp) (recvF ok 1 rfl rfl) rfl rfl (Nat.le_of_ble_eq_true rfl) ⟨by decide, by decide⟩ ⟨by decide, by decide⟩ dX3_text_15 (fun C4 eC4 => ?_)
  refine g_nmI (fun r5 er5 => ?_)
  have hw := hw r5 er5 C4 eC4
  refine g_if_eq (tgt := 32) ok dX3_text_18 (by decide) (fun c6 => ?_) (fun c6 => ?_)
  · have hw := hw.1 c6
    exact gw_X3_text_j32 ok C4  hw
  · have hw := hw.2 c6
    refine g_aload_n ok 0 dX3_text_21 rfl ?_
    obtain ⟨hp, hw⟩ := hw
    refine g_callVIR ok [] cf_X3_takesE q1740 (mc_X3_takesE ok.wo (xL x) C4 hp) (recvF ok 1 rfl rfl) rfl rfl (Nat.le_of_ble_eq_true rfl) ⟨by decide, by decide⟩ ⟨by decide, by decide⟩ dX3_text_22 (fun C18 eC18 => ?_)
    refine g_nmI (fun r19 er19 => ?_)
    have hw := hw r19 er19 C18 eC18
    have kj21 : ∀ x22 : Int32, x22 = (if r19 = 0 then (0 : Int32) else 1) → G w x 4 0 0 (QM w x (fun v C1 => ∃ r : Int32, v = some (.int r) ∧ Post r C1) 0 0) C18 33 [(0, .ref (ad w 1))] [.int x22] := by
      intro x22 ex22
      have hw := hw x22 ex22
      refine g_istore_n0 ok [(1, .int x22), (0, .ref (ad w 1))] dX3_text_33 (by decide) rfl ?_
      refine g_aload_n ok 1 dX3_text_34 rfl ?_
      refine g_iconst (v := 0) ok dX3_text_35 (by decide) ?_
      refine g_putI ok 1 rfl rfl in_X3 tyX3 tyX3_ok nmX3 9 (by decide) q1368 rfl rfl rfl (putV_m rfl) dX3_text_36 (fun C23 eC23 => ?_)
      have hw := hw C23 eC23
      refine g_iload_n ok 0 dX3_text_39 rfl ?_
      refine g_if_ne (tgt := 51) ok dX3_text_40 (by decide) (fun c24 => ?_) (fun c24 => ?_)
      · have hw := hw.2 c24
        refine g_aload_n ok 1 dX3_text_51 rfl ?_
        refine g_get ok 1 rfl rfl in_X3 0 (by decide) q1359 rfl dX3_text_52 ?_
        refine g_iconst (v := 5) ok dX3_text_55 (by decide) ?_
        refine g_iald ok 36 rfl (by unfold vp_in; decide) 5 (by decide) dX3_text_56 ?_
        refine g_bipush (v := 14) ok dX3_text_57 (by decide) ?_
        refine g_icmp_ne (tgt := 65) ok dX3_text_59 (by decide) (fun c25 => ?_) (fun c25 => ?_)
        · have hw := hw.2 c25
          refine g_aload_n ok 1 dX3_text_65 rfl ?_
          refine g_get ok 1 rfl rfl in_X3 0 (by decide) q1359 rfl dX3_text_66 ?_
          refine g_iconst (v := 5) ok dX3_text_69 (by decide) ?_
          refine g_iald ok 36 rfl (by unfold vp_in; decide) 5 (by decide) dX3_text_70 ?_
          refine g_istore_n ok (fun z => [(2, .int z), (1, .int x22), (0, .ref (ad w 1))]) dX3_text_71 (by decide) (fun _ => rfl) (fun x26 ex26 => ?_)
          have hw := hw x26 ex26
          refine g_aload_n ok 2 dX3_text_72 rfl ?_
          refine g_get ok 1 rfl rfl in_X3 0 (by decide) q1359 rfl dX3_text_73 ?_
          refine g_bipush (v := 76) ok dX3_text_76 (by decide) ?_
          refine g_iconst (v := 2) ok dX3_text_78 (by decide) ?_
          refine g_iload_n ok 0 dX3_text_79 rfl ?_
          refine g_imul ok dX3_text_80 ?_
          refine g_iadd ok dX3_text_81 ?_
          refine g_sipush (v := 1000) ok dX3_text_82 (by decide) ?_
          refine g_aload_n ok 2 dX3_text_85 rfl ?_
          refine g_get ok 1 rfl rfl in_X3 15 (by decide) q1374 rfl dX3_text_86 ?_
          refine g_imul ok dX3_text_89 ?_
          refine g_aload_n ok 2 dX3_text_90 rfl ?_
          refine g_get ok 1 rfl rfl in_X3 19 (by decide) q1378 rfl dX3_text_91 ?_
          refine g_iadd ok dX3_text_94 ?_
          obtain ⟨hg, hw⟩ := hw
          refine g_iast ok 36 rfl hg _ rfl dX3_text_95 (fun C27 eC27 => ?_)
          have hw := hw C27 eC27
          refine g_aload_n ok 2 dX3_text_96 rfl ?_
          refine g_get ok 1 rfl rfl in_X3 0 (by decide) q1359 rfl dX3_text_97 ?_
          refine g_bipush (v := 76) ok dX3_text_100 (by decide) ?_
          refine g_iconst (v := 2) ok dX3_text_102 (by decide) ?_
          refine g_iload_n ok 0 dX3_text_103 rfl ?_
          refine g_imul ok dX3_text_104 ?_
          refine g_iadd ok dX3_text_105 ?_
          refine g_iconst (v := 1) ok dX3_text_106 (by decide) ?_
          refine g_iadd ok dX3_text_107 ?_
          refine g_aload_n ok 2 dX3_text_108 rfl ?_
          refine g_get ok 1 rfl rfl in_X3 20 (by decide) q1379 rfl dX3_text_109 ?_
          obtain ⟨hg, hw⟩ := hw
          refine g_iast ok 36 rfl hg _ rfl dX3_text_112 (fun C28 eC28 => ?_)
          have hw := hw C28 eC28
          refine g_iconst (v := 0) ok dX3_text_113 (by decide) ?_
          refine g_istore_n0 ok [(3, .int 0), (2, .int x26), (1, .int x22), (0, .ref (ad w 1))] dX3_text_114 (by decide) rfl ?_
          refine g_sub [3, 1, 0] [(0, .ref (ad w 1)), (2, .int x26), (3, .int 0)] rfl ?_
          obtain ⟨n29, hw⟩ := hw
          exact gw_X3_text_l115 ok n29 C28 x26 0 hw
        · have hw := hw.1 c25
          refine g_ldc (v := -1000000003) ok q1478 dX3_text_62 ?_
          exact g_iret ok dX3_text_64 ⟨_, rfl, hw⟩
      · have hw := hw.1 c24
        refine g_bipush (v := -100) ok dX3_text_43 (by decide) ?_
        refine g_aload_n ok 1 dX3_text_45 rfl ?_
        refine g_get ok 1 rfl rfl in_X3 11 (by decide) q1370 rfl dX3_text_46 ?_
        refine g_isub ok dX3_text_49 ?_
        exact g_iret ok dX3_text_50 ⟨_, rfl, hw⟩
    refine g_if_eq (tgt := 32) ok dX3_text_25 (by decide) (fun c20 => ?_) (fun c20 => ?_)
    · refine g_iconst (v := 0) ok dX3_text_32 (by decide) ?_
      exact (kj21 _ (by simp only [if_pos c20]))
    · refine g_iconst (v := 1) ok dX3_text_28 (by decide) ?_
      refine g_goto (tgt := 33) ok dX3_text_29 (by decide) ?_
      exact (kj21 _ (by simp only [if_neg c20]))
theorem tx_loop {Post : Int32 → CS → Prop} {T len : Nat} (hT : T < 14) (hl : len ≤ 96) : ∀ d k D, k + d = len → D.1 1 19 = nI len → (∀ E : CS, E.1 = D.1 → E.2.2 = D.2.2 → (∀ j, j ≠ 36 → E.2.1 j = D.2.1 j) → (∀ i, E.2.1 36 i = if i = 5 then D.2.1 36 5 + 1 else if 104 + 96 * T + k ≤ i ∧ i < 104 + 96 * T + len then D.2.1 46 (i - (104 + 96 * T)) else D.2.1 36 i) → Post (nI T) E) → wp_X3_text_l115 Post (d + 1) D (nI T) (nI k) := by
  intro d
  induction d with
  | zero =>
    intro k D hk h19 h
    rw [wp_X3_text_l115, h19]
    refine ⟨fun _ E e => ?_, fun z => absurd ((nI_leI (by omega) (by omega)).mpr (by omega)) z⟩
    refine h E (by rw [e]; rfl) (by rw [e]; rfl) (fun j hj => by rw [e, wA_ne _ _ _ hj]) (fun i => ?_)
    rw [e, wA_row]
    unfold upd
    by_cases c : i = 5
    · rw [if_pos c, if_pos c]
    · rw [if_neg c, if_neg c, if_neg (by omega)]
  | succ d ih =>
    intro k D hk h19 h
    rw [wp_X3_text_l115, h19]
    refine ⟨fun z => absurd z (by rw [nI_leI (by omega) (by omega)]; omega), fun _ => ⟨vp_k (by omega), by rw [ix104]; exact vp_k (by omega), ?_⟩⟩
    intro C15 e15 x16 e16
    rw [e16, o1, nI_add]
    rw [ix104, cl_k (by omega), cl_k (by omega)] at e15
    refine ih (k + 1) C15 (by omega) (by rw [e15]; exact h19) (fun E h1 h2 h3 h4 => ?_)
    refine h E (by rw [h1, e15]; rfl) (by rw [h2, e15]; rfl) (fun j hj => by rw [h3 j hj, e15, wA_ne _ _ _ hj]) (fun i => ?_)
    rw [h4 i, e15, wA_row, wA_ne _ _ _ (by decide)]
    unfold upd
    by_cases c : i = 5
    · rw [if_pos c, if_pos c, if_neg (by omega)]
    · rw [if_neg c, if_neg c]
      by_cases c2 : i = 104 + 96 * T + k
      · rw [if_neg (by omega), if_pos c2, if_pos (by omega), show i - (104 + 96 * T) = k by omega]
      · by_cases c3 : 104 + 96 * T + (k + 1) ≤ i ∧ i < 104 + 96 * T + len
        · rw [if_pos c3, if_pos (by omega)]
        · rw [if_neg c3, if_neg c2, if_neg (by omega)]
theorem sp_X3_text (C : CS) (hp : p_X3_text C) : wp_X3_text (fun r C1 => r = v_X3_text C ∧ q_X3_text C C1) C := by
  obtain ⟨hk, ⟨L, h9, hL⟩, T, h5, hT⟩ := hp
  intro C1 e1 C2 e2
  have eO : txO C = txR (C.2.1 43) L (C.1 1 13) := by unfold txO; rw [h9, cl_k (by omega)]
  have h92 : C2.1 1 9 = nI L := by rw [e2, wI_n _ _ _ _ (by decide), e1, wI_n _ _ _ _ (by decide)]; exact h9
  have h102 : C2.1 1 10 = nI 0 := by rw [e2, wI_n _ _ _ _ (by decide), e1, wI_s]; rfl
  have hA2 : C2.2 = C.2 := by rw [e2, wI_2, e1, wI_2]
  have hF2 : ∀ j k, ¬ (j = 1 ∧ 10 ≤ k ∧ k ≤ 14) → C2.1 j k = C.1 j k := by
    intro j k h
    rw [e2, e1]
    simp only [wI, up2]
    rw [if_neg (by omega), if_neg (by omega)]
  refine ⟨⟨L, 0, h92, hL, h102, Nat.zero_le _⟩, ?_⟩
  intro C3 q3
  have eg : goC C2 = goT (C.2.1 43) L 0 (C.1 1 13) (-1) := by
    unfold goC
    rw [h92, h102, cl_k (by omega), cl_k (by omega), hA2]
    rw [show C2.1 1 14 = -1 by rw [e2, wI_s], show C2.1 1 13 = C.1 1 13 by rw [e2, wI_n _ _ _ _ (by decide), e1, wI_n _ _ _ _ (by decide)]]
  obtain ⟨g3, t3⟩ := q3
  rw [eg] at t3
  have tk3 : tkOk C3 (goT (C.2.1 43) L 0 (C.1 1 13) (-1)) := t3
  have ts3 := (goT_ok (tp := C.2.1 43) (C.1 1 13) (-1) (Nat.zero_le L)).1
  have hA3 : C3.2 = C.2 := g3.1.trans hA2
  have hF3 : ∀ j k, ¬ (j = 1 ∧ 10 ≤ k ∧ k ≤ 14) → C3.1 j k = C.1 j k := fun j k h => (g3.2 j k h).trans (hF2 j k h)
  have h93 : C3.1 1 9 = nI L := (hF3 1 9 (by omega)).trans h9
  generalize et : goT (C.2.1 43) L 0 (C.1 1 13) (-1) = t at tk3 ts3
  have hk3 : kOk C3 := by unfold kOk; rw [hA3]; exact hk
  refine ⟨⟨hk3, L, t.2.1, t.1, h93, hL, tk3.1, tk3.2.1, ts3.1, ts3.2.1⟩, ?_⟩
  intro r5 e5 C4 q4
  have hts1 := ts3.1
  have hts2 := ts3.2.1
  have ek : kyC C3 = if t.2.2.1 = 1 then kyL (C.2.1 43) t.2.1 t.1 3 0 else none := by
    unfold kyC
    rw [tk3.2.2.1, tk3.1, tk3.2.1, cl_k (by omega), cl_k (by omega), hA3]
  have eT1 : txO C = match kyC C3 with
      | none => Sum.inl t.2.1
      | some w => match eT (C.2.1 43) L (nI w) (stp (C.2.1 43) L t) with
        | some (b, c, a, t) => if b = true ∧ t.2.2.1 = 0 then Sum.inr (w, c, a) else Sum.inl t.2.1
        | none => Sum.inl 0 := by
    rw [eO, txR, et, ek]
  unfold v_X3_takesKey at e5
  unfold q_X3_takesKey at q4
  have x0 : ∀ D : CS, D.2 = C.2 → (∀ j k, ¬ (j = 1 ∧ ((9 ≤ k ∧ k ≤ 15) ∨ k = 19 ∨ k = 20 ∨ k = 22)) → D.1 j k = C.1 j k) → xEq C D := fun D h1 h2 => ⟨by rw [h1], h2, fun j _ _ _ _ => by rw [h1]⟩
  rcases hw : kyC C3 with _ | w
  · rw [hw] at e5 q4 eT1
    have e5 : r5 = 0 := e5
    have q4 : C4 = C3 := q4
    refine ⟨fun _ => ?_, fun z => absurd e5 z⟩
    intro C7 e7
    refine ⟨fun _ => ?_, fun z => absurd rfl z⟩
    have eT1 : txO C = Sum.inl t.2.1 := eT1
    refine ⟨?_, ?_, ?_, ?_⟩
    · unfold v_X3_text; rw [eT1, e7, wI_n _ _ _ _ (by decide), q4, tk3.2.1]
    · refine x0 C7 (by rw [e7, wI_2, q4, hA3]) (fun j k h => ?_)
      rw [e7, ← hF3 j k (by omega), q4]
      simp only [wI, up2]
      rw [if_neg (by omega)]
    · rw [e7, wI_s]
    · rw [eT1, e7, wI_2, q4, hA3]
  · rw [hw] at e5 q4 eT1
    have e5 : r5 = 1 := e5
    have q4 : q_X3_go (wI C3 1 15 (nI w)) C4 := q4
    refine ⟨fun z => absurd (e5.symm.trans z) (by decide), fun _ => ?_⟩
    have htok : ¬ t.2.2.1 = 0 := by
      intro z
      rw [ek, z, if_neg (by decide)] at hw
      cases hw
    have g4 := go_tk hL (by rw [wI_n _ _ _ _ (by decide)]; exact h93) (tk_wi tk3 15 (nI w) (by decide)) ts3 q4
    rw [wI_2, hA3] at g4
    have hA4 : C4.2 = C.2 := by rw [g4.2.1, wI_2, hA3]
    have h154 : C4.1 1 15 = nI w := by rw [g4.2.2 1 15 (by omega), wI_s]
    have hF4 : ∀ j k, ¬ (j = 1 ∧ 10 ≤ k ∧ k ≤ 15) → C4.1 j k = C.1 j k := by
      intro j k h
      rw [g4.2.2 j k (by omega), ← hF3 j k (by omega)]
      simp only [wI, up2]
      rw [if_neg (by omega)]
    have h94 : C4.1 1 9 = nI L := (hF4 1 9 (by omega)).trans h9
    have ts4 := stp_ok (tp := C.2.1 43) ts3
    have hlt := ts3.2.2 htok
    refine ⟨⟨L, _, h94, hL, g4.1, ts4.1, by omega⟩, ?_⟩
    intro r19 e19 C18 q18 x22 e22 C23 e23
    have eE : eC C4 = eT (C.2.1 43) L (nI w) (stp (C.2.1 43) L t) := by
      unfold eC
      rw [h94, cl_k (by omega), tkC_eq hL g4.1 ts4.1, hA4, h154]
    obtain ⟨r, hr⟩ := rd_tot (tp := C.2.1 43) (key := nI w) (8 * L + 8) 1 none 0 0 (stp (C.2.1 43) L t) ts4.1 (by omega) (by omega) (fun _ => by omega) (fun z => absurd rfl z) (Or.inr rfl)
    have hr2 : eT (C.2.1 43) L (nI w) (stp (C.2.1 43) L t) = some r := hr
    have eT1 : txO C = (match eT (C.2.1 43) L (nI w) (stp (C.2.1 43) L t) with
        | some (b, c, a, t) => if b = true ∧ t.2.2.1 = 0 then Sum.inr (w, c, a) else Sum.inl t.2.1
        | none => Sum.inl 0) := eT1
    rw [hr2] at eE eT1
    have z18 := q18.2 r eE
    have hp18 := q18.1
    have hF18 : ∀ j k, ¬ (j = 1 ∧ ((10 ≤ k ∧ k ≤ 15) ∨ k = 19 ∨ k = 20 ∨ k = 22)) → C18.1 j k = C.1 j k := fun j k h => (hp18.2.1 j k (by omega)).trans (hF4 j k (by omega))
    have hR18 : ∀ j, j ≠ 46 → j ≠ 47 → j ≠ 48 → C18.2.1 j = C.2.1 j := fun j h1 h2 h3 => by rw [hp18.2.2 j h1 h2 h3, hA4]
    have xq : xEq C C23 := by
      refine ⟨?_, fun j k h => ?_, fun j _ h1 h2 h3 => ?_⟩
      · rw [e23, wI_2, hp18.1, hA4]
      · rw [e23, ← hF18 j k (by omega)]
        simp only [wI, up2]
        rw [if_neg (by omega)]
      · rw [e23, wI_2, hR18 j h1 h2 h3]
    have h923 : C23.1 1 9 = 0 := by rw [e23, wI_s]
    have h3623 : C23.2.1 36 = C.2.1 36 := by rw [e23, wI_2, hR18 36 (by decide) (by decide) (by decide)]
    obtain ⟨b, c, a, t2⟩ := r
    have ev : eOk (eC C4) = (if b = true ∧ t2.2.2.1 = 0 then true else false) := by
      rw [eE]
      cases b
      · rw [if_neg (fun z => Bool.noConfusion z.1)]; rfl
      · show (if t2.2.2.1 = 0 then true else false) = _
        by_cases c0 : t2.2.2.1 = 0
        · rw [if_pos c0, if_pos ⟨rfl, c0⟩]
        · rw [if_neg c0, if_neg (fun z => c0 z.2)]
    have eT1 : txO C = if b = true ∧ t2.2.2.1 = 0 then Sum.inr (w, c, a) else Sum.inl t2.2.1 := eT1
    unfold v_X3_takesE at e19
    by_cases cc : b = true ∧ t2.2.2.1 = 0
    · rw [if_pos cc] at ev eT1
      rw [if_pos ev] at e19
      have ex : x22 = 1 := by rw [e22, e19]; decide
      have z := z18.2 ev
      refine ⟨fun y => absurd (ex.symm.trans y) (by decide), fun _ => ⟨fun y => ?_, fun y => ?_⟩⟩
      · rw [h3623] at y
        refine ⟨by unfold v_X3_text; rw [eT1]; show _ = if C.2.1 36 5 = 14 then _ else _; rw [if_pos y], xq, h923, ?_⟩
        rw [eT1, h3623]
        show _ = if C.2.1 36 5 = 14 then C.2.1 36 else _
        rw [if_pos y]
      · rw [h3623] at y
        have hT14 : T < 14 := by
          have : ¬ T = 14 := fun q => y (by rw [h5, q]; rfl)
          omega
        have hw3 : w < 3 := by
          rw [ek] at hw
          split at hw
          · have := kyL_lt hw; omega
          · cases hw
        intro x26 e26
        rw [h3623, h5] at e26
        subst e26
        rw [ix76]
        refine ⟨vp_k (by omega), ?_⟩
        intro C27 e27
        rw [show (1 : Int32) = nI 1 from rfl, nI_add]
        refine ⟨vp_k (by omega), ?_⟩
        intro C28 e28
        have hc96 : c.length < 96 := z.2.2.2.1
        have h1928 : C28.1 1 19 = nI c.length := by rw [e28, e27, e23]; show (wI C18 1 9 0).1 1 19 = _; rw [wI_n _ _ _ _ (by decide)]; exact z.1
        refine ⟨c.length + 1, ?_⟩
        refine tx_loop (len := c.length) hT14 (by omega) c.length 0 C28 (by omega) h1928 (fun E hE1 hE2 hE3 hE4 => ?_)
        have e23f : ∀ k, k ≠ 9 → C23.1 1 k = C18.1 1 k := fun k hk => by rw [e23, wI_n _ _ _ _ hk]
        have h1527 : C23.1 1 15 = nI w := by rw [e23f 15 (by decide), hp18.2.1 1 15 (by omega)]; exact h154
        have h1923 : C23.1 1 19 = nI c.length := by rw [e23f 19 (by decide)]; exact z.1
        have h2027 : C27.1 1 20 = nI a := by rw [e27]; show C23.1 1 20 = _; rw [e23f 20 (by decide)]; exact z.2.2.1
        rw [cl_k (by omega)] at e27 e28
        rw [h1527, h1923, show (1000 : Int32) = nI 1000 from rfl, pk_mul, nI_add] at e27
        rw [h2027] at e28
        refine ⟨by unfold v_X3_text; rw [eT1]; show _ = if C.2.1 36 5 = 14 then _ else _; rw [if_neg y, h5], ⟨?_, ?_, ?_⟩, ?_, ?_⟩
        · rw [hE2, e28, e27]; exact xq.1
        · intro j k h
          rw [hE1, e28, e27]; exact xq.2.1 j k h
        · intro j h1 h2 h3 h4
          rw [hE3 j h1, e28, wA_ne _ _ _ h1, e27, wA_ne _ _ _ h1]; exact xq.2.2 j h1 h2 h3 h4
        · rw [hE1, e28, e27]; exact h923
        · rw [eT1]
          show _ = if C.2.1 36 5 = 14 then C.2.1 36 else tRow (C.2.1 36) (C.2.1 36 5).toNatClampNeg w c a
          rw [if_neg y, h5, cl_k (by omega)]
          funext i
          rw [hE4 i]
          have e36 : ∀ i, C28.2.1 36 i = if i = 77 + 2 * T then nI a else if i = 76 + 2 * T then nI (1000 * w + c.length) else C.2.1 36 i := by
            intro i
            rw [e28, wA_row, e27, wA_row, h3623]
            unfold upd
            rw [show 76 + 2 * T + 1 = 77 + 2 * T by omega]
          have e46 : C28.2.1 46 = C18.2.1 46 := by rw [e28, wA_ne _ _ _ (by decide), e27, wA_ne _ _ _ (by decide), e23, wI_2]
          unfold tRow
          by_cases c1 : i = 5
          · rw [if_pos c1, if_pos c1, e36 5, if_neg (by omega), if_neg (by omega), h5, show (1 : Int32) = nI 1 from rfl, nI_add]
          · rw [if_neg c1, if_neg c1, e36 i, e46]
            by_cases c2 : 104 + 96 * T ≤ i ∧ i < 104 + 96 * T + c.length
            · rw [if_pos (by omega), if_neg (by omega), if_neg (by omega), if_pos c2]
              have := stk_at z.2.1 (i - (104 + 96 * T)) (by rw [List.length_reverse]; show _ < c.length; omega)
              rw [this, List.reverse_reverse]
            · rw [if_neg (by omega), if_neg c2]
              by_cases c3 : i = 76 + 2 * T
              · rw [if_neg (by omega), if_pos c3, if_pos c3]
              · rw [if_neg c3, if_neg c3]
    · rw [if_neg cc] at ev eT1
      rw [if_neg (fun y => by rw [ev] at y; cases y)] at e19
      have ex : x22 = 0 := by rw [e22, e19]; rfl
      refine ⟨fun _ => ?_, fun y => absurd ex y⟩
      refine ⟨by unfold v_X3_text; rw [eT1, e23, wI_n _ _ _ _ (by decide), z18.1], xq, h923, ?_⟩
      rw [eT1, h3623]
theorem mc_X3_text {w : WD} (wk : wOk w) (l : Launch) (C : CS)  (hp : p_X3_text C ) : MC w l yX3_text cX3_text 4 (some .int) 4 0 0 [.ref (ad w 1)] C (pIR (v_X3_text C ) (q_X3_text C )) := MC.postIR (gw_X3_text wk l C  (sp_X3_text C  hp))

