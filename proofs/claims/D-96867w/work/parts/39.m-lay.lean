/-- WORTH of a glove of a row -/
def wthR (r : Nat → Int32) (a : Int32) : Int32 := v_X3_worthOf (rowC r) a
theorem wthR_C (C : CS) (a : Int32) : v_X3_worthOf C a = wthR (C.2.1 36) a := rfl
theorem pworth (C : CS) {g : Nat} (h : g < 10) : p_X3_worthOf C (nI g) := by
  obtain ⟨a0, a1, a2, a3, a4, a5⟩ := pofn C h
  unfold p_X3_worthOf
  simp only [a0, a3, true_and, and_true, implies_true, and_self]
def laG (C : CS) (a0 a1 a2 : Int32) : Prop := ¬ v_X3_isSlot a0 = 0 ∧ ¬ v_X3_in a1 0 3 = 0 ∧ (a1 = 1 → ¬ v_X3_isGlove C a2 = 0) ∧ (a1 = 2 → ¬ v_X3_isSheet a2 = 0 ∧ 0 ≤ C.2.1 51 a2.toNatClampNeg)
theorem cf_X3_lay : CfV yX3_lay "TwoGuildsModel" cX3_lay 6 (some .int) 3 := ⟨⟨by decide, by decide, by decide⟩, q75, q1802, q1800, q1801⟩
def p_X3_lay (C : CS) (a0 a1 a2 : Int32) : Prop := ∃ N, gOk C N
def v_X3_lay (C : CS) (a0 a1 a2 : Int32) : Int32 := if v_X3_isSlot a0 = 0 then -1000000001 else if v_X3_in a1 0 3 = 0 then -1000000001 else if a1 = 1 ∧ v_X3_isGlove C a2 = 0 then -1000000001 else if a1 = 2 ∧ v_X3_isSheet a2 = 0 then -1000000001 else if a1 = 2 ∧ ¬ 0 ≤ C.2.1 51 a2.toNatClampNeg then -1000000011 else C.2.1 54 a0.toNatClampNeg
def q_X3_lay (C : CS) (a0 a1 a2 : Int32) (C1 : CS) : Prop :=
  (laG C a0 a1 a2 → frm [54, 55, 56, 57] C C1 ∧ C1.2.1 54 = upd (C.2.1 54) a0.toNatClampNeg a1 ∧ C1.2.1 55 = upd (C.2.1 55) a0.toNatClampNeg (if a1 = 1 then v_X3_of C a2 0 else (if a1 = 2 then C.2.1 52 a2.toNatClampNeg else a2)) ∧ C1.2.1 56 = upd (C.2.1 56) a0.toNatClampNeg (if a1 = 1 then v_X3_worthOf C a2 else 0) ∧ ∀ i, C1.2.1 57 i = if a1 = 2 ∧ 24 * a0.toNatClampNeg ≤ i ∧ i < 24 * a0.toNatClampNeg + 24 then C.2.1 53 (24 * a2.toNatClampNeg + (i - 24 * a0.toNatClampNeg)) else C.2.1 57 i) ∧ (¬ laG C a0 a1 a2 → C1 = C)
def wp_X3_lay_l134 (Post : Int32 → CS → Prop) : Nat → CS → Int32 → Int32 → Int32 → Int32 → Int32 → Prop
  | 0, _, _, _, _, _, _ => False
  | n + 1, C, i1, i2, i3, i4, i5 => (24 ≤ i5 → 
  Post i4 C) ∧
  (¬ 24 ≤ i5 → 
  (i2 = 2 → 
    vp_in ((24 * i3) + i5) 96 ∧
      (vp_in ((24 * i1) + i5) 120 ∧
      (∀ C22 : CS, C22 = (wA C 57 (Int32.toNatClampNeg ((24 * i1) + i5)) (C.2.1 53 (Int32.toNatClampNeg ((24 * i3) + i5)))) → 
      ∀ x23 : Int32, x23 = (i5 + Int32.ofInt 1) → 
      wp_X3_lay_l134 Post n C22 i1 i2 i3 i4 x23))) ∧
    (¬ i2 = 2 → 
    Post i4 C))
def wp_X3_lay_j61 (Post : Int32 → CS → Prop) (C : CS) (i1 : Int32) (i2 : Int32) (i3 : Int32) : Prop := vp_in i1 5 ∧
  (∀ x8 : Int32, x8 = (C.2.1 54 (Int32.toNatClampNeg i1)) → 
  vp_in i1 5 ∧
  (∀ C9 : CS, C9 = (wA C 54 (Int32.toNatClampNeg i1) i2) → 
  ((i2 = 1 → 
    p_X3_of C9 i3 0 ∧
      (True)) ∧
    (¬ i2 = 1 → 
    ((i2 = 2 → 
        vp_in i3 4 ∧
          (True)) ∧
        (¬ i2 = 2 → 
        True)) ∧
      (True))) ∧
  (∀ x14 : Int32, x14 = (if i2 = 1 then (v_X3_of C9 i3 0) else (if i2 = 2 then (C9.2.1 52 (Int32.toNatClampNeg i3)) else i3)) → 
  vp_in i1 5 ∧
  (∀ C15 : CS, C15 = (wA C9 55 (Int32.toNatClampNeg i1) x14) → 
  ((i2 = 1 → 
    p_X3_worthOf C15 i3 ∧
      (True)) ∧
    (¬ i2 = 1 → 
    True)) ∧
  (∀ x18 : Int32, x18 = (if i2 = 1 then (v_X3_worthOf C15 i3) else 0) → 
  vp_in i1 5 ∧
  (∀ C19 : CS, C19 = (wA C15 56 (Int32.toNatClampNeg i1) x18) → 
  ∃ m134, wp_X3_lay_l134 Post m134 C19 i1 i2 i3 x8 0))))))
def wp_X3_lay_j44 (Post : Int32 → CS → Prop) (C : CS) (i1 : Int32) (i2 : Int32) (i3 : Int32) : Prop := (i2 = 2 → 
  vp_in i3 4 ∧
    ((0 ≤ (C.2.1 51 (Int32.toNatClampNeg i3)) → 
    wp_X3_lay_j61 Post C i1 i2 i3) ∧
    (¬ 0 ≤ (C.2.1 51 (Int32.toNatClampNeg i3)) → 
    Post (-1000000011) C))) ∧
  (¬ i2 = 2 → 
  wp_X3_lay_j61 Post C i1 i2 i3)
def wp_X3_lay_j29 (Post : Int32 → CS → Prop) (C : CS) (i1 : Int32) (i2 : Int32) (i3 : Int32) : Prop := (i2 = 2 → 
  ∀ r26 : Int32, r26 = (v_X3_isSheet i3) → 
    (r26 = 0 → 
    Post (-1000000001) C) ∧
    (¬ r26 = 0 → 
    wp_X3_lay_j44 Post C i1 i2 i3)) ∧
  (¬ i2 = 2 → 
  wp_X3_lay_j44 Post C i1 i2 i3)
def wp_X3_lay (Post : Int32 → CS → Prop) (C : CS) (a0 : Int32) (a1 : Int32) (a2 : Int32) : Prop :=
  ∀ r1 : Int32, r1 = (v_X3_isSlot a0) → 
    (r1 = 0 → 
    Post (-1000000001) C) ∧
    (¬ r1 = 0 → 
    ∀ r3 : Int32, r3 = (v_X3_in a1 0 3) → 
      (r3 = 0 → 
      Post (-1000000001) C) ∧
      (¬ r3 = 0 → 
      (a1 = 1 → 
        ∀ r28 : Int32, r28 = (v_X3_isGlove C a2) → 
          (r28 = 0 → 
          Post (-1000000001) C) ∧
          (¬ r28 = 0 → 
          wp_X3_lay_j29 Post C a0 a1 a2)) ∧
        (¬ a1 = 1 → 
        wp_X3_lay_j29 Post C a0 a1 a2)))
set_option maxHeartbeats 4000000 in
set_option maxRecDepth 100000 in
theorem gw_X3_lay_l134 {w : WD} {x : Cx} (ok : Ok w x cX3_lay 6 yX3_lay.cls (some .int) (rmL 2 0 0)) {Post : Int32 → CS → Prop} : ∀ (n : Nat) (C : CS) (i1 : Int32) (i2 : Int32) (i3 : Int32) (i4 : Int32) (i5 : Int32), wp_X3_lay_l134 Post  n C i1 i2 i3 i4 i5 → G w x 6 0 0 (QM w x (fun v C1 => ∃ r : Int32, v = some (.int r) ∧ Post r C1) 0 0) C 134 [(0, .ref (ad w 1)), (1, .int i1), (2, .int i2), (3, .int i3), (4, .int i4), (5, .int i5)] [] := by
  intro n
  induction n with
  | zero => intro C i1 i2 i3 i4 i5 hw; exact hw.elim
  | succ n ih =>
    intro C i1 i2 i3 i4 i5 hw
    unfold wp_X3_lay_l134 at hw
    refine g_iload ok 5 dX3_lay_134 rfl ?_
    refine g_bipush (v := 24) ok dX3_lay_136 (by decide) ?_
    refine g_icmp_ge (tgt := 176) ok dX3_lay_138 (by decide) (fun c20 => ?_) (fun c20 => ?_)
    · have hw := hw.1 c20
      refine g_iload ok 4 dX3_lay_176 rfl ?_
      exact g_iret ok dX3_lay_178 ⟨_, rfl, hw⟩
    · have hw := hw.2 c20
      refine g_iload_n ok 2 dX3_lay_141 rfl ?_
      refine g_iconst (v := 2) ok dX3_lay_142 (by decide) ?_
      refine g_icmp_ne (tgt := 176) ok dX3_lay_143 (by decide) (fun c21 => ?_) (fun c21 => ?_)
      · have hw := hw.2 c21
        refine g_iload ok 4 dX3_lay_176 rfl ?_
        exact g_iret ok dX3_lay_178 ⟨_, rfl, hw⟩
      · have hw := hw.1 c21
        refine g_aload_n ok 0 dX3_lay_146 rfl ?_
        refine g_get ok 1 rfl rfl in_X3 32 (by decide) q1391 rfl dX3_lay_147 ?_
        refine g_bipush (v := 24) ok dX3_lay_150 (by decide) ?_
        refine g_iload_n ok 1 dX3_lay_152 rfl ?_
        refine g_imul ok dX3_lay_153 ?_
        refine g_iload ok 5 dX3_lay_154 rfl ?_
        refine g_iadd ok dX3_lay_156 ?_
        refine g_aload_n ok 0 dX3_lay_157 rfl ?_
        refine g_get ok 1 rfl rfl in_X3 28 (by decide) q1387 rfl dX3_lay_158 ?_
        refine g_bipush (v := 24) ok dX3_lay_161 (by decide) ?_
        refine g_iload_n ok 3 dX3_lay_163 rfl ?_
        refine g_imul ok dX3_lay_164 ?_
        refine g_iload ok 5 dX3_lay_165 rfl ?_
        refine g_iadd ok dX3_lay_167 ?_
        obtain ⟨hg, hw⟩ := hw
        refine g_iald ok 53 rfl hg _ rfl dX3_lay_168 ?_
        obtain ⟨hg, hw⟩ := hw
        refine g_iast ok 57 rfl hg _ rfl dX3_lay_169 (fun C22 eC22 => ?_)
        have hw := hw C22 eC22
        refine g_iinc ok 5 (fun z => [(5, .int z), (0, .ref (ad w 1)), (1, .int i1), (2, .int i2), (3, .int i3), (4, .int i4)]) dX3_lay_170 rfl (by decide) (fun _ => rfl) (fun x23 ex23 => ?_)
        have hw := hw x23 ex23
        refine g_goto (tgt := 134) ok dX3_lay_173 (by decide) ?_
        refine g_sub [1, 2, 3, 4, 5, 0] [(0, .ref (ad w 1)), (1, .int i1), (2, .int i2), (3, .int i3), (4, .int i4), (5, .int x23)] rfl ?_
        exact ih C22 i1 i2 i3 i4 x23 hw
set_option maxHeartbeats 4000000 in
set_option maxRecDepth 100000 in
theorem gw_X3_lay_j61 {w : WD} {x : Cx} (ok : Ok w x cX3_lay 6 yX3_lay.cls (some .int) (rmL 2 0 0)) {Post : Int32 → CS → Prop} : ∀ (C : CS) (i1 : Int32) (i2 : Int32) (i3 : Int32), wp_X3_lay_j61 Post  C i1 i2 i3 → G w x 6 0 0 (QM w x (fun v C1 => ∃ r : Int32, v = some (.int r) ∧ Post r C1) 0 0) C 61 [(0, .ref (ad w 1)), (1, .int i1), (2, .int i2), (3, .int i3)] [] := by
  intro C i1 i2 i3 hw
  unfold wp_X3_lay_j61 at hw
  refine g_aload_n ok 0 dX3_lay_61 rfl ?_
  refine g_get ok 1 rfl rfl in_X3 29 (by decide) q1388 rfl dX3_lay_62 ?_
  refine g_iload_n ok 1 dX3_lay_65 rfl ?_
  obtain ⟨hg, hw⟩ := hw
  refine g_iald ok 54 rfl hg _ rfl dX3_lay_66 ?_
  refine g_istore ok (fun z => [(4, .int z), (0, .ref (ad w 1)), (1, .int i1), (2, .int i2), (3, .int i3)]) dX3_lay_67 (by decide) (fun _ => rfl) (fun x8 ex8 => ?_)
  have hw := hw x8 ex8
  refine g_aload_n ok 1 dX3_lay_69 rfl ?_
  refine g_get ok 1 rfl rfl in_X3 29 (by decide) q1388 rfl dX3_lay_70 ?_
  refine g_iload_n ok 2 dX3_lay_73 rfl ?_
  refine g_iload_n ok 3 dX3_lay_74 rfl ?_
  obtain ⟨hg, hw⟩ := hw
  refine g_iast ok 54 rfl hg _ rfl dX3_lay_75 (fun C9 eC9 => ?_)
  have hw := hw C9 eC9
  refine g_aload_n ok 1 dX3_lay_76 rfl ?_
  refine g_get ok 1 rfl rfl in_X3 30 (by decide) q1389 rfl dX3_lay_77 ?_
  refine g_iload_n ok 2 dX3_lay_80 rfl ?_
  refine g_iload_n ok 3 dX3_lay_81 rfl ?_
  refine g_iconst (v := 1) ok dX3_lay_82 (by decide) ?_
  obtain ⟨hr, hw⟩ := hw
  have kj13 : ∀ x14 : Int32, x14 = (if i2 = 1 then (v_X3_of C9 i3 0) else (if i2 = 2 then (C9.2.1 52 (Int32.toNatClampNeg i3)) else i3)) → G w x 6 0 0 (QM w x (fun v C1 => ∃ r : Int32, v = some (.int r) ∧ Post r C1) 0 0) C9 110 [(0, .ref (ad w 1)), (1, .int i1), (2, .int i2), (3, .int i3), (4, .int x8)] [.int x14, .int i1, .ref (ad w 55)] := by
    intro x14 ex14
    have hw := hw x14 ex14
    obtain ⟨hg, hw⟩ := hw
    refine g_iast ok 55 rfl hg _ rfl dX3_lay_110 (fun C15 eC15 => ?_)
    have hw := hw C15 eC15
    refine g_aload_n ok 0 dX3_lay_111 rfl ?_
    refine g_get ok 1 rfl rfl in_X3 31 (by decide) q1390 rfl dX3_lay_112 ?_
    refine g_iload_n ok 1 dX3_lay_115 rfl ?_
    refine g_iload_n ok 2 dX3_lay_116 rfl ?_
    refine g_iconst (v := 1) ok dX3_lay_117 (by decide) ?_
    obtain ⟨hr, hw⟩ := hw
    have kj17 : ∀ x18 : Int32, x18 = (if i2 = 1 then (v_X3_worthOf C15 i3) else 0) → G w x 6 0 0 (QM w x (fun v C1 => ∃ r : Int32, v = some (.int r) ∧ Post r C1) 0 0) C15 130 [(0, .ref (ad w 1)), (1, .int i1), (2, .int i2), (3, .int i3), (4, .int x8)] [.int x18, .int i1, .ref (ad w 56)] := by
      intro x18 ex18
      have hw := hw x18 ex18
      obtain ⟨hg, hw⟩ := hw
      refine g_iast ok 56 rfl hg _ rfl dX3_lay_130 (fun C19 eC19 => ?_)
      have hw := hw C19 eC19
      refine g_iconst (v := 0) ok dX3_lay_131 (by decide) ?_
      refine g_istore0 ok [(5, .int 0), (0, .ref (ad w 1)), (1, .int i1), (2, .int i2), (3, .int i3), (4, .int x8)] dX3_lay_132 (by decide) rfl ?_
      refine g_sub [1, 2, 3, 4, 5, 0] [(0, .ref (ad w 1)), (1, .int i1), (2, .int i2), (3, .int i3), (4, .int x8), (5, .int 0)] rfl ?_
      obtain ⟨n24, hw⟩ := hw
      exact gw_X3_lay_l134 ok n24 C19 i1 i2 i3 x8 0 hw
    have hw := hr
    refine g_icmp_ne (tgt := 129) ok dX3_lay_118 (by decide) (fun c16 => ?_) (fun c16 => ?_)
    · have hw := hw.2 c16
      refine g_iconst (v := 0) ok dX3_lay_129 (by decide) ?_
      exact (kj17 _ (by simp only [if_neg c16]))
    · have hw := hw.1 c16
      refine g_aload_n ok 0 dX3_lay_121 rfl ?_
      refine g_iload_n ok 3 dX3_lay_122 rfl ?_
      obtain ⟨hp, hw⟩ := hw
      refine g_callVI ok [.int i3] cf_X3_worthOf q1499 (mc_X3_worthOf ok.wo (xL x) C15 i3 hp) (recvF ok 1 rfl rfl) rfl rfl (Nat.le_of_ble_eq_true rfl) ⟨by decide, by decide⟩ ⟨by decide, by decide⟩ dX3_lay_123 ?_
      refine g_goto (tgt := 130) ok dX3_lay_126 (by decide) ?_
      exact (kj17 _ (by simp only [if_pos c16]))
  have hw := hr
  refine g_icmp_ne (tgt := 95) ok dX3_lay_83 (by decide) (fun c10 => ?_) (fun c10 => ?_)
  · have hw := hw.2 c10
    refine g_iload_n ok 3 dX3_lay_95 rfl ?_
    refine g_iconst (v := 2) ok dX3_lay_96 (by decide) ?_
    obtain ⟨hr, hw⟩ := hw
    have kj12 : G w x 6 0 0 (QM w x (fun v C1 => ∃ r : Int32, v = some (.int r) ∧ Post r C1) 0 0) C9 110 [(0, .ref (ad w 1)), (1, .int i1), (2, .int i2), (3, .int i3), (4, .int x8)] [.int (if i2 = 2 then (C9.2.1 52 (Int32.toNatClampNeg i3)) else i3), .int i1, .ref (ad w 55)] := by
      exact (kj13 _ (by simp only [if_neg c10]))
    have hw := hr
    refine g_icmp_ne (tgt := 109) ok dX3_lay_97 (by decide) (fun c11 => ?_) (fun c11 => ?_)
    · have hw := hw.2 c11
      refine g_iload_n ok 4 dX3_lay_109 rfl ?_
      simp only [if_neg c11] at kj12
      exact g_sub [1, 2, 3, 4, 0] [(0, .ref (ad w 1)), (1, .int i1), (2, .int i2), (3, .int i3), (4, .int x8)] rfl kj12
    · have hw := hw.1 c11
      refine g_aload_n ok 1 dX3_lay_100 rfl ?_
      refine g_get ok 1 rfl rfl in_X3 27 (by decide) q1386 rfl dX3_lay_101 ?_
      refine g_iload_n ok 4 dX3_lay_104 rfl ?_
      obtain ⟨hg, hw⟩ := hw
      refine g_iald ok 52 rfl hg _ rfl dX3_lay_105 ?_
      refine g_goto (tgt := 110) ok dX3_lay_106 (by decide) ?_
      simp only [if_pos c11] at kj12
      exact g_sub [1, 2, 3, 4, 0] [(0, .ref (ad w 1)), (1, .int i1), (2, .int i2), (3, .int i3), (4, .int x8)] rfl kj12
  · have hw := hw.1 c10
    refine g_aload_n ok 1 dX3_lay_86 rfl ?_
    refine g_iload_n ok 4 dX3_lay_87 rfl ?_
    refine g_iconst (v := 0) ok dX3_lay_88 (by decide) ?_
    obtain ⟨hp, hw⟩ := hw
    refine g_callVI ok [.int i3, .int 0] cf_X3_of q1495 (mc_X3_of ok.wo (xL x) C9 i3 0 hp) (recvF ok 1 rfl rfl) rfl rfl (Nat.le_of_ble_eq_true rfl) ⟨by decide, by decide⟩ ⟨by decide, by decide⟩ dX3_lay_89 ?_
    refine g_goto (tgt := 110) ok dX3_lay_92 (by decide) ?_
    exact g_sub [1, 2, 3, 4, 0] [(0, .ref (ad w 1)), (1, .int i1), (2, .int i2), (3, .int i3), (4, .int x8)] rfl (kj13 _ (by simp only [if_pos c10]))
set_option maxHeartbeats 4000000 in
set_option maxRecDepth 100000 in
theorem gw_X3_lay_j44 {w : WD} {x : Cx} (ok : Ok w x cX3_lay 6 yX3_lay.cls (some .int) (rmL 2 0 0)) {Post : Int32 → CS → Prop} : ∀ (C : CS) (i1 : Int32) (i2 : Int32) (i3 : Int32), wp_X3_lay_j44 Post  C i1 i2 i3 → G w x 6 0 0 (QM w x (fun v C1 => ∃ r : Int32, v = some (.int r) ∧ Post r C1) 0 0) C 44 [(0, .ref (ad w 1)), (1, .int i1), (2, .int i2), (3, .int i3)] [] := by
  intro C i1 i2 i3 hw
  unfold wp_X3_lay_j44 at hw
  refine g_iload_n ok 2 dX3_lay_44 rfl ?_
  refine g_iconst (v := 2) ok dX3_lay_45 (by decide) ?_
  refine g_icmp_ne (tgt := 61) ok dX3_lay_46 (by decide) (fun c7 => ?_) (fun c7 => ?_)
  · have hw := hw.2 c7
    exact gw_X3_lay_j61 ok C i1 i2 i3 hw
  · have hw := hw.1 c7
    refine g_aload_n ok 0 dX3_lay_49 rfl ?_
    refine g_get ok 1 rfl rfl in_X3 26 (by decide) q1385 rfl dX3_lay_50 ?_
    refine g_iload_n ok 3 dX3_lay_53 rfl ?_
    obtain ⟨hg, hw⟩ := hw
    refine g_iald ok 51 rfl hg _ rfl dX3_lay_54 ?_
    refine g_if_ge (tgt := 61) ok dX3_lay_55 (by decide) (fun c25 => ?_) (fun c25 => ?_)
    · have hw := hw.1 c25
      exact gw_X3_lay_j61 ok C i1 i2 i3 hw
    · have hw := hw.2 c25
      refine g_ldc (v := -1000000011) ok q1611 dX3_lay_58 ?_
      exact g_iret ok dX3_lay_60 ⟨_, rfl, hw⟩
set_option maxHeartbeats 4000000 in
set_option maxRecDepth 100000 in
theorem gw_X3_lay_j29 {w : WD} {x : Cx} (ok : Ok w x cX3_lay 6 yX3_lay.cls (some .int) (rmL 2 0 0)) {Post : Int32 → CS → Prop} : ∀ (C : CS) (i1 : Int32) (i2 : Int32) (i3 : Int32), wp_X3_lay_j29 Post  C i1 i2 i3 → G w x 6 0 0 (QM w x (fun v C1 => ∃ r : Int32, v = some (.int r) ∧ Post r C1) 0 0) C 29 [(0, .ref (ad w 1)), (1, .int i1), (2, .int i2), (3, .int i3)] [] := by
  intro C i1 i2 i3 hw
  unfold wp_X3_lay_j29 at hw
  refine g_iload_n ok 2 dX3_lay_29 rfl ?_
  refine g_iconst (v := 2) ok dX3_lay_30 (by decide) ?_
  refine g_icmp_ne (tgt := 44) ok dX3_lay_31 (by decide) (fun c6 => ?_) (fun c6 => ?_)
  · have hw := hw.2 c6
    exact gw_X3_lay_j44 ok C i1 i2 i3 hw
  · have hw := hw.1 c6
    refine g_iload_n ok 3 dX3_lay_34 rfl ?_
    refine g_callSI ok [.int i3] cf_X3_isSheet q1608 (mc_X3_isSheet ok.wo (xL x) C i3) rfl rfl (Nat.le_of_ble_eq_true rfl) ⟨by decide, by decide⟩ ⟨by decide, by decide⟩ dX3_lay_35 ?_
    refine g_nmI (fun r26 er26 => ?_)
    have hw := hw r26 er26
    refine g_if_ne (tgt := 44) ok dX3_lay_38 (by decide) (fun c27 => ?_) (fun c27 => ?_)
    · have hw := hw.2 c27
      exact gw_X3_lay_j44 ok C i1 i2 i3 hw
    · have hw := hw.1 c27
      refine g_ldc (v := -1000000001) ok q1477 dX3_lay_41 ?_
      exact g_iret ok dX3_lay_43 ⟨_, rfl, hw⟩
set_option maxHeartbeats 4000000 in
set_option maxRecDepth 100000 in
theorem gw_X3_lay {w : WD} (wk : wOk w) (l : Launch) (C : CS) (a0 : Int32) (a1 : Int32) (a2 : Int32) {Post : Int32 → CS → Prop} (hw : wp_X3_lay Post C a0 a1 a2) : MC w l yX3_lay cX3_lay 6 (some .int) 2 0 0 [.ref (ad w 1), .int a0, .int a1, .int a2] C (fun v C1 => ∃ r : Int32, v = some (.int r) ∧ Post r C1) := by
  unfold wp_X3_lay at hw
  refine MC.of wk (by decide) (Nat.le_of_ble_eq_true rfl) (fun x hx ok => ?_)
  subst hx
  show G w x 6 0 0 (QM w x _ 0 0) C 0 [(0, .ref (ad w 1)), (1, .int a0), (2, .int a1), (3, .int a2)] []
  refine g_iload_n ok 1 dX3_lay_0 rfl ?_
  refine g_callSI ok [.int a0] cf_X3_isSlot q1803 (mc_X3_isSlot ok.wo (xL x) C a0) rfl rfl (Nat.le_of_ble_eq_true rfl) ⟨by decide, by decide⟩ ⟨by decide, by decide⟩ dX3_lay_1 ?_
  refine g_nmI (fun r1 er1 => ?_)
  have hw := hw r1 er1
  refine g_if_eq (tgt := 41) ok dX3_lay_4 (by decide) (fun c2 => ?_) (fun c2 => ?_)
  · have hw := hw.1 c2
    refine g_ldc (v := -1000000001) ok q1477 dX3_lay_41 ?_
    exact g_iret ok dX3_lay_43 ⟨_, rfl, hw⟩
  · have hw := hw.2 c2
    refine g_iload_n ok 2 dX3_lay_7 rfl ?_
    refine g_iconst (v := 0) ok dX3_lay_8 (by decide) ?_
    refine g_iconst (v := 3) ok dX3_lay_9 (by decide) ?_
    refine g_callSI ok [.int a1, .int 0, .int 3] cf_X3_in q1474 (mc_X3_in ok.wo (xL x) C a1 0 3) rfl rfl (Nat.le_of_ble_eq_true rfl) ⟨by decide, by decide⟩ ⟨by decide, by decide⟩ dX3_lay_10 ?_
    refine g_nmI (fun r3 er3 => ?_)
    have hw := hw r3 er3
    refine g_if_eq (tgt := 41) ok dX3_lay_13 (by decide) (fun c4 => ?_) (fun c4 => ?_)
    · have hw := hw.1 c4
      refine g_ldc (v := -1000000001) ok q1477 dX3_lay_41 ?_
      exact g_iret ok dX3_lay_43 ⟨_, rfl, hw⟩
    · have hw := hw.2 c4
      refine g_iload_n ok 2 dX3_lay_16 rfl ?_
      refine g_iconst (v := 1) ok dX3_lay_17 (by decide) ?_
      refine g_icmp_ne (tgt := 29) ok dX3_lay_18 (by decide) (fun c5 => ?_) (fun c5 => ?_)
      · have hw := hw.2 c5
        exact gw_X3_lay_j29 ok C a0 a1 a2 hw
      · have hw := hw.1 c5
        refine g_aload_n ok 0 dX3_lay_21 rfl ?_
        refine g_iload_n ok 3 dX3_lay_22 rfl ?_
        refine g_callVI ok [.int a2] cf_X3_isGlove q1491 (mc_X3_isGlove ok.wo (xL x) C a2) (recvF ok 1 rfl rfl) rfl rfl (Nat.le_of_ble_eq_true rfl) ⟨by decide, by decide⟩ ⟨by decide, by decide⟩ dX3_lay_23 ?_
        refine g_nmI (fun r28 er28 => ?_)
        have hw := hw r28 er28
        refine g_if_eq (tgt := 41) ok dX3_lay_26 (by decide) (fun c29 => ?_) (fun c29 => ?_)
        · have hw := hw.1 c29
          refine g_ldc (v := -1000000001) ok q1477 dX3_lay_41 ?_
          exact g_iret ok dX3_lay_43 ⟨_, rfl, hw⟩
        · have hw := hw.2 c29
          exact gw_X3_lay_j29 ok C a0 a1 a2 hw
theorem sp_X3_lay (C : CS) (a0 a1 a2 : Int32) (hp : p_X3_lay C a0 a1 a2) : wp_X3_lay (fun r C1 => r = v_X3_lay C a0 a1 a2 ∧ q_X3_lay C a0 a1 a2 C1) C a0 a1 a2 := by
  obtain ⟨N, e, hN⟩ := hp
  intro r1 e1
  have no : (¬ laG C a0 a1 a2) → q_X3_lay C a0 a1 a2 C := fun h => ⟨fun z => absurd z h, fun _ => rfl⟩
  refine ⟨fun c => ⟨by unfold v_X3_lay; rw [← e1, if_pos c], no (fun z => z.1 (by rw [← e1]; exact c))⟩, fun c1 r3 e3 => ⟨fun c => ⟨by unfold v_X3_lay; rw [← e1, if_neg c1, ← e3, if_pos c], no (fun z => z.2.1 (by rw [← e3]; exact c))⟩, fun c3 => ?_⟩⟩
  have ca := c1
  rw [e1, isSlot_iff] at ca
  obtain ⟨s, hs, rfl⟩ := ca
  have hv : v_X3_lay C (nI s) a1 a2 = if a1 = 1 ∧ v_X3_isGlove C a2 = 0 then -1000000001 else if a1 = 2 ∧ v_X3_isSheet a2 = 0 then -1000000001 else if a1 = 2 ∧ ¬ 0 ≤ C.2.1 51 a2.toNatClampNeg then -1000000011 else C.2.1 54 s := by unfold v_X3_lay; rw [← e1, if_neg c1, ← e3, if_neg c3, cl_k (by omega)]
  -- all is there
  have main : (a1 = 1 → ¬ v_X3_isGlove C a2 = 0) → (a1 = 2 → ¬ v_X3_isSheet a2 = 0 ∧ 0 ≤ C.2.1 51 a2.toNatClampNeg) → wp_X3_lay_j61 (fun r C1 => r = v_X3_lay C (nI s) a1 a2 ∧ q_X3_lay C (nI s) a1 a2 C1) C (nI s) a1 a2 := by
    intro g1 g2
    have hG : laG C (nI s) a1 a2 := ⟨by rw [← e1]; exact c1, by rw [← e3]; exact c3, g1, g2⟩
    have gl : a1 = 1 → ∃ g, g < N ∧ a2 = nI g := fun h => (isGlove_iff ⟨e, hN⟩).mp (g1 h)
    have sh : a1 = 2 → ∃ g, g < 4 ∧ a2 = nI g := fun h => isSheet_iff.mp (g2 h).1
    have hval : v_X3_lay C (nI s) a1 a2 = C.2.1 54 s := by
      rw [hv, if_neg (fun z => g1 z.1 z.2), if_neg (fun z => (g2 z.1).1 z.2), if_neg (fun z => z.2 (g2 z.1).2)]
    refine ⟨vp_k hs, fun x8 e8 => ⟨vp_k hs, fun C9 e9 => ⟨⟨fun h => ⟨?_, trivial⟩, fun _ => ⟨⟨fun h => ⟨?_, trivial⟩, fun _ => trivial⟩, trivial⟩⟩, fun x14 e14 => ⟨vp_k hs, fun C15 e15 => ⟨⟨fun h => ⟨?_, trivial⟩, fun _ => trivial⟩, fun x18 e18 => ⟨vp_k hs, fun C19 e19 => ?_⟩⟩⟩⟩⟩⟩
    · obtain ⟨g, hg, rfl⟩ := gl h
      exact (pofn C9 (by omega)).1
    · obtain ⟨g, hg, rfl⟩ := sh h
      exact vp_k hg
    · obtain ⟨g, hg, rfl⟩ := gl h
      exact pworth C15 (by omega)
    · rw [cl_k (by omega)] at e8 e9 e15 e19
      have f9 : frm [54, 55, 56, 57] C C9 := by rw [e9]; exact (frm.rf _ C).w (by decide)
      have f15 : frm [54, 55, 56, 57] C C15 := by rw [e15]; exact f9.w (by decide)
      have f19 : frm [54, 55, 56, 57] C C19 := by rw [e19]; exact f15.w (by decide)
      have e14' : x14 = if a1 = 1 then v_X3_of C a2 0 else (if a1 = 2 then C.2.1 52 a2.toNatClampNeg else a2) := by
        rw [e14]
        unfold v_X3_of
        rw [f9.2.2 36 (by decide), f9.2.2 52 (by decide)]
      have e18' : x18 = if a1 = 1 then v_X3_worthOf C a2 else 0 := by rw [e18, wthR_C, wthR_C, f15.2.2 36 (by decide)]
      have h54 : C19.2.1 54 = upd (C.2.1 54) s a1 := by rw [e19, wA_ne _ _ _ (by decide), e15, wA_ne _ _ _ (by decide), e9, wA_row]
      have h55 : C19.2.1 55 = upd (C.2.1 55) s x14 := by rw [e19, wA_ne _ _ _ (by decide), e15, wA_row, e9, wA_ne _ _ _ (by decide)]
      have h56 : C19.2.1 56 = upd (C.2.1 56) s x18 := by rw [e19, wA_row, e15, wA_ne _ _ _ (by decide), e9, wA_ne _ _ _ (by decide)]
      have h57 : C19.2.1 57 = C.2.1 57 := by rw [e19, wA_ne _ _ _ (by decide), e15, wA_ne _ _ _ (by decide), e9, wA_ne _ _ _ (by decide)]
      have fin : ∀ (k : Nat) (D : CS), (a1 = 2 → k = 24) → frm [54, 55, 56, 57] C D → D.2.1 54 = upd (C.2.1 54) s a1 → D.2.1 55 = upd (C.2.1 55) s x14 → D.2.1 56 = upd (C.2.1 56) s x18 → (∀ i, D.2.1 57 i = if a1 = 2 ∧ 24 * s ≤ i ∧ i < 24 * s + k then C.2.1 53 (24 * a2.toNatClampNeg + (i - 24 * s)) else C.2.1 57 i) → x8 = v_X3_lay C (nI s) a1 a2 ∧ q_X3_lay C (nI s) a1 a2 D := by
        intro k D hk hf d1 d2 d3 d4
        refine ⟨by rw [hval, e8], fun _ => ⟨hf, ?_, ?_, ?_, fun i => ?_⟩, fun z => absurd hG z⟩
        · rw [cl_k (by omega)]; exact d1
        · rw [cl_k (by omega), ← e14']; exact d2
        · rw [cl_k (by omega), ← e18']; exact d3
        · rw [cl_k (by omega), d4 i]
          by_cases h2 : a1 = 2
          · rw [hk h2]
          · rw [if_neg (fun z => h2 z.1), if_neg (fun z => h2 z.1)]
      have H : ∀ d k, k + d = 24 → ∀ D : CS, frm [54, 55, 56, 57] C D → D.2.1 54 = upd (C.2.1 54) s a1 → D.2.1 55 = upd (C.2.1 55) s x14 → D.2.1 56 = upd (C.2.1 56) s x18 → (∀ i, D.2.1 57 i = if a1 = 2 ∧ 24 * s ≤ i ∧ i < 24 * s + k then C.2.1 53 (24 * a2.toNatClampNeg + (i - 24 * s)) else C.2.1 57 i) → wp_X3_lay_l134 (fun r C1 => r = v_X3_lay C (nI s) a1 a2 ∧ q_X3_lay C (nI s) a1 a2 C1) (d + 1) D (nI s) a1 a2 x8 (nI k) := by
        intro d
        induction d with
        | zero =>
          intro k hk D hf d1 d2 d3 d4
          have ek : k = 24 := by omega
          exact ⟨fun _ => fin k D (fun _ => ek) hf d1 d2 d3 d4, fun c => absurd (by rw [ek]; decide) c⟩
        | succ d ih =>
          intro k hk D hf d1 d2 d3 d4
          refine ⟨fun c => ?_, fun _ => ⟨fun h2 => ?_, fun h2 => fin k D (fun z => absurd z h2) hf d1 d2 d3 d4⟩⟩
          · rw [show (24 : Int32) = nI 24 from rfl, nI_leI (by omega) (by omega)] at c; omega
          · obtain ⟨g, hg, eg⟩ := sh h2
            rw [eg, ix24, ix24]
            refine ⟨vp_k (by omega), vp_k (by omega), fun C22 e22 x23 e23 => ?_⟩
            rw [cl_k (by omega), cl_k (by omega), hf.2.2 53 (by decide)] at e22
            rw [e23, o1, nI_add]
            have h3 := ih (k + 1) (by omega) C22 (by rw [e22]; exact hf.w (by decide)) (by rw [e22, wA_ne _ _ _ (by decide)]; exact d1) (by rw [e22, wA_ne _ _ _ (by decide)]; exact d2) (by rw [e22, wA_ne _ _ _ (by decide)]; exact d3) (fun i => ?_)
            · rw [eg] at h3; exact h3
            · rw [e22, wA_row, upd, eg, cl_k (by omega)]
              by_cases hi : i = 24 * s + k
              · rw [if_pos hi, if_pos ⟨h2, by omega, by omega⟩, hi, show 24 * s + k - 24 * s = k by omega]
              · rw [if_neg hi, d4 i, eg, cl_k (by omega)]
                by_cases h4 : a1 = 2 ∧ 24 * s ≤ i ∧ i < 24 * s + k
                · rw [if_pos h4, if_pos ⟨h2, h4.2.1, by omega⟩]
                · rw [if_neg h4, if_neg (fun z => h4 ⟨h2, z.2.1, by omega⟩)]
      exact ⟨_, H 24 0 (by omega) C19 f19 h54 h55 h56 (fun i => by rw [h57, if_neg (by omega)])⟩
  have mid : (a1 = 1 → ¬ v_X3_isGlove C a2 = 0) → wp_X3_lay_j29 (fun r C1 => r = v_X3_lay C (nI s) a1 a2 ∧ q_X3_lay C (nI s) a1 a2 C1) C (nI s) a1 a2 := by
    intro g1
    have hv1 : ¬ (a1 = 1 ∧ v_X3_isGlove C a2 = 0) := fun z => g1 z.1 z.2
    refine ⟨fun h2 r26 e26 => ⟨fun c => ⟨by rw [hv, if_neg hv1, ← e26, if_pos ⟨h2, c⟩], no (fun z => (z.2.2.2 h2).1 (by rw [← e26]; exact c))⟩, fun c => ⟨fun _ => ?_, fun z => absurd h2 z⟩⟩, fun h2 => ⟨fun z => absurd z h2, fun _ => main g1 (fun z => absurd z h2)⟩⟩
    have cs := c
    rw [e26, isSheet_iff] at cs
    obtain ⟨g, hg, eg⟩ := cs
    refine ⟨by rw [eg]; exact vp_k hg, fun c4 => main g1 (fun _ => ⟨by rw [← e26]; exact c, c4⟩), fun c4 => ⟨?_, no (fun z => c4 (z.2.2.2 h2).2)⟩⟩
    rw [hv, if_neg hv1, if_neg (fun z => c (by rw [e26]; exact z.2)), if_pos ⟨h2, c4⟩]
  refine ⟨fun h1 r28 e28 => ⟨fun c => ⟨by rw [hv, ← e28, if_pos ⟨h1, c⟩], no (fun z => z.2.2.1 h1 (by rw [← e28]; exact c))⟩, fun c => mid (fun _ => by rw [← e28]; exact c)⟩, fun h1 => mid (fun z => absurd z h1)⟩
theorem mc_X3_lay {w : WD} (wk : wOk w) (l : Launch) (C : CS) (a0 : Int32) (a1 : Int32) (a2 : Int32) (hp : p_X3_lay C a0 a1 a2) : MC w l yX3_lay cX3_lay 6 (some .int) 2 0 0 [.ref (ad w 1), .int a0, .int a1, .int a2] C (pIR (v_X3_lay C a0 a1 a2) (q_X3_lay C a0 a1 a2)) := MC.postIR (gw_X3_lay wk l C a0 a1 a2 (sp_X3_lay C a0 a1 a2 hp))
/-- a byte of three numbers -/
def fdB (a b c : Int32) (k : Nat) : Int32 := ((if (4 : Int32) ≤ nI k then (if (8 : Int32) ≤ nI k then c else b) else a) >>> ((24 - 8 * (nI k - nI k / 4 * 4)) &&& 31)) &&& 255
theorem cf_X3_feed : CfV yX3_feed "TwoGuildsModel" cX3_feed 6 (some .int) 3 := ⟨⟨by decide, by decide, by decide⟩, q75, q1715, q1713, q1714⟩
def p_X3_feed (C : CS) (a0 a1 a2 : Int32) : Prop := ∃ t, C.1 1 9 = nI t ∧ t ≤ 96
def v_X3_feed (C : CS) (a0 a1 a2 : Int32) : Int32 := if C.1 1 9 + 12 ≤ 96 then C.1 1 9 + 12 else -1000000003
def q_X3_feed (C : CS) (a0 a1 a2 : Int32) (C1 : CS) : Prop := (C.1 1 9 + 12 ≤ 96 → ∃ D, frm [43] C D ∧ C1 = wI D 1 9 (C.1 1 9 + 12) ∧ ∀ i, D.2.1 43 i = if (C.1 1 9).toNatClampNeg ≤ i ∧ i < (C.1 1 9).toNatClampNeg + 12 then fdB a0 a1 a2 (i - (C.1 1 9).toNatClampNeg) else C.2.1 43 i) ∧ (¬ C.1 1 9 + 12 ≤ 96 → C1 = C)
def wp_X3_feed_l18 (Post : Int32 → CS → Prop) : Nat → CS → Int32 → Int32 → Int32 → Int32 → Prop
  | 0, _, _, _, _, _ => False
  | n + 1, C, i1, i2, i3, i4 => (12 ≤ i4 → 
  ∀ C3 : CS, C3 = (wI C 1 9 ((C.1 1 9) + 12)) → 
    Post (C3.1 1 9) C3) ∧
  (¬ 12 ≤ i4 → 
  ∀ x8 : Int32, x8 = (if 4 ≤ i4 then (if 8 ≤ i4 then i3 else i2) else i1) → 
    vp_in ((C.1 1 9) + i4) 96 ∧
    (∀ C9 : CS, C9 = (wA C 43 (Int32.toNatClampNeg ((C.1 1 9) + i4)) ((x8 >>> ((24 - (8 * (i4 - i4 / 4 * 4))) &&& 31)) &&& 255)) → 
    ∀ x10 : Int32, x10 = (i4 + Int32.ofInt 1) → 
    wp_X3_feed_l18 Post n C9 i1 i2 i3 x10))
def wp_X3_feed (Post : Int32 → CS → Prop) (C : CS) (a0 : Int32) (a1 : Int32) (a2 : Int32) : Prop :=
  (((C.1 1 9) + 12) ≤ 96 → 
    ∃ m18, wp_X3_feed_l18 Post m18 C a0 a1 a2 0) ∧
    (¬ ((C.1 1 9) + 12) ≤ 96 → 
    Post (-1000000003) C)
set_option maxHeartbeats 4000000 in
set_option maxRecDepth 100000 in
theorem gw_X3_feed_l18 {w : WD} {x : Cx} (ok : Ok w x cX3_feed 6 yX3_feed.cls (some .int) (rmL 0 0 0)) {Post : Int32 → CS → Prop} : ∀ (n : Nat) (C : CS) (i1 : Int32) (i2 : Int32) (i3 : Int32) (i4 : Int32), wp_X3_feed_l18 Post  n C i1 i2 i3 i4 → G w x 6 0 0 (QM w x (fun v C1 => ∃ r : Int32, v = some (.int r) ∧ Post r C1) 0 0) C 18 [(0, .ref (ad w 1)), (1, .int i1), (2, .int i2), (3, .int i3), (4, .int i4)] [] := by
  intro n
  induction n with
  | zero => intro C i1 i2 i3 i4 hw; exact hw.elim
  | succ n ih =>
    intro C i1 i2 i3 i4 hw
    unfold wp_X3_feed_l18 at hw
    refine g_iload ok 4 dX3_feed_18 rfl ?_
    refine g_bipush (v := 12) ok dX3_feed_20 (by decide) ?_
    refine g_icmp_ge (tgt := 84) ok dX3_feed_22 (by decide) (fun c2 => ?_) (fun c2 => ?_)
    · have hw := hw.1 c2
      refine g_aload_n ok 0 dX3_feed_84 rfl ?_
      refine g_dup ok dX3_feed_85 rfl ?_
      refine g_get ok 1 rfl rfl in_X3 9 (by decide) q1368 rfl dX3_feed_86 ?_
      refine g_bipush (v := 12) ok dX3_feed_89 (by decide) ?_
      refine g_iadd ok dX3_feed_91 ?_
      refine g_putI ok 1 rfl rfl in_X3 tyX3 tyX3_ok nmX3 9 (by decide) q1368 rfl rfl rfl (putV_m rfl) dX3_feed_92 (fun C3 eC3 => ?_)
      have hw := hw C3 eC3
      refine g_aload_n ok 0 dX3_feed_95 rfl ?_
      refine g_get ok 1 rfl rfl in_X3 9 (by decide) q1368 rfl dX3_feed_96 ?_
      exact g_iret ok dX3_feed_99 ⟨_, rfl, hw⟩
    · have hw := hw.2 c2
      refine g_iload ok 4 dX3_feed_25 rfl ?_
      refine g_iconst (v := 4) ok dX3_feed_27 (by decide) ?_
      have kj7 : ∀ x8 : Int32, x8 = (if 4 ≤ i4 then (if 8 ≤ i4 then i3 else i2) else i1) → G w x 6 0 0 (QM w x (fun v C1 => ∃ r : Int32, v = some (.int r) ∧ Post r C1) 0 0) C 47 [(0, .ref (ad w 1)), (1, .int i1), (2, .int i2), (3, .int i3), (4, .int i4)] [.int x8] := by
        intro x8 ex8
        have hw := hw x8 ex8
        refine g_istore0 ok [(5, .int x8), (0, .ref (ad w 1)), (1, .int i1), (2, .int i2), (3, .int i3), (4, .int i4)] dX3_feed_47 (by decide) rfl ?_
        refine g_aload_n ok 1 dX3_feed_49 rfl ?_
        refine g_get ok 1 rfl rfl in_X3 8 (by decide) q1367 rfl dX3_feed_50 ?_
        refine g_aload_n ok 1 dX3_feed_53 rfl ?_
        refine g_get ok 1 rfl rfl in_X3 9 (by decide) q1368 rfl dX3_feed_54 ?_
        refine g_iload ok 5 dX3_feed_57 rfl ?_
        refine g_iadd ok dX3_feed_59 ?_
        refine g_iload ok 0 dX3_feed_60 rfl ?_
        refine g_bipush (v := 24) ok dX3_feed_62 (by decide) ?_
        refine g_bipush (v := 8) ok dX3_feed_64 (by decide) ?_
        refine g_iload ok 5 dX3_feed_66 rfl ?_
        refine g_iconst (v := 4) ok dX3_feed_68 (by decide) ?_
        refine g_irem ok dX3_feed_69 (by decide) ?_
        refine g_imul ok dX3_feed_70 ?_
        refine g_isub ok dX3_feed_71 ?_
        refine g_ishr ok dX3_feed_72 ?_
        refine g_sipush (v := 255) ok dX3_feed_73 (by decide) ?_
        refine g_iand ok dX3_feed_76 ?_
        obtain ⟨hg, hw⟩ := hw
        refine g_iast ok 43 rfl hg _ rfl dX3_feed_77 (fun C9 eC9 => ?_)
        have hw := hw C9 eC9
        refine g_iinc ok 5 (fun z => [(4, .int z), (5, .int x8), (0, .ref (ad w 1)), (1, .int i1), (2, .int i2), (3, .int i3)]) dX3_feed_78 rfl (by decide) (fun _ => rfl) (fun x10 ex10 => ?_)
        have hw := hw x10 ex10
        refine g_goto (tgt := 18) ok dX3_feed_81 (by decide) ?_
        refine g_sub [2, 3, 4, 5, 0] [(0, .ref (ad w 1)), (1, .int i1), (2, .int i2), (3, .int i3), (4, .int x10)] rfl ?_
        exact ih C9 i1 i2 i3 x10 hw
      refine g_icmp_ge (tgt := 35) ok dX3_feed_28 (by decide) (fun c4 => ?_) (fun c4 => ?_)
      · refine g_iload ok 4 dX3_feed_35 rfl ?_
        refine g_bipush (v := 8) ok dX3_feed_37 (by decide) ?_
        have kj6 : G w x 6 0 0 (QM w x (fun v C1 => ∃ r : Int32, v = some (.int r) ∧ Post r C1) 0 0) C 47 [(0, .ref (ad w 1)), (1, .int i1), (2, .int i2), (3, .int i3), (4, .int i4)] [.int (if 8 ≤ i4 then i3 else i2)] := by
          exact (kj7 _ (by simp only [if_pos c4]))
        refine g_icmp_ge (tgt := 46) ok dX3_feed_39 (by decide) (fun c5 => ?_) (fun c5 => ?_)
        · refine g_iload_n ok 3 dX3_feed_46 rfl ?_
          simp only [if_pos c5] at kj6
          exact kj6
        · refine g_iload_n ok 2 dX3_feed_42 rfl ?_
          refine g_goto (tgt := 47) ok dX3_feed_43 (by decide) ?_
          simp only [if_neg c5] at kj6
          exact kj6
      · refine g_iload_n ok 1 dX3_feed_31 rfl ?_
        refine g_goto (tgt := 47) ok dX3_feed_32 (by decide) ?_
        exact (kj7 _ (by simp only [if_neg c4]))
set_option maxHeartbeats 4000000 in
set_option maxRecDepth 100000 in
theorem gw_X3_feed {w : WD} (wk : wOk w) (l : Launch) (C : CS) (a0 : Int32) (a1 : Int32) (a2 : Int32) {Post : Int32 → CS → Prop} (hw : wp_X3_feed Post C a0 a1 a2) : MC w l yX3_feed cX3_feed 6 (some .int) 0 0 0 [.ref (ad w 1), .int a0, .int a1, .int a2] C (fun v C1 => ∃ r : Int32, v = some (.int r) ∧ Post r C1) := by
  unfold wp_X3_feed at hw
  refine MC.of wk (by decide) (Nat.le_of_ble_eq_true rfl) (fun x hx ok => ?_)
  subst hx
  show G w x 6 0 0 (QM w x _ 0 0) C 0 [(0, .ref (ad w 1)), (1, .int a0), (2, .int a1), (3, .int a2)] []
  refine g_aload_n ok 0 dX3_feed_0 rfl ?_
  refine g_get ok 1 rfl rfl in_X3 9 (by decide) q1368 rfl dX3_feed_1 ?_
  refine g_bipush (v := 12) ok dX3_feed_4 (by decide) ?_
  refine g_iadd ok dX3_feed_6 ?_
  refine g_bipush (v := 96) ok dX3_feed_7 (by decide) ?_
  refine g_icmp_le (tgt := 15) ok dX3_feed_9 (by decide) (fun c1 => ?_) (fun c1 => ?_)
  · have hw := hw.1 c1
    refine g_iconst (v := 0) ok dX3_feed_15 (by decide) ?_
    refine g_istore0 ok [(4, .int 0), (0, .ref (ad w 1)), (1, .int a0), (2, .int a1), (3, .int a2)] dX3_feed_16 (by decide) rfl ?_
    refine g_sub [1, 2, 3, 4, 0] [(0, .ref (ad w 1)), (1, .int a0), (2, .int a1), (3, .int a2), (4, .int 0)] rfl ?_
    obtain ⟨n11, hw⟩ := hw
    exact gw_X3_feed_l18 ok n11 C a0 a1 a2 0 hw
  · have hw := hw.2 c1
    refine g_ldc (v := -1000000003) ok q1478 dX3_feed_12 ?_
    exact g_iret ok dX3_feed_14 ⟨_, rfl, hw⟩
theorem sp_X3_feed (C : CS) (a0 a1 a2 : Int32) (hp : p_X3_feed C a0 a1 a2) : wp_X3_feed (fun r C1 => r = v_X3_feed C a0 a1 a2 ∧ q_X3_feed C a0 a1 a2 C1) C a0 a1 a2 := by
  obtain ⟨t, et, ht⟩ := hp
  refine ⟨fun c => ?_, fun c => ⟨by unfold v_X3_feed; rw [if_neg c], fun z => absurd z c, fun _ => rfl⟩⟩
  have ht2 : t + 12 ≤ 96 := by
    have h := c
    rw [et, show (12 : Int32) = nI 12 from rfl, show (96 : Int32) = nI 96 from rfl, nI_add, nI_leI (by omega) (by omega)] at h
    exact h
  have H : ∀ d k, k + d = 12 → ∀ D : CS, frm [43] C D → (∀ i, D.2.1 43 i = if t ≤ i ∧ i < t + k then fdB a0 a1 a2 (i - t) else C.2.1 43 i) → wp_X3_feed_l18 (fun r C1 => r = v_X3_feed C a0 a1 a2 ∧ q_X3_feed C a0 a1 a2 C1) (d + 1) D a0 a1 a2 (nI k) := by
    intro d
    induction d with
    | zero =>
      intro k hk D hf g
      have ek : k = 12 := by omega
      subst ek
      have h9 : D.1 1 9 = C.1 1 9 := by rw [hf.1]
      refine ⟨fun _ C3 e3 => ⟨?_, fun _ => ⟨D, hf, by rw [e3, h9], ?_⟩, fun z => absurd c z⟩, fun c1 => absurd (by decide) c1⟩
      · unfold v_X3_feed
        rw [if_pos c, e3, h9]
        simp [wI, up2]
      · rw [et, cl_k (by omega)]; exact g
    | succ d ih =>
      intro k hk D hf g
      have h9 : D.1 1 9 = nI t := by rw [hf.1]; exact et
      refine ⟨fun c1 => ?_, fun _ x8 e8 => ?_⟩
      · rw [show (12 : Int32) = nI 12 from rfl, nI_leI (by omega) (by omega)] at c1; omega
      · rw [h9, nI_add]
        refine ⟨vp_k (by omega), fun C9 e9 x10 e10 => ?_⟩
        rw [cl_k (by omega), e8] at e9
        rw [e10, o1, nI_add]
        refine ih (k + 1) (by omega) C9 (by rw [e9]; exact hf.w (by decide)) (fun i => ?_)
        rw [e9, wA_row, upd]
        by_cases hi : i = t + k
        · rw [if_pos hi, if_pos (show t ≤ i ∧ i < t + (k + 1) by omega), hi, show t + k - t = k by omega]; rfl
        · rw [if_neg hi, g i]
          by_cases h2 : t ≤ i ∧ i < t + k
          · rw [if_pos h2, if_pos (by omega)]
          · rw [if_neg h2, if_neg (by omega)]
  exact ⟨_, H 12 0 (by omega) C (frm.rf _ _) (fun i => by rw [if_neg (by omega)])⟩
theorem mc_X3_feed {w : WD} (wk : wOk w) (l : Launch) (C : CS) (a0 : Int32) (a1 : Int32) (a2 : Int32) (hp : p_X3_feed C a0 a1 a2) : MC w l yX3_feed cX3_feed 6 (some .int) 0 0 0 [.ref (ad w 1), .int a0, .int a1, .int a2] C (pIR (v_X3_feed C a0 a1 a2) (q_X3_feed C a0 a1 a2)) := MC.postIR (gw_X3_feed wk l C a0 a1 a2 (sp_X3_feed C a0 a1 a2 hp))
