theorem ix24b (a b c : Nat) : (24 * nI a + nI b + nI c : Int32) = nI (24 * a + b + c) := by rw [ix24, nI_add]
/-- places that are all there -/
def cpG (C : CS) (a0 a1 a2 a3 a4 : Int32) : Prop := ¬ v_X3_isSheet a0 = 0 ∧ ¬ v_X3_isSheet a2 = 0 ∧ ¬ C.2.1 51 a0.toNatClampNeg < 0 ∧ 0 ≤ C.2.1 51 a2.toNatClampNeg ∧ C.2.1 51 a0.toNatClampNeg = C.2.1 51 a2.toNatClampNeg ∧ ¬ a1 < 0 ∧ ¬ a3 < 0 ∧ ¬ a4 < 0 ∧ ¬ C.2.1 52 a0.toNatClampNeg - a4 < a1 ∧ a3 ≤ C.2.1 52 a2.toNatClampNeg - a4
theorem cf_X3_copy : CfV yX3_copy "TwoGuildsModel" cX3_copy 7 (some .int) 5 := ⟨⟨by decide, by decide, by decide⟩, q75, q1798, q1796, q1797⟩
def p_X3_copy (C : CS) (a0 a1 a2 a3 a4 : Int32) : Prop := szOk C
def v_X3_copy (C : CS) (a0 a1 a2 a3 a4 : Int32) : Int32 := if v_X3_isSheet a0 = 0 then -1000000001 else if v_X3_isSheet a2 = 0 then -1000000001 else if C.2.1 51 a0.toNatClampNeg < 0 then -1000000011 else if 0 ≤ C.2.1 51 a2.toNatClampNeg then (if C.2.1 51 a0.toNatClampNeg = C.2.1 51 a2.toNatClampNeg then (if a1 < 0 then -1000000013 else if a3 < 0 then -1000000013 else if a4 < 0 then -1000000013 else if C.2.1 52 a0.toNatClampNeg - a4 < a1 then -1000000013 else if a3 ≤ C.2.1 52 a2.toNatClampNeg - a4 then a4 else -1000000013) else -1000000012) else -1000000011
def q_X3_copy (C : CS) (a0 a1 a2 a3 a4 : Int32) (C1 : CS) : Prop :=
  (cpG C a0 a1 a2 a3 a4 → frm [53, 58] C C1 ∧ ∀ i, C1.2.1 53 i = if 24 * a2.toNatClampNeg + a3.toNatClampNeg ≤ i ∧ i < 24 * a2.toNatClampNeg + a3.toNatClampNeg + a4.toNatClampNeg then C.2.1 53 (24 * a0.toNatClampNeg + a1.toNatClampNeg + (i - (24 * a2.toNatClampNeg + a3.toNatClampNeg))) else C.2.1 53 i) ∧ (¬ cpG C a0 a1 a2 a3 a4 → C1 = C)
def wp_X3_copy_l141 (Post : Int32 → CS → Prop) : Nat → CS → Int32 → Int32 → Int32 → Int32 → Prop
  | 0, _, _, _, _, _ => False
  | n + 1, C, i3, i4, i5, i6 => (i5 ≤ i6 → 
  Post i5 C) ∧
  (¬ i5 ≤ i6 → 
  vp_in i6 24 ∧
    (vp_in (((24 * i3) + i4) + i6) 96 ∧
    (∀ C15 : CS, C15 = (wA C 53 (Int32.toNatClampNeg (((24 * i3) + i4) + i6)) (C.2.1 58 (Int32.toNatClampNeg i6))) → 
    ∀ x16 : Int32, x16 = (i6 + Int32.ofInt 1) → 
    wp_X3_copy_l141 Post n C15 i3 i4 i5 x16)))
def wp_X3_copy_l104 (Post : Int32 → CS → Prop) : Nat → CS → Int32 → Int32 → Int32 → Int32 → Int32 → Int32 → Prop
  | 0, _, _, _, _, _, _, _ => False
  | n + 1, C, i1, i2, i3, i4, i5, i6 => (i5 ≤ i6 → 
  ∃ m141, wp_X3_copy_l141 Post m141 C i3 i4 i5 0) ∧
  (¬ i5 ≤ i6 → 
  vp_in (((24 * i1) + i2) + i6) 96 ∧
    (vp_in i6 24 ∧
    (∀ C18 : CS, C18 = (wA C 58 (Int32.toNatClampNeg i6) (C.2.1 53 (Int32.toNatClampNeg (((24 * i1) + i2) + i6)))) → 
    ∀ x19 : Int32, x19 = (i6 + Int32.ofInt 1) → 
    wp_X3_copy_l104 Post n C18 i1 i2 i3 i4 i5 x19)))
def wp_X3_copy (Post : Int32 → CS → Prop) (C : CS) (a0 : Int32) (a1 : Int32) (a2 : Int32) (a3 : Int32) (a4 : Int32) : Prop :=
  ∀ r1 : Int32, r1 = (v_X3_isSheet a0) → 
    (r1 = 0 → 
    Post (-1000000001) C) ∧
    (¬ r1 = 0 → 
    ∀ r3 : Int32, r3 = (v_X3_isSheet a2) → 
      (r3 = 0 → 
      Post (-1000000001) C) ∧
      (¬ r3 = 0 → 
      vp_in a0 4 ∧
        (((C.2.1 51 (Int32.toNatClampNeg a0)) < 0 → 
        Post (-1000000011) C) ∧
        (¬ (C.2.1 51 (Int32.toNatClampNeg a0)) < 0 → 
        vp_in a2 4 ∧
          ((0 ≤ (C.2.1 51 (Int32.toNatClampNeg a2)) → 
          vp_in a0 4 ∧
            (vp_in a2 4 ∧
            (((C.2.1 51 (Int32.toNatClampNeg a0)) = (C.2.1 51 (Int32.toNatClampNeg a2)) → 
            (a1 < 0 → 
              Post (-1000000013) C) ∧
              (¬ a1 < 0 → 
              (a3 < 0 → 
                Post (-1000000013) C) ∧
                (¬ a3 < 0 → 
                (a4 < 0 → 
                  Post (-1000000013) C) ∧
                  (¬ a4 < 0 → 
                  vp_in a0 4 ∧
                    ((((C.2.1 52 (Int32.toNatClampNeg a0)) - a4) < a1 → 
                    Post (-1000000013) C) ∧
                    (¬ ((C.2.1 52 (Int32.toNatClampNeg a0)) - a4) < a1 → 
                    vp_in a2 4 ∧
                      ((a3 ≤ ((C.2.1 52 (Int32.toNatClampNeg a2)) - a4) → 
                      ∃ m104, wp_X3_copy_l104 Post m104 C a0 a1 a2 a3 a4 0) ∧
                      (¬ a3 ≤ ((C.2.1 52 (Int32.toNatClampNeg a2)) - a4) → 
                      Post (-1000000013) C)))))))) ∧
            (¬ (C.2.1 51 (Int32.toNatClampNeg a0)) = (C.2.1 51 (Int32.toNatClampNeg a2)) → 
            Post (-1000000012) C)))) ∧
          (¬ 0 ≤ (C.2.1 51 (Int32.toNatClampNeg a2)) → 
          Post (-1000000011) C))))))
set_option maxHeartbeats 4000000 in
set_option maxRecDepth 100000 in
theorem gw_X3_copy_l141 {w : WD} {x : Cx} (ok : Ok w x cX3_copy 7 yX3_copy.cls (some .int) (rmL 2 0 0)) {Post : Int32 → CS → Prop} : ∀ (n : Nat) (C : CS) (i3 : Int32) (i4 : Int32) (i5 : Int32) (i6 : Int32), wp_X3_copy_l141 Post  n C i3 i4 i5 i6 → G w x 7 0 0 (QM w x (fun v C1 => ∃ r : Int32, v = some (.int r) ∧ Post r C1) 0 0) C 141 [(0, .ref (ad w 1)), (3, .int i3), (4, .int i4), (5, .int i5), (6, .int i6)] [] := by
  intro n
  induction n with
  | zero => intro C i3 i4 i5 i6 hw; exact hw.elim
  | succ n ih =>
    intro C i3 i4 i5 i6 hw
    unfold wp_X3_copy_l141 at hw
    refine g_iload ok 4 dX3_copy_141 rfl ?_
    refine g_iload ok 3 dX3_copy_143 rfl ?_
    refine g_icmp_ge (tgt := 176) ok dX3_copy_145 (by decide) (fun c14 => ?_) (fun c14 => ?_)
    · have hw := hw.1 c14
      refine g_iload ok 3 dX3_copy_176 rfl ?_
      exact g_iret ok dX3_copy_178 ⟨_, rfl, hw⟩
    · have hw := hw.2 c14
      refine g_aload_n ok 0 dX3_copy_148 rfl ?_
      refine g_get ok 1 rfl rfl in_X3 28 (by decide) q1387 rfl dX3_copy_149 ?_
      refine g_bipush (v := 24) ok dX3_copy_152 (by decide) ?_
      refine g_iload_n ok 1 dX3_copy_154 rfl ?_
      refine g_imul ok dX3_copy_155 ?_
      refine g_iload ok 2 dX3_copy_156 rfl ?_
      refine g_iadd ok dX3_copy_158 ?_
      refine g_iload ok 4 dX3_copy_159 rfl ?_
      refine g_iadd ok dX3_copy_161 ?_
      refine g_aload_n ok 0 dX3_copy_162 rfl ?_
      refine g_get ok 1 rfl rfl in_X3 33 (by decide) q1392 rfl dX3_copy_163 ?_
      refine g_iload ok 4 dX3_copy_166 rfl ?_
      obtain ⟨hg, hw⟩ := hw
      refine g_iald ok 58 rfl hg _ rfl dX3_copy_168 ?_
      obtain ⟨hg, hw⟩ := hw
      refine g_iast ok 53 rfl hg _ rfl dX3_copy_169 (fun C15 eC15 => ?_)
      have hw := hw C15 eC15
      refine g_iinc ok 4 (fun z => [(6, .int z), (0, .ref (ad w 1)), (3, .int i3), (4, .int i4), (5, .int i5)]) dX3_copy_170 rfl (by decide) (fun _ => rfl) (fun x16 ex16 => ?_)
      have hw := hw x16 ex16
      refine g_goto (tgt := 141) ok dX3_copy_173 (by decide) ?_
      refine g_sub [1, 2, 3, 4, 0] [(0, .ref (ad w 1)), (3, .int i3), (4, .int i4), (5, .int i5), (6, .int x16)] rfl ?_
      exact ih C15 i3 i4 i5 x16 hw
set_option maxHeartbeats 4000000 in
set_option maxRecDepth 100000 in
theorem gw_X3_copy_l104 {w : WD} {x : Cx} (ok : Ok w x cX3_copy 7 yX3_copy.cls (some .int) (rmL 2 0 0)) {Post : Int32 → CS → Prop} : ∀ (n : Nat) (C : CS) (i1 : Int32) (i2 : Int32) (i3 : Int32) (i4 : Int32) (i5 : Int32) (i6 : Int32), wp_X3_copy_l104 Post  n C i1 i2 i3 i4 i5 i6 → G w x 7 0 0 (QM w x (fun v C1 => ∃ r : Int32, v = some (.int r) ∧ Post r C1) 0 0) C 104 [(0, .ref (ad w 1)), (1, .int i1), (2, .int i2), (3, .int i3), (4, .int i4), (5, .int i5), (6, .int i6)] [] := by
  intro n
  induction n with
  | zero => intro C i1 i2 i3 i4 i5 i6 hw; exact hw.elim
  | succ n ih =>
    intro C i1 i2 i3 i4 i5 i6 hw
    unfold wp_X3_copy_l104 at hw
    refine g_iload ok 6 dX3_copy_104 rfl ?_
    refine g_iload ok 5 dX3_copy_106 rfl ?_
    refine g_icmp_ge (tgt := 138) ok dX3_copy_108 (by decide) (fun c13 => ?_) (fun c13 => ?_)
    · have hw := hw.1 c13
      refine g_iconst (v := 0) ok dX3_copy_138 (by decide) ?_
      refine g_istore0 ok [(6, .int 0), (0, .ref (ad w 1)), (1, .int i1), (2, .int i2), (3, .int i3), (4, .int i4), (5, .int i5)] dX3_copy_139 (by decide) rfl ?_
      refine g_sub [1, 4, 5, 6, 0] [(0, .ref (ad w 1)), (3, .int i3), (4, .int i4), (5, .int i5), (6, .int 0)] rfl ?_
      obtain ⟨n17, hw⟩ := hw
      exact gw_X3_copy_l141 ok n17 C i3 i4 i5 0 hw
    · have hw := hw.2 c13
      refine g_aload_n ok 0 dX3_copy_111 rfl ?_
      refine g_get ok 1 rfl rfl in_X3 33 (by decide) q1392 rfl dX3_copy_112 ?_
      refine g_iload ok 6 dX3_copy_115 rfl ?_
      refine g_aload_n ok 0 dX3_copy_117 rfl ?_
      refine g_get ok 1 rfl rfl in_X3 28 (by decide) q1387 rfl dX3_copy_118 ?_
      refine g_bipush (v := 24) ok dX3_copy_121 (by decide) ?_
      refine g_iload_n ok 1 dX3_copy_123 rfl ?_
      refine g_imul ok dX3_copy_124 ?_
      refine g_iload_n ok 2 dX3_copy_125 rfl ?_
      refine g_iadd ok dX3_copy_126 ?_
      refine g_iload ok 6 dX3_copy_127 rfl ?_
      refine g_iadd ok dX3_copy_129 ?_
      obtain ⟨hg, hw⟩ := hw
      refine g_iald ok 53 rfl hg _ rfl dX3_copy_130 ?_
      obtain ⟨hg, hw⟩ := hw
      refine g_iast ok 58 rfl hg _ rfl dX3_copy_131 (fun C18 eC18 => ?_)
      have hw := hw C18 eC18
      refine g_iinc ok 6 (fun z => [(6, .int z), (0, .ref (ad w 1)), (1, .int i1), (2, .int i2), (3, .int i3), (4, .int i4), (5, .int i5)]) dX3_copy_132 rfl (by decide) (fun _ => rfl) (fun x19 ex19 => ?_)
      have hw := hw x19 ex19
      refine g_goto (tgt := 104) ok dX3_copy_135 (by decide) ?_
      refine g_sub [1, 2, 3, 4, 5, 6, 0] [(0, .ref (ad w 1)), (1, .int i1), (2, .int i2), (3, .int i3), (4, .int i4), (5, .int i5), (6, .int x19)] rfl ?_
      exact ih C18 i1 i2 i3 i4 i5 x19 hw
set_option maxHeartbeats 4000000 in
set_option maxRecDepth 100000 in
theorem gw_X3_copy {w : WD} (wk : wOk w) (l : Launch) (C : CS) (a0 : Int32) (a1 : Int32) (a2 : Int32) (a3 : Int32) (a4 : Int32) {Post : Int32 → CS → Prop} (hw : wp_X3_copy Post C a0 a1 a2 a3 a4) : MC w l yX3_copy cX3_copy 7 (some .int) 2 0 0 [.ref (ad w 1), .int a0, .int a1, .int a2, .int a3, .int a4] C (fun v C1 => ∃ r : Int32, v = some (.int r) ∧ Post r C1) := by
  unfold wp_X3_copy at hw
  refine MC.of wk (by decide) (Nat.le_of_ble_eq_true rfl) (fun x hx ok => ?_)
  subst hx
  show G w x 7 0 0 (QM w x _ 0 0) C 0 [(0, .ref (ad w 1)), (1, .int a0), (2, .int a1), (3, .int a2), (4, .int a3), (5, .int a4)] []
  refine g_iload_n ok 1 dX3_copy_0 rfl ?_
  refine g_callSI ok [.int a0] cf_X3_isSheet q1608 (mc_X3_isSheet ok.wo (xL x) C a0) rfl rfl (Nat.le_of_ble_eq_true rfl) ⟨by decide, by decide⟩ ⟨by decide, by decide⟩ dX3_copy_1 ?_
  refine g_nmI (fun r1 er1 => ?_)
  have hw := hw r1 er1
  refine g_if_eq (tgt := 14) ok dX3_copy_4 (by decide) (fun c2 => ?_) (fun c2 => ?_)
  · have hw := hw.1 c2
    refine g_ldc (v := -1000000001) ok q1477 dX3_copy_14 ?_
    exact g_iret ok dX3_copy_16 ⟨_, rfl, hw⟩
  · have hw := hw.2 c2
    refine g_iload_n ok 3 dX3_copy_7 rfl ?_
    refine g_callSI ok [.int a2] cf_X3_isSheet q1608 (mc_X3_isSheet ok.wo (xL x) C a2) rfl rfl (Nat.le_of_ble_eq_true rfl) ⟨by decide, by decide⟩ ⟨by decide, by decide⟩ dX3_copy_8 ?_
    refine g_nmI (fun r3 er3 => ?_)
    have hw := hw r3 er3
    refine g_if_ne (tgt := 17) ok dX3_copy_11 (by decide) (fun c4 => ?_) (fun c4 => ?_)
    · have hw := hw.2 c4
      refine g_aload_n ok 0 dX3_copy_17 rfl ?_
      refine g_get ok 1 rfl rfl in_X3 26 (by decide) q1385 rfl dX3_copy_18 ?_
      refine g_iload_n ok 1 dX3_copy_21 rfl ?_
      obtain ⟨hg, hw⟩ := hw
      refine g_iald ok 51 rfl hg _ rfl dX3_copy_22 ?_
      refine g_if_lt (tgt := 35) ok dX3_copy_23 (by decide) (fun c5 => ?_) (fun c5 => ?_)
      · have hw := hw.1 c5
        refine g_ldc (v := -1000000011) ok q1611 dX3_copy_35 ?_
        exact g_iret ok dX3_copy_37 ⟨_, rfl, hw⟩
      · have hw := hw.2 c5
        refine g_aload_n ok 0 dX3_copy_26 rfl ?_
        refine g_get ok 1 rfl rfl in_X3 26 (by decide) q1385 rfl dX3_copy_27 ?_
        refine g_iload_n ok 3 dX3_copy_30 rfl ?_
        obtain ⟨hg, hw⟩ := hw
        refine g_iald ok 51 rfl hg _ rfl dX3_copy_31 ?_
        refine g_if_ge (tgt := 38) ok dX3_copy_32 (by decide) (fun c6 => ?_) (fun c6 => ?_)
        · have hw := hw.1 c6
          refine g_aload_n ok 0 dX3_copy_38 rfl ?_
          refine g_get ok 1 rfl rfl in_X3 26 (by decide) q1385 rfl dX3_copy_39 ?_
          refine g_iload_n ok 1 dX3_copy_42 rfl ?_
          obtain ⟨hg, hw⟩ := hw
          refine g_iald ok 51 rfl hg _ rfl dX3_copy_43 ?_
          refine g_aload_n ok 0 dX3_copy_44 rfl ?_
          refine g_get ok 1 rfl rfl in_X3 26 (by decide) q1385 rfl dX3_copy_45 ?_
          refine g_iload_n ok 3 dX3_copy_48 rfl ?_
          obtain ⟨hg, hw⟩ := hw
          refine g_iald ok 51 rfl hg _ rfl dX3_copy_49 ?_
          refine g_icmp_eq (tgt := 56) ok dX3_copy_50 (by decide) (fun c7 => ?_) (fun c7 => ?_)
          · have hw := hw.1 c7
            refine g_iload_n ok 2 dX3_copy_56 rfl ?_
            refine g_if_lt (tgt := 97) ok dX3_copy_57 (by decide) (fun c8 => ?_) (fun c8 => ?_)
            · have hw := hw.1 c8
              refine g_ldc_w (v := -1000000013) ok q1784 dX3_copy_97 ?_
              exact g_iret ok dX3_copy_100 ⟨_, rfl, hw⟩
            · have hw := hw.2 c8
              refine g_iload ok 4 dX3_copy_60 rfl ?_
              refine g_if_lt (tgt := 97) ok dX3_copy_62 (by decide) (fun c9 => ?_) (fun c9 => ?_)
              · have hw := hw.1 c9
                refine g_ldc_w (v := -1000000013) ok q1784 dX3_copy_97 ?_
                exact g_iret ok dX3_copy_100 ⟨_, rfl, hw⟩
              · have hw := hw.2 c9
                refine g_iload ok 5 dX3_copy_65 rfl ?_
                refine g_if_lt (tgt := 97) ok dX3_copy_67 (by decide) (fun c10 => ?_) (fun c10 => ?_)
                · have hw := hw.1 c10
                  refine g_ldc_w (v := -1000000013) ok q1784 dX3_copy_97 ?_
                  exact g_iret ok dX3_copy_100 ⟨_, rfl, hw⟩
                · have hw := hw.2 c10
                  refine g_iload_n ok 2 dX3_copy_70 rfl ?_
                  refine g_aload_n ok 0 dX3_copy_71 rfl ?_
                  refine g_get ok 1 rfl rfl in_X3 27 (by decide) q1386 rfl dX3_copy_72 ?_
                  refine g_iload_n ok 1 dX3_copy_75 rfl ?_
                  obtain ⟨hg, hw⟩ := hw
                  refine g_iald ok 52 rfl hg _ rfl dX3_copy_76 ?_
                  refine g_iload ok 5 dX3_copy_77 rfl ?_
                  refine g_isub ok dX3_copy_79 ?_
                  refine g_icmp_gt (tgt := 97) ok dX3_copy_80 (by decide) (fun c11 => ?_) (fun c11 => ?_)
                  · have hw := hw.1 c11
                    refine g_ldc_w (v := -1000000013) ok q1784 dX3_copy_97 ?_
                    exact g_iret ok dX3_copy_100 ⟨_, rfl, hw⟩
                  · have hw := hw.2 c11
                    refine g_iload ok 4 dX3_copy_83 rfl ?_
                    refine g_aload_n ok 0 dX3_copy_85 rfl ?_
                    refine g_get ok 1 rfl rfl in_X3 27 (by decide) q1386 rfl dX3_copy_86 ?_
                    refine g_iload_n ok 3 dX3_copy_89 rfl ?_
                    obtain ⟨hg, hw⟩ := hw
                    refine g_iald ok 52 rfl hg _ rfl dX3_copy_90 ?_
                    refine g_iload ok 5 dX3_copy_91 rfl ?_
                    refine g_isub ok dX3_copy_93 ?_
                    refine g_icmp_le (tgt := 101) ok dX3_copy_94 (by decide) (fun c12 => ?_) (fun c12 => ?_)
                    · have hw := hw.1 c12
                      refine g_iconst (v := 0) ok dX3_copy_101 (by decide) ?_
                      refine g_istore0 ok [(6, .int 0), (0, .ref (ad w 1)), (1, .int a0), (2, .int a1), (3, .int a2), (4, .int a3), (5, .int a4)] dX3_copy_102 (by decide) rfl ?_
                      refine g_sub [1, 2, 3, 4, 5, 6, 0] [(0, .ref (ad w 1)), (1, .int a0), (2, .int a1), (3, .int a2), (4, .int a3), (5, .int a4), (6, .int 0)] rfl ?_
                      obtain ⟨n20, hw⟩ := hw
                      exact gw_X3_copy_l104 ok n20 C a0 a1 a2 a3 a4 0 hw
                    · have hw := hw.2 c12
                      refine g_ldc_w (v := -1000000013) ok q1784 dX3_copy_97 ?_
                      exact g_iret ok dX3_copy_100 ⟨_, rfl, hw⟩
          · have hw := hw.2 c7
            refine g_ldc (v := -1000000012) ok q1510 dX3_copy_53 ?_
            exact g_iret ok dX3_copy_55 ⟨_, rfl, hw⟩
        · have hw := hw.2 c6
          refine g_ldc (v := -1000000011) ok q1611 dX3_copy_35 ?_
          exact g_iret ok dX3_copy_37 ⟨_, rfl, hw⟩
    · have hw := hw.1 c4
      refine g_ldc (v := -1000000001) ok q1477 dX3_copy_14 ?_
      exact g_iret ok dX3_copy_16 ⟨_, rfl, hw⟩
theorem sp_X3_copy (C : CS) (a0 a1 a2 a3 a4 : Int32) (hp : p_X3_copy C a0 a1 a2 a3 a4) : wp_X3_copy (fun r C1 => r = v_X3_copy C a0 a1 a2 a3 a4 ∧ q_X3_copy C a0 a1 a2 a3 a4 C1) C a0 a1 a2 a3 a4 := by
  intro r1 e1
  have no : (¬ cpG C a0 a1 a2 a3 a4) → q_X3_copy C a0 a1 a2 a3 a4 C := fun h => ⟨fun z => absurd z h, fun _ => rfl⟩
  refine ⟨fun c => ⟨by unfold v_X3_copy; rw [← e1, if_pos c], no (fun z => z.1 (by rw [← e1]; exact c))⟩, fun c1 r3 e3 => ⟨fun c => ⟨by unfold v_X3_copy; rw [← e1, if_neg c1, ← e3, if_pos c], no (fun z => z.2.1 (by rw [← e3]; exact c))⟩, fun c3 => ?_⟩⟩
  have ca := c1
  have cb := c3
  rw [e1, isSheet_iff] at ca
  rw [e3, isSheet_iff] at cb
  obtain ⟨s, hs, es⟩ := ca
  obtain ⟨t, ht, et⟩ := cb
  have v0 : vp_in a0 4 := by rw [es]; exact vp_k hs
  have v2 : vp_in a2 4 := by rw [et]; exact vp_k ht
  have hv : v_X3_copy C a0 a1 a2 a3 a4 = if C.2.1 51 a0.toNatClampNeg < 0 then -1000000011 else if 0 ≤ C.2.1 51 a2.toNatClampNeg then (if C.2.1 51 a0.toNatClampNeg = C.2.1 51 a2.toNatClampNeg then (if a1 < 0 then -1000000013 else if a3 < 0 then -1000000013 else if a4 < 0 then -1000000013 else if C.2.1 52 a0.toNatClampNeg - a4 < a1 then -1000000013 else if a3 ≤ C.2.1 52 a2.toNatClampNeg - a4 then a4 else -1000000013) else -1000000012) else -1000000011 := by unfold v_X3_copy; rw [← e1, if_neg c1, ← e3, if_neg c3]
  refine ⟨v0, fun c => ⟨by rw [hv, if_pos c], no (fun z => z.2.2.1 c)⟩, fun c5 => ⟨v2, fun c6 => ⟨v0, v2, fun c7 => ⟨fun c => ⟨by rw [hv, if_neg c5, if_pos c6, if_pos c7, if_pos c], no (fun z => z.2.2.2.2.2.1 c)⟩, fun c8 => ⟨fun c => ⟨by rw [hv, if_neg c5, if_pos c6, if_pos c7, if_neg c8, if_pos c], no (fun z => z.2.2.2.2.2.2.1 c)⟩, fun c9 => ⟨fun c => ⟨by rw [hv, if_neg c5, if_pos c6, if_pos c7, if_neg c8, if_neg c9, if_pos c], no (fun z => z.2.2.2.2.2.2.2.1 c)⟩, fun c10 => ⟨v0, fun c => ⟨by rw [hv, if_neg c5, if_pos c6, if_pos c7, if_neg c8, if_neg c9, if_neg c10, if_pos c], no (fun z => z.2.2.2.2.2.2.2.2.1 c)⟩, fun c11 => ⟨v2, fun c12 => ?_, fun c => ⟨by rw [hv, if_neg c5, if_pos c6, if_pos c7, if_neg c8, if_neg c9, if_neg c10, if_neg c11, if_neg c], no (fun z => c z.2.2.2.2.2.2.2.2.2)⟩⟩⟩⟩⟩⟩, fun c => ⟨by rw [hv, if_neg c5, if_pos c6, if_neg c], no (fun z => c z.2.2.2.2.1)⟩⟩, fun c => ⟨by rw [hv, if_neg c5, if_neg c], no (fun z => c z.2.2.2.1)⟩⟩⟩
  have hG : cpG C a0 a1 a2 a3 a4 := ⟨by rw [← e1]; exact c1, by rw [← e3]; exact c3, c5, c6, c7, c8, c9, c10, c11, c12⟩
  have hv2 : v_X3_copy C a0 a1 a2 a3 a4 = a4 := by rw [hv, if_neg c5, if_pos c6, if_pos c7, if_neg c8, if_neg c9, if_neg c10, if_neg c11, if_pos c12]
  obtain ⟨n, en, hn⟩ := hp s hs
  obtain ⟨m, em, hm⟩ := hp t ht
  obtain ⟨p, hpl, ep⟩ := nI_of c8
  obtain ⟨u, hul, eu⟩ := nI_of c9
  obtain ⟨y, hyl, ey⟩ := nI_of c10
  -- numbers
  have k1 : p + y ≤ n := by
    have h := Int32.not_lt.mp c11
    rw [es, cl_k (by omega), en, ep, ey] at h
    have h2 := Int32.le_iff_toInt_le.mp h
    by_cases hy : y < 2 ^ 30
    · rw [nI_toInt hpl, pk_sub_toInt (by omega) hy] at h2
      omega
    · exfalso
      have h3 : (nI n - nI y).toInt < 0 := by
        rw [Int32.toInt_sub, nI_toInt (by omega), nI_toInt hyl]
        rw [Int.bmod_def]
        omega
      rw [nI_toInt hpl] at h2
      omega
  have k2 : u + y ≤ m := by
    have h := c12
    rw [et, cl_k (by omega), em, eu, ey] at h
    have h2 := Int32.le_iff_toInt_le.mp h
    rw [nI_toInt hul, pk_sub_toInt (by omega) (by omega)] at h2
    omega
  subst es et ep eu ey
  have H2 : ∀ d k, k + d = y → ∀ D : CS, frm [53, 58] C D → (∀ i, i < y → D.2.1 58 i = C.2.1 53 (24 * s + p + i)) → (∀ i, D.2.1 53 i = if 24 * t + u ≤ i ∧ i < 24 * t + u + k then C.2.1 53 (24 * s + p + (i - (24 * t + u))) else C.2.1 53 i) → wp_X3_copy_l141 (fun r C1 => r = v_X3_copy C (nI s) (nI p) (nI t) (nI u) (nI y) ∧ q_X3_copy C (nI s) (nI p) (nI t) (nI u) (nI y) C1) (d + 1) D (nI t) (nI u) (nI y) (nI k) := by
    intro d
    induction d with
    | zero =>
      intro k hk D hf g1 g2
      have ek : k = y := by omega
      subst ek
      refine ⟨fun _ => ⟨hv2.symm, fun _ => ⟨hf, ?_⟩, fun z => absurd hG z⟩, fun c => absurd (Int32.le_refl _) c⟩
      rw [cl_k (by omega), cl_k (by omega), cl_k (by omega), cl_k (by omega), cl_k (by omega)]
      exact g2
    | succ d ih =>
      intro k hk D hf g1 g2
      refine ⟨fun c => ?_, fun _ => ⟨vp_k (by omega), by rw [ix24b]; exact vp_k (by omega), fun C15 e15 x16 e16 => ?_⟩⟩
      · rw [nI_leI (by omega) (by omega)] at c; omega
      · rw [ix24b, cl_k (by omega), cl_k (by omega), g1 k (by omega)] at e15
        rw [e16, o1, nI_add]
        refine ih (k + 1) (by omega) C15 (by rw [e15]; exact hf.w (by decide)) (fun i hi => by rw [e15, wA_ne _ _ _ (by decide)]; exact g1 i hi) (fun i => ?_)
        rw [e15, wA_row, upd]
        by_cases hi : i = 24 * t + u + k
        · rw [if_pos hi, if_pos (by omega), hi, show 24 * t + u + k - (24 * t + u) = k by omega]
        · rw [if_neg hi, g2 i]
          by_cases h2 : 24 * t + u ≤ i ∧ i < 24 * t + u + k
          · rw [if_pos h2, if_pos (by omega)]
          · rw [if_neg h2, if_neg (by omega)]
  have H1 : ∀ d k, k + d = y → ∀ D : CS, frm [53, 58] C D → D.2.1 53 = C.2.1 53 → (∀ i, i < k → D.2.1 58 i = C.2.1 53 (24 * s + p + i)) → wp_X3_copy_l104 (fun r C1 => r = v_X3_copy C (nI s) (nI p) (nI t) (nI u) (nI y) ∧ q_X3_copy C (nI s) (nI p) (nI t) (nI u) (nI y) C1) (d + 1) D (nI s) (nI p) (nI t) (nI u) (nI y) (nI k) := by
    intro d
    induction d with
    | zero =>
      intro k hk D hf g1 g2
      have ek : k = y := by omega
      subst ek
      exact ⟨fun _ => ⟨_, H2 k 0 (by omega) D hf g2 (fun i => by rw [g1, if_neg (by omega)])⟩, fun c => absurd (Int32.le_refl _) c⟩
    | succ d ih =>
      intro k hk D hf g1 g2
      refine ⟨fun c => ?_, fun _ => ⟨by rw [ix24b]; exact vp_k (by omega), vp_k (by omega), fun C18 e18 x19 e19 => ?_⟩⟩
      · rw [nI_leI (by omega) (by omega)] at c; omega
      · rw [ix24b, cl_k (by omega), cl_k (by omega), g1] at e18
        rw [e19, o1, nI_add]
        refine ih (k + 1) (by omega) C18 (by rw [e18]; exact hf.w (by decide)) (by rw [e18, wA_ne _ _ _ (by decide)]; exact g1) (fun i hi => ?_)
        rw [e18, wA_row, upd]
        by_cases hik : i = k
        · rw [if_pos hik, hik]
        · rw [if_neg hik]; exact g2 i (by omega)
  exact ⟨_, H1 y 0 (by omega) C (frm.rf _ _) rfl (fun i hi => by omega)⟩
theorem mc_X3_copy {w : WD} (wk : wOk w) (l : Launch) (C : CS) (a0 : Int32) (a1 : Int32) (a2 : Int32) (a3 : Int32) (a4 : Int32) (hp : p_X3_copy C a0 a1 a2 a3 a4) : MC w l yX3_copy cX3_copy 7 (some .int) 2 0 0 [.ref (ad w 1), .int a0, .int a1, .int a2, .int a3, .int a4] C (pIR (v_X3_copy C a0 a1 a2 a3 a4) (q_X3_copy C a0 a1 a2 a3 a4)) := MC.postIR (gw_X3_copy wk l C a0 a1 a2 a3 a4 (sp_X3_copy C a0 a1 a2 a3 a4 hp))
