theorem ntz_k : ∀ s, s < 1024 → 0 < s → v_J6_numberOfTrailingZeros (nI s) = nI (fbit s) := by decide +kernel
theorem low_k : ∀ s, s < 1024 → 0 < s → nI s &&& (nI s - 1) = nI (clr s (fbit s)) := by decide +kernel
theorem all_c {C : CS} {j N : Nat} (h : C.1 j 0 = nI N) (hN : N ≤ 10) : v_X1_all C j = nI (2 ^ N - 1) := by
  unfold v_X1_all
  have : 0 < 2 ^ N := Nat.pow_pos (by decide)
  rw [h, shl_i N (by omega), show (1 : Int32) = nI 1 from rfl, pk_sub (by omega)]
theorem p2_le {N : Nat} (h : N ≤ 10) : 2 ^ N ≤ 1024 := Nat.pow_le_pow_right (by decide) h
/-- the tables of values and of best pairings stand for the row r -/
def bO (C : CS) (r : Nat → Int32) : Prop := ∀ N, r 1 = nI N → N ≤ 10 → (∀ a b, a < N → b < N → C.2.1 5 (10 * a + b) = vv r a b) ∧ ∀ s, s < 2 ^ N → C.2.1 6 s = bestR r s
theorem cf_X0_layBests : CfV yX0_layBests "TwoGuilds" cX0_layBests 6 none 0 := ⟨⟨by decide, by decide, by decide⟩, q72, q766, q765, qs9⟩
def p_X0_layBests (C : CS) (r : Nat → Int32) : Prop := tbOk C r ∧ GD C
def q_X0_layBests (C : CS) (r : Nat → Int32) (C1 : CS) : Prop := frm [5, 6, 10] C C1 ∧ bO C1 r
def wp_X0_layBests_j118 (Post : CS → Prop) (R13 : CS → Int32 → Prop) (R48 : CS → Int32 → Int32 → Int32 → Int32 → Int32 → Prop) (C : CS) (i1 : Int32) (i2 : Int32) (i3 : Int32) (i4 : Int32) (i5 : Int32) : Prop := ∀ x20 : Int32, x20 = (i5 + Int32.ofInt 1) → 
  R48 C i1 i2 i3 i4 x20
def wp_X0_layBests_l48 (Post : CS → Prop) (R13 : CS → Int32 → Prop) : Nat → CS → Int32 → Int32 → Int32 → Int32 → Int32 → Prop
  | 0, _, _, _, _, _, _ => False
  | n + 1, C, i1, i2, i3, i4, i5 => isTb (cN C) ∧
  (((C.1 (cN C) 0) ≤ i5 → 
  vp_in i1 1024 ∧
    (∀ C17 : CS, C17 = (wA C 6 (Int32.toNatClampNeg i1) i4) → 
    ∀ x18 : Int32, x18 = (i1 + Int32.ofInt 1) → 
    R13 C17 x18)) ∧
  (¬ (C.1 (cN C) 0) ≤ i5 → 
  (((i3 >>> (i5 &&& 31)) &&& 1) = 1 → 
    vp_in ((10 * i2) + i5) 100 ∧
      (((C.2.1 5 (Int32.toNatClampNeg ((10 * i2) + i5))) < 0 → 
      wp_X0_layBests_j118 Post R13 (fun C i1 i2 i3 i4 i5 => wp_X0_layBests_l48 Post R13 n C i1 i2 i3 i4 i5) C i1 i2 i3 i4 i5) ∧
      (¬ (C.2.1 5 (Int32.toNatClampNeg ((10 * i2) + i5))) < 0 → 
      vp_in (i3 &&& ((1 <<< (i5 &&& 31)) ^^^ (-1))) 1024 ∧
        (∀ x24 : Int32, x24 = (v_J5_max i4 ((C.2.1 5 (Int32.toNatClampNeg ((10 * i2) + i5))) + (C.2.1 6 (Int32.toNatClampNeg (i3 &&& ((1 <<< (i5 &&& 31)) ^^^ (-1))))))) → 
        wp_X0_layBests_j118 Post R13 (fun C i1 i2 i3 i4 i5 => wp_X0_layBests_l48 Post R13 n C i1 i2 i3 i4 i5) C i1 i2 i3 x24 i5)))) ∧
    (¬ ((i3 >>> (i5 &&& 31)) &&& 1) = 1 → 
    wp_X0_layBests_j118 Post R13 (fun C i1 i2 i3 i4 i5 => wp_X0_layBests_l48 Post R13 n C i1 i2 i3 i4 i5) C i1 i2 i3 i4 i5)))
def wp_X0_layBests_l13 (Post : CS → Prop) : Nat → CS → Int32 → Prop
  | 0, _, _ => False
  | n + 1, C, i1 => isTb (cN C) ∧
  (p_X1_all C (cN C) ∧
  (∀ r7 : Int32, r7 = (v_X1_all C (cN C)) → 
  (r7 < i1 → 
  Post C) ∧
  (¬ r7 < i1 → 
  ∀ r9 : Int32, r9 = (v_J6_numberOfTrailingZeros i1) → 
    ∀ x10 : Int32, x10 = (i1 &&& (i1 - 1)) → 
    vp_in x10 1024 ∧
    (∀ x12 : Int32, x12 = (C.2.1 6 (Int32.toNatClampNeg x10)) → 
    ∀ x13 : Int32, x13 = (r9 + 1) → 
    ∃ m48, wp_X0_layBests_l48 Post (fun C i1 => wp_X0_layBests_l13 Post n C i1) m48 C i1 r9 x10 x12 x13))))
def wp_X0_layBests (Post : CS → Prop) (C : CS)  : Prop :=
  ∃ (g1 : (Nat → Int32)), p_X0_layValues C g1 ∧
    (∀ C3 : CS, q_X0_layValues C g1 C3 → 
    ∀ C4 : CS, C4 = (wA C3 6 0 0) → 
    ∃ m13, wp_X0_layBests_l13 Post m13 C4 1)
set_option maxHeartbeats 4000000 in
set_option maxRecDepth 100000 in
theorem gw_X0_layBests_j118 {w : WD} {x : Cx} (ok : Ok w x cX0_layBests 6 yX0_layBests.cls none (rmL 100 0 0)) {Post : CS → Prop} {R13 : CS → Int32 → Prop} {R48 : CS → Int32 → Int32 → Int32 → Int32 → Int32 → Prop} (hR13 : ∀ C (i1 : Int32), R13 C i1 → G w x 6 0 0 (QM w x (fun v C1 => v = none ∧ Post C1) 0 0) C 13 [(0, .ref (ad w 0)), (1, .int i1)] []) (hR48 : ∀ C (i1 : Int32) (i2 : Int32) (i3 : Int32) (i4 : Int32) (i5 : Int32), R48 C i1 i2 i3 i4 i5 → G w x 6 0 0 (QM w x (fun v C1 => v = none ∧ Post C1) 0 0) C 48 [(0, .ref (ad w 0)), (1, .int i1), (2, .int i2), (3, .int i3), (4, .int i4), (5, .int i5)] []) : ∀ (C : CS) (i1 : Int32) (i2 : Int32) (i3 : Int32) (i4 : Int32) (i5 : Int32), wp_X0_layBests_j118 Post R13 R48 C i1 i2 i3 i4 i5 → G w x 6 0 0 (QM w x (fun v C1 => v = none ∧ Post C1) 0 0) C 118 [(0, .ref (ad w 0)), (1, .int i1), (2, .int i2), (3, .int i3), (4, .int i4), (5, .int i5)] [] := by
  intro C i1 i2 i3 i4 i5 hw
  unfold wp_X0_layBests_j118 at hw
  refine g_iinc ok 5 (fun z => [(5, .int z), (0, .ref (ad w 0)), (1, .int i1), (2, .int i2), (3, .int i3), (4, .int i4)]) dX0_layBests_118 rfl (by decide) (fun _ => rfl) (fun x20 ex20 => ?_)
  have hw := hw x20 ex20
  refine g_goto (tgt := 48) ok dX0_layBests_121 (by decide) ?_
  refine g_sub [1, 2, 3, 4, 5, 0] [(0, .ref (ad w 0)), (1, .int i1), (2, .int i2), (3, .int i3), (4, .int i4), (5, .int x20)] rfl ?_
  exact hR48 C i1 i2 i3 i4 x20 hw
set_option maxHeartbeats 4000000 in
set_option maxRecDepth 100000 in
theorem gw_X0_layBests_l48 {w : WD} {x : Cx} (ok : Ok w x cX0_layBests 6 yX0_layBests.cls none (rmL 100 0 0)) {Post : CS → Prop} {R13 : CS → Int32 → Prop} (hR13 : ∀ C (i1 : Int32), R13 C i1 → G w x 6 0 0 (QM w x (fun v C1 => v = none ∧ Post C1) 0 0) C 13 [(0, .ref (ad w 0)), (1, .int i1)] []) : ∀ (n : Nat) (C : CS) (i1 : Int32) (i2 : Int32) (i3 : Int32) (i4 : Int32) (i5 : Int32), wp_X0_layBests_l48 Post R13 n C i1 i2 i3 i4 i5 → G w x 6 0 0 (QM w x (fun v C1 => v = none ∧ Post C1) 0 0) C 48 [(0, .ref (ad w 0)), (1, .int i1), (2, .int i2), (3, .int i3), (4, .int i4), (5, .int i5)] [] := by
  intro n
  induction n with
  | zero => intro C i1 i2 i3 i4 i5 hw; exact hw.elim
  | succ n ih =>
    intro C i1 i2 i3 i4 i5 hw
    unfold wp_X0_layBests_l48 at hw
    refine g_iload ok 5 dX0_layBests_48 rfl ?_
    refine g_aload_n ok 0 dX0_layBests_50 rfl ?_
    refine g_get ok 0 rfl rfl in_X0 0 (by decide) q180 rfl dX0_layBests_51 ?_
    obtain ⟨hf14, hw⟩ := hw
    refine g_get ok (cN C) (fObjT hf14) rfl in_X1 0 (by decide) q124 rfl dX0_layBests_54 ?_
    refine g_icmp_ge (tgt := 124) ok dX0_layBests_57 (by decide) (fun c15 => ?_) (fun c15 => ?_)
    · have hw := hw.1 c15
      refine g_aload_n ok 0 dX0_layBests_124 rfl ?_
      refine g_get ok 0 rfl rfl in_X0 5 (by decide) q185 rfl dX0_layBests_125 ?_
      refine g_iload_n ok 1 dX0_layBests_128 rfl ?_
      refine g_iload ok 4 dX0_layBests_129 rfl ?_
      obtain ⟨hf16, hw⟩ := hw
      refine g_iast ok 6 rfl hf16 _ rfl dX0_layBests_131 (fun C17 eC17 => ?_)
      have hw := hw C17 eC17
      refine g_iinc ok 1 (fun z => [(1, .int z), (0, .ref (ad w 0)), (2, .int i2), (3, .int i3), (4, .int i4), (5, .int i5)]) dX0_layBests_132 rfl (by decide) (fun _ => rfl) (fun x18 ex18 => ?_)
      have hw := hw x18 ex18
      refine g_goto (tgt := 13) ok dX0_layBests_135 (by decide) ?_
      refine g_sub [1, 0] [(0, .ref (ad w 0)), (1, .int x18)] rfl ?_
      exact hR13 C17 x18 hw
    · have hw := hw.2 c15
      refine g_iload_n ok 3 dX0_layBests_60 rfl ?_
      refine g_iload ok 5 dX0_layBests_61 rfl ?_
      refine g_ishr ok dX0_layBests_63 ?_
      refine g_iconst (v := 1) ok dX0_layBests_64 (by decide) ?_
      refine g_iand ok dX0_layBests_65 ?_
      refine g_iconst (v := 1) ok dX0_layBests_66 (by decide) ?_
      refine g_icmp_ne (tgt := 118) ok dX0_layBests_67 (by decide) (fun c19 => ?_) (fun c19 => ?_)
      · have hw := hw.2 c19
        exact gw_X0_layBests_j118 ok hR13 (fun C i1 i2 i3 i4 i5 hw => ih C i1 i2 i3 i4 i5 hw) C i1 i2 i3 i4 i5 hw
      · have hw := hw.1 c19
        refine g_aload_n ok 0 dX0_layBests_70 rfl ?_
        refine g_get ok 0 rfl rfl in_X0 4 (by decide) q184 rfl dX0_layBests_71 ?_
        refine g_bipush (v := 10) ok dX0_layBests_74 (by decide) ?_
        refine g_iload_n ok 2 dX0_layBests_76 rfl ?_
        refine g_imul ok dX0_layBests_77 ?_
        refine g_iload ok 5 dX0_layBests_78 rfl ?_
        refine g_iadd ok dX0_layBests_80 ?_
        obtain ⟨hf21, hw⟩ := hw
        refine g_iald ok 5 rfl hf21 _ rfl dX0_layBests_81 ?_
        refine g_if_lt (tgt := 118) ok dX0_layBests_82 (by decide) (fun c22 => ?_) (fun c22 => ?_)
        · have hw := hw.1 c22
          exact gw_X0_layBests_j118 ok hR13 (fun C i1 i2 i3 i4 i5 hw => ih C i1 i2 i3 i4 i5 hw) C i1 i2 i3 i4 i5 hw
        · have hw := hw.2 c22
          refine g_iload ok 4 dX0_layBests_85 rfl ?_
          refine g_aload_n ok 0 dX0_layBests_87 rfl ?_
          refine g_get ok 0 rfl rfl in_X0 4 (by decide) q184 rfl dX0_layBests_88 ?_
          refine g_bipush (v := 10) ok dX0_layBests_91 (by decide) ?_
          refine g_iload_n ok 2 dX0_layBests_93 rfl ?_
          refine g_imul ok dX0_layBests_94 ?_
          refine g_iload ok 5 dX0_layBests_95 rfl ?_
          refine g_iadd ok dX0_layBests_97 ?_
          refine g_iald ok 5 rfl hf21 _ rfl dX0_layBests_98 ?_
          refine g_aload_n ok 0 dX0_layBests_99 rfl ?_
          refine g_get ok 0 rfl rfl in_X0 5 (by decide) q185 rfl dX0_layBests_100 ?_
          refine g_iload_n ok 3 dX0_layBests_103 rfl ?_
          refine g_iconst (v := 1) ok dX0_layBests_104 (by decide) ?_
          refine g_iload ok 5 dX0_layBests_105 rfl ?_
          refine g_ishl ok dX0_layBests_107 ?_
          refine g_iconst (v := -1) ok dX0_layBests_108 (by decide) ?_
          refine g_ixor ok dX0_layBests_109 ?_
          refine g_iand ok dX0_layBests_110 ?_
          obtain ⟨hf23, hw⟩ := hw
          refine g_iald ok 6 rfl hf23 _ rfl dX0_layBests_111 ?_
          refine g_iadd ok dX0_layBests_112 ?_
          refine g_mmax ok q691 (Nat.le_of_ble_eq_true rfl) ⟨by decide, by decide⟩ ⟨by decide, by decide⟩ dX0_layBests_113 ?_
          refine g_istore ok (fun z => [(4, .int z), (0, .ref (ad w 0)), (1, .int i1), (2, .int i2), (3, .int i3), (5, .int i5)]) dX0_layBests_116 (by decide) (fun _ => rfl) (fun x24 ex24 => ?_)
          have hw := hw x24 ex24
          refine g_sub [1, 2, 3, 4, 0, 5] [(0, .ref (ad w 0)), (1, .int i1), (2, .int i2), (3, .int i3), (4, .int x24), (5, .int i5)] rfl ?_
          exact gw_X0_layBests_j118 ok hR13 (fun C i1 i2 i3 i4 i5 hw => ih C i1 i2 i3 i4 i5 hw) C i1 i2 i3 x24 i5 hw
set_option maxHeartbeats 4000000 in
set_option maxRecDepth 100000 in
theorem gw_X0_layBests_l13 {w : WD} {x : Cx} (ok : Ok w x cX0_layBests 6 yX0_layBests.cls none (rmL 100 0 0)) {Post : CS → Prop} : ∀ (n : Nat) (C : CS) (i1 : Int32), wp_X0_layBests_l13 Post  n C i1 → G w x 6 0 0 (QM w x (fun v C1 => v = none ∧ Post C1) 0 0) C 13 [(0, .ref (ad w 0)), (1, .int i1)] [] := by
  intro n
  induction n with
  | zero => intro C i1 hw; exact hw.elim
  | succ n ih =>
    intro C i1 hw
    unfold wp_X0_layBests_l13 at hw
    refine g_iload_n ok 1 dX0_layBests_13 rfl ?_
    refine g_aload_n ok 0 dX0_layBests_14 rfl ?_
    refine g_get ok 0 rfl rfl in_X0 0 (by decide) q180 rfl dX0_layBests_15 ?_
    obtain ⟨hf6, hw⟩ := hw
    obtain ⟨hp5, hw⟩ := hw
    refine g_callV ok [] cf_X1_all q759 (mc_X1_all ok.wo (xL x) C (cN C) hp5) (recvF ok (cN C) (fObjT hf6) rfl) rfl rfl (Nat.le_of_ble_eq_true rfl) ⟨by decide, by decide⟩ ⟨by decide, by decide⟩ dX0_layBests_18 (resI ?_)
    refine g_nmI (fun r7 er7 => ?_)
    have hw := hw r7 er7
    refine g_icmp_gt (tgt := 138) ok dX0_layBests_21 (by decide) (fun c8 => ?_) (fun c8 => ?_)
    · have hw := hw.1 c8
      exact g_vret ok dX0_layBests_138 ⟨rfl, hw⟩
    · have hw := hw.2 c8
      refine g_iload_n ok 1 dX0_layBests_24 rfl ?_
      refine g_callS ok [.int i1] cf_J6_numberOfTrailingZeros q771 (mc_J6_numberOfTrailingZeros ok.wo (xL x) C i1) rfl rfl (Nat.le_of_ble_eq_true rfl) ⟨by decide, by decide⟩ ⟨by decide, by decide⟩ dX0_layBests_25 (resI ?_)
      refine g_nmI (fun r9 er9 => ?_)
      have hw := hw r9 er9
      refine g_istore_n0 ok [(2, .int r9), (0, .ref (ad w 0)), (1, .int i1)] dX0_layBests_28 (by decide) rfl ?_
      refine g_iload_n ok 2 dX0_layBests_29 rfl ?_
      refine g_iload_n ok 2 dX0_layBests_30 rfl ?_
      refine g_iconst (v := 1) ok dX0_layBests_31 (by decide) ?_
      refine g_isub ok dX0_layBests_32 ?_
      refine g_iand ok dX0_layBests_33 ?_
      refine g_istore_n ok (fun z => [(3, .int z), (2, .int r9), (0, .ref (ad w 0)), (1, .int i1)]) dX0_layBests_34 (by decide) (fun _ => rfl) (fun x10 ex10 => ?_)
      have hw := hw x10 ex10
      refine g_aload_n ok 2 dX0_layBests_35 rfl ?_
      refine g_get ok 0 rfl rfl in_X0 5 (by decide) q185 rfl dX0_layBests_36 ?_
      refine g_iload_n ok 0 dX0_layBests_39 rfl ?_
      obtain ⟨hf11, hw⟩ := hw
      refine g_iald ok 6 rfl hf11 _ rfl dX0_layBests_40 ?_
      refine g_istore ok (fun z => [(4, .int z), (3, .int x10), (2, .int r9), (0, .ref (ad w 0)), (1, .int i1)]) dX0_layBests_41 (by decide) (fun _ => rfl) (fun x12 ex12 => ?_)
      have hw := hw x12 ex12
      refine g_iload_n ok 2 dX0_layBests_43 rfl ?_
      refine g_iconst (v := 1) ok dX0_layBests_44 (by decide) ?_
      refine g_iadd ok dX0_layBests_45 ?_
      refine g_istore ok (fun z => [(5, .int z), (4, .int x12), (3, .int x10), (2, .int r9), (0, .ref (ad w 0)), (1, .int i1)]) dX0_layBests_46 (by decide) (fun _ => rfl) (fun x13 ex13 => ?_)
      have hw := hw x13 ex13
      refine g_sub [4, 5, 3, 2, 1, 0] [(0, .ref (ad w 0)), (1, .int i1), (2, .int r9), (3, .int x10), (4, .int x12), (5, .int x13)] rfl ?_
      obtain ⟨n25, hw⟩ := hw
      exact gw_X0_layBests_l48 ok (fun C i1 hw => ih C i1 hw) n25 C i1 r9 x10 x12 x13 hw
set_option maxHeartbeats 4000000 in
set_option maxRecDepth 100000 in
theorem gw_X0_layBests {w : WD} (wk : wOk w) (l : Launch) (C : CS)  {Post : CS → Prop} (hw : wp_X0_layBests Post C ) : MC w l yX0_layBests cX0_layBests 6 none 100 0 0 [.ref (ad w 0)] C (fun v C1 => v = none ∧ Post C1) := by
  unfold wp_X0_layBests at hw
  refine MC.of wk (by decide) (Nat.le_of_ble_eq_true rfl) (fun x hx ok => ?_)
  subst hx
  show G w x 6 0 0 (QM w x _ 0 0) C 0 [(0, .ref (ad w 0))] []
  refine g_aload_n ok 0 dX0_layBests_0 rfl ?_
  obtain ⟨g1, hp2, hw⟩ := hw
  refine g_callV ok [] cf_X0_layValues q767 (mc_X0_layValues ok.wo (xL x) C g1 hp2) (recvF ok 0 rfl rfl) rfl rfl (Nat.le_of_ble_eq_true rfl) ⟨by decide, by decide⟩ ⟨by decide, by decide⟩ dX0_layBests_1 (resVR fun C3 eC3 => ?_)
  have hw := hw C3 eC3
  refine g_aload_n ok 0 dX0_layBests_4 rfl ?_
  refine g_get ok 0 rfl rfl in_X0 5 (by decide) q185 rfl dX0_layBests_5 ?_
  refine g_iconst (v := 0) ok dX0_layBests_8 (by decide) ?_
  refine g_iconst (v := 0) ok dX0_layBests_9 (by decide) ?_
  refine g_iast ok 6 rfl (by unfold vp_in; decide) 0 (by decide) dX0_layBests_10 (fun C4 eC4 => ?_)
  have hw := hw C4 eC4
  refine g_iconst (v := 1) ok dX0_layBests_11 (by decide) ?_
  refine g_istore_n0 ok [(1, .int 1), (0, .ref (ad w 0))] dX0_layBests_12 (by decide) rfl ?_
  refine g_sub [1, 0] [(0, .ref (ad w 0)), (1, .int 1)] rfl ?_
  obtain ⟨n26, hw⟩ := hw
  exact gw_X0_layBests_l13 ok n26 C4 1 hw
theorem sp_X0_layBests (C : CS) (r : Nat → Int32) (hp : p_X0_layBests C r) : wp_X0_layBests (fun C1 => q_X0_layBests C r C1) C := by
  obtain ⟨ht, hg⟩ := hp
  have hj := ht.1
  obtain ⟨N, eN, hN, -⟩ := ht.2.g
  have J : ∀ k, 15 ≤ k → k ≤ 26 → k ∉ [5, 6, 10] := by intro k h1 h2; simp; omega
  have e2 := p2_le hN
  have hb : ∀ s, bestR r s = bT (vv r) N s := fun s => by unfold bestR; rw [eN, cl_k (by omega)]
  refine ⟨r, ⟨ht, hg⟩, fun C2 h2 C3 e3 => ?_⟩
  obtain ⟨f2, v2⟩ := h2
  have v2 := v2 N eN hN
  have f3 : frm [5, 6, 10] C C3 := by rw [e3]; exact (f2.mono (by simp)).w (by simp)
  have v3 : ∀ a b, a < N → b < N → C3.2.1 5 (10 * a + b) = vv r a b := fun a b ha hb => by rw [e3, wA_n (by omega)]; exact v2 a b ha hb
  have Outer : ∀ d s, s + d = 2 ^ N → 1 ≤ s → ∀ C1 : CS, frm [5, 6, 10] C C1 → (∀ a b, a < N → b < N → C1.2.1 5 (10 * a + b) = vv r a b) → (∀ q, q < s → C1.2.1 6 q = bT (vv r) N q) → wp_X0_layBests_l13 (fun C1 => q_X0_layBests C r C1) (d + 1) C1 (nI s) := by
    intro d
    induction d with
    | zero =>
      intro s hs h1 C1 hf hv hq
      have t1 := ht.frm hf J
      have e0 : C1.1 (cN C1) 0 = nI N := t1.2.n.2.1.trans eN
      refine ⟨t1.1, ⟨t1.1, trivial⟩, fun r6 e6 => ?_⟩
      rw [all_c e0 hN] at e6
      refine ⟨fun _ => ⟨hf, fun N2 eN2 hN2 => ?_⟩, fun c => absurd ?_ c⟩
      · have : N2 = N := (nI_eq (by omega) (by omega)).mp (eN2.symm.trans eN)
        subst this
        exact ⟨hv, fun q hq2 => by rw [hb]; exact hq q (by omega)⟩
      · rw [e6, nI_ltI (by omega) (by omega)]; omega
    | succ d ih =>
      intro s hs h1 C1 hf hv hq
      have t1 := ht.frm hf J
      have e0 : C1.1 (cN C1) 0 = nI N := t1.2.n.2.1.trans eN
      refine ⟨t1.1, ⟨t1.1, trivial⟩, fun r6 e6 => ?_⟩
      rw [all_c e0 hN] at e6
      refine ⟨fun c => ?_, fun _ r8 e8 x9 e9 => ?_⟩
      · rw [e6, nI_ltI (by omega) (by omega)] at c; omega
      have sl : s < 2 ^ N := by omega
      rw [ntz_k s (by omega) h1] at e8
      rw [low_k s (by omega) h1] at e9
      have fN := fb_ltN sl hN h1
      have cl := clr_lt (s := s) (by omega) h1
      rw [e9, cl_k (by omega)]
      refine ⟨vp_k (by omega), fun x11 e11 x12 e12 => ?_⟩
      rw [hq _ cl] at e11
      rw [e12, e8, show (1 : Int32) = nI 1 from rfl, nI_add]
      have eb : bT (vv r) N s = bfL (vv r (fbit s)) (bT (vv r) N) (clr s (fbit s)) (N - (fbit s + 1)) (fbit s + 1) (bT (vv r) N (clr s (fbit s))) := by
        rw [bT_eq sl hN, bestF, if_neg (by omega)]
      have Inner : ∀ dd g m, g + dd = N → fbit s + 1 ≤ g → bT (vv r) N s = bfL (vv r (fbit s)) (bT (vv r) N) (clr s (fbit s)) dd g m → wp_X0_layBests_l48 (fun C1 => q_X0_layBests C r C1) (fun D i1 => wp_X0_layBests_l13 (fun C1 => q_X0_layBests C r C1) (d + 1) D i1) (dd + 1) C1 (nI s) (nI (fbit s)) (nI (clr s (fbit s))) m (nI g) := by
        intro dd
        induction dd with
        | zero =>
          intro g m hg1 hg2 hm
          refine ⟨t1.1, fun _ => ⟨vp_k (by omega), fun C16 e16 x17 e17 => ?_⟩, fun c => absurd ?_ c⟩
          · rw [cl_k (by omega)] at e16
            rw [e17, o1, nI_add]
            refine ih (s + 1) (by omega) (by omega) C16 (by rw [e16]; exact hf.w (by simp)) (fun a b ha hb => by rw [e16, wA_n (by omega)]; exact hv a b ha hb) (fun q hqs => ?_)
            rw [e16]
            by_cases c : q = s
            · rw [c, wA_s, hm]; rfl
            · rw [wA_n (fun h => c h.2)]; exact hq q (by omega)
          · rw [e0, nI_leI (by omega) (by omega)]; omega
        | succ dd ih2 =>
          intro g m hg1 hg2 hm
          rw [bfL] at hm
          have nx : ∀ m2, m2 = bfS (vv r (fbit s)) (bT (vv r) N) (clr s (fbit s)) g m → wp_X0_layBests_j118 (fun C1 => q_X0_layBests C r C1) (fun D i1 => wp_X0_layBests_l13 (fun C1 => q_X0_layBests C r C1) (d + 1) D i1) (fun D i1 i2 i3 i4 i5 => wp_X0_layBests_l48 (fun C1 => q_X0_layBests C r C1) (fun D i1 => wp_X0_layBests_l13 (fun C1 => q_X0_layBests C r C1) (d + 1) D i1) (dd + 1) D i1 i2 i3 i4 i5) C1 (nI s) (nI (fbit s)) (nI (clr s (fbit s))) m2 (nI g) := by
            intro m2 e
            intro x19 e19
            rw [e19, o1, nI_add]
            exact ih2 (g + 1) m2 (by omega) (by omega) (by rw [e]; exact hm)
          have vg : C1.2.1 5 (10 * fbit s + g) = vv r (fbit s) g := hv _ _ (by omega) (by omega)
          have cg := clr_le (clr s (fbit s)) g
          refine ⟨t1.1, fun c => ?_, fun _ => ⟨fun c => ?_, fun c => ?_⟩⟩
          · rw [e0, nI_leI (by omega) (by omega)] at c; omega
          · rw [bit_eq (by omega) (by omega)] at c
            rw [ix10, cl_k (by omega), vg, clr_i g (by omega) _ (by omega), cl_k (by omega), hq _ (by omega)]
            refine ⟨vp_k (by omega), fun c2 => ?_, fun c2 => ⟨vp_k (by omega), fun x23 e23 => ?_⟩⟩
            · exact nx m (by unfold bfS; rw [if_pos c, if_pos c2])
            · exact nx x23 (by unfold bfS; rw [if_pos c, if_neg c2, e23, mx_eq])
          · rw [bit_eq (by omega) (by omega)] at c
            exact nx m (by unfold bfS; rw [if_neg c])
      refine ⟨N - (fbit s + 1) + 1, Inner (N - (fbit s + 1)) (fbit s + 1) x11 (by omega) (by omega) ?_⟩
      rw [e11]; exact eb
  have : 0 < 2 ^ N := Nat.pow_pos (by decide)
  refine ⟨2 ^ N - 1 + 1, Outer (2 ^ N - 1) 1 (by omega) (by omega) C3 f3 v3 (fun q hq => ?_)⟩
  have : q = 0 := by omega
  subst this
  rw [e3, wA_s, bT_eq (by omega) hN, bestF, if_pos rfl]
theorem mc_X0_layBests {w : WD} (wk : wOk w) (l : Launch) (C : CS)  (r : (Nat → Int32)) (hp : p_X0_layBests C r) : MC w l yX0_layBests cX0_layBests 6 none 100 0 0 [.ref (ad w 0)] C (pVR (q_X0_layBests C r)) := MC.postVR (gw_X0_layBests wk l C  (sp_X0_layBests C r hp))
theorem cf_X0_best : CfV yX0_best "TwoGuilds" cX0_best 2 (some .int) 1 := ⟨⟨by decide, by decide, by decide⟩, q72, q758, q756, q757⟩
def p_X0_best (C : CS) (a0 : Int32) (r : Nat → Int32) : Prop := tbOk C r ∧ GD C
def v_X0_best (C : CS) (a0 : Int32) (r : Nat → Int32) : Int32 := if v_X3_in a0 0 (v_X3_all (rowC r)) = 0 then -1000000001 else bestR r a0.toNatClampNeg
def q_X0_best (C : CS) (a0 : Int32) (r : Nat → Int32) (C1 : CS) : Prop := frm [5, 6, 10] C C1
def wp_X0_best (Post : Int32 → CS → Prop) (C : CS) (a0 : Int32) : Prop :=
  isTb (cN C) ∧
    (p_X1_all C (cN C) ∧
    (∀ r3 : Int32, r3 = (v_X1_all C (cN C)) → 
    ∀ r4 : Int32, r4 = (v_X0_isIn (Int32.toInt64 a0) 0 (Int32.toInt64 r3)) → 
    (r4 = 0 → 
    Post (-1000000001) C) ∧
    (¬ r4 = 0 → 
    ∃ (g6 : (Nat → Int32)), p_X0_layBests C g6 ∧
      (∀ C8 : CS, q_X0_layBests C g6 C8 → 
      vp_in a0 1024 ∧
      (Post (C8.2.1 6 (Int32.toNatClampNeg a0)) C8)))))
set_option maxHeartbeats 4000000 in
set_option maxRecDepth 100000 in
theorem gw_X0_best {w : WD} (wk : wOk w) (l : Launch) (C : CS) (a0 : Int32) {Post : Int32 → CS → Prop} (hw : wp_X0_best Post C a0) : MC w l yX0_best cX0_best 2 (some .int) 101 0 0 [.ref (ad w 0), .int a0] C (fun v C1 => ∃ r : Int32, v = some (.int r) ∧ Post r C1) := by
  unfold wp_X0_best at hw
  refine MC.of wk (by decide) (Nat.le_of_ble_eq_true rfl) (fun x hx ok => ?_)
  subst hx
  show G w x 2 0 0 (QM w x _ 0 0) C 0 [(0, .ref (ad w 0)), (1, .int a0)] []
  refine g_iload_n ok 1 dX0_best_0 rfl ?_
  refine g_i2l ok dX0_best_1 ?_
  refine g_lconst (v := 0) ok dX0_best_2 (by decide) ?_
  refine g_aload_n ok 0 dX0_best_3 rfl ?_
  refine g_get ok 0 rfl rfl in_X0 0 (by decide) q180 rfl dX0_best_4 ?_
  obtain ⟨hf2, hw⟩ := hw
  obtain ⟨hp1, hw⟩ := hw
  refine g_callV ok [] cf_X1_all q759 (mc_X1_all ok.wo (xL x) C (cN C) hp1) (recvF ok (cN C) (fObjT hf2) rfl) rfl rfl (Nat.le_of_ble_eq_true rfl) ⟨by decide, by decide⟩ ⟨by decide, by decide⟩ dX0_best_7 (resI ?_)
  refine g_nmI (fun r3 er3 => ?_)
  have hw := hw r3 er3
  refine g_i2l ok dX0_best_10 ?_
  refine g_callS ok [.long (Int32.toInt64 a0), .long 0, .long (Int32.toInt64 r3)] cf_X0_isIn q269 (mc_X0_isIn ok.wo (xL x) C (Int32.toInt64 a0) 0 (Int32.toInt64 r3)) rfl rfl (Nat.le_of_ble_eq_true rfl) ⟨by decide, by decide⟩ ⟨by decide, by decide⟩ dX0_best_11 (resI ?_)
  refine g_nmI (fun r4 er4 => ?_)
  have hw := hw r4 er4
  refine g_if_ne (tgt := 20) ok dX0_best_14 (by decide) (fun c5 => ?_) (fun c5 => ?_)
  · have hw := hw.2 c5
    refine g_aload_n ok 0 dX0_best_20 rfl ?_
    obtain ⟨g6, hp7, hw⟩ := hw
    refine g_callV ok [] cf_X0_layBests q763 (mc_X0_layBests ok.wo (xL x) C g6 hp7) (recvF ok 0 rfl rfl) rfl rfl (Nat.le_of_ble_eq_true rfl) ⟨by decide, by decide⟩ ⟨by decide, by decide⟩ dX0_best_21 (resVR fun C8 eC8 => ?_)
    have hw := hw C8 eC8
    refine g_aload_n ok 0 dX0_best_24 rfl ?_
    refine g_get ok 0 rfl rfl in_X0 5 (by decide) q185 rfl dX0_best_25 ?_
    refine g_iload_n ok 1 dX0_best_28 rfl ?_
    obtain ⟨hf9, hw⟩ := hw
    refine g_iald ok 6 rfl hf9 _ rfl dX0_best_29 ?_
    exact g_iret ok dX0_best_30 ⟨_, rfl, hw⟩
  · have hw := hw.1 c5
    refine g_ldc (v := -1000000001) ok q274 dX0_best_17 ?_
    exact g_iret ok dX0_best_19 ⟨_, rfl, hw⟩
theorem sp_X0_best (C : CS) (a0 : Int32) (r : Nat → Int32) (hp : p_X0_best C a0 r) : wp_X0_best (fun x C1 => x = v_X0_best C a0 r ∧ q_X0_best C a0 r C1) C a0 := by
  obtain ⟨ht, hg⟩ := hp
  obtain ⟨N, eN, hN, -⟩ := ht.2.g
  have e0 : C.1 (cN C) 0 = nI N := ht.2.n.2.1.trans eN
  have e2 := p2_le hN
  have ea : v_X3_all (rowC r) = nI (2 ^ N - 1) := all_v (C := rowC r) ⟨eN, hN⟩
  refine ⟨ht.1, ⟨ht.1, trivial⟩, fun r3 e3 r4 e4 => ?_⟩
  unfold v_X0_best
  rw [all_c e0 hN, ← ea] at e3
  rw [e3, isIn0 _ (v_X3_all (rowC r)) _ rfl] at e4
  rw [e4]
  refine ⟨fun c => ?_, fun c => ?_⟩
  · rw [if_pos c]; exact ⟨rfl, frm.rf _ C⟩
  · rw [if_neg c]
    refine ⟨r, ⟨ht, hg⟩, fun C7 h7 => ?_⟩
    rw [ea] at c
    obtain ⟨k, hk, rfl⟩ := in_nI (by omega) c
    have : 0 < 2 ^ N := Nat.pow_pos (by decide)
    refine ⟨vp_k (by omega), ?_, h7.1⟩
    rw [cl_k (by omega), (h7.2 N eN hN).2 k (by omega)]
theorem mc_X0_best {w : WD} (wk : wOk w) (l : Launch) (C : CS) (a0 : Int32) (r : (Nat → Int32)) (hp : p_X0_best C a0 r) : MC w l yX0_best cX0_best 2 (some .int) 101 0 0 [.ref (ad w 0), .int a0] C (pIR (v_X0_best C a0 r) (q_X0_best C a0 r)) := MC.postIR (gw_X0_best wk l C a0 (sp_X0_best C a0 r hp))
