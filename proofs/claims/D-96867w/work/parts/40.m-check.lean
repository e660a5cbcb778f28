/-- so many of the numbers told stand right, day by day: d days from day k on -/
def chL (tl : Nat → Int32) (m : Nat) : Nat → Nat → (Nat → Int32) → Nat
  | 0, k, _ => 2 * k
  | d + 1, k, r => if 2 * k < m ∧ tl (2 * k) = lostR (dayR r (-1)).1 then (if 2 * k + 1 < m ∧ tl (2 * k + 1) = wearR (dayR r (-1)).1 then chL tl m d (k + 1) (dayR r (-1)).1 else 2 * k + 1) else 2 * k
theorem chL_le (tl : Nat → Int32) (m : Nat) : ∀ d k r, chL tl m d k r ≤ 2 * (k + d) := by
  intro d
  induction d with
  | zero => intro k r; rw [chL]; omega
  | succ d ih =>
    intro k r
    rw [chL]
    split
    · split
      · have := ih (k + 1) (dayR r (-1)).1; omega
      · omega
    · omega
/-- what is answered: all are right, and no more and no fewer -/
def chR (r tl : Nat → Int32) (m D : Nat) : Int32 := if chL tl m D 0 r = m ∧ chL tl m D 0 r = 2 * D then 0 else 1 + nI (chL tl m D 0 r)
def chD (r : Nat → Int32) (n : Int32) : Nat := (v_X3_within (9999 - r 2) 0 n).toNatClampNeg
theorem ix2 (k : Nat) : (2 * nI k : Int32) = nI (2 * k) := by rw [show (2 : Int32) = nI 2 from rfl, pk_mul]
theorem cf_X3_check : CfV yX3_check "TwoGuildsModel" cX3_check 7 (some .int) 1 := ⟨⟨by decide, by decide, by decide⟩, q75, q1826, q1824, q1825⟩
def p_X3_check (C : CS) (a0 : Int32) : Prop := (∃ m, C.1 1 35 = nI m ∧ m ≤ 60) ∧ (¬ C.1 1 3 = 0 → rowD (C.2.1 37))
def v_X3_check (C : CS) (a0 : Int32) : Int32 := if v_X3_in a0 1 30 = 0 then -1000000001 else if C.1 1 3 = 0 then -1000000002 else chR (C.2.1 37) (C.2.1 59) (C.1 1 35).toNatClampNeg (chD (C.2.1 37) a0)
def q_X3_check (C : CS) (a0 : Int32) (C1 : CS) : Prop := frm [38, 49, 50] (wI C 1 35 0) C1
def wp_X3_check_j181 (Post : Int32 → CS → Prop) (C : CS) (i2 : Int32) (i3 : Int32) (i4 : Int32) : Prop := ∀ C11 : CS, C11 = (n_X3_copyAll_38_36 C) → 
  (i4 = i2 → 
  (i4 = i3 → 
    Post 0 C11) ∧
    (¬ i4 = i3 → 
    Post (1 + i4) C11)) ∧
  (¬ i4 = i2 → 
  Post (1 + i4) C11)
def wp_X3_check_l80 (Post : Int32 → CS → Prop) : Nat → CS → Int32 → Int32 → Int32 → Int32 → Prop
  | 0, _, _, _, _, _ => False
  | n + 1, C, i2, i3, i4, i5 => (i3 ≤ (2 * i5) → 
  wp_X3_check_j181 Post C i2 i3 i4) ∧
  (¬ i3 ≤ (2 * i5) → 
  (i4 = (2 * i5) → 
    p_X3_day C (-1) ∧
      (∀ r16 : Int32, r16 = (v_X3_day C (-1)) → 
      ∀ C15 : CS, q_X3_day C (-1) C15 → 
      ((i2 ≤ i4 → 
        True) ∧
        (¬ i2 ≤ i4 → 
        vp_in i4 60 ∧
          (p_X3_lostMany C15 ∧
          (True)))) ∧
      (∀ x21 : Int32, x21 = (if i2 ≤ i4 then (0 : Int32) else (if (C15.2.1 59 (Int32.toNatClampNeg i4)) = (v_X3_lostMany C15) then (1 : Int32) else 0)) → 
      ∀ x22 : Int32, x22 = (i4 + x21) → 
      ((x22 = ((2 * i5) + 1) → 
        ((i2 ≤ x22 → 
            True) ∧
            (¬ i2 ≤ x22 → 
            vp_in x22 60 ∧
              (p_X3_wearAll C15 ∧
              (True)))) ∧
          (True)) ∧
        (¬ x22 = ((2 * i5) + 1) → 
        True)) ∧
      (∀ x29 : Int32, x29 = (if x22 = ((2 * i5) + 1) then (if i2 ≤ x22 then (0 : Int32) else (if (C15.2.1 59 (Int32.toNatClampNeg x22)) = (v_X3_wearAll C15) then (1 : Int32) else 0)) else 0) → 
      ∀ x30 : Int32, x30 = (x22 + x29) → 
      ∀ x31 : Int32, x31 = (i5 + Int32.ofInt 1) → 
      wp_X3_check_l80 Post n C15 i2 i3 x30 x31)))) ∧
    (¬ i4 = (2 * i5) → 
    wp_X3_check_j181 Post C i2 i3 i4))
def wp_X3_check (Post : Int32 → CS → Prop) (C : CS) (a0 : Int32) : Prop :=
  ∀ x1 : Int32, x1 = (C.1 1 35) → 
    ∀ C2 : CS, C2 = (wI C 1 35 0) → 
    ∀ r3 : Int32, r3 = (v_X3_in a0 1 30) → 
    (r3 = 0 → 
    Post (-1000000001) C2) ∧
    (¬ r3 = 0 → 
    ((C2.1 1 3) = 0 → 
      Post (-1000000002) C2) ∧
      (¬ (C2.1 1 3) = 0 → 
      ∀ C6 : CS, C6 = (n_X3_copyAll_36_38 C2) → 
        ∀ C7 : CS, C7 = (n_X3_copyAll_37_36 C6) → 
        ∀ r8 : Int32, r8 = (v_X3_within (9999 - (C7.2.1 36 2)) 0 a0) → 
        ∀ x9 : Int32, x9 = (2 * r8) → 
        ∃ m80, wp_X3_check_l80 Post m80 C7 x1 x9 0 0))
set_option maxHeartbeats 4000000 in
set_option maxRecDepth 100000 in
theorem gw_X3_check_j181 {w : WD} {x : Cx} (ok : Ok w x cX3_check 7 yX3_check.cls (some .int) (rmL 4 0 0)) {Post : Int32 → CS → Prop} : ∀ (C : CS) (i2 : Int32) (i3 : Int32) (i4 : Int32), wp_X3_check_j181 Post  C i2 i3 i4 → G w x 7 0 0 (QM w x (fun v C1 => ∃ r : Int32, v = some (.int r) ∧ Post r C1) 0 0) C 181 [(0, .ref (ad w 1)), (2, .int i2), (3, .int i3), (4, .int i4)] [] := by
  intro C i2 i3 i4 hw
  unfold wp_X3_check_j181 at hw
  refine g_aload_n ok 0 dX3_check_181 rfl ?_
  refine g_get ok 1 rfl rfl in_X3 2 (by decide) q1361 rfl dX3_check_182 ?_
  refine g_aload_n ok 0 dX3_check_185 rfl ?_
  refine g_get ok 1 rfl rfl in_X3 0 (by decide) q1359 rfl dX3_check_186 ?_
  refine g_callSV ok [.ref (ad w 38), .ref (ad w 36)] cf_X3_copyAll q1827 (mc_X3_copyAll_38_36 ok.wo (xL x) C) rfl rfl (Nat.le_of_ble_eq_true rfl) ⟨by decide, by decide⟩ ⟨by decide, by decide⟩ dX3_check_189 ?_
  refine g_nmC (fun C11 eC11 => ?_)
  have hw := hw C11 eC11
  refine g_iload ok 3 dX3_check_192 rfl ?_
  refine g_iload_n ok 1 dX3_check_194 rfl ?_
  refine g_icmp_ne (tgt := 208) ok dX3_check_195 (by decide) (fun c12 => ?_) (fun c12 => ?_)
  · have hw := hw.2 c12
    refine g_iconst (v := 1) ok dX3_check_208 (by decide) ?_
    refine g_iload ok 3 dX3_check_209 rfl ?_
    refine g_iadd ok dX3_check_211 ?_
    exact g_iret ok dX3_check_212 ⟨_, rfl, hw⟩
  · have hw := hw.1 c12
    refine g_iload ok 3 dX3_check_198 rfl ?_
    refine g_iload_n ok 2 dX3_check_200 rfl ?_
    refine g_icmp_ne (tgt := 208) ok dX3_check_201 (by decide) (fun c13 => ?_) (fun c13 => ?_)
    · have hw := hw.2 c13
      refine g_iconst (v := 1) ok dX3_check_208 (by decide) ?_
      refine g_iload ok 3 dX3_check_209 rfl ?_
      refine g_iadd ok dX3_check_211 ?_
      exact g_iret ok dX3_check_212 ⟨_, rfl, hw⟩
    · have hw := hw.1 c13
      refine g_iconst (v := 0) ok dX3_check_204 (by decide) ?_
      refine g_goto (tgt := 212) ok dX3_check_205 (by decide) ?_
      exact g_iret ok dX3_check_212 ⟨_, rfl, hw⟩
set_option maxHeartbeats 4000000 in
set_option maxRecDepth 100000 in
theorem gw_X3_check_l80 {w : WD} {x : Cx} (ok : Ok w x cX3_check 7 yX3_check.cls (some .int) (rmL 4 0 0)) {Post : Int32 → CS → Prop} : ∀ (n : Nat) (C : CS) (i2 : Int32) (i3 : Int32) (i4 : Int32) (i5 : Int32), wp_X3_check_l80 Post  n C i2 i3 i4 i5 → G w x 7 0 0 (QM w x (fun v C1 => ∃ r : Int32, v = some (.int r) ∧ Post r C1) 0 0) C 80 [(0, .ref (ad w 1)), (2, .int i2), (3, .int i3), (4, .int i4), (5, .int i5)] [] := by
  intro n
  induction n with
  | zero => intro C i2 i3 i4 i5 hw; exact hw.elim
  | succ n ih =>
    intro C i2 i3 i4 i5 hw
    unfold wp_X3_check_l80 at hw
    refine g_iconst (v := 2) ok dX3_check_80 (by decide) ?_
    refine g_iload ok 4 dX3_check_81 rfl ?_
    refine g_imul ok dX3_check_83 ?_
    refine g_iload_n ok 2 dX3_check_84 rfl ?_
    refine g_icmp_ge (tgt := 181) ok dX3_check_85 (by decide) (fun c10 => ?_) (fun c10 => ?_)
    · have hw := hw.1 c10
      refine g_sub [0, 1, 2, 3] [(0, .ref (ad w 1)), (2, .int i2), (3, .int i3), (4, .int i4)] rfl ?_
      exact gw_X3_check_j181 ok C i2 i3 i4 hw
    · have hw := hw.2 c10
      refine g_iload ok 3 dX3_check_88 rfl ?_
      refine g_iconst (v := 2) ok dX3_check_90 (by decide) ?_
      refine g_iload ok 4 dX3_check_91 rfl ?_
      refine g_imul ok dX3_check_93 ?_
      refine g_icmp_ne (tgt := 181) ok dX3_check_94 (by decide) (fun c14 => ?_) (fun c14 => ?_)
      · have hw := hw.2 c14
        refine g_sub [0, 1, 2, 3] [(0, .ref (ad w 1)), (2, .int i2), (3, .int i3), (4, .int i4)] rfl ?_
        exact gw_X3_check_j181 ok C i2 i3 i4 hw
      · have hw := hw.1 c14
        refine g_aload_n ok 0 dX3_check_97 rfl ?_
        refine g_iconst (v := -1) ok dX3_check_98 (by decide) ?_
        obtain ⟨hp, hw⟩ := hw
        refine g_callVIR ok [.int (-1)] cf_X3_day q1636 (mc_X3_day ok.wo (xL x) C (-1) hp) (recvF ok 1 rfl rfl) rfl rfl (Nat.le_of_ble_eq_true rfl) ⟨by decide, by decide⟩ ⟨by decide, by decide⟩ dX3_check_99 (fun C15 eC15 => ?_)
        refine g_nmI (fun r16 er16 => ?_)
        have hw := hw r16 er16 C15 eC15
        refine g_istore0 ok [(6, .int r16), (0, .ref (ad w 1)), (2, .int i2), (3, .int i3), (4, .int i4), (5, .int i5)] dX3_check_102 (by decide) rfl ?_
        refine g_iload ok 4 dX3_check_104 rfl ?_
        refine g_iload ok 4 dX3_check_106 rfl ?_
        refine g_iload_n ok 2 dX3_check_108 rfl ?_
        obtain ⟨hr, hw⟩ := hw
        have kj20 : ∀ x21 : Int32, x21 = (if i2 ≤ i4 then (0 : Int32) else (if (C15.2.1 59 (Int32.toNatClampNeg i4)) = (v_X3_lostMany C15) then (1 : Int32) else 0)) → G w x 7 0 0 (QM w x (fun v C1 => ∃ r : Int32, v = some (.int r) ∧ Post r C1) 0 0) C15 131 [(0, .ref (ad w 1)), (2, .int i2), (3, .int i3), (5, .int i5)] [.int x21, .int i4] := by
          intro x21 ex21
          have hw := hw x21 ex21
          refine g_iadd ok dX3_check_131 ?_
          refine g_istore ok (fun z => [(4, .int z), (0, .ref (ad w 1)), (2, .int i2), (3, .int i3), (5, .int i5)]) dX3_check_132 (by decide) (fun _ => rfl) (fun x22 ex22 => ?_)
          have hw := hw x22 ex22
          refine g_iload ok 0 dX3_check_134 rfl ?_
          refine g_iload ok 0 dX3_check_136 rfl ?_
          refine g_iconst (v := 2) ok dX3_check_138 (by decide) ?_
          refine g_iload ok 4 dX3_check_139 rfl ?_
          refine g_imul ok dX3_check_141 ?_
          refine g_iconst (v := 1) ok dX3_check_142 (by decide) ?_
          refine g_iadd ok dX3_check_143 ?_
          obtain ⟨hr, hw⟩ := hw
          have kj28 : ∀ x29 : Int32, x29 = (if x22 = ((2 * i5) + 1) then (if i2 ≤ x22 then (0 : Int32) else (if (C15.2.1 59 (Int32.toNatClampNeg x22)) = (v_X3_wearAll C15) then (1 : Int32) else 0)) else 0) → G w x 7 0 0 (QM w x (fun v C1 => ∃ r : Int32, v = some (.int r) ∧ Post r C1) 0 0) C15 172 [(0, .ref (ad w 1)), (2, .int i2), (3, .int i3), (5, .int i5)] [.int x29, .int x22] := by
            intro x29 ex29
            have hw := hw x29 ex29
            refine g_iadd ok dX3_check_172 ?_
            refine g_istore ok (fun z => [(4, .int z), (0, .ref (ad w 1)), (2, .int i2), (3, .int i3), (5, .int i5)]) dX3_check_173 (by decide) (fun _ => rfl) (fun x30 ex30 => ?_)
            have hw := hw x30 ex30
            refine g_iinc ok 4 (fun z => [(5, .int z), (4, .int x30), (0, .ref (ad w 1)), (2, .int i2), (3, .int i3)]) dX3_check_175 rfl (by decide) (fun _ => rfl) (fun x31 ex31 => ?_)
            have hw := hw x31 ex31
            refine g_goto (tgt := 80) ok dX3_check_178 (by decide) ?_
            refine g_sub [2, 3, 4, 1, 0] [(0, .ref (ad w 1)), (2, .int i2), (3, .int i3), (4, .int x30), (5, .int x31)] rfl ?_
            exact ih C15 i2 i3 x30 x31 hw
          have hw := hr
          refine g_icmp_ne (tgt := 171) ok dX3_check_144 (by decide) (fun c23 => ?_) (fun c23 => ?_)
          · have hw := hw.2 c23
            refine g_iconst (v := 0) ok dX3_check_171 (by decide) ?_
            exact g_sub [1, 2, 3, 4] [(0, .ref (ad w 1)), (2, .int i2), (3, .int i3), (5, .int i5)] rfl (kj28 _ (by simp only [if_neg c23]))
          · have hw := hw.1 c23
            refine g_iload ok 0 dX3_check_147 rfl ?_
            refine g_iload_n ok 2 dX3_check_149 rfl ?_
            obtain ⟨hr, hw⟩ := hw
            have kj27 : G w x 7 0 0 (QM w x (fun v C1 => ∃ r : Int32, v = some (.int r) ∧ Post r C1) 0 0) C15 172 [(0, .ref (ad w 1)), (2, .int i2), (3, .int i3), (5, .int i5)] [.int (if i2 ≤ x22 then (0 : Int32) else (if (C15.2.1 59 (Int32.toNatClampNeg x22)) = (v_X3_wearAll C15) then (1 : Int32) else 0)), .int x22] := by
              exact (kj28 _ (by simp only [if_pos c23]))
            have hw := hr
            refine g_icmp_ge (tgt := 171) ok dX3_check_150 (by decide) (fun c24 => ?_) (fun c24 => ?_)
            · have hw := hw.1 c24
              refine g_iconst (v := 0) ok dX3_check_171 (by decide) ?_
              simp only [if_pos c24] at kj27
              exact g_sub [1, 2, 3, 4] [(0, .ref (ad w 1)), (2, .int i2), (3, .int i3), (5, .int i5)] rfl kj27
            · have hw := hw.2 c24
              refine g_aload_n ok 1 dX3_check_153 rfl ?_
              refine g_get ok 1 rfl rfl in_X3 34 (by decide) q1393 rfl dX3_check_154 ?_
              refine g_iload ok 0 dX3_check_157 rfl ?_
              obtain ⟨hg, hw⟩ := hw
              refine g_iald ok 59 rfl hg _ rfl dX3_check_159 ?_
              refine g_aload_n ok 1 dX3_check_160 rfl ?_
              obtain ⟨hp, hw⟩ := hw
              refine g_callVI ok [] cf_X3_wearAll q1660 (mc_X3_wearAll ok.wo (xL x) C15 hp) (recvF ok 1 rfl rfl) rfl rfl (Nat.le_of_ble_eq_true rfl) ⟨by decide, by decide⟩ ⟨by decide, by decide⟩ dX3_check_161 ?_
              have kj26 : G w x 7 0 0 (QM w x (fun v C1 => ∃ r : Int32, v = some (.int r) ∧ Post r C1) 0 0) C15 172 [(0, .ref (ad w 1)), (2, .int i2), (3, .int i3), (5, .int i5)] [.int (if (C15.2.1 59 (Int32.toNatClampNeg x22)) = (v_X3_wearAll C15) then (1 : Int32) else 0), .int x22] := by
                simp only [if_neg c24] at kj27
                exact kj27
              refine g_icmp_ne (tgt := 171) ok dX3_check_164 (by decide) (fun c25 => ?_) (fun c25 => ?_)
              · refine g_iconst (v := 0) ok dX3_check_171 (by decide) ?_
                simp only [if_neg c25] at kj26
                exact g_sub [1, 2, 3, 4] [(0, .ref (ad w 1)), (2, .int i2), (3, .int i3), (5, .int i5)] rfl kj26
              · refine g_iconst (v := 1) ok dX3_check_167 (by decide) ?_
                refine g_goto (tgt := 172) ok dX3_check_168 (by decide) ?_
                simp only [if_pos c25] at kj26
                exact g_sub [1, 2, 3, 4] [(0, .ref (ad w 1)), (2, .int i2), (3, .int i3), (5, .int i5)] rfl kj26
        have hw := hr
        refine g_icmp_ge (tgt := 130) ok dX3_check_109 (by decide) (fun c17 => ?_) (fun c17 => ?_)
        · have hw := hw.1 c17
          refine g_iconst (v := 0) ok dX3_check_130 (by decide) ?_
          exact g_sub [1, 2, 3, 5] [(0, .ref (ad w 1)), (2, .int i2), (3, .int i3), (5, .int i5)] rfl (kj20 _ (by simp only [if_pos c17]))
        · have hw := hw.2 c17
          refine g_aload_n ok 1 dX3_check_112 rfl ?_
          refine g_get ok 1 rfl rfl in_X3 34 (by decide) q1393 rfl dX3_check_113 ?_
          refine g_iload ok 4 dX3_check_116 rfl ?_
          obtain ⟨hg, hw⟩ := hw
          refine g_iald ok 59 rfl hg _ rfl dX3_check_118 ?_
          refine g_aload_n ok 1 dX3_check_119 rfl ?_
          obtain ⟨hp, hw⟩ := hw
          refine g_callVI ok [] cf_X3_lostMany q1656 (mc_X3_lostMany ok.wo (xL x) C15 hp) (recvF ok 1 rfl rfl) rfl rfl (Nat.le_of_ble_eq_true rfl) ⟨by decide, by decide⟩ ⟨by decide, by decide⟩ dX3_check_120 ?_
          have kj19 : G w x 7 0 0 (QM w x (fun v C1 => ∃ r : Int32, v = some (.int r) ∧ Post r C1) 0 0) C15 131 [(0, .ref (ad w 1)), (2, .int i2), (3, .int i3), (5, .int i5)] [.int (if (C15.2.1 59 (Int32.toNatClampNeg i4)) = (v_X3_lostMany C15) then (1 : Int32) else 0), .int i4] := by
            exact (kj20 _ (by simp only [if_neg c17]))
          refine g_icmp_ne (tgt := 130) ok dX3_check_123 (by decide) (fun c18 => ?_) (fun c18 => ?_)
          · refine g_iconst (v := 0) ok dX3_check_130 (by decide) ?_
            simp only [if_neg c18] at kj19
            exact g_sub [1, 2, 3, 5] [(0, .ref (ad w 1)), (2, .int i2), (3, .int i3), (5, .int i5)] rfl kj19
          · refine g_iconst (v := 1) ok dX3_check_126 (by decide) ?_
            refine g_goto (tgt := 131) ok dX3_check_127 (by decide) ?_
            simp only [if_pos c18] at kj19
            exact g_sub [1, 2, 3, 5] [(0, .ref (ad w 1)), (2, .int i2), (3, .int i3), (5, .int i5)] rfl kj19
set_option maxHeartbeats 4000000 in
set_option maxRecDepth 100000 in
theorem gw_X3_check {w : WD} (wk : wOk w) (l : Launch) (C : CS) (a0 : Int32) {Post : Int32 → CS → Prop} (hw : wp_X3_check Post C a0) : MC w l yX3_check cX3_check 7 (some .int) 4 0 0 [.ref (ad w 1), .int a0] C (fun v C1 => ∃ r : Int32, v = some (.int r) ∧ Post r C1) := by
  unfold wp_X3_check at hw
  refine MC.of wk (by decide) (Nat.le_of_ble_eq_true rfl) (fun x hx ok => ?_)
  subst hx
  show G w x 7 0 0 (QM w x _ 0 0) C 0 [(0, .ref (ad w 1)), (1, .int a0)] []
  refine g_aload_n ok 0 dX3_check_0 rfl ?_
  refine g_get ok 1 rfl rfl in_X3 35 (by decide) q1394 rfl dX3_check_1 ?_
  refine g_istore_n ok (fun z => [(2, .int z), (0, .ref (ad w 1)), (1, .int a0)]) dX3_check_4 (by decide) (fun _ => rfl) (fun x1 ex1 => ?_)
  have hw := hw x1 ex1
  refine g_aload_n ok 1 dX3_check_5 rfl ?_
  refine g_iconst (v := 0) ok dX3_check_6 (by decide) ?_
  refine g_putI ok 1 rfl rfl in_X3 tyX3 tyX3_ok nmX3 35 (by decide) q1394 rfl rfl rfl (putV_m rfl) dX3_check_7 (fun C2 eC2 => ?_)
  have hw := hw C2 eC2
  refine g_iload_n ok 2 dX3_check_10 rfl ?_
  refine g_iconst (v := 1) ok dX3_check_11 (by decide) ?_
  refine g_bipush (v := 30) ok dX3_check_12 (by decide) ?_
  refine g_callSI ok [.int a0, .int 1, .int 30] cf_X3_in q1474 (mc_X3_in ok.wo (xL x) C2 a0 1 30) rfl rfl (Nat.le_of_ble_eq_true rfl) ⟨by decide, by decide⟩ ⟨by decide, by decide⟩ dX3_check_14 ?_
  refine g_nmI (fun r3 er3 => ?_)
  have hw := hw r3 er3
  refine g_if_ne (tgt := 23) ok dX3_check_17 (by decide) (fun c4 => ?_) (fun c4 => ?_)
  · have hw := hw.2 c4
    refine g_aload_n ok 1 dX3_check_23 rfl ?_
    refine g_get ok 1 rfl rfl in_X3 3 (by decide) q1362 rfl dX3_check_24 ?_
    refine g_if_ne (tgt := 34) ok dX3_check_27 (by decide) (fun c5 => ?_) (fun c5 => ?_)
    · have hw := hw.2 c5
      refine g_aload_n ok 1 dX3_check_34 rfl ?_
      refine g_get ok 1 rfl rfl in_X3 0 (by decide) q1359 rfl dX3_check_35 ?_
      refine g_aload_n ok 1 dX3_check_38 rfl ?_
      refine g_get ok 1 rfl rfl in_X3 2 (by decide) q1361 rfl dX3_check_39 ?_
      refine g_callSV ok [.ref (ad w 36), .ref (ad w 38)] cf_X3_copyAll q1827 (mc_X3_copyAll_36_38 ok.wo (xL x) C2) rfl rfl (Nat.le_of_ble_eq_true rfl) ⟨by decide, by decide⟩ ⟨by decide, by decide⟩ dX3_check_42 ?_
      refine g_nmC (fun C6 eC6 => ?_)
      have hw := hw C6 eC6
      refine g_aload_n ok 1 dX3_check_45 rfl ?_
      refine g_get ok 1 rfl rfl in_X3 1 (by decide) q1360 rfl dX3_check_46 ?_
      refine g_aload_n ok 1 dX3_check_49 rfl ?_
      refine g_get ok 1 rfl rfl in_X3 0 (by decide) q1359 rfl dX3_check_50 ?_
      refine g_callSV ok [.ref (ad w 37), .ref (ad w 36)] cf_X3_copyAll q1827 (mc_X3_copyAll_37_36 ok.wo (xL x) C6) rfl rfl (Nat.le_of_ble_eq_true rfl) ⟨by decide, by decide⟩ ⟨by decide, by decide⟩ dX3_check_53 ?_
      refine g_nmC (fun C7 eC7 => ?_)
      have hw := hw C7 eC7
      refine g_iconst (v := 2) ok dX3_check_56 (by decide) ?_
      refine g_sipush (v := 9999) ok dX3_check_57 (by decide) ?_
      refine g_aload_n ok 1 dX3_check_60 rfl ?_
      refine g_get ok 1 rfl rfl in_X3 0 (by decide) q1359 rfl dX3_check_61 ?_
      refine g_iconst (v := 2) ok dX3_check_64 (by decide) ?_
      refine g_iald ok 36 rfl (by unfold vp_in; decide) 2 (by decide) dX3_check_65 ?_
      refine g_isub ok dX3_check_66 ?_
      refine g_iconst (v := 0) ok dX3_check_67 (by decide) ?_
      refine g_iload_n ok 2 dX3_check_68 rfl ?_
      refine g_callSI ok [.int (9999 - (C7.2.1 36 2)), .int 0, .int a0] cf_X3_within q1550 (mc_X3_within ok.wo (xL x) C7 (9999 - (C7.2.1 36 2)) 0 a0) rfl rfl (Nat.le_of_ble_eq_true rfl) ⟨by decide, by decide⟩ ⟨by decide, by decide⟩ dX3_check_69 ?_
      refine g_nmI (fun r8 er8 => ?_)
      have hw := hw r8 er8
      refine g_imul ok dX3_check_72 ?_
      refine g_istore_n ok (fun z => [(3, .int z), (2, .int x1), (0, .ref (ad w 1)), (1, .int a0)]) dX3_check_73 (by decide) (fun _ => rfl) (fun x9 ex9 => ?_)
      have hw := hw x9 ex9
      refine g_iconst (v := 0) ok dX3_check_74 (by decide) ?_
      refine g_istore0 ok [(4, .int 0), (3, .int x9), (2, .int x1), (0, .ref (ad w 1)), (1, .int a0)] dX3_check_75 (by decide) rfl ?_
      refine g_iconst (v := 0) ok dX3_check_77 (by decide) ?_
      refine g_istore0 ok [(5, .int 0), (4, .int 0), (3, .int x9), (2, .int x1), (0, .ref (ad w 1)), (1, .int a0)] dX3_check_78 (by decide) rfl ?_
      refine g_sub [4, 3, 2, 1, 0] [(0, .ref (ad w 1)), (2, .int x1), (3, .int x9), (4, .int 0), (5, .int 0)] rfl ?_
      obtain ⟨n32, hw⟩ := hw
      exact gw_X3_check_l80 ok n32 C7 x1 x9 0 0 hw
    · have hw := hw.1 c5
      refine g_ldc_w (v := -1000000002) ok q1818 dX3_check_30 ?_
      exact g_iret ok dX3_check_33 ⟨_, rfl, hw⟩
  · have hw := hw.1 c4
    refine g_ldc (v := -1000000001) ok q1477 dX3_check_20 ?_
    exact g_iret ok dX3_check_22 ⟨_, rfl, hw⟩
theorem sp_X3_check (C : CS) (a0 : Int32) (hp : p_X3_check C a0) : wp_X3_check (fun r C1 => r = v_X3_check C a0 ∧ q_X3_check C a0 C1) C a0 := by
  obtain ⟨⟨m, em, hm⟩, hrow⟩ := hp
  intro x1 e1 C2 e2 r3 e3
  have f2 : frm [38, 49, 50] (wI C 1 35 0) C2 := by rw [e2]; exact frm.rf _ _
  have h13 : C2.1 1 3 = C.1 1 3 := by rw [e2]; simp [wI, up2]
  refine ⟨fun c => ⟨by unfold v_X3_check; rw [← e3, if_pos c], f2⟩, fun c => ⟨fun c2 => ⟨by unfold v_X3_check; rw [← e3, if_neg c, ← h13, if_pos c2], f2⟩, fun c2 C6 e6 C7 e7 r8 e8 x9 e9 => ?_⟩⟩
  rw [h13] at c2
  have hr := hrow c2
  have c' := c
  rw [e3, in_iff] at c'
  obtain ⟨n, rfl, -, hn⟩ := nI_btw (lo := 1) (hi := 30) c'.1 c'.2 (by decide)
  have r7 : C7.2.1 36 = C.2.1 37 := by
    rw [e7]; unfold n_X3_copyAll_37_36 cpR
    rw [e6]; unfold n_X3_copyAll_36_38 cpR
    rw [e2]; rfl
  have a7 : C7.2.1 38 = C.2.1 36 := by
    rw [e7]; unfold n_X3_copyAll_37_36 cpR
    rw [e6]; unfold n_X3_copyAll_36_38 cpR
    rw [e2]; rfl
  have f7 : frm [36, 38, 49, 50] (wI C 1 35 0) C7 := by
    rw [e7]; unfold n_X3_copyAll_37_36 cpR
    rw [e6]; unfold n_X3_copyAll_36_38 cpR
    rw [e2]
    refine ⟨rfl, rfl, fun j hj => ?_⟩
    have h1 : j ≠ 36 := fun z => hj (by rw [z]; decide)
    have h2 : j ≠ 38 := fun z => hj (by rw [z]; decide)
    funext i
    simp [h1, h2]
  rw [r7] at e8
  obtain ⟨D, eD, hD⟩ := within_btw (a := 9999 - C.2.1 37 2) (hi := n) (by omega)
  rw [eD] at e8
  rw [e8, ix2] at e9
  have hchD : chD (C.2.1 37) (nI n) = D := by unfold chD; rw [eD, cl_k (by omega)]
  have hv : v_X3_check C (nI n) = chR (C.2.1 37) (C.2.1 59) m D := by unfold v_X3_check; rw [← e3, if_neg c, if_neg c2, em, cl_k (by omega), hchD]
  rw [em] at e1
  -- the end
  have fin : ∀ (X : CS) (q : Nat), q ≤ 60 → frm [36, 38, 49, 50] (wI C 1 35 0) X → X.2.1 38 = C.2.1 36 → v_X3_check C (nI n) = (if q = m ∧ q = 2 * D then 0 else 1 + nI q) → wp_X3_check_j181 (fun r C1 => r = v_X3_check C (nI n) ∧ q_X3_check C (nI n) C1) X (nI m) (nI (2 * D)) (nI q) := by
    intro X q hq hf h38 hvq C11 e11
    have fq : q_X3_check C (nI n) C11 := by
      rw [e11]; unfold n_X3_copyAll_38_36 cpR
      refine ⟨hf.1, hf.2.1, fun j hj => ?_⟩
      by_cases h1 : j = 36
      · subst h1
        funext i
        simp [h38, wI]
      · funext i
        have := congrFun (hf.2.2 j (fun z => by simp at z hj; omega)) i
        simp [h1, this]
    have z1 : (nI q = nI m) ↔ q = m := nI_eq (by omega) (by omega)
    have z2 : (nI q = nI (2 * D)) ↔ q = 2 * D := nI_eq (by omega) (by omega)
    refine ⟨fun d1 => ⟨fun d2 => ⟨?_, fq⟩, fun d2 => ⟨?_, fq⟩⟩, fun d1 => ⟨?_, fq⟩⟩
    · rw [hvq, if_pos ⟨z1.mp d1, z2.mp d2⟩]
    · rw [hvq, if_neg (fun z => d2 (z2.mpr z.2))]
    · rw [hvq, if_neg (fun z => d1 (z1.mpr z.1))]
  have H : ∀ d k, k + d = D → ∀ X : CS, frm [36, 38, 49, 50] (wI C 1 35 0) X → X.2.1 38 = C.2.1 36 → rowD (X.2.1 36) → chL (C.2.1 59) m D 0 (C.2.1 37) = chL (C.2.1 59) m d k (X.2.1 36) → wp_X3_check_l80 (fun r C1 => r = v_X3_check C (nI n) ∧ q_X3_check C (nI n) C1) (d + 1) X (nI m) (nI (2 * D)) (nI (2 * k)) (nI k) := by
    intro d
    induction d with
    | zero =>
      intro k hk X hf h38 hrD hch
      refine ⟨fun _ => fin X (2 * k) (by omega) hf h38 ?_, fun c1 => absurd ?_ c1⟩
      · rw [hv, chR, hch, chL]
      · rw [ix2, nI_leI (by omega) (by omega)]; omega
    | succ d ih =>
      intro k hk X hf h38 hrD hch
      rw [chL] at hch
      refine ⟨fun c1 => ?_, fun _ => ⟨fun _ => ⟨hrD, fun r16 e16 C15 e15 => ?_⟩, fun c1 => absurd (ix2 k).symm c1⟩⟩
      · rw [ix2, nI_leI (by omega) (by omega)] at c1; omega
      · obtain ⟨f15, row15⟩ := e15
        have F15 : frm [36, 38, 49, 50] (wI C 1 35 0) C15 := hf.tr (f15.mono (by decide))
        have h38' : C15.2.1 38 = C.2.1 36 := by rw [f15.2.2 38 (by decide)]; exact h38
        have hr15 : rowD (C15.2.1 36) := by rw [row15]; exact rowD_day hrD (-1)
        have hg : ∃ N, gOk C15 N := by obtain ⟨⟨N, e, hN⟩, -⟩ := hr15; exact ⟨N, e, hN⟩
        have h59 : C15.2.1 59 = C.2.1 59 := F15.2.2 59 (by decide)
        have el : v_X3_lostMany C15 = lostR (dayR (X.2.1 36) (-1)).1 := by unfold v_X3_lostMany lostR; rw [row15]
        have ew : v_X3_wearAll C15 = wearR (dayR (X.2.1 36) (-1)).1 := by unfold v_X3_wearAll wearR; rw [row15]
        refine ⟨⟨fun _ => trivial, fun c1 => ⟨vp_k (by omega), hg, trivial⟩⟩, fun x21 e21 x22 e22 => ⟨⟨fun c1 => ⟨⟨fun _ => trivial, fun c3 => ⟨?_, hg, trivial⟩⟩, trivial⟩, fun _ => trivial⟩, fun x29 e29 x30 e30 x31 e31 => ?_⟩⟩
        · rw [c1, ix2, show (1 : Int32) = nI 1 from rfl, nI_add]; exact vp_k (by omega)
        · rw [cl_k (by omega), h59, el] at e21
          rw [ix2, show (1 : Int32) = nI 1 from rfl, nI_add] at e29
          have t1 : (nI m ≤ nI (2 * k)) ↔ m ≤ 2 * k := nI_leI (by omega) (by omega)
          have stop : ∀ q, (q = 2 * k ∨ q = 2 * k + 1) → x30 = nI q → v_X3_check C (nI n) = (if q = m ∧ q = 2 * D then 0 else 1 + nI q) → wp_X3_check_l80 (fun r C1 => r = v_X3_check C (nI n) ∧ q_X3_check C (nI n) C1) (d + 1) C15 (nI m) (nI (2 * D)) x30 x31 := by
            intro q hq eq hvq
            rw [e31, o1, nI_add, eq]
            refine ⟨fun _ => fin C15 q (by omega) F15 h38' hvq, fun _ => ⟨fun c1 => ?_, fun _ => fin C15 q (by omega) F15 h38' hvq⟩⟩
            rw [ix2, nI_eq (by omega) (by omega)] at c1
            omega
          by_cases g1 : 2 * k < m ∧ C.2.1 59 (2 * k) = lostR (dayR (X.2.1 36) (-1)).1
          · rw [if_neg (fun z => by have := t1.mp z; omega), if_pos g1.2] at e21
            rw [e21, show (1 : Int32) = nI 1 from rfl, nI_add] at e22
            have t2 : (nI m ≤ nI (2 * k + 1)) ↔ m ≤ 2 * k + 1 := nI_leI (by omega) (by omega)
            rw [e22, if_pos rfl, cl_k (by omega), h59, ew] at e29
            rw [if_pos g1] at hch
            by_cases g2 : 2 * k + 1 < m ∧ C.2.1 59 (2 * k + 1) = wearR (dayR (X.2.1 36) (-1)).1
            · rw [if_neg (fun z => by have := t2.mp z; omega), if_pos g2.2] at e29
              rw [e22, e29, nI_add] at e30
              rw [if_pos g2] at hch
              rw [e30, e31, o1, nI_add]
              exact ih (k + 1) (by omega) C15 F15 h38' hr15 (by rw [hch, row15])
            · have e0 : x29 = nI 0 := by
                rw [e29]
                by_cases w1 : m ≤ 2 * k + 1
                · rw [if_pos (t2.mpr w1)]; rfl
                · rw [if_neg (fun z => w1 (t2.mp z)), if_neg (fun z => g2 ⟨by omega, z⟩)]; rfl
              rw [e22, e0, nI_add] at e30
              rw [if_neg g2] at hch
              exact stop (2 * k + 1) (Or.inr rfl) e30 (by rw [hv, chR, hch])
          · have e0 : x21 = nI 0 := by
              rw [e21]
              by_cases w1 : m ≤ 2 * k
              · rw [if_pos (t1.mpr w1)]; rfl
              · rw [if_neg (fun z => w1 (t1.mp z)), if_neg (fun z => g1 ⟨by omega, z⟩)]; rfl
            rw [e0, nI_add] at e22
            have t3 : ¬ x22 = nI (2 * k + 1) := by
              rw [e22, nI_eq (by omega) (by omega)]; omega
            rw [if_neg t3] at e29
            rw [e22, e29, show (0 : Int32) = nI 0 from rfl, nI_add] at e30
            rw [if_neg g1] at hch
            exact stop (2 * k) (Or.inl rfl) e30 (by rw [hv, chR, hch])
  rw [e1, e9]
  exact ⟨_, H D 0 (by omega) C7 f7 a7 (by rw [r7]; exact hr) (by rw [r7])⟩
theorem mc_X3_check {w : WD} (wk : wOk w) (l : Launch) (C : CS) (a0 : Int32) (hp : p_X3_check C a0) : MC w l yX3_check cX3_check 7 (some .int) 4 0 0 [.ref (ad w 1), .int a0] C (pIR (v_X3_check C a0) (q_X3_check C a0)) := MC.postIR (gw_X3_check wk l C a0 (sp_X3_check C a0 hp))
