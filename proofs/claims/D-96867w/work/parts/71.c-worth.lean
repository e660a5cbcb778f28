/-! texts' trees and what they give -/
theorem cf_X10_over : CfS yX10_over cX10_over 2 (some .int) 2 := ⟨⟨by decide, by decide, by decide⟩, q88, q736, q735⟩
def v_X10_over (a0 : Int32) (a1 : Int32) : Int32 :=
  if a1 = 0 then
    (0)
    else
    ((a0 / a1))
def p_X10_over (C : CS) (a0 : Int32) (a1 : Int32) : Prop :=
  (a1 = 0 → 
    True) ∧
    (¬ a1 = 0 → 
    ¬ a1 = 0 ∧
      (True))
set_option maxHeartbeats 4000000 in
set_option maxRecDepth 100000 in
theorem mc_X10_over {w : WD} (wk : wOk w) (l : Launch) (C : CS) (a0 : Int32) (a1 : Int32) (hw : p_X10_over C a0 a1) : MC w l yX10_over cX10_over 2 (some .int) 0 0 0 [.int a0, .int a1] C (pI (v_X10_over a0 a1) C) := by
  unfold p_X10_over at hw
  refine MC.of wk (by decide) (Nat.le_of_ble_eq_true rfl) (fun x hx ok => ?_)
  subst hx
  show G w x 2 0 0 (QM w x _ 0 0) C 0 [(0, .int a0), (1, .int a1)] []
  refine g_iload_n ok 1 dX10_over_0 rfl ?_
  refine g_if_ne (tgt := 8) ok dX10_over_1 (by decide) (fun c1 => ?_) (fun c1 => ?_)
  · have hw := hw.2 c1
    refine g_iload_n ok 0 dX10_over_8 rfl ?_
    refine g_iload_n ok 1 dX10_over_9 rfl ?_
    obtain ⟨hg, hw⟩ := hw
    refine g_idiv ok dX10_over_10 hg ?_
    exact g_iret ok dX10_over_11 ⟨by first | (simp only [v_X10_over, if_neg c1]; done) | contradiction, rfl⟩
  · have hw := hw.1 c1
    refine g_iconst (v := 0) ok dX10_over_4 (by decide) ?_
    refine g_goto (tgt := 11) ok dX10_over_5 (by decide) ?_
    exact g_iret ok dX10_over_11 ⟨by first | (simp only [v_X10_over, if_pos c1]; done) | contradiction, rfl⟩
def v_X12_worth (C : CS) (a : Nat) : Int32 :=
  (cDI C 110 a)
def p_X12_worth (C : CS) (a : Nat) : Prop :=
  isDy C 11 a ∧
    (True)
set_option maxHeartbeats 4000000 in
set_option maxRecDepth 100000 in
theorem mc_X12_worth {w : WD} (wk : wOk w) (l : Launch) (C : CS) (a : Nat) (hw : p_X12_worth C a) : MC w l yX12_worth cX12_worth 1 (some .int) 0 0 0 [.ref a] C (pI (v_X12_worth C a) C) := by
  unfold p_X12_worth at hw
  refine MC.of wk (by decide) (Nat.le_of_ble_eq_true rfl) (fun x hx ok => ?_)
  subst hx
  show G w x 1 0 0 (QM w x _ 0 0) C 0 [(0, .ref a)] []
  refine g_aload_n ok 0 dX12_worth_0 rfl ?_
  obtain ⟨hf1, hw⟩ := hw
  refine g_dgetE ok hf1 (by decide) rfl in_X12 0 (by decide) q1068 rfl dX12_worth_1 ?_
  exact g_iret ok dX12_worth_4 ⟨by rw [v_X12_worth], rfl⟩
def v_X13_worth (C : CS) (a : Nat) : Int32 :=
  (C.2.1 10 (Int32.toNatClampNeg (cDI C 120 a)))
def p_X13_worth (C : CS) (a : Nat) : Prop :=
  isDy C 12 a ∧
    (vp_in (cDI C 120 a) 128 ∧
    (True))
set_option maxHeartbeats 4000000 in
set_option maxRecDepth 100000 in
theorem mc_X13_worth {w : WD} (wk : wOk w) (l : Launch) (C : CS) (a : Nat) (hw : p_X13_worth C a) : MC w l yX13_worth cX13_worth 1 (some .int) 0 0 0 [.ref a] C (pI (v_X13_worth C a) C) := by
  unfold p_X13_worth at hw
  refine MC.of wk (by decide) (Nat.le_of_ble_eq_true rfl) (fun x hx ok => ?_)
  subst hx
  show G w x 1 0 0 (QM w x _ 0 0) C 0 [(0, .ref a)] []
  refine g_aload_n ok 0 dX13_worth_0 rfl ?_
  obtain ⟨hf1, hw⟩ := hw
  refine g_dgetE ok hf1 (by decide) rfl in_X13 1 (by decide) q1079 rfl dX13_worth_1 ?_
  refine g_getN ok 0 rfl rfl in_X0 10 (by decide) q190 rfl dX13_worth_4 ?_
  refine g_aload_n ok 0 dX13_worth_7 rfl ?_
  refine g_dgetE ok hf1 (by decide) rfl in_X13 0 (by decide) q1078 rfl dX13_worth_8 ?_
  obtain ⟨hf2, hw⟩ := hw
  refine g_iald ok 10 rfl hf2 _ rfl dX13_worth_11 ?_
  exact g_iret ok dX13_worth_12 ⟨by rw [v_X13_worth], rfl⟩
def v_X14_t9 (a : Nat) (v : Int32) : Int32 :=
  if v = 0 then
    (1)
    else
    (0)
set_option maxHeartbeats 4000000 in
set_option maxRecDepth 100000 in
theorem gt_X14_t9 {w : WD} {x : Cx} {L : Nat} (ok : Ok w x cX14_worth 1 yX14_worth.cls (some .int) (rmL (L + 1) 0 0)) (C : CS) (a : Nat) (v : Int32) : G w x 1 0 0 (QM w x (pI (v_X14_t9 a v) C) 0 0) C 9 [(0, .ref a)] [.int v] := by
  refine g_if_ne (tgt := 16) ok dX14_worth_9 (by decide) (fun c1 => ?_) (fun c1 => ?_)
  · refine g_iconst (v := 0) ok dX14_worth_16 (by decide) ?_
    exact g_iret ok dX14_worth_17 ⟨by first | (simp only [v_X14_t9, if_neg c1]; done) | contradiction, rfl⟩
  · refine g_iconst (v := 1) ok dX14_worth_12 (by decide) ?_
    refine g_goto (tgt := 17) ok dX14_worth_13 (by decide) ?_
    exact g_iret ok dX14_worth_17 ⟨by first | (simp only [v_X14_t9, if_pos c1]; done) | contradiction, rfl⟩
def v_X10_t20 (C : CS) (a : Nat) (z : Int32) (y : Int32) : Int32 :=
  if (cDI C 100 a) = 38 then
    (if z = 0 then
      (0)
      else
      (if y = 0 then
        (0)
        else
        (1)))
    else
    (if (cDI C 100 a) = 42 then
      ((z * y))
      else
      (if (cDI C 100 a) = 43 then
        ((z + y))
        else
        (if (cDI C 100 a) = 45 then
          ((z - y))
          else
          (if (cDI C 100 a) = 47 then
            ((v_X10_over z y))
            else
            (if (cDI C 100 a) = 60 then
              (if y ≤ z then
                (0)
                else
                (1))
              else
              (if (cDI C 100 a) = 61 then
                (if z = y then
                  (1)
                  else
                  (0))
                else
                (if (cDI C 100 a) = 62 then
                  (if z ≤ y then
                    (0)
                    else
                    (1))
                  else
                  (if z = 0 then
                    (if y = 0 then
                      (0)
                      else
                      (1))
                    else
                    (1)))))))))
def p_X10_t20 (C : CS) (a : Nat) (z : Int32) (y : Int32) : Prop :=
  isDy C 10 a ∧
    (((cDI C 100 a) = 38 → 
    True) ∧
    (¬ (cDI C 100 a) = 38 → 
    ((cDI C 100 a) = 42 → 
      True) ∧
      (¬ (cDI C 100 a) = 42 → 
      ((cDI C 100 a) = 43 → 
        True) ∧
        (¬ (cDI C 100 a) = 43 → 
        ((cDI C 100 a) = 45 → 
          True) ∧
          (¬ (cDI C 100 a) = 45 → 
          ((cDI C 100 a) = 47 → 
            p_X10_over C z y ∧
              (True)) ∧
            (¬ (cDI C 100 a) = 47 → 
            True))))))
set_option maxHeartbeats 4000000 in
set_option maxRecDepth 100000 in
theorem gt_X10_t20 {w : WD} {x : Cx} {L : Nat} (ok : Ok w x cX10_worth 3 yX10_worth.cls (some .int) (rmL (L + 1) 0 0)) (C : CS) (a : Nat) (z : Int32) (y : Int32) (hw : p_X10_t20 C a z y) : G w x 3 0 0 (QM w x (pI (v_X10_t20 C a z y) C) 0 0) C 20 [(2, .int y), (1, .int z), (0, .ref a)] [] := by
  unfold p_X10_t20 at hw
  refine g_aload_n ok 2 dX10_worth_20 rfl ?_
  obtain ⟨hf1, hw⟩ := hw
  refine g_dgetE ok hf1 (by decide) rfl in_X10 0 (by decide) q1105 rfl dX10_worth_21 ?_
  by_cases c2 : (cDI C 100 a) = 38
  · have hw := hw.1 c2
    refine g_swIn (tgt := 191) ok (38) dX10_worth_24 (c2.trans (by decide)) (by decide) rfl (by decide) ?_
    refine g_iload_n ok 1 dX10_worth_191 rfl ?_
    refine g_if_eq (tgt := 203) ok dX10_worth_192 (by decide) (fun c3 => ?_) (fun c3 => ?_)
    · refine g_iconst (v := 0) ok dX10_worth_203 (by decide) ?_
      exact g_iret ok dX10_worth_204 ⟨by first | (simp only [v_X10_t20, if_pos c2, if_pos c3]; done) | contradiction, rfl⟩
    · refine g_iload_n ok 0 dX10_worth_195 rfl ?_
      refine g_if_eq (tgt := 203) ok dX10_worth_196 (by decide) (fun c4 => ?_) (fun c4 => ?_)
      · refine g_iconst (v := 0) ok dX10_worth_203 (by decide) ?_
        exact g_iret ok dX10_worth_204 ⟨by first | (simp only [v_X10_t20, if_pos c2, if_neg c3, if_pos c4]; done) | contradiction, rfl⟩
      · refine g_iconst (v := 1) ok dX10_worth_199 (by decide) ?_
        refine g_goto (tgt := 204) ok dX10_worth_200 (by decide) ?_
        exact g_iret ok dX10_worth_204 ⟨by first | (simp only [v_X10_t20, if_pos c2, if_neg c3, if_neg c4]; done) | contradiction, rfl⟩
  · have hw := hw.2 c2
    by_cases c5 : (cDI C 100 a) = 42
    · have hw := hw.1 c5
      refine g_swIn (tgt := 148) ok (42) dX10_worth_24 (c5.trans (by decide)) (by decide) rfl (by decide) ?_
      refine g_iload_n ok 1 dX10_worth_148 rfl ?_
      refine g_iload_n ok 0 dX10_worth_149 rfl ?_
      refine g_imul ok dX10_worth_150 ?_
      exact g_iret ok dX10_worth_151 ⟨by first | (simp only [v_X10_t20, if_neg c2, if_pos c5]; done) | contradiction, rfl⟩
    · have hw := hw.2 c5
      by_cases c6 : (cDI C 100 a) = 43
      · have hw := hw.1 c6
        refine g_swIn (tgt := 140) ok (43) dX10_worth_24 (c6.trans (by decide)) (by decide) rfl (by decide) ?_
        refine g_iload_n ok 1 dX10_worth_140 rfl ?_
        refine g_iload_n ok 0 dX10_worth_141 rfl ?_
        refine g_iadd ok dX10_worth_142 ?_
        exact g_iret ok dX10_worth_143 ⟨by first | (simp only [v_X10_t20, if_neg c2, if_neg c5, if_pos c6]; done) | contradiction, rfl⟩
      · have hw := hw.2 c6
        by_cases c7 : (cDI C 100 a) = 45
        · have hw := hw.1 c7
          refine g_swIn (tgt := 144) ok (45) dX10_worth_24 (c7.trans (by decide)) (by decide) rfl (by decide) ?_
          refine g_iload_n ok 1 dX10_worth_144 rfl ?_
          refine g_iload_n ok 0 dX10_worth_145 rfl ?_
          refine g_isub ok dX10_worth_146 ?_
          exact g_iret ok dX10_worth_147 ⟨by first | (simp only [v_X10_t20, if_neg c2, if_neg c5, if_neg c6, if_pos c7]; done) | contradiction, rfl⟩
        · have hw := hw.2 c7
          by_cases c8 : (cDI C 100 a) = 47
          · have hw := hw.1 c8
            refine g_swIn (tgt := 152) ok (47) dX10_worth_24 (c8.trans (by decide)) (by decide) rfl (by decide) ?_
            refine g_iload_n ok 1 dX10_worth_152 rfl ?_
            refine g_iload_n ok 0 dX10_worth_153 rfl ?_
            obtain ⟨hp9, hw⟩ := hw
            refine g_callS ok [.int z, .int y] cf_X10_over q734 (mc_X10_over ok.wo (xL x) C z y hp9) rfl rfl (Nat.le_of_ble_eq_true rfl) ⟨by show 0 + 1 ≤ L + 1; omega, by show 8 + (2 + 11) + 40 * 0 ≤ 40 * (L + 1); omega⟩ ⟨Nat.le_refl 0, Nat.le_refl 0⟩ dX10_worth_154 (resI ?_)
            exact g_iret ok dX10_worth_157 ⟨by first | (simp only [v_X10_t20, if_neg c2, if_neg c5, if_neg c6, if_neg c7, if_pos c8]; done) | contradiction, rfl⟩
          · have hw := hw.2 c8
            by_cases c10 : (cDI C 100 a) = 60
            · refine g_swIn (tgt := 158) ok (60) dX10_worth_24 (c10.trans (by decide)) (by decide) rfl (by decide) ?_
              refine g_iload_n ok 1 dX10_worth_158 rfl ?_
              refine g_iload_n ok 0 dX10_worth_159 rfl ?_
              refine g_icmp_ge (tgt := 167) ok dX10_worth_160 (by decide) (fun c11 => ?_) (fun c11 => ?_)
              · refine g_iconst (v := 0) ok dX10_worth_167 (by decide) ?_
                exact g_iret ok dX10_worth_168 ⟨by first | (simp only [v_X10_t20, if_neg c2, if_neg c5, if_neg c6, if_neg c7, if_neg c8, if_pos c10, if_pos c11]; done) | contradiction, rfl⟩
              · refine g_iconst (v := 1) ok dX10_worth_163 (by decide) ?_
                refine g_goto (tgt := 168) ok dX10_worth_164 (by decide) ?_
                exact g_iret ok dX10_worth_168 ⟨by first | (simp only [v_X10_t20, if_neg c2, if_neg c5, if_neg c6, if_neg c7, if_neg c8, if_pos c10, if_neg c11]; done) | contradiction, rfl⟩
            · skip
              by_cases c12 : (cDI C 100 a) = 61
              · refine g_swIn (tgt := 169) ok (61) dX10_worth_24 (c12.trans (by decide)) (by decide) rfl (by decide) ?_
                refine g_iload_n ok 1 dX10_worth_169 rfl ?_
                refine g_iload_n ok 0 dX10_worth_170 rfl ?_
                refine g_icmp_ne (tgt := 178) ok dX10_worth_171 (by decide) (fun c13 => ?_) (fun c13 => ?_)
                · refine g_iconst (v := 0) ok dX10_worth_178 (by decide) ?_
                  exact g_iret ok dX10_worth_179 ⟨by first | (simp only [v_X10_t20, if_neg c2, if_neg c5, if_neg c6, if_neg c7, if_neg c8, if_neg c10, if_pos c12, if_neg c13]; done) | contradiction, rfl⟩
                · refine g_iconst (v := 1) ok dX10_worth_174 (by decide) ?_
                  refine g_goto (tgt := 179) ok dX10_worth_175 (by decide) ?_
                  exact g_iret ok dX10_worth_179 ⟨by first | (simp only [v_X10_t20, if_neg c2, if_neg c5, if_neg c6, if_neg c7, if_neg c8, if_neg c10, if_pos c12, if_pos c13]; done) | contradiction, rfl⟩
              · skip
                by_cases c14 : (cDI C 100 a) = 62
                · refine g_swIn (tgt := 180) ok (62) dX10_worth_24 (c14.trans (by decide)) (by decide) rfl (by decide) ?_
                  refine g_iload_n ok 1 dX10_worth_180 rfl ?_
                  refine g_iload_n ok 0 dX10_worth_181 rfl ?_
                  refine g_icmp_le (tgt := 189) ok dX10_worth_182 (by decide) (fun c15 => ?_) (fun c15 => ?_)
                  · refine g_iconst (v := 0) ok dX10_worth_189 (by decide) ?_
                    exact g_iret ok dX10_worth_190 ⟨by first | (simp only [v_X10_t20, if_neg c2, if_neg c5, if_neg c6, if_neg c7, if_neg c8, if_neg c10, if_neg c12, if_pos c14, if_pos c15]; done) | contradiction, rfl⟩
                  · refine g_iconst (v := 1) ok dX10_worth_185 (by decide) ?_
                    refine g_goto (tgt := 190) ok dX10_worth_186 (by decide) ?_
                    exact g_iret ok dX10_worth_190 ⟨by first | (simp only [v_X10_t20, if_neg c2, if_neg c5, if_neg c6, if_neg c7, if_neg c8, if_neg c10, if_neg c12, if_pos c14, if_neg c15]; done) | contradiction, rfl⟩
                · skip
                  by_cases c18 : (cDI C 100 a) = 39
                  · refine g_swIn (tgt := 205) ok (39) dX10_worth_24 (c18.trans (by decide)) (by decide) rfl (by decide) ?_
                    refine g_iload_n ok 1 dX10_worth_205 rfl ?_
                    refine g_if_ne (tgt := 213) ok dX10_worth_206 (by decide) (fun c16 => ?_) (fun c16 => ?_)
                    · refine g_iconst (v := 1) ok dX10_worth_213 (by decide) ?_
                      refine g_goto (tgt := 218) ok dX10_worth_214 (by decide) ?_
                      exact g_iret ok dX10_worth_218 ⟨by first | (simp only [v_X10_t20, if_neg c2, if_neg c5, if_neg c6, if_neg c7, if_neg c8, if_neg c10, if_neg c12, if_neg c14, if_neg c16]; done) | contradiction, rfl⟩
                    · refine g_iload_n ok 0 dX10_worth_209 rfl ?_
                      refine g_if_eq (tgt := 217) ok dX10_worth_210 (by decide) (fun c17 => ?_) (fun c17 => ?_)
                      · refine g_iconst (v := 0) ok dX10_worth_217 (by decide) ?_
                        exact g_iret ok dX10_worth_218 ⟨by first | (simp only [v_X10_t20, if_neg c2, if_neg c5, if_neg c6, if_neg c7, if_neg c8, if_neg c10, if_neg c12, if_neg c14, if_pos c16, if_pos c17]; done) | contradiction, rfl⟩
                      · refine g_iconst (v := 1) ok dX10_worth_213 (by decide) ?_
                        refine g_goto (tgt := 218) ok dX10_worth_214 (by decide) ?_
                        exact g_iret ok dX10_worth_218 ⟨by first | (simp only [v_X10_t20, if_neg c2, if_neg c5, if_neg c6, if_neg c7, if_neg c8, if_neg c10, if_neg c12, if_neg c14, if_pos c16, if_neg c17]; done) | contradiction, rfl⟩
                  · skip
                    by_cases c19 : (cDI C 100 a) = 40
                    · refine g_swIn (tgt := 205) ok (40) dX10_worth_24 (c19.trans (by decide)) (by decide) rfl (by decide) ?_
                      refine g_iload_n ok 1 dX10_worth_205 rfl ?_
                      refine g_if_ne (tgt := 213) ok dX10_worth_206 (by decide) (fun c16 => ?_) (fun c16 => ?_)
                      · refine g_iconst (v := 1) ok dX10_worth_213 (by decide) ?_
                        refine g_goto (tgt := 218) ok dX10_worth_214 (by decide) ?_
                        exact g_iret ok dX10_worth_218 ⟨by first | (simp only [v_X10_t20, if_neg c2, if_neg c5, if_neg c6, if_neg c7, if_neg c8, if_neg c10, if_neg c12, if_neg c14, if_neg c16]; done) | contradiction, rfl⟩
                      · refine g_iload_n ok 0 dX10_worth_209 rfl ?_
                        refine g_if_eq (tgt := 217) ok dX10_worth_210 (by decide) (fun c17 => ?_) (fun c17 => ?_)
                        · refine g_iconst (v := 0) ok dX10_worth_217 (by decide) ?_
                          exact g_iret ok dX10_worth_218 ⟨by first | (simp only [v_X10_t20, if_neg c2, if_neg c5, if_neg c6, if_neg c7, if_neg c8, if_neg c10, if_neg c12, if_neg c14, if_pos c16, if_pos c17]; done) | contradiction, rfl⟩
                        · refine g_iconst (v := 1) ok dX10_worth_213 (by decide) ?_
                          refine g_goto (tgt := 218) ok dX10_worth_214 (by decide) ?_
                          exact g_iret ok dX10_worth_218 ⟨by first | (simp only [v_X10_t20, if_neg c2, if_neg c5, if_neg c6, if_neg c7, if_neg c8, if_neg c10, if_neg c12, if_neg c14, if_pos c16, if_neg c17]; done) | contradiction, rfl⟩
                    · skip
                      by_cases c20 : (cDI C 100 a) = 41
                      · refine g_swIn (tgt := 205) ok (41) dX10_worth_24 (c20.trans (by decide)) (by decide) rfl (by decide) ?_
                        refine g_iload_n ok 1 dX10_worth_205 rfl ?_
                        refine g_if_ne (tgt := 213) ok dX10_worth_206 (by decide) (fun c16 => ?_) (fun c16 => ?_)
                        · refine g_iconst (v := 1) ok dX10_worth_213 (by decide) ?_
                          refine g_goto (tgt := 218) ok dX10_worth_214 (by decide) ?_
                          exact g_iret ok dX10_worth_218 ⟨by first | (simp only [v_X10_t20, if_neg c2, if_neg c5, if_neg c6, if_neg c7, if_neg c8, if_neg c10, if_neg c12, if_neg c14, if_neg c16]; done) | contradiction, rfl⟩
                        · refine g_iload_n ok 0 dX10_worth_209 rfl ?_
                          refine g_if_eq (tgt := 217) ok dX10_worth_210 (by decide) (fun c17 => ?_) (fun c17 => ?_)
                          · refine g_iconst (v := 0) ok dX10_worth_217 (by decide) ?_
                            exact g_iret ok dX10_worth_218 ⟨by first | (simp only [v_X10_t20, if_neg c2, if_neg c5, if_neg c6, if_neg c7, if_neg c8, if_neg c10, if_neg c12, if_neg c14, if_pos c16, if_pos c17]; done) | contradiction, rfl⟩
                          · refine g_iconst (v := 1) ok dX10_worth_213 (by decide) ?_
                            refine g_goto (tgt := 218) ok dX10_worth_214 (by decide) ?_
                            exact g_iret ok dX10_worth_218 ⟨by first | (simp only [v_X10_t20, if_neg c2, if_neg c5, if_neg c6, if_neg c7, if_neg c8, if_neg c10, if_neg c12, if_neg c14, if_pos c16, if_neg c17]; done) | contradiction, rfl⟩
                      · skip
                        by_cases c21 : (cDI C 100 a) = 44
                        · refine g_swIn (tgt := 205) ok (44) dX10_worth_24 (c21.trans (by decide)) (by decide) rfl (by decide) ?_
                          refine g_iload_n ok 1 dX10_worth_205 rfl ?_
                          refine g_if_ne (tgt := 213) ok dX10_worth_206 (by decide) (fun c16 => ?_) (fun c16 => ?_)
                          · refine g_iconst (v := 1) ok dX10_worth_213 (by decide) ?_
                            refine g_goto (tgt := 218) ok dX10_worth_214 (by decide) ?_
                            exact g_iret ok dX10_worth_218 ⟨by first | (simp only [v_X10_t20, if_neg c2, if_neg c5, if_neg c6, if_neg c7, if_neg c8, if_neg c10, if_neg c12, if_neg c14, if_neg c16]; done) | contradiction, rfl⟩
                          · refine g_iload_n ok 0 dX10_worth_209 rfl ?_
                            refine g_if_eq (tgt := 217) ok dX10_worth_210 (by decide) (fun c17 => ?_) (fun c17 => ?_)
                            · refine g_iconst (v := 0) ok dX10_worth_217 (by decide) ?_
                              exact g_iret ok dX10_worth_218 ⟨by first | (simp only [v_X10_t20, if_neg c2, if_neg c5, if_neg c6, if_neg c7, if_neg c8, if_neg c10, if_neg c12, if_neg c14, if_pos c16, if_pos c17]; done) | contradiction, rfl⟩
                            · refine g_iconst (v := 1) ok dX10_worth_213 (by decide) ?_
                              refine g_goto (tgt := 218) ok dX10_worth_214 (by decide) ?_
                              exact g_iret ok dX10_worth_218 ⟨by first | (simp only [v_X10_t20, if_neg c2, if_neg c5, if_neg c6, if_neg c7, if_neg c8, if_neg c10, if_neg c12, if_neg c14, if_pos c16, if_neg c17]; done) | contradiction, rfl⟩
                        · skip
                          by_cases c22 : (cDI C 100 a) = 46
                          · refine g_swIn (tgt := 205) ok (46) dX10_worth_24 (c22.trans (by decide)) (by decide) rfl (by decide) ?_
                            refine g_iload_n ok 1 dX10_worth_205 rfl ?_
                            refine g_if_ne (tgt := 213) ok dX10_worth_206 (by decide) (fun c16 => ?_) (fun c16 => ?_)
                            · refine g_iconst (v := 1) ok dX10_worth_213 (by decide) ?_
                              refine g_goto (tgt := 218) ok dX10_worth_214 (by decide) ?_
                              exact g_iret ok dX10_worth_218 ⟨by first | (simp only [v_X10_t20, if_neg c2, if_neg c5, if_neg c6, if_neg c7, if_neg c8, if_neg c10, if_neg c12, if_neg c14, if_neg c16]; done) | contradiction, rfl⟩
                            · refine g_iload_n ok 0 dX10_worth_209 rfl ?_
                              refine g_if_eq (tgt := 217) ok dX10_worth_210 (by decide) (fun c17 => ?_) (fun c17 => ?_)
                              · refine g_iconst (v := 0) ok dX10_worth_217 (by decide) ?_
                                exact g_iret ok dX10_worth_218 ⟨by first | (simp only [v_X10_t20, if_neg c2, if_neg c5, if_neg c6, if_neg c7, if_neg c8, if_neg c10, if_neg c12, if_neg c14, if_pos c16, if_pos c17]; done) | contradiction, rfl⟩
                              · refine g_iconst (v := 1) ok dX10_worth_213 (by decide) ?_
                                refine g_goto (tgt := 218) ok dX10_worth_214 (by decide) ?_
                                exact g_iret ok dX10_worth_218 ⟨by first | (simp only [v_X10_t20, if_neg c2, if_neg c5, if_neg c6, if_neg c7, if_neg c8, if_neg c10, if_neg c12, if_neg c14, if_pos c16, if_neg c17]; done) | contradiction, rfl⟩
                          · skip
                            by_cases c23 : (cDI C 100 a) = 48
                            · refine g_swIn (tgt := 205) ok (48) dX10_worth_24 (c23.trans (by decide)) (by decide) rfl (by decide) ?_
                              refine g_iload_n ok 1 dX10_worth_205 rfl ?_
                              refine g_if_ne (tgt := 213) ok dX10_worth_206 (by decide) (fun c16 => ?_) (fun c16 => ?_)
                              · refine g_iconst (v := 1) ok dX10_worth_213 (by decide) ?_
                                refine g_goto (tgt := 218) ok dX10_worth_214 (by decide) ?_
                                exact g_iret ok dX10_worth_218 ⟨by first | (simp only [v_X10_t20, if_neg c2, if_neg c5, if_neg c6, if_neg c7, if_neg c8, if_neg c10, if_neg c12, if_neg c14, if_neg c16]; done) | contradiction, rfl⟩
                              · refine g_iload_n ok 0 dX10_worth_209 rfl ?_
                                refine g_if_eq (tgt := 217) ok dX10_worth_210 (by decide) (fun c17 => ?_) (fun c17 => ?_)
                                · refine g_iconst (v := 0) ok dX10_worth_217 (by decide) ?_
                                  exact g_iret ok dX10_worth_218 ⟨by first | (simp only [v_X10_t20, if_neg c2, if_neg c5, if_neg c6, if_neg c7, if_neg c8, if_neg c10, if_neg c12, if_neg c14, if_pos c16, if_pos c17]; done) | contradiction, rfl⟩
                                · refine g_iconst (v := 1) ok dX10_worth_213 (by decide) ?_
                                  refine g_goto (tgt := 218) ok dX10_worth_214 (by decide) ?_
                                  exact g_iret ok dX10_worth_218 ⟨by first | (simp only [v_X10_t20, if_neg c2, if_neg c5, if_neg c6, if_neg c7, if_neg c8, if_neg c10, if_neg c12, if_neg c14, if_pos c16, if_neg c17]; done) | contradiction, rfl⟩
                            · skip
                              by_cases c24 : (cDI C 100 a) = 49
                              · refine g_swIn (tgt := 205) ok (49) dX10_worth_24 (c24.trans (by decide)) (by decide) rfl (by decide) ?_
                                refine g_iload_n ok 1 dX10_worth_205 rfl ?_
                                refine g_if_ne (tgt := 213) ok dX10_worth_206 (by decide) (fun c16 => ?_) (fun c16 => ?_)
                                · refine g_iconst (v := 1) ok dX10_worth_213 (by decide) ?_
                                  refine g_goto (tgt := 218) ok dX10_worth_214 (by decide) ?_
                                  exact g_iret ok dX10_worth_218 ⟨by first | (simp only [v_X10_t20, if_neg c2, if_neg c5, if_neg c6, if_neg c7, if_neg c8, if_neg c10, if_neg c12, if_neg c14, if_neg c16]; done) | contradiction, rfl⟩
                                · refine g_iload_n ok 0 dX10_worth_209 rfl ?_
                                  refine g_if_eq (tgt := 217) ok dX10_worth_210 (by decide) (fun c17 => ?_) (fun c17 => ?_)
                                  · refine g_iconst (v := 0) ok dX10_worth_217 (by decide) ?_
                                    exact g_iret ok dX10_worth_218 ⟨by first | (simp only [v_X10_t20, if_neg c2, if_neg c5, if_neg c6, if_neg c7, if_neg c8, if_neg c10, if_neg c12, if_neg c14, if_pos c16, if_pos c17]; done) | contradiction, rfl⟩
                                  · refine g_iconst (v := 1) ok dX10_worth_213 (by decide) ?_
                                    refine g_goto (tgt := 218) ok dX10_worth_214 (by decide) ?_
                                    exact g_iret ok dX10_worth_218 ⟨by first | (simp only [v_X10_t20, if_neg c2, if_neg c5, if_neg c6, if_neg c7, if_neg c8, if_neg c10, if_neg c12, if_neg c14, if_pos c16, if_neg c17]; done) | contradiction, rfl⟩
                              · skip
                                by_cases c25 : (cDI C 100 a) = 50
                                · refine g_swIn (tgt := 205) ok (50) dX10_worth_24 (c25.trans (by decide)) (by decide) rfl (by decide) ?_
                                  refine g_iload_n ok 1 dX10_worth_205 rfl ?_
                                  refine g_if_ne (tgt := 213) ok dX10_worth_206 (by decide) (fun c16 => ?_) (fun c16 => ?_)
                                  · refine g_iconst (v := 1) ok dX10_worth_213 (by decide) ?_
                                    refine g_goto (tgt := 218) ok dX10_worth_214 (by decide) ?_
                                    exact g_iret ok dX10_worth_218 ⟨by first | (simp only [v_X10_t20, if_neg c2, if_neg c5, if_neg c6, if_neg c7, if_neg c8, if_neg c10, if_neg c12, if_neg c14, if_neg c16]; done) | contradiction, rfl⟩
                                  · refine g_iload_n ok 0 dX10_worth_209 rfl ?_
                                    refine g_if_eq (tgt := 217) ok dX10_worth_210 (by decide) (fun c17 => ?_) (fun c17 => ?_)
                                    · refine g_iconst (v := 0) ok dX10_worth_217 (by decide) ?_
                                      exact g_iret ok dX10_worth_218 ⟨by first | (simp only [v_X10_t20, if_neg c2, if_neg c5, if_neg c6, if_neg c7, if_neg c8, if_neg c10, if_neg c12, if_neg c14, if_pos c16, if_pos c17]; done) | contradiction, rfl⟩
                                    · refine g_iconst (v := 1) ok dX10_worth_213 (by decide) ?_
                                      refine g_goto (tgt := 218) ok dX10_worth_214 (by decide) ?_
                                      exact g_iret ok dX10_worth_218 ⟨by first | (simp only [v_X10_t20, if_neg c2, if_neg c5, if_neg c6, if_neg c7, if_neg c8, if_neg c10, if_neg c12, if_neg c14, if_pos c16, if_neg c17]; done) | contradiction, rfl⟩
                                · skip
                                  by_cases c26 : (cDI C 100 a) = 51
                                  · refine g_swIn (tgt := 205) ok (51) dX10_worth_24 (c26.trans (by decide)) (by decide) rfl (by decide) ?_
                                    refine g_iload_n ok 1 dX10_worth_205 rfl ?_
                                    refine g_if_ne (tgt := 213) ok dX10_worth_206 (by decide) (fun c16 => ?_) (fun c16 => ?_)
                                    · refine g_iconst (v := 1) ok dX10_worth_213 (by decide) ?_
                                      refine g_goto (tgt := 218) ok dX10_worth_214 (by decide) ?_
                                      exact g_iret ok dX10_worth_218 ⟨by first | (simp only [v_X10_t20, if_neg c2, if_neg c5, if_neg c6, if_neg c7, if_neg c8, if_neg c10, if_neg c12, if_neg c14, if_neg c16]; done) | contradiction, rfl⟩
                                    · refine g_iload_n ok 0 dX10_worth_209 rfl ?_
                                      refine g_if_eq (tgt := 217) ok dX10_worth_210 (by decide) (fun c17 => ?_) (fun c17 => ?_)
                                      · refine g_iconst (v := 0) ok dX10_worth_217 (by decide) ?_
                                        exact g_iret ok dX10_worth_218 ⟨by first | (simp only [v_X10_t20, if_neg c2, if_neg c5, if_neg c6, if_neg c7, if_neg c8, if_neg c10, if_neg c12, if_neg c14, if_pos c16, if_pos c17]; done) | contradiction, rfl⟩
                                      · refine g_iconst (v := 1) ok dX10_worth_213 (by decide) ?_
                                        refine g_goto (tgt := 218) ok dX10_worth_214 (by decide) ?_
                                        exact g_iret ok dX10_worth_218 ⟨by first | (simp only [v_X10_t20, if_neg c2, if_neg c5, if_neg c6, if_neg c7, if_neg c8, if_neg c10, if_neg c12, if_neg c14, if_pos c16, if_neg c17]; done) | contradiction, rfl⟩
                                  · skip
                                    by_cases c27 : (cDI C 100 a) = 52
                                    · refine g_swIn (tgt := 205) ok (52) dX10_worth_24 (c27.trans (by decide)) (by decide) rfl (by decide) ?_
                                      refine g_iload_n ok 1 dX10_worth_205 rfl ?_
                                      refine g_if_ne (tgt := 213) ok dX10_worth_206 (by decide) (fun c16 => ?_) (fun c16 => ?_)
                                      · refine g_iconst (v := 1) ok dX10_worth_213 (by decide) ?_
                                        refine g_goto (tgt := 218) ok dX10_worth_214 (by decide) ?_
                                        exact g_iret ok dX10_worth_218 ⟨by first | (simp only [v_X10_t20, if_neg c2, if_neg c5, if_neg c6, if_neg c7, if_neg c8, if_neg c10, if_neg c12, if_neg c14, if_neg c16]; done) | contradiction, rfl⟩
                                      · refine g_iload_n ok 0 dX10_worth_209 rfl ?_
                                        refine g_if_eq (tgt := 217) ok dX10_worth_210 (by decide) (fun c17 => ?_) (fun c17 => ?_)
                                        · refine g_iconst (v := 0) ok dX10_worth_217 (by decide) ?_
                                          exact g_iret ok dX10_worth_218 ⟨by first | (simp only [v_X10_t20, if_neg c2, if_neg c5, if_neg c6, if_neg c7, if_neg c8, if_neg c10, if_neg c12, if_neg c14, if_pos c16, if_pos c17]; done) | contradiction, rfl⟩
                                        · refine g_iconst (v := 1) ok dX10_worth_213 (by decide) ?_
                                          refine g_goto (tgt := 218) ok dX10_worth_214 (by decide) ?_
                                          exact g_iret ok dX10_worth_218 ⟨by first | (simp only [v_X10_t20, if_neg c2, if_neg c5, if_neg c6, if_neg c7, if_neg c8, if_neg c10, if_neg c12, if_neg c14, if_pos c16, if_neg c17]; done) | contradiction, rfl⟩
                                    · skip
                                      by_cases c28 : (cDI C 100 a) = 53
                                      · refine g_swIn (tgt := 205) ok (53) dX10_worth_24 (c28.trans (by decide)) (by decide) rfl (by decide) ?_
                                        refine g_iload_n ok 1 dX10_worth_205 rfl ?_
                                        refine g_if_ne (tgt := 213) ok dX10_worth_206 (by decide) (fun c16 => ?_) (fun c16 => ?_)
                                        · refine g_iconst (v := 1) ok dX10_worth_213 (by decide) ?_
                                          refine g_goto (tgt := 218) ok dX10_worth_214 (by decide) ?_
                                          exact g_iret ok dX10_worth_218 ⟨by first | (simp only [v_X10_t20, if_neg c2, if_neg c5, if_neg c6, if_neg c7, if_neg c8, if_neg c10, if_neg c12, if_neg c14, if_neg c16]; done) | contradiction, rfl⟩
                                        · refine g_iload_n ok 0 dX10_worth_209 rfl ?_
                                          refine g_if_eq (tgt := 217) ok dX10_worth_210 (by decide) (fun c17 => ?_) (fun c17 => ?_)
                                          · refine g_iconst (v := 0) ok dX10_worth_217 (by decide) ?_
                                            exact g_iret ok dX10_worth_218 ⟨by first | (simp only [v_X10_t20, if_neg c2, if_neg c5, if_neg c6, if_neg c7, if_neg c8, if_neg c10, if_neg c12, if_neg c14, if_pos c16, if_pos c17]; done) | contradiction, rfl⟩
                                          · refine g_iconst (v := 1) ok dX10_worth_213 (by decide) ?_
                                            refine g_goto (tgt := 218) ok dX10_worth_214 (by decide) ?_
                                            exact g_iret ok dX10_worth_218 ⟨by first | (simp only [v_X10_t20, if_neg c2, if_neg c5, if_neg c6, if_neg c7, if_neg c8, if_neg c10, if_neg c12, if_neg c14, if_pos c16, if_neg c17]; done) | contradiction, rfl⟩
                                      · skip
                                        by_cases c29 : (cDI C 100 a) = 54
                                        · refine g_swIn (tgt := 205) ok (54) dX10_worth_24 (c29.trans (by decide)) (by decide) rfl (by decide) ?_
                                          refine g_iload_n ok 1 dX10_worth_205 rfl ?_
                                          refine g_if_ne (tgt := 213) ok dX10_worth_206 (by decide) (fun c16 => ?_) (fun c16 => ?_)
                                          · refine g_iconst (v := 1) ok dX10_worth_213 (by decide) ?_
                                            refine g_goto (tgt := 218) ok dX10_worth_214 (by decide) ?_
                                            exact g_iret ok dX10_worth_218 ⟨by first | (simp only [v_X10_t20, if_neg c2, if_neg c5, if_neg c6, if_neg c7, if_neg c8, if_neg c10, if_neg c12, if_neg c14, if_neg c16]; done) | contradiction, rfl⟩
                                          · refine g_iload_n ok 0 dX10_worth_209 rfl ?_
                                            refine g_if_eq (tgt := 217) ok dX10_worth_210 (by decide) (fun c17 => ?_) (fun c17 => ?_)
                                            · refine g_iconst (v := 0) ok dX10_worth_217 (by decide) ?_
                                              exact g_iret ok dX10_worth_218 ⟨by first | (simp only [v_X10_t20, if_neg c2, if_neg c5, if_neg c6, if_neg c7, if_neg c8, if_neg c10, if_neg c12, if_neg c14, if_pos c16, if_pos c17]; done) | contradiction, rfl⟩
                                            · refine g_iconst (v := 1) ok dX10_worth_213 (by decide) ?_
                                              refine g_goto (tgt := 218) ok dX10_worth_214 (by decide) ?_
                                              exact g_iret ok dX10_worth_218 ⟨by first | (simp only [v_X10_t20, if_neg c2, if_neg c5, if_neg c6, if_neg c7, if_neg c8, if_neg c10, if_neg c12, if_neg c14, if_pos c16, if_neg c17]; done) | contradiction, rfl⟩
                                        · skip
                                          by_cases c30 : (cDI C 100 a) = 55
                                          · refine g_swIn (tgt := 205) ok (55) dX10_worth_24 (c30.trans (by decide)) (by decide) rfl (by decide) ?_
                                            refine g_iload_n ok 1 dX10_worth_205 rfl ?_
                                            refine g_if_ne (tgt := 213) ok dX10_worth_206 (by decide) (fun c16 => ?_) (fun c16 => ?_)
                                            · refine g_iconst (v := 1) ok dX10_worth_213 (by decide) ?_
                                              refine g_goto (tgt := 218) ok dX10_worth_214 (by decide) ?_
                                              exact g_iret ok dX10_worth_218 ⟨by first | (simp only [v_X10_t20, if_neg c2, if_neg c5, if_neg c6, if_neg c7, if_neg c8, if_neg c10, if_neg c12, if_neg c14, if_neg c16]; done) | contradiction, rfl⟩
                                            · refine g_iload_n ok 0 dX10_worth_209 rfl ?_
                                              refine g_if_eq (tgt := 217) ok dX10_worth_210 (by decide) (fun c17 => ?_) (fun c17 => ?_)
                                              · refine g_iconst (v := 0) ok dX10_worth_217 (by decide) ?_
                                                exact g_iret ok dX10_worth_218 ⟨by first | (simp only [v_X10_t20, if_neg c2, if_neg c5, if_neg c6, if_neg c7, if_neg c8, if_neg c10, if_neg c12, if_neg c14, if_pos c16, if_pos c17]; done) | contradiction, rfl⟩
                                              · refine g_iconst (v := 1) ok dX10_worth_213 (by decide) ?_
                                                refine g_goto (tgt := 218) ok dX10_worth_214 (by decide) ?_
                                                exact g_iret ok dX10_worth_218 ⟨by first | (simp only [v_X10_t20, if_neg c2, if_neg c5, if_neg c6, if_neg c7, if_neg c8, if_neg c10, if_neg c12, if_neg c14, if_pos c16, if_neg c17]; done) | contradiction, rfl⟩
                                          · skip
                                            by_cases c31 : (cDI C 100 a) = 56
                                            · refine g_swIn (tgt := 205) ok (56) dX10_worth_24 (c31.trans (by decide)) (by decide) rfl (by decide) ?_
                                              refine g_iload_n ok 1 dX10_worth_205 rfl ?_
                                              refine g_if_ne (tgt := 213) ok dX10_worth_206 (by decide) (fun c16 => ?_) (fun c16 => ?_)
                                              · refine g_iconst (v := 1) ok dX10_worth_213 (by decide) ?_
                                                refine g_goto (tgt := 218) ok dX10_worth_214 (by decide) ?_
                                                exact g_iret ok dX10_worth_218 ⟨by first | (simp only [v_X10_t20, if_neg c2, if_neg c5, if_neg c6, if_neg c7, if_neg c8, if_neg c10, if_neg c12, if_neg c14, if_neg c16]; done) | contradiction, rfl⟩
                                              · refine g_iload_n ok 0 dX10_worth_209 rfl ?_
                                                refine g_if_eq (tgt := 217) ok dX10_worth_210 (by decide) (fun c17 => ?_) (fun c17 => ?_)
                                                · refine g_iconst (v := 0) ok dX10_worth_217 (by decide) ?_
                                                  exact g_iret ok dX10_worth_218 ⟨by first | (simp only [v_X10_t20, if_neg c2, if_neg c5, if_neg c6, if_neg c7, if_neg c8, if_neg c10, if_neg c12, if_neg c14, if_pos c16, if_pos c17]; done) | contradiction, rfl⟩
                                                · refine g_iconst (v := 1) ok dX10_worth_213 (by decide) ?_
                                                  refine g_goto (tgt := 218) ok dX10_worth_214 (by decide) ?_
                                                  exact g_iret ok dX10_worth_218 ⟨by first | (simp only [v_X10_t20, if_neg c2, if_neg c5, if_neg c6, if_neg c7, if_neg c8, if_neg c10, if_neg c12, if_neg c14, if_pos c16, if_neg c17]; done) | contradiction, rfl⟩
                                            · skip
                                              by_cases c32 : (cDI C 100 a) = 57
                                              · refine g_swIn (tgt := 205) ok (57) dX10_worth_24 (c32.trans (by decide)) (by decide) rfl (by decide) ?_
                                                refine g_iload_n ok 1 dX10_worth_205 rfl ?_
                                                refine g_if_ne (tgt := 213) ok dX10_worth_206 (by decide) (fun c16 => ?_) (fun c16 => ?_)
                                                · refine g_iconst (v := 1) ok dX10_worth_213 (by decide) ?_
                                                  refine g_goto (tgt := 218) ok dX10_worth_214 (by decide) ?_
                                                  exact g_iret ok dX10_worth_218 ⟨by first | (simp only [v_X10_t20, if_neg c2, if_neg c5, if_neg c6, if_neg c7, if_neg c8, if_neg c10, if_neg c12, if_neg c14, if_neg c16]; done) | contradiction, rfl⟩
                                                · refine g_iload_n ok 0 dX10_worth_209 rfl ?_
                                                  refine g_if_eq (tgt := 217) ok dX10_worth_210 (by decide) (fun c17 => ?_) (fun c17 => ?_)
                                                  · refine g_iconst (v := 0) ok dX10_worth_217 (by decide) ?_
                                                    exact g_iret ok dX10_worth_218 ⟨by first | (simp only [v_X10_t20, if_neg c2, if_neg c5, if_neg c6, if_neg c7, if_neg c8, if_neg c10, if_neg c12, if_neg c14, if_pos c16, if_pos c17]; done) | contradiction, rfl⟩
                                                  · refine g_iconst (v := 1) ok dX10_worth_213 (by decide) ?_
                                                    refine g_goto (tgt := 218) ok dX10_worth_214 (by decide) ?_
                                                    exact g_iret ok dX10_worth_218 ⟨by first | (simp only [v_X10_t20, if_neg c2, if_neg c5, if_neg c6, if_neg c7, if_neg c8, if_neg c10, if_neg c12, if_neg c14, if_pos c16, if_neg c17]; done) | contradiction, rfl⟩
                                              · skip
                                                by_cases c33 : (cDI C 100 a) = 58
                                                · refine g_swIn (tgt := 205) ok (58) dX10_worth_24 (c33.trans (by decide)) (by decide) rfl (by decide) ?_
                                                  refine g_iload_n ok 1 dX10_worth_205 rfl ?_
                                                  refine g_if_ne (tgt := 213) ok dX10_worth_206 (by decide) (fun c16 => ?_) (fun c16 => ?_)
                                                  · refine g_iconst (v := 1) ok dX10_worth_213 (by decide) ?_
                                                    refine g_goto (tgt := 218) ok dX10_worth_214 (by decide) ?_
                                                    exact g_iret ok dX10_worth_218 ⟨by first | (simp only [v_X10_t20, if_neg c2, if_neg c5, if_neg c6, if_neg c7, if_neg c8, if_neg c10, if_neg c12, if_neg c14, if_neg c16]; done) | contradiction, rfl⟩
                                                  · refine g_iload_n ok 0 dX10_worth_209 rfl ?_
                                                    refine g_if_eq (tgt := 217) ok dX10_worth_210 (by decide) (fun c17 => ?_) (fun c17 => ?_)
                                                    · refine g_iconst (v := 0) ok dX10_worth_217 (by decide) ?_
                                                      exact g_iret ok dX10_worth_218 ⟨by first | (simp only [v_X10_t20, if_neg c2, if_neg c5, if_neg c6, if_neg c7, if_neg c8, if_neg c10, if_neg c12, if_neg c14, if_pos c16, if_pos c17]; done) | contradiction, rfl⟩
                                                    · refine g_iconst (v := 1) ok dX10_worth_213 (by decide) ?_
                                                      refine g_goto (tgt := 218) ok dX10_worth_214 (by decide) ?_
                                                      exact g_iret ok dX10_worth_218 ⟨by first | (simp only [v_X10_t20, if_neg c2, if_neg c5, if_neg c6, if_neg c7, if_neg c8, if_neg c10, if_neg c12, if_neg c14, if_pos c16, if_neg c17]; done) | contradiction, rfl⟩
                                                · skip
                                                  by_cases c34 : (cDI C 100 a) = 59
                                                  · refine g_swIn (tgt := 205) ok (59) dX10_worth_24 (c34.trans (by decide)) (by decide) rfl (by decide) ?_
                                                    refine g_iload_n ok 1 dX10_worth_205 rfl ?_
                                                    refine g_if_ne (tgt := 213) ok dX10_worth_206 (by decide) (fun c16 => ?_) (fun c16 => ?_)
                                                    · refine g_iconst (v := 1) ok dX10_worth_213 (by decide) ?_
                                                      refine g_goto (tgt := 218) ok dX10_worth_214 (by decide) ?_
                                                      exact g_iret ok dX10_worth_218 ⟨by first | (simp only [v_X10_t20, if_neg c2, if_neg c5, if_neg c6, if_neg c7, if_neg c8, if_neg c10, if_neg c12, if_neg c14, if_neg c16]; done) | contradiction, rfl⟩
                                                    · refine g_iload_n ok 0 dX10_worth_209 rfl ?_
                                                      refine g_if_eq (tgt := 217) ok dX10_worth_210 (by decide) (fun c17 => ?_) (fun c17 => ?_)
                                                      · refine g_iconst (v := 0) ok dX10_worth_217 (by decide) ?_
                                                        exact g_iret ok dX10_worth_218 ⟨by first | (simp only [v_X10_t20, if_neg c2, if_neg c5, if_neg c6, if_neg c7, if_neg c8, if_neg c10, if_neg c12, if_neg c14, if_pos c16, if_pos c17]; done) | contradiction, rfl⟩
                                                      · refine g_iconst (v := 1) ok dX10_worth_213 (by decide) ?_
                                                        refine g_goto (tgt := 218) ok dX10_worth_214 (by decide) ?_
                                                        exact g_iret ok dX10_worth_218 ⟨by first | (simp only [v_X10_t20, if_neg c2, if_neg c5, if_neg c6, if_neg c7, if_neg c8, if_neg c10, if_neg c12, if_neg c14, if_pos c16, if_neg c17]; done) | contradiction, rfl⟩
                                                  · skip
                                                    refine g_swOut (tgt := 205) ok dX10_worth_24 (fun k k1 k2 => ?_) (by decide) ?_
                                                    · rcases (show k = 38 ∨ k = 39 ∨ k = 40 ∨ k = 41 ∨ k = 42 ∨ k = 43 ∨ k = 44 ∨ k = 45 ∨ k = 46 ∨ k = 47 ∨ k = 48 ∨ k = 49 ∨ k = 50 ∨ k = 51 ∨ k = 52 ∨ k = 53 ∨ k = 54 ∨ k = 55 ∨ k = 56 ∨ k = 57 ∨ k = 58 ∨ k = 59 ∨ k = 60 ∨ k = 61 ∨ k = 62 by omega) with rfl | rfl | rfl | rfl | rfl | rfl | rfl | rfl | rfl | rfl | rfl | rfl | rfl | rfl | rfl | rfl | rfl | rfl | rfl | rfl | rfl | rfl | rfl | rfl | rfl
                                                      · exact fun h => c2 (h.trans (by decide))
                                                      · exact fun h => c18 (h.trans (by decide))
                                                      · exact fun h => c19 (h.trans (by decide))
                                                      · exact fun h => c20 (h.trans (by decide))
                                                      · exact fun h => c5 (h.trans (by decide))
                                                      · exact fun h => c6 (h.trans (by decide))
                                                      · exact fun h => c21 (h.trans (by decide))
                                                      · exact fun h => c7 (h.trans (by decide))
                                                      · exact fun h => c22 (h.trans (by decide))
                                                      · exact fun h => c8 (h.trans (by decide))
                                                      · exact fun h => c23 (h.trans (by decide))
                                                      · exact fun h => c24 (h.trans (by decide))
                                                      · exact fun h => c25 (h.trans (by decide))
                                                      · exact fun h => c26 (h.trans (by decide))
                                                      · exact fun h => c27 (h.trans (by decide))
                                                      · exact fun h => c28 (h.trans (by decide))
                                                      · exact fun h => c29 (h.trans (by decide))
                                                      · exact fun h => c30 (h.trans (by decide))
                                                      · exact fun h => c31 (h.trans (by decide))
                                                      · exact fun h => c32 (h.trans (by decide))
                                                      · exact fun h => c33 (h.trans (by decide))
                                                      · exact fun h => c34 (h.trans (by decide))
                                                      · exact fun h => c10 (h.trans (by decide))
                                                      · exact fun h => c12 (h.trans (by decide))
                                                      · exact fun h => c14 (h.trans (by decide))
                                                    · refine g_iload_n ok 1 dX10_worth_205 rfl ?_
                                                      refine g_if_ne (tgt := 213) ok dX10_worth_206 (by decide) (fun c16 => ?_) (fun c16 => ?_)
                                                      · refine g_iconst (v := 1) ok dX10_worth_213 (by decide) ?_
                                                        refine g_goto (tgt := 218) ok dX10_worth_214 (by decide) ?_
                                                        exact g_iret ok dX10_worth_218 ⟨by first | (simp only [v_X10_t20, if_neg c2, if_neg c5, if_neg c6, if_neg c7, if_neg c8, if_neg c10, if_neg c12, if_neg c14, if_neg c16]; done) | contradiction, rfl⟩
                                                      · refine g_iload_n ok 0 dX10_worth_209 rfl ?_
                                                        refine g_if_eq (tgt := 217) ok dX10_worth_210 (by decide) (fun c17 => ?_) (fun c17 => ?_)
                                                        · refine g_iconst (v := 0) ok dX10_worth_217 (by decide) ?_
                                                          exact g_iret ok dX10_worth_218 ⟨by first | (simp only [v_X10_t20, if_neg c2, if_neg c5, if_neg c6, if_neg c7, if_neg c8, if_neg c10, if_neg c12, if_neg c14, if_pos c16, if_pos c17]; done) | contradiction, rfl⟩
                                                        · refine g_iconst (v := 1) ok dX10_worth_213 (by decide) ?_
                                                          refine g_goto (tgt := 218) ok dX10_worth_214 (by decide) ?_
                                                          exact g_iret ok dX10_worth_218 ⟨by first | (simp only [v_X10_t20, if_neg c2, if_neg c5, if_neg c6, if_neg c7, if_neg c8, if_neg c10, if_neg c12, if_neg c14, if_pos c16, if_neg c17]; done) | contradiction, rfl⟩
theorem cfF_Worth_X12_worth_Plain : CfF ⟨"TwoGuilds$Worth", "worth", "()I"⟩ yX12_worth "TwoGuilds$Plain" cX12_worth 1 (some .int) 0 := ⟨⟨by decide, by decide, by decide⟩, q95, q725, q723, q721, q705, q704, q724, q722, q720⟩
theorem cfF_Worth_X13_worth_Name : CfF ⟨"TwoGuilds$Worth", "worth", "()I"⟩ yX13_worth "TwoGuilds$Name" cX13_worth 1 (some .int) 0 := ⟨⟨by decide, by decide, by decide⟩, q96, q711, q709, q707, q705, q704, q710, q708, q706⟩
theorem cfF_Worth_X14_worth_Not : CfF ⟨"TwoGuilds$Worth", "worth", "()I"⟩ yX14_worth "TwoGuilds$Not" cX14_worth 1 (some .int) 0 := ⟨⟨by decide, by decide, by decide⟩, q97, q717, q715, q713, q705, q704, q716, q714, q712⟩
theorem cfF_Worth_X10_worth_Two : CfF ⟨"TwoGuilds$Worth", "worth", "()I"⟩ yX10_worth "TwoGuilds$Two" cX10_worth 3 (some .int) 0 := ⟨⟨by decide, by decide, by decide⟩, q88, q731, q729, q727, q705, q704, q730, q728, q726⟩
/-- a's worth, asked through the interface, is v; it nests at most L deep -/
def WFm (w : WD) (l : Launch) (C : CS) (a L : Nat) (v : Int32) : Prop := ∃ (c n : Nat) (cn : String) (T : u_T) (N : Nat) (y : MethodName) (code : ByteArray) (nL2 L0 : Nat), C.2.2.2.2.2.1 a = some (c, n) ∧ c < 50 ∧ cls[c]? = some (cn, T, N) ∧ CfF ⟨"TwoGuilds$Worth", "worth", "()I"⟩ y cn code nL2 (some .int) 0 ∧ nL2 ≤ 3 ∧ L0 ≤ L ∧ MC w l y code nL2 (some .int) L0 0 0 [.ref a] C (pI v C)
section WF
variable {w : WD} {x : Cx} {cc : ByteArray} {nL : Nat} {own : String} {ret : Option FieldType} {rm : Room} {cells slots : Nat} {Q : State → Prop} {C : CS} {pc : Nat} {lv : List (Nat × Value)} {rest : List Value} {a L idx : Nat} {v : Int32}
theorem g_WF (ok : Ok w x cc nL own ret rm) (h : WFm w (xL x) C a L v) (ql : Cond.methodLink own idx ⟨"TwoGuilds$Worth", "worth", "()I"⟩ ∈ lw_all) (hR : L + 1 ≤ rm.frames ∧ 22 + 40 * L ≤ rm.locals) (hw : (rest.map fun v => v.category).sum ≤ 8) (hcap : cells ≤ rm.cells ∧ slots ≤ rm.slots) {count : Nat} (d : decode cc pc = .ok (.invokeinterface idx count, 5))
    (k : G w x nL cells slots Q C (pc + 5) lv (.int v :: rest)) : G w x nL cells slots Q C pc lv (.ref a :: rest) := by
  obtain ⟨c, n, cn, T, N, y, code, nL2, L0, h1, h2, h3, h4, h5, h6, h7⟩ := h
  obtain ⟨r1, r2⟩ := hR
  exact g_callF ok [] h4 ql h7 (classAtD ok h3) (recvD ok h1 h2 h3) rfl rfl hw ⟨by omega, by omega⟩ hcap d (resI k)
end WF
theorem mc_X14_worth {w : WD} (wk : wOk w) (l : Launch) (C : CS) (a b L : Nat) (v : Int32) (ha : isDy C 13 a) (hb : C.2.2.2.2.2.2.2.1 130 a = some b) (h : WFm w l C b L v) : MC w l yX14_worth cX14_worth 1 (some .int) (L + 1) 0 0 [.ref a] C (pI (v_X14_t9 a v) C) := by
  refine MC.of wk (by decide) (Nat.le_of_ble_eq_true rfl) (fun x hx ok => ?_)
  subst hx
  show G w x 1 0 0 (QM w x _ 0 0) C 0 [(0, .ref a)] []
  refine g_aload_n ok 0 dX14_worth_0 rfl ?_
  refine g_dgetE ok ha (by decide) rfl in_X14 0 (by decide) (v := .ref b) q1095 (by show va_rf _ = _; rw [hb]; rfl) dX14_worth_1 ?_
  refine g_WF ok h q719 ⟨by show L + 1 ≤ L + 1; omega, by show 22 + 40 * L ≤ 40 * (L + 1); omega⟩ (Nat.le_of_ble_eq_true rfl) ⟨Nat.le_refl 0, Nat.le_refl 0⟩ dX14_worth_4 ?_
  exact gt_X14_t9 ok C a v
theorem mc_X10_worth {w : WD} (wk : wOk w) (l : Launch) (C : CS) (a b1 b2 L : Nat) (z y : Int32) (ha : isDy C 10 a) (hb1 : C.2.2.2.2.2.2.2.1 101 a = some b1) (hb2 : C.2.2.2.2.2.2.2.1 102 a = some b2) (h1 : WFm w l C b1 L z) (h2 : WFm w l C b2 L y) : MC w l yX10_worth cX10_worth 3 (some .int) (L + 1) 0 0 [.ref a] C (pI (v_X10_t20 C a z y) C) := by
  refine MC.of wk (by decide) (Nat.le_of_ble_eq_true rfl) (fun x hx ok => ?_)
  subst hx
  show G w x 3 0 0 (QM w x _ 0 0) C 0 [(0, .ref a)] []
  refine g_aload_n ok 0 dX10_worth_0 rfl ?_
  refine g_dgetE ok ha (by decide) rfl in_X10 1 (by decide) (v := .ref b1) q1106 (by show va_rf _ = _; rw [hb1]; rfl) dX10_worth_1 ?_
  refine g_WF ok h1 q733 ⟨by show L + 1 ≤ L + 1; omega, by show 22 + 40 * L ≤ 40 * (L + 1); omega⟩ (Nat.le_of_ble_eq_true rfl) ⟨Nat.le_refl 0, Nat.le_refl 0⟩ dX10_worth_4 ?_
  refine g_istore_n0 ok [(1, .int z), (0, .ref a)] dX10_worth_9 (by decide) rfl ?_
  refine g_aload_n ok 1 dX10_worth_10 rfl ?_
  refine g_dgetE ok ha (by decide) rfl in_X10 2 (by decide) (v := .ref b2) q1107 (by show va_rf _ = _; rw [hb2]; rfl) dX10_worth_11 ?_
  refine g_WF ok h2 q733 ⟨by show L + 1 ≤ L + 1; omega, by show 22 + 40 * L ≤ 40 * (L + 1); omega⟩ (Nat.le_of_ble_eq_true rfl) ⟨Nat.le_refl 0, Nat.le_refl 0⟩ dX10_worth_14 ?_
  refine g_istore_n0 ok [(2, .int y), (1, .int z), (0, .ref a)] dX10_worth_19 (by decide) rfl ?_
  exact gt_X10_t20 ok C a z y (by simp only [p_X10_t20, p_X10_over]; simp [ha])
/-- the sign of a sign's letter -/
def sgI (s : Int32) : Int32 := v_X3_signHere (tokW 3 s)
theorem sgI_eq (s : Int32) : sgI s = if s = 38 then -2 else if s = 42 then -8 else if s = 43 then -6 else if s = 45 then -7 else if s = 47 then -9 else if s = 60 then -3 else if s = 61 then -4 else if s = 62 then -5 else if s = 124 then -1 else 0 := by
  unfold sgI v_X3_signHere
  rfl
theorem sgI_is {s : Int32} (h : ¬ sgI s = 0) : s = 38 ∨ s = 42 ∨ s = 43 ∨ s = 45 ∨ s = 47 ∨ s = 60 ∨ s = 61 ∨ s = 62 ∨ s = 124 := by
  rw [sgI_eq] at h
  by_cases h1 : s = 38
  · exact Or.inl h1
  · by_cases h2 : s = 42
    · exact Or.inr (Or.inl h2)
    · by_cases h3 : s = 43
      · exact Or.inr (Or.inr (Or.inl h3))
      · by_cases h4 : s = 45
        · exact Or.inr (Or.inr (Or.inr (Or.inl h4)))
        · by_cases h5 : s = 47
          · exact Or.inr (Or.inr (Or.inr (Or.inr (Or.inl h5))))
          · by_cases h6 : s = 60
            · exact Or.inr (Or.inr (Or.inr (Or.inr (Or.inr (Or.inl h6)))))
            · by_cases h7 : s = 61
              · exact Or.inr (Or.inr (Or.inr (Or.inr (Or.inr (Or.inr (Or.inl h7))))))
              · by_cases h8 : s = 62
                · exact Or.inr (Or.inr (Or.inr (Or.inr (Or.inr (Or.inr (Or.inr (Or.inl h8)))))))
                · by_cases h9 : s = 124
                  · exact Or.inr (Or.inr (Or.inr (Or.inr (Or.inr (Or.inr (Or.inr (Or.inr h9)))))))
                  · exact absurd (by rw [if_neg h1, if_neg h2, if_neg h3, if_neg h4, if_neg h5, if_neg h6, if_neg h7, if_neg h8, if_neg h9]) h
theorem t20_two {C : CS} {a : Nat} {z y : Int32} (h : ¬ sgI (cDI C 100 a) = 0) : v_X10_t20 C a z y = v_X3_two (sgI (cDI C 100 a)) z y ∧ sgI (cDI C 100 a) < 0 ∧ ¬ sgI (cDI C 100 a) = -10 := by
  unfold v_X10_t20
  rcases sgI_is h with e | e | e | e | e | e | e | e | e <;> rw [e] <;> refine ⟨?_, by decide, by decide⟩
  · rw [show sgI 38 = -2 by decide]; rfl
  · rw [show sgI 42 = -8 by decide]; rfl
  · rw [show sgI 43 = -6 by decide]; rfl
  · rw [show sgI 45 = -7 by decide]; rfl
  · rw [show sgI 47 = -9 by decide]; rfl
  · rw [show sgI 60 = -3 by decide]; rfl
  · rw [show sgI 61 = -4 by decide]; rfl
  · rw [show sgI 62 = -5 by decide]; rfl
  · rw [show sgI 124 = -1 by decide]; rfl
/-- the tree at a, of the key, at most d deep, is the signs c -/
def trC (C : CS) (key : Int32) : Nat → Nat → List Int32 → Prop
  | 0, _, _ => False
  | d + 1, a, c =>
    (isDy C 11 a ∧ (∃ m, m < 10000 ∧ cDI C 110 a = nI m) ∧ c = [cDI C 110 a]) ∨
    (isDy C 12 a ∧ ¬ nmK key (cDI C 120 a) < 0 ∧ c = [10000 + nmK key (cDI C 120 a)]) ∨
    (isDy C 13 a ∧ ∃ b c1, cDR C 130 a = some b ∧ trC C key d b c1 ∧ c = c1 ++ [-10]) ∨
    (isDy C 10 a ∧ ∃ b1 b2 c1 c2, cDR C 101 a = some b1 ∧ cDR C 102 a = some b2 ∧ trC C key d b1 c1 ∧ trC C key d b2 c2 ∧ ¬ sgI (cDI C 100 a) = 0 ∧ c = c1 ++ (c2 ++ [sgI (cDI C 100 a)]))
/-- the names' array holds the facts f of a key -/
def fok (key : Int32) (A f : Nat → Int32) : Prop := ∀ z : Int32, ¬ nmK key z < 0 → A z.toNatClampNeg = f (nmK key z).toNatClampNeg
theorem nm_in {key z : Int32} (h : ¬ nmK key z < 0) : vp_in z 128 ∧ (nmK key z = 0 ∨ nmK key z = 1 ∨ nmK key z = 2) := by
  have e : nmK key z = v_X3_nameOf (keyW key) z := rfl
  unfold v_X3_nameOf at e
  generalize nmK key z = s at *
  by_cases k0 : (keyW key).1 1 15 = 0
  · rw [if_pos k0] at e
    by_cases z1 : z = 97
    · subst z1; rw [if_pos rfl] at e; subst e; exact ⟨by unfold vp_in; decide, by decide⟩
    · rw [if_neg z1] at e
      by_cases z2 : z = 98
      · subst z2; rw [if_pos rfl] at e; subst e; exact ⟨by unfold vp_in; decide, by decide⟩
      · rw [if_neg z2] at e
        by_cases z3 : z = 119
        · subst z3; rw [if_pos rfl] at e; subst e; exact ⟨by unfold vp_in; decide, by decide⟩
        · rw [if_neg z3] at e; subst e; exact absurd (by decide) h
  · rw [if_neg k0] at e
    by_cases k1 : (keyW key).1 1 15 = 1
    · rw [if_pos k1] at e
      by_cases z1 : z = 120
      · subst z1; rw [if_pos rfl] at e; subst e; exact ⟨by unfold vp_in; decide, by decide⟩
      · rw [if_neg z1] at e
        by_cases z2 : z = 112
        · subst z2; rw [if_pos rfl] at e; subst e; exact ⟨by unfold vp_in; decide, by decide⟩
        · rw [if_neg z2] at e; subst e; exact absurd (by decide) h
    · rw [if_neg k1] at e
      by_cases z1 : z = 100
      · subst z1; rw [if_pos rfl] at e; subst e; exact ⟨by unfold vp_in; decide, by decide⟩
      · rw [if_neg z1] at e
        by_cases z2 : z = 108
        · subst z2; rw [if_pos rfl] at e; subst e; exact ⟨by unfold vp_in; decide, by decide⟩
        · rw [if_neg z2] at e; subst e; exact absurd (by decide) h
theorem wth_all {w : WD} (wk : wOk w) (l : Launch) {C : CS} {key : Int32} {f : Nat → Int32} (hf : fok key (C.2.1 10) f) : ∀ d a c, trC C key d a c → ∃ v, (∀ s, c.foldl (cStep f) s = v :: s) ∧ WFm w l C a d v := by
  intro d
  induction d with
  | zero => intro a c h; exact h.elim
  | succ d ih =>
    intro a c h
    rcases h with ⟨h1, ⟨m, hm, h2⟩, h3⟩ | ⟨h1, h2, h3⟩ | ⟨h1, b, c1, h2, h3, h4⟩ | ⟨h1, b1, b2, c1, c2, h2, h3, h4, h5, h6, h7⟩
    · refine ⟨cDI C 110 a, fun s => ?_, ?_⟩
      · rw [h3]
        show [cDI C 110 a].foldl (cStep f) s = _
        rw [List.foldl_cons, List.foldl_nil, h2]
        unfold cStep
        rw [if_neg (nI_pos (by omega)), if_neg (show ¬ (10000 : Int32) ≤ nI m from nI_ge (b := 10000) hm (by decide))]
      · obtain ⟨n, hn⟩ := h1
        exact ⟨11, n, _, _, _, _, _, _, 0, hn, by decide, rfl, cfF_Worth_X12_worth_Plain, by decide, by omega, mc_X12_worth wk l C a ⟨⟨n, hn⟩, trivial⟩⟩
    · obtain ⟨hin, hk⟩ := nm_in h2
      refine ⟨C.2.1 10 (cDI C 120 a).toNatClampNeg, fun s => ?_, ?_⟩
      · rw [h3, hf _ h2]
        show cStep f s _ = _
        unfold cStep
        rcases hk with e | e | e <;> rw [e] <;> rfl
      · obtain ⟨n, hn⟩ := h1
        exact ⟨12, n, _, _, _, _, _, _, 0, hn, by decide, rfl, cfF_Worth_X13_worth_Name, by decide, by omega, mc_X13_worth wk l C a ⟨⟨n, hn⟩, hin, trivial⟩⟩
    · obtain ⟨v, e1, e2⟩ := ih b c1 h3
      refine ⟨v_X14_t9 a v, fun s => ?_, ?_⟩
      · rw [h4, List.foldl_append, e1]
        rfl
      · obtain ⟨n, hn⟩ := h1
        exact ⟨13, n, _, _, _, _, _, _, d + 1, hn, by decide, rfl, cfF_Worth_X14_worth_Not, by decide, by omega, mc_X14_worth wk l C a b d v ⟨n, hn⟩ h2 e2⟩
    · obtain ⟨z, e1, e2⟩ := ih b1 c1 h4
      obtain ⟨y, e3, e4⟩ := ih b2 c2 h5
      obtain ⟨t1, t2, t3⟩ := t20_two (z := z) (y := y) h6
      refine ⟨v_X10_t20 C a z y, fun s => ?_, ?_⟩
      · rw [h7, List.foldl_append, List.foldl_append, e1, e3, t1]
        show cStep f (y :: z :: s) _ = _
        unfold cStep
        rw [if_pos t2, if_neg t3]
      · obtain ⟨n, hn⟩ := h1
        exact ⟨10, n, _, _, _, _, _, _, d + 1, hn, by decide, rfl, cfF_Worth_X10_worth_Two, by decide, by omega, mc_X10_worth wk l C a b1 b2 d z y ⟨n, hn⟩ h2 h3 e2 e4⟩
