theorem cf_X0_toldBy : CfV yX0_toldBy "TwoGuilds" cX0_toldBy 3 (some .int) 2 := ⟨⟨by decide, by decide, by decide⟩, q72, q802, q801, qs12⟩
def v_X0_toldBy (C : CS) (a0 : (Option Nat)) (a1 : Int32) : Int32 :=
  if (v_X0_lengthOf C a0) ≤ a1 then
    ((-1000000005))
    else
    ((v_X0_numberAt C a0 a1))
def p_X0_toldBy (C : CS) (a0 : (Option Nat)) (a1 : Int32) : Prop :=
  p_X0_lengthOf C a0 ∧
    (((v_X0_lengthOf C a0) ≤ a1 → 
    True) ∧
    (¬ (v_X0_lengthOf C a0) ≤ a1 → 
    p_X0_numberAt C a0 a1 ∧
      (True)))
set_option maxHeartbeats 4000000 in
set_option maxRecDepth 100000 in
theorem mc_X0_toldBy {w : WD} (wk : wOk w) (l : Launch) (C : CS) (a0 : (Option Nat)) (a1 : Int32) (hw : p_X0_toldBy C a0 a1) : MC w l yX0_toldBy cX0_toldBy 3 (some .int) 2 0 0 [.ref (ad w 0), va_rf a0, .int a1] C (pI (v_X0_toldBy C a0 a1) C) := by
  unfold p_X0_toldBy at hw
  refine MC.of wk (by decide) (by cases a0 <;> exact Nat.le_of_ble_eq_true rfl) (fun x hx ok => ?_)
  subst hx
  rw [show lv_args 0 [.ref (ad w 0), va_rf a0, .int a1] = [(0, .ref (ad w 0)), (1, va_rf a0), (2, .int a1)] from by cases a0 <;> rfl]
  show G w x 3 0 0 (QM w x _ 0 0) C 0 [(0, .ref (ad w 0)), (1, va_rf a0), (2, .int a1)] []
  refine g_iload_n ok 2 dX0_toldBy_0 rfl ?_
  refine g_oload_n ok 1 dX0_toldBy_1 rfl ?_
  obtain ⟨hp1, hw⟩ := hw
  refine g_callS ok [va_rf a0] cf_X0_lengthOf q803 (mc_X0_lengthOf ok.wo (xL x) C a0 hp1) rfl rfl (Nat.le_of_ble_eq_true rfl) ⟨by decide, by decide⟩ ⟨by decide, by decide⟩ dX0_toldBy_2 (resI ?_)
  refine g_icmp_ge (tgt := 16) ok dX0_toldBy_5 (by decide) (fun c2 => ?_) (fun c2 => ?_)
  · have hw := hw.1 c2
    refine g_ldc (v := -1000000005) ok q740 dX0_toldBy_16 ?_
    exact g_iret ok dX0_toldBy_18 ⟨by first | (simp only [v_X0_toldBy, if_pos c2]; done) | contradiction, rfl⟩
  · have hw := hw.2 c2
    refine g_oload_n ok 1 dX0_toldBy_8 rfl ?_
    refine g_iload_n ok 2 dX0_toldBy_9 rfl ?_
    obtain ⟨hp3, hw⟩ := hw
    refine g_callS ok [va_rf a0, .int a1] cf_X0_numberAt q808 (mc_X0_numberAt ok.wo (xL x) C a0 a1 hp3) rfl rfl (Nat.le_of_ble_eq_true rfl) ⟨by decide, by decide⟩ ⟨by decide, by decide⟩ dX0_toldBy_10 (resI ?_)
    refine g_goto (tgt := 18) ok dX0_toldBy_13 (by decide) ?_
    exact g_iret ok dX0_toldBy_18 ⟨by first | (simp only [v_X0_toldBy, if_neg c2]; done) | contradiction, rfl⟩
theorem cf_X0_hasBy : CfV yX0_hasBy "TwoGuilds" cX0_hasBy 2 (some .int) 1 := ⟨⟨by decide, by decide, by decide⟩, q72, q814, q813, qs13⟩
def v_X0_hasBy (C : CS) (a0 : Int32) : Int32 :=
  if 0 ≤ (C.2.1 7 (Int32.toNatClampNeg a0)) then
    ((C.2.1 5 (Int32.toNatClampNeg ((10 * a0) + (C.2.1 7 (Int32.toNatClampNeg a0))))))
    else
    (0)
def p_X0_hasBy (C : CS) (a0 : Int32) : Prop :=
  vp_in a0 10 ∧
    ((0 ≤ (C.2.1 7 (Int32.toNatClampNeg a0)) → 
    vp_in ((10 * a0) + (C.2.1 7 (Int32.toNatClampNeg a0))) 100 ∧
      (True)) ∧
    (¬ 0 ≤ (C.2.1 7 (Int32.toNatClampNeg a0)) → 
    True))
set_option maxHeartbeats 4000000 in
set_option maxRecDepth 100000 in
theorem mc_X0_hasBy {w : WD} (wk : wOk w) (l : Launch) (C : CS) (a0 : Int32) (hw : p_X0_hasBy C a0) : MC w l yX0_hasBy cX0_hasBy 2 (some .int) 1 0 0 [.ref (ad w 0), .int a0] C (pI (v_X0_hasBy C a0) C) := by
  unfold p_X0_hasBy at hw
  refine MC.of wk (by decide) (Nat.le_of_ble_eq_true rfl) (fun x hx ok => ?_)
  subst hx
  show G w x 2 0 0 (QM w x _ 0 0) C 0 [(0, .ref (ad w 0)), (1, .int a0)] []
  refine g_aload_n ok 0 dX0_hasBy_0 rfl ?_
  refine g_get ok 0 rfl rfl in_X0 6 (by decide) q186 rfl dX0_hasBy_1 ?_
  refine g_iload_n ok 1 dX0_hasBy_4 rfl ?_
  obtain ⟨hf1, hw⟩ := hw
  refine g_iald ok 7 rfl hf1 _ rfl dX0_hasBy_5 ?_
  refine g_if_ge (tgt := 13) ok dX0_hasBy_6 (by decide) (fun c2 => ?_) (fun c2 => ?_)
  · have hw := hw.1 c2
    refine g_aload_n ok 0 dX0_hasBy_13 rfl ?_
    refine g_get ok 0 rfl rfl in_X0 4 (by decide) q184 rfl dX0_hasBy_14 ?_
    refine g_bipush (v := 10) ok dX0_hasBy_17 (by decide) ?_
    refine g_iload_n ok 1 dX0_hasBy_19 rfl ?_
    refine g_imul ok dX0_hasBy_20 ?_
    refine g_aload_n ok 0 dX0_hasBy_21 rfl ?_
    refine g_get ok 0 rfl rfl in_X0 6 (by decide) q186 rfl dX0_hasBy_22 ?_
    refine g_iload_n ok 1 dX0_hasBy_25 rfl ?_
    refine g_iald ok 7 rfl hf1 _ rfl dX0_hasBy_26 ?_
    refine g_iadd ok dX0_hasBy_27 ?_
    obtain ⟨hf3, hw⟩ := hw
    refine g_iald ok 5 rfl hf3 _ rfl dX0_hasBy_28 ?_
    exact g_iret ok dX0_hasBy_29 ⟨by first | (simp only [v_X0_hasBy, if_pos c2]; done) | contradiction, rfl⟩
  · have hw := hw.2 c2
    refine g_iconst (v := 0) ok dX0_hasBy_9 (by decide) ?_
    refine g_goto (tgt := 29) ok dX0_hasBy_10 (by decide) ?_
    exact g_iret ok dX0_hasBy_29 ⟨by first | (simp only [v_X0_hasBy, if_neg c2]; done) | contradiction, rfl⟩
theorem told_v {C : CS} {o : Option Nat} {f : Nat → Int32} (h : rwC C o f) {k : Nat} (hk : k < 10) : p_X0_toldBy C o (nI k) ∧ v_X0_toldBy C o (nI k) = if nI (lnO C o) ≤ nI k then -1000000005 else f k := by
  have hl := h.1
  refine ⟨⟨h.r, fun _ => trivial, fun z => ⟨⟨h.r, vp_k (Nat.not_le.mp fun y => z ((nI_leI (by omega) (by omega)).mpr y)) (by omega)⟩, trivial⟩⟩, ?_⟩
  unfold v_X0_toldBy v_X0_lengthOf v_X0_numberAt
  by_cases z : nI (lnO C o) ≤ nI k
  · rw [if_pos z, if_pos z]
  · rw [if_neg z, if_neg z, cl_k (by omega)]
    exact h.at (Nat.not_le.mp fun y => z ((nI_leI (by omega) (by omega)).mpr y))
theorem vv_self (r : Nat → Int32) (a : Nat) : vv r a a = -1 := by
  unfold vv vS ipR v_X3_isPair
  rw [if_neg (Nat.lt_irrefl a), if_pos rfl, if_pos rfl]
theorem hb_some {ap : Nat → Nat → Bool} {v : Nat → Nat → Int32} {g b N : Nat} (hb : b < N) (hg : b ≠ g) (h1 : ap g b = true) (hu : ∀ k, k < N → ap g k = true → k = b) : ∀ d k, k + d = N → k ≤ b → hbL ap v g d k = v g b := by
  intro d
  induction d with
  | zero => intro k h1 h2; omega
  | succ d ih =>
    intro k hk hkb
    rw [hbL]
    by_cases c : k = b
    · subst c
      rw [if_neg hg, if_pos h1]
    · by_cases c2 : k = g
      · rw [if_pos c2]; exact ih (k + 1) (by omega) (by omega)
      · rw [if_neg c2, if_neg (fun z => c (hu k (by omega) z))]; exact ih (k + 1) (by omega) (by omega)
theorem hb_none {ap : Nat → Nat → Bool} {v : Nat → Nat → Int32} {g N : Nat} (h : ∀ k, k < N → k ≠ g → ap g k = false) : ∀ d k, k + d = N → hbL ap v g d k = 0 := by
  intro d
  induction d with
  | zero => intro k h1; rfl
  | succ d ih =>
    intro k hk
    rw [hbL, ih (k + 1) (by omega)]
    by_cases c : k = g
    · rw [if_pos c]
    · rw [if_neg c, if_neg (by rw [h k (by omega) c]; decide)]
/-- the partner of k by a row -/
def prS (ap : Nat → Nat → Bool) (N k : Nat) (v : Int32) : Prop := (∃ b, b < N ∧ ap k b = true ∧ v = nI b) ∨ ((∀ b, b < N → ap k b = false) ∧ v = -1)
theorem cf_X0_leaves : CfV yX0_leaves "TwoGuilds" cX0_leaves 6 (some .int) 1 := ⟨⟨by decide, by decide, by decide⟩, q72, q793, q791, q792⟩
def p_X0_leaves (C : CS) (a0 : Int32) : Prop := opP C ∧ shO C
def v_X0_leaves (C : CS) (a0 : Int32) : Int32 := v_X3_leaves C a0
def q_X0_leaves (C : CS) (a0 : Int32) (C1 : CS) : Prop := frm [5, 7, 10] C C1
def wp_X0_leaves_j206 (Post : Int32 → CS → Prop) (R119 : CS → Int32 → Prop) (R135 : CS → Int32 → Int32 → Prop) (C : CS) (i3 : Int32) (i4 : Int32) : Prop := ∀ x19 : Int32, x19 = (i4 + Int32.ofInt 1) → 
  R135 C i3 x19
def wp_X0_leaves_l135 (Post : Int32 → CS → Prop) (R119 : CS → Int32 → Prop) : Nat → CS → Int32 → Int32 → Prop
  | 0, _, _, _ => False
  | n + 1, C, i3, i4 => isTb (cN C) ∧
  (((C.1 (cN C) 0) ≤ i4 → 
  ∀ x15 : Int32, x15 = (i3 + Int32.ofInt 1) → 
    R119 C x15) ∧
  (¬ (C.1 (cN C) 0) ≤ i4 → 
  vp_in ((10 * i3) + i4) 100 ∧
    (∀ x17 : Int32, x17 = (C.2.1 5 (Int32.toNatClampNeg ((10 * i3) + i4))) → 
    (x17 < 0 → 
    wp_X0_leaves_j206 Post R119 (fun C i3 i4 => wp_X0_leaves_l135 Post R119 n C i3 i4) C i3 i4) ∧
    (¬ x17 < 0 → 
    vp_in i3 10 ∧
      (((C.2.1 7 (Int32.toNatClampNeg i3)) = i4 → 
      wp_X0_leaves_j206 Post R119 (fun C i3 i4 => wp_X0_leaves_l135 Post R119 n C i3 i4) C i3 i4) ∧
      (¬ (C.2.1 7 (Int32.toNatClampNeg i3)) = i4 → 
      p_X0_hasBy C i3 ∧
        (∀ r23 : Int32, r23 = (v_X0_hasBy C i3) → 
        (x17 ≤ r23 → 
        wp_X0_leaves_j206 Post R119 (fun C i3 i4 => wp_X0_leaves_l135 Post R119 n C i3 i4) C i3 i4) ∧
        (¬ x17 ≤ r23 → 
        p_X0_hasBy C i4 ∧
          (∀ r26 : Int32, r26 = (v_X0_hasBy C i4) → 
          (x17 ≤ r26 → 
          wp_X0_leaves_j206 Post R119 (fun C i3 i4 => wp_X0_leaves_l135 Post R119 n C i3 i4) C i3 i4) ∧
          (¬ x17 ≤ r26 → 
          Post ((100 * i3) + i4) C))))))))))
def wp_X0_leaves_l119 (Post : Int32 → CS → Prop) : Nat → CS → Int32 → Prop
  | 0, _, _ => False
  | n + 1, C, i3 => isTb (cN C) ∧
  (((C.1 (cN C) 0) ≤ i3 → 
  Post (-1000000005) C) ∧
  (¬ (C.1 (cN C) 0) ≤ i3 → 
  ∀ x12 : Int32, x12 = (i3 + 1) → 
    ∃ m135, wp_X0_leaves_l135 Post (fun C i3 => wp_X0_leaves_l119 Post n C i3) m135 C i3 x12))
def wp_X0_leaves_l33 (Post : Int32 → CS → Prop) : Nat → CS → (Option Nat) → Int32 → Prop
  | 0, _, _, _ => False
  | n + 1, C, o2, i3 => isTb (cN C) ∧
  (((C.1 (cN C) 0) ≤ i3 → 
  ∃ m119, wp_X0_leaves_l119 Post m119 C 0) ∧
  (¬ (C.1 (cN C) 0) ≤ i3 → 
  p_X0_toldBy C o2 i3 ∧
    (∀ r31 : Int32, r31 = (v_X0_toldBy C o2 i3) → 
    p_X0_isGlove C r31 ∧
    (∀ r33 : Int32, r33 = (v_X0_isGlove C r31) → 
    ((r33 = 0 → 
      True) ∧
      (¬ r33 = 0 → 
      p_X0_toldBy C o2 r31 ∧
        ((((v_X0_toldBy C o2 r31) = i3 → 
          vp_in ((10 * i3) + r31) 100 ∧
            (True)) ∧
          (¬ (v_X0_toldBy C o2 r31) = i3 → 
          True)) ∧
        (True)))) ∧
    (∀ x42 : Int32, x42 = (if r33 = 0 then (0 : Int32) else (if (v_X0_toldBy C o2 r31) = i3 then (if (C.2.1 5 (Int32.toNatClampNeg ((10 * i3) + r31))) < 0 then (0 : Int32) else 1) else 0)) → 
    ∀ x45 : Int32, x45 = (if x42 = 0 then (-1 : Int32) else r31) → 
    vp_in i3 10 ∧
    (∀ C47 : CS, C47 = (wA C 7 (Int32.toNatClampNeg i3) x45) → 
    ∀ x48 : Int32, x48 = (i3 + Int32.ofInt 1) → 
    wp_X0_leaves_l33 Post n C47 o2 x48))))))
def wp_X0_leaves (Post : Int32 → CS → Prop) (C : CS) (a0 : Int32) : Prop :=
  ∀ r1 : Int32, r1 = (v_X0_isSheet a0) → 
    (r1 = 0 → 
    Post (-1000000001) C) ∧
    (¬ r1 = 0 → 
    vp_in a0 4 ∧
      (((cH C (27 + Int32.toNatClampNeg a0)) = none → 
      Post (-1000000011) C) ∧
      (¬ (cH C (27 + Int32.toNatClampNeg a0)) = none → 
      ∃ (g5 : (Nat → Int32)), p_X0_layValues C g5 ∧
        (∀ C7 : CS, q_X0_layValues C g5 C7 → 
        ∃ m33, wp_X0_leaves_l33 Post m33 C7 (cH C (27 + Int32.toNatClampNeg a0)) 0))))
set_option maxHeartbeats 4000000 in
set_option maxRecDepth 100000 in
theorem gw_X0_leaves_j206 {w : WD} {x : Cx} (ok : Ok w x cX0_leaves 6 yX0_leaves.cls (some .int) (rmL 101 0 0)) {Post : Int32 → CS → Prop} {R119 : CS → Int32 → Prop} {R135 : CS → Int32 → Int32 → Prop} (hR119 : ∀ C (i3 : Int32), R119 C i3 → G w x 6 0 0 (QM w x (fun v C1 => ∃ r : Int32, v = some (.int r) ∧ Post r C1) 0 0) C 119 [(0, .ref (ad w 0)), (3, .int i3)] []) (hR135 : ∀ C (i3 : Int32) (i4 : Int32), R135 C i3 i4 → G w x 6 0 0 (QM w x (fun v C1 => ∃ r : Int32, v = some (.int r) ∧ Post r C1) 0 0) C 135 [(0, .ref (ad w 0)), (3, .int i3), (4, .int i4)] []) : ∀ (C : CS) (i3 : Int32) (i4 : Int32), wp_X0_leaves_j206 Post R119 R135 C i3 i4 → G w x 6 0 0 (QM w x (fun v C1 => ∃ r : Int32, v = some (.int r) ∧ Post r C1) 0 0) C 206 [(0, .ref (ad w 0)), (3, .int i3), (4, .int i4)] [] := by
  intro C i3 i4 hw
  unfold wp_X0_leaves_j206 at hw
  refine g_iinc ok 2 (fun z => [(4, .int z), (0, .ref (ad w 0)), (3, .int i3)]) dX0_leaves_206 rfl (by decide) (fun _ => rfl) (fun x19 ex19 => ?_)
  have hw := hw x19 ex19
  refine g_goto (tgt := 135) ok dX0_leaves_209 (by decide) ?_
  refine g_sub [1, 2, 0] [(0, .ref (ad w 0)), (3, .int i3), (4, .int x19)] rfl ?_
  exact hR135 C i3 x19 hw
set_option maxHeartbeats 4000000 in
set_option maxRecDepth 100000 in
theorem gw_X0_leaves_l135 {w : WD} {x : Cx} (ok : Ok w x cX0_leaves 6 yX0_leaves.cls (some .int) (rmL 101 0 0)) {Post : Int32 → CS → Prop} {R119 : CS → Int32 → Prop} (hR119 : ∀ C (i3 : Int32), R119 C i3 → G w x 6 0 0 (QM w x (fun v C1 => ∃ r : Int32, v = some (.int r) ∧ Post r C1) 0 0) C 119 [(0, .ref (ad w 0)), (3, .int i3)] []) : ∀ (n : Nat) (C : CS) (i3 : Int32) (i4 : Int32), wp_X0_leaves_l135 Post R119 n C i3 i4 → G w x 6 0 0 (QM w x (fun v C1 => ∃ r : Int32, v = some (.int r) ∧ Post r C1) 0 0) C 135 [(0, .ref (ad w 0)), (3, .int i3), (4, .int i4)] [] := by
  intro n
  induction n with
  | zero => intro C i3 i4 hw; exact hw.elim
  | succ n ih =>
    intro C i3 i4 hw
    unfold wp_X0_leaves_l135 at hw
    refine g_iload ok 2 dX0_leaves_135 rfl ?_
    refine g_aload_n ok 0 dX0_leaves_137 rfl ?_
    refine g_get ok 0 rfl rfl in_X0 0 (by decide) q180 rfl dX0_leaves_138 ?_
    obtain ⟨hf13, hw⟩ := hw
    refine g_get ok (cN C) (fObjT hf13) rfl in_X1 0 (by decide) q124 rfl dX0_leaves_141 ?_
    refine g_icmp_ge (tgt := 212) ok dX0_leaves_144 (by decide) (fun c14 => ?_) (fun c14 => ?_)
    · have hw := hw.1 c14
      refine g_iinc ok 1 (fun z => [(3, .int z), (0, .ref (ad w 0)), (4, .int i4)]) dX0_leaves_212 rfl (by decide) (fun _ => rfl) (fun x15 ex15 => ?_)
      have hw := hw x15 ex15
      refine g_goto (tgt := 119) ok dX0_leaves_215 (by decide) ?_
      refine g_sub [1, 0] [(0, .ref (ad w 0)), (3, .int x15)] rfl ?_
      exact hR119 C x15 hw
    · have hw := hw.2 c14
      refine g_aload_n ok 0 dX0_leaves_147 rfl ?_
      refine g_get ok 0 rfl rfl in_X0 4 (by decide) q184 rfl dX0_leaves_148 ?_
      refine g_bipush (v := 10) ok dX0_leaves_151 (by decide) ?_
      refine g_iload_n ok 1 dX0_leaves_153 rfl ?_
      refine g_imul ok dX0_leaves_154 ?_
      refine g_iload ok 2 dX0_leaves_155 rfl ?_
      refine g_iadd ok dX0_leaves_157 ?_
      obtain ⟨hf16, hw⟩ := hw
      refine g_iald ok 5 rfl hf16 _ rfl dX0_leaves_158 ?_
      refine g_istore ok (fun z => [(5, .int z), (0, .ref (ad w 0)), (3, .int i3), (4, .int i4)]) dX0_leaves_159 (by decide) (fun _ => rfl) (fun x17 ex17 => ?_)
      have hw := hw x17 ex17
      refine g_iload ok 0 dX0_leaves_161 rfl ?_
      refine g_if_lt (tgt := 206) ok dX0_leaves_163 (by decide) (fun c18 => ?_) (fun c18 => ?_)
      · have hw := hw.1 c18
        refine g_sub [1, 2, 3] [(0, .ref (ad w 0)), (3, .int i3), (4, .int i4)] rfl ?_
        exact gw_X0_leaves_j206 ok hR119 (fun C i3 i4 hw => ih C i3 i4 hw) C i3 i4 hw
      · have hw := hw.2 c18
        refine g_aload_n ok 1 dX0_leaves_166 rfl ?_
        refine g_get ok 0 rfl rfl in_X0 6 (by decide) q186 rfl dX0_leaves_167 ?_
        refine g_iload_n ok 2 dX0_leaves_170 rfl ?_
        obtain ⟨hf20, hw⟩ := hw
        refine g_iald ok 7 rfl hf20 _ rfl dX0_leaves_171 ?_
        refine g_iload ok 3 dX0_leaves_172 rfl ?_
        refine g_icmp_eq (tgt := 206) ok dX0_leaves_174 (by decide) (fun c21 => ?_) (fun c21 => ?_)
        · have hw := hw.1 c21
          refine g_sub [1, 2, 3] [(0, .ref (ad w 0)), (3, .int i3), (4, .int i4)] rfl ?_
          exact gw_X0_leaves_j206 ok hR119 (fun C i3 i4 hw => ih C i3 i4 hw) C i3 i4 hw
        · have hw := hw.2 c21
          refine g_iload ok 0 dX0_leaves_177 rfl ?_
          refine g_aload_n ok 1 dX0_leaves_179 rfl ?_
          refine g_iload_n ok 2 dX0_leaves_180 rfl ?_
          obtain ⟨hp22, hw⟩ := hw
          refine g_callV ok [.int i3] cf_X0_hasBy q811 (mc_X0_hasBy ok.wo (xL x) C i3 hp22) (recvF ok 0 rfl rfl) rfl rfl (Nat.le_of_ble_eq_true rfl) ⟨by decide, by decide⟩ ⟨by decide, by decide⟩ dX0_leaves_181 (resI ?_)
          refine g_nmI (fun r23 er23 => ?_)
          have hw := hw r23 er23
          refine g_icmp_le (tgt := 206) ok dX0_leaves_184 (by decide) (fun c24 => ?_) (fun c24 => ?_)
          · have hw := hw.1 c24
            refine g_sub [1, 2, 3] [(0, .ref (ad w 0)), (3, .int i3), (4, .int i4)] rfl ?_
            exact gw_X0_leaves_j206 ok hR119 (fun C i3 i4 hw => ih C i3 i4 hw) C i3 i4 hw
          · have hw := hw.2 c24
            refine g_iload ok 0 dX0_leaves_187 rfl ?_
            refine g_aload_n ok 1 dX0_leaves_189 rfl ?_
            refine g_iload ok 3 dX0_leaves_190 rfl ?_
            obtain ⟨hp25, hw⟩ := hw
            refine g_callV ok [.int i4] cf_X0_hasBy q811 (mc_X0_hasBy ok.wo (xL x) C i4 hp25) (recvF ok 0 rfl rfl) rfl rfl (Nat.le_of_ble_eq_true rfl) ⟨by decide, by decide⟩ ⟨by decide, by decide⟩ dX0_leaves_192 (resI ?_)
            refine g_nmI (fun r26 er26 => ?_)
            have hw := hw r26 er26
            refine g_icmp_le (tgt := 206) ok dX0_leaves_195 (by decide) (fun c27 => ?_) (fun c27 => ?_)
            · have hw := hw.1 c27
              refine g_sub [1, 2, 3] [(0, .ref (ad w 0)), (3, .int i3), (4, .int i4)] rfl ?_
              exact gw_X0_leaves_j206 ok hR119 (fun C i3 i4 hw => ih C i3 i4 hw) C i3 i4 hw
            · have hw := hw.2 c27
              refine g_bipush (v := 100) ok dX0_leaves_198 (by decide) ?_
              refine g_iload_n ok 2 dX0_leaves_200 rfl ?_
              refine g_imul ok dX0_leaves_201 ?_
              refine g_iload ok 3 dX0_leaves_202 rfl ?_
              refine g_iadd ok dX0_leaves_204 ?_
              exact g_iret ok dX0_leaves_205 ⟨_, rfl, hw⟩
set_option maxHeartbeats 4000000 in
set_option maxRecDepth 100000 in
theorem gw_X0_leaves_l119 {w : WD} {x : Cx} (ok : Ok w x cX0_leaves 6 yX0_leaves.cls (some .int) (rmL 101 0 0)) {Post : Int32 → CS → Prop} : ∀ (n : Nat) (C : CS) (i3 : Int32), wp_X0_leaves_l119 Post  n C i3 → G w x 6 0 0 (QM w x (fun v C1 => ∃ r : Int32, v = some (.int r) ∧ Post r C1) 0 0) C 119 [(0, .ref (ad w 0)), (3, .int i3)] [] := by
  intro n
  induction n with
  | zero => intro C i3 hw; exact hw.elim
  | succ n ih =>
    intro C i3 hw
    unfold wp_X0_leaves_l119 at hw
    refine g_iload_n ok 1 dX0_leaves_119 rfl ?_
    refine g_aload_n ok 0 dX0_leaves_120 rfl ?_
    refine g_get ok 0 rfl rfl in_X0 0 (by decide) q180 rfl dX0_leaves_121 ?_
    obtain ⟨hf10, hw⟩ := hw
    refine g_get ok (cN C) (fObjT hf10) rfl in_X1 0 (by decide) q124 rfl dX0_leaves_124 ?_
    refine g_icmp_ge (tgt := 218) ok dX0_leaves_127 (by decide) (fun c11 => ?_) (fun c11 => ?_)
    · have hw := hw.1 c11
      refine g_ldc (v := -1000000005) ok q740 dX0_leaves_218 ?_
      exact g_iret ok dX0_leaves_220 ⟨_, rfl, hw⟩
    · have hw := hw.2 c11
      refine g_iload_n ok 1 dX0_leaves_130 rfl ?_
      refine g_iconst (v := 1) ok dX0_leaves_131 (by decide) ?_
      refine g_iadd ok dX0_leaves_132 ?_
      refine g_istore ok (fun z => [(4, .int z), (0, .ref (ad w 0)), (3, .int i3)]) dX0_leaves_133 (by decide) (fun _ => rfl) (fun x12 ex12 => ?_)
      have hw := hw x12 ex12
      refine g_sub [1, 2, 0] [(0, .ref (ad w 0)), (3, .int i3), (4, .int x12)] rfl ?_
      obtain ⟨n28, hw⟩ := hw
      exact gw_X0_leaves_l135 ok (fun C i3 hw => ih C i3 hw) n28 C i3 x12 hw
set_option maxHeartbeats 4000000 in
set_option maxRecDepth 100000 in
theorem gw_X0_leaves_l33 {w : WD} {x : Cx} (ok : Ok w x cX0_leaves 6 yX0_leaves.cls (some .int) (rmL 101 0 0)) {Post : Int32 → CS → Prop} : ∀ (n : Nat) (C : CS) (o2 : (Option Nat)) (i3 : Int32), wp_X0_leaves_l33 Post  n C o2 i3 → G w x 6 0 0 (QM w x (fun v C1 => ∃ r : Int32, v = some (.int r) ∧ Post r C1) 0 0) C 33 [(0, .ref (ad w 0)), (2, va_rf o2), (3, .int i3)] [] := by
  intro n
  induction n with
  | zero => intro C o2 i3 hw; exact hw.elim
  | succ n ih =>
    intro C o2 i3 hw
    unfold wp_X0_leaves_l33 at hw
    refine g_iload_n ok 2 dX0_leaves_33 rfl ?_
    refine g_aload_n ok 0 dX0_leaves_34 rfl ?_
    refine g_get ok 0 rfl rfl in_X0 0 (by decide) q180 rfl dX0_leaves_35 ?_
    obtain ⟨hf8, hw⟩ := hw
    refine g_get ok (cN C) (fObjT hf8) rfl in_X1 0 (by decide) q124 rfl dX0_leaves_38 ?_
    refine g_icmp_ge (tgt := 117) ok dX0_leaves_41 (by decide) (fun c9 => ?_) (fun c9 => ?_)
    · have hw := hw.1 c9
      refine g_iconst (v := 0) ok dX0_leaves_117 (by decide) ?_
      refine g_istore_n0 ok [(3, .int 0), (0, .ref (ad w 0)), (2, va_rf o2)] dX0_leaves_118 (by decide) (by generalize o2 = o9; cases o9 <;> rfl) ?_
      refine g_sub [1, 0] [(0, .ref (ad w 0)), (3, .int 0)] rfl ?_
      obtain ⟨n29, hw⟩ := hw
      exact gw_X0_leaves_l119 ok n29 C 0 hw
    · have hw := hw.2 c9
      refine g_aload_n ok 0 dX0_leaves_44 rfl ?_
      refine g_oload_n ok 1 dX0_leaves_45 rfl ?_
      refine g_iload_n ok 2 dX0_leaves_46 rfl ?_
      obtain ⟨hp30, hw⟩ := hw
      refine g_callV ok [va_rf o2, .int i3] cf_X0_toldBy q799 (mc_X0_toldBy ok.wo (xL x) C o2 i3 hp30) (recvF ok 0 rfl rfl) rfl rfl (Nat.le_of_ble_eq_true rfl) ⟨by decide, by decide⟩ ⟨by decide, by decide⟩ dX0_leaves_47 (resI ?_)
      refine g_nmI (fun r31 er31 => ?_)
      have hw := hw r31 er31
      refine g_istore0 ok [(4, .int r31), (0, .ref (ad w 0)), (2, va_rf o2), (3, .int i3)] dX0_leaves_50 (by decide) rfl ?_
      refine g_aload_n ok 1 dX0_leaves_52 rfl ?_
      refine g_iload ok 0 dX0_leaves_53 rfl ?_
      obtain ⟨hp32, hw⟩ := hw
      refine g_callV ok [.int r31] cf_X0_isGlove q411 (mc_X0_isGlove ok.wo (xL x) C r31 hp32) (recvF ok 0 rfl rfl) rfl rfl (Nat.le_of_ble_eq_true rfl) ⟨by decide, by decide⟩ ⟨by decide, by decide⟩ dX0_leaves_55 (resI ?_)
      refine g_nmI (fun r33 er33 => ?_)
      have hw := hw r33 er33
      obtain ⟨hr, hw⟩ := hw
      have kj41 : ∀ x42 : Int32, x42 = (if r33 = 0 then (0 : Int32) else (if (v_X0_toldBy C o2 r31) = i3 then (if (C.2.1 5 (Int32.toNatClampNeg ((10 * i3) + r31))) < 0 then (0 : Int32) else 1) else 0)) → G w x 6 0 0 (QM w x (fun v C1 => ∃ r : Int32, v = some (.int r) ∧ Post r C1) 0 0) C 92 [(0, .ref (ad w 0)), (2, va_rf o2), (3, .int i3), (4, .int r31)] [.int x42] := by
        intro x42 ex42
        have hw := hw x42 ex42
        refine g_istore0 ok [(5, .int x42), (0, .ref (ad w 0)), (2, va_rf o2), (3, .int i3), (4, .int r31)] dX0_leaves_92 (by decide) rfl ?_
        refine g_aload_n ok 1 dX0_leaves_94 rfl ?_
        refine g_get ok 0 rfl rfl in_X0 6 (by decide) q186 rfl dX0_leaves_95 ?_
        refine g_iload_n ok 3 dX0_leaves_98 rfl ?_
        refine g_iload ok 0 dX0_leaves_99 rfl ?_
        have kj44 : ∀ x45 : Int32, x45 = (if x42 = 0 then (-1 : Int32) else r31) → G w x 6 0 0 (QM w x (fun v C1 => ∃ r : Int32, v = some (.int r) ∧ Post r C1) 0 0) C 110 [(0, .ref (ad w 0)), (2, va_rf o2), (3, .int i3)] [.int x45, .int i3, .ref (ad w 7)] := by
          intro x45 ex45
          have hw := hw x45 ex45
          obtain ⟨hf46, hw⟩ := hw
          refine g_iast ok 7 rfl hf46 _ rfl dX0_leaves_110 (fun C47 eC47 => ?_)
          have hw := hw C47 eC47
          refine g_iinc ok 2 (fun z => [(3, .int z), (0, .ref (ad w 0)), (2, va_rf o2)]) dX0_leaves_111 rfl (by decide) (fun _ => (by generalize o2 = o9; cases o9 <;> rfl)) (fun x48 ex48 => ?_)
          have hw := hw x48 ex48
          refine g_goto (tgt := 33) ok dX0_leaves_114 (by decide) ?_
          refine g_sub [1, 2, 0] [(0, .ref (ad w 0)), (2, va_rf o2), (3, .int x48)] rfl ?_
          exact ih C47 o2 x48 hw
        refine g_if_eq (tgt := 109) ok dX0_leaves_101 (by decide) (fun c43 => ?_) (fun c43 => ?_)
        · refine g_iconst (v := -1) ok dX0_leaves_109 (by decide) ?_
          exact g_sub [1, 2, 3] [(0, .ref (ad w 0)), (2, va_rf o2), (3, .int i3)] rfl (kj44 _ (by simp only [if_pos c43]))
        · refine g_iload ok 4 dX0_leaves_104 rfl ?_
          refine g_goto (tgt := 110) ok dX0_leaves_106 (by decide) ?_
          exact g_sub [1, 2, 3] [(0, .ref (ad w 0)), (2, va_rf o2), (3, .int i3)] rfl (kj44 _ (by simp only [if_neg c43]))
      have hw := hr
      refine g_if_eq (tgt := 91) ok dX0_leaves_58 (by decide) (fun c34 => ?_) (fun c34 => ?_)
      · have hw := hw.1 c34
        refine g_iconst (v := 0) ok dX0_leaves_91 (by decide) ?_
        exact g_sub [1, 2, 3, 0] [(0, .ref (ad w 0)), (2, va_rf o2), (3, .int i3), (4, .int r31)] rfl (kj41 _ (by simp only [if_pos c34]))
      · have hw := hw.2 c34
        refine g_aload_n ok 1 dX0_leaves_61 rfl ?_
        refine g_oload_n ok 2 dX0_leaves_62 rfl ?_
        refine g_iload ok 0 dX0_leaves_63 rfl ?_
        obtain ⟨hp35, hw⟩ := hw
        refine g_callV ok [va_rf o2, .int r31] cf_X0_toldBy q799 (mc_X0_toldBy ok.wo (xL x) C o2 r31 hp35) (recvF ok 0 rfl rfl) rfl rfl (Nat.le_of_ble_eq_true rfl) ⟨by decide, by decide⟩ ⟨by decide, by decide⟩ dX0_leaves_65 (resI ?_)
        refine g_iload_n ok 3 dX0_leaves_68 rfl ?_
        obtain ⟨hr, hw⟩ := hw
        have kj40 : G w x 6 0 0 (QM w x (fun v C1 => ∃ r : Int32, v = some (.int r) ∧ Post r C1) 0 0) C 92 [(0, .ref (ad w 0)), (2, va_rf o2), (3, .int i3), (4, .int r31)] [.int (if (v_X0_toldBy C o2 r31) = i3 then (if (C.2.1 5 (Int32.toNatClampNeg ((10 * i3) + r31))) < 0 then (0 : Int32) else 1) else 0)] := by
          exact (kj41 _ (by simp only [if_neg c34]))
        have hw := hr
        refine g_icmp_ne (tgt := 91) ok dX0_leaves_69 (by decide) (fun c36 => ?_) (fun c36 => ?_)
        · have hw := hw.2 c36
          refine g_iconst (v := 0) ok dX0_leaves_91 (by decide) ?_
          simp only [if_neg c36] at kj40
          exact g_sub [1, 2, 3, 0] [(0, .ref (ad w 0)), (2, va_rf o2), (3, .int i3), (4, .int r31)] rfl kj40
        · have hw := hw.1 c36
          refine g_aload_n ok 1 dX0_leaves_72 rfl ?_
          refine g_get ok 0 rfl rfl in_X0 4 (by decide) q184 rfl dX0_leaves_73 ?_
          refine g_bipush (v := 10) ok dX0_leaves_76 (by decide) ?_
          refine g_iload_n ok 3 dX0_leaves_78 rfl ?_
          refine g_imul ok dX0_leaves_79 ?_
          refine g_iload ok 0 dX0_leaves_80 rfl ?_
          refine g_iadd ok dX0_leaves_82 ?_
          obtain ⟨hf37, hw⟩ := hw
          refine g_iald ok 5 rfl hf37 _ rfl dX0_leaves_83 ?_
          have kj39 : G w x 6 0 0 (QM w x (fun v C1 => ∃ r : Int32, v = some (.int r) ∧ Post r C1) 0 0) C 92 [(0, .ref (ad w 0)), (2, va_rf o2), (3, .int i3), (4, .int r31)] [.int (if (C.2.1 5 (Int32.toNatClampNeg ((10 * i3) + r31))) < 0 then (0 : Int32) else 1)] := by
            simp only [if_pos c36] at kj40
            exact kj40
          refine g_if_lt (tgt := 91) ok dX0_leaves_84 (by decide) (fun c38 => ?_) (fun c38 => ?_)
          · refine g_iconst (v := 0) ok dX0_leaves_91 (by decide) ?_
            simp only [if_pos c38] at kj39
            exact g_sub [1, 2, 3, 0] [(0, .ref (ad w 0)), (2, va_rf o2), (3, .int i3), (4, .int r31)] rfl kj39
          · refine g_iconst (v := 1) ok dX0_leaves_87 (by decide) ?_
            refine g_goto (tgt := 92) ok dX0_leaves_88 (by decide) ?_
            simp only [if_neg c38] at kj39
            exact g_sub [1, 2, 3, 0] [(0, .ref (ad w 0)), (2, va_rf o2), (3, .int i3), (4, .int r31)] rfl kj39
set_option maxHeartbeats 4000000 in
set_option maxRecDepth 100000 in
theorem gw_X0_leaves {w : WD} (wk : wOk w) (l : Launch) (C : CS) (a0 : Int32) {Post : Int32 → CS → Prop} (hw : wp_X0_leaves Post C a0) : MC w l yX0_leaves cX0_leaves 6 (some .int) 101 0 0 [.ref (ad w 0), .int a0] C (fun v C1 => ∃ r : Int32, v = some (.int r) ∧ Post r C1) := by
  unfold wp_X0_leaves at hw
  refine MC.of wk (by decide) (Nat.le_of_ble_eq_true rfl) (fun x hx ok => ?_)
  subst hx
  show G w x 6 0 0 (QM w x _ 0 0) C 0 [(0, .ref (ad w 0)), (1, .int a0)] []
  refine g_iload_n ok 1 dX0_leaves_0 rfl ?_
  refine g_callS ok [.int a0] cf_X0_isSheet q794 (mc_X0_isSheet ok.wo (xL x) C a0) rfl rfl (Nat.le_of_ble_eq_true rfl) ⟨by decide, by decide⟩ ⟨by decide, by decide⟩ dX0_leaves_1 (resI ?_)
  refine g_nmI (fun r1 er1 => ?_)
  have hw := hw r1 er1
  refine g_if_ne (tgt := 10) ok dX0_leaves_4 (by decide) (fun c2 => ?_) (fun c2 => ?_)
  · have hw := hw.2 c2
    refine g_aload_n ok 0 dX0_leaves_10 rfl ?_
    refine g_get ok 0 rfl rfl in_X0 21 (by decide) q203 rfl dX0_leaves_11 ?_
    refine g_iload_n ok 1 dX0_leaves_14 rfl ?_
    obtain ⟨hf3, hw⟩ := hw
    refine g_hald12 ok hf3 dX0_leaves_15 ?_
    refine g_get ok (27 + Int32.toNatClampNeg a0) (fObjH (by have := vp_lt hf3; omega) (by have := vp_lt hf3; omega)) rfl in_X2 0 (by decide) q175 rfl dX0_leaves_16 ?_
    refine g_ostore_n ok [(2, va_rf (cH C (27 + Int32.toNatClampNeg a0))), (0, .ref (ad w 0)), (1, .int a0)] dX0_leaves_19 (by decide) rfl ?_
    refine g_oload_n ok 0 dX0_leaves_20 rfl ?_
    refine g_ifnonnull (tgt := 27) ok dX0_leaves_21 (by decide) (fun c4 => ?_) (fun c4 => ?_)
    · have hw := hw.2 c4
      refine g_aload_n ok 1 dX0_leaves_27 rfl ?_
      obtain ⟨g5, hp6, hw⟩ := hw
      refine g_callV ok [] cf_X0_layValues q767 (mc_X0_layValues ok.wo (xL x) C g5 hp6) (recvF ok 0 rfl rfl) rfl rfl (Nat.le_of_ble_eq_true rfl) ⟨by decide, by decide⟩ ⟨by decide, by decide⟩ dX0_leaves_28 (resVR fun C7 eC7 => ?_)
      have hw := hw C7 eC7
      refine g_iconst (v := 0) ok dX0_leaves_31 (by decide) ?_
      refine g_istore_n0 ok [(3, .int 0), (2, va_rf (cH C (27 + Int32.toNatClampNeg a0))), (0, .ref (ad w 0)), (1, .int a0)] dX0_leaves_32 (by decide) (by generalize (cH C (27 + Int32.toNatClampNeg a0)) = o9; cases o9 <;> rfl) ?_
      refine g_sub [2, 1, 0] [(0, .ref (ad w 0)), (2, va_rf (cH C (27 + Int32.toNatClampNeg a0))), (3, .int 0)] rfl ?_
      obtain ⟨n49, hw⟩ := hw
      exact gw_X0_leaves_l33 ok n49 C7 (cH C (27 + Int32.toNatClampNeg a0)) 0 hw
    · have hw := hw.1 c4
      refine g_ldc (v := -1000000011) ok q798 dX0_leaves_24 ?_
      exact g_iret ok dX0_leaves_26 ⟨_, rfl, hw⟩
  · have hw := hw.1 c2
    refine g_ldc (v := -1000000001) ok q274 dX0_leaves_7 ?_
    exact g_iret ok dX0_leaves_9 ⟨_, rfl, hw⟩
theorem frm_w {J : List Nat} {C C1 : CS} {j i : Nat} {v : Int32} (h : frm J C C1) (hj : j ∈ J) : frm J C (wA C1 j i v) := by
  refine ⟨h.1, h.2.1, fun k hk => ?_⟩
  have : k ≠ j := fun z => hk (by rw [z]; exact hj)
  funext q
  show up2 _ _ _ _ _ _ = _
  unfold up2
  rw [if_neg (fun z => this z.1), h.2.2 k hk]
theorem sp_X0_leaves (C : CS) (a0 : Int32) (hp : p_X0_leaves C a0) : wp_X0_leaves (fun x C1 => x = v_X0_leaves C a0 ∧ q_X0_leaves C a0 C1) C a0 := by
  obtain ⟨hp, hs⟩ := hp
  have rf : frm [5, 7, 10] C C := ⟨rfl, rfl, fun _ _ => rfl⟩
  unfold v_X0_leaves v_X3_leaves q_X0_leaves
  refine fun r1 e1 => ⟨fun c => ?_, fun c => ?_⟩
  all_goals rw [e1, isSh_eq] at c
  · rw [if_pos c]; exact ⟨rfl, rf⟩
  rw [if_neg c]
  obtain ⟨s, hs4, rfl⟩ := sh_k c
  rw [cl_k (by omega)]
  have hr := hs s hs4
  refine ⟨vp_k hs4, fun hn => ?_, fun hn => ?_⟩
  · rw [if_neg (hr.no.mp hn)]; exact ⟨rfl, rf⟩
  have h0 : (0 : Int32) ≤ C.2.1 51 s := Classical.byContradiction fun z => hn (hr.no.mpr z)
  obtain ⟨x1, x2, x3⟩ := hr.yes hn
  obtain ⟨N, hN⟩ := hp.N
  have hN10 := hN.2
  rw [if_pos h0]
  refine ⟨C.2.1 36, hp, fun C7 h7 => ?_⟩
  obtain ⟨f7, v7⟩ := h7
  have v7 := v7 N hN.1 hN.2
  unfold lvR
  rw [hN.1, cl_k (k := N) (by omega)]
  generalize hap : apR (vv (C.2.1 36)) (C.2.1 52) (C.2.1 53) s = ap at *
  generalize hr0 : C.2.1 36 = r at *
  have hj := hp.1.1
  have eg : C.1 (cN C) 0 = nI N := hp.1.2.n.2.1.trans hN.1
  -- what ap says
  have apI : ∀ a b, ap a b = true ↔ (¬ vv r a b < 0 ∧ (¬ C.2.1 52 s ≤ nI a ∧ C.2.1 53 (24 * s + a) = nI b) ∧ ¬ C.2.1 52 s ≤ nI b ∧ C.2.1 53 (24 * s + b) = nI a) := by
    intro a b
    rw [← hap]
    unfold apR tdR
    simp only [Bool.and_eq_true, decide_eq_true_eq]
  have apU : ∀ a b b2, b < N → b2 < N → ap a b = true → ap a b2 = true → b2 = b := by
    intro a b b2 hb hb2 h1 h2
    have z1 := ((apI a b).mp h1).2.1.2
    have z2 := ((apI a b2).mp h2).2.1.2
    exact (nI_eq (by omega) (by omega)).mp (z2.symm.trans z1)
  have apD : ∀ a, ap a a = false := by
    intro a
    rw [← Bool.not_eq_true, apI, vv_self]
    exact fun z => z.1 (by decide)
  -- the second part
  have S2 : ∀ C1 : CS, frm [5, 7, 10] C C1 → (∀ a b, a < N → b < N → C1.2.1 5 (10 * a + b) = vv r a b) → (∀ k, k < N → prS ap N k (C1.2.1 7 k)) → ∃ m, wp_X0_leaves_l119 (fun x C1 => x = lvA (lvP (vv r) ap N) N N 0 ∧ frm [5, 7, 10] C C1) m C1 0 := by
    intro C1 hf hv hpr
    have eN : cN C1 = cN C := by show C1.2.2.2.2.1 = C.2.2.2.2.1; rw [hf.2.1]
    have eg1 : C1.1 (cN C1) 0 = nI N := by rw [eN, hf.1]; exact eg
    have hbE : ∀ g, g < N → p_X0_hasBy C1 (nI g) ∧ v_X0_hasBy C1 (nI g) = hbL ap (vv r) g N 0 ∧ ¬ hbL ap (vv r) g N 0 < 0 := by
      intro g hg
      rcases hpr g hg with ⟨b, hb, h1, h2⟩ | ⟨h1, h2⟩
      · have hne : b ≠ g := fun z => by rw [z, apD] at h1; cases h1
        have e := hb_some (v := vv r) hb hne h1 (fun k hk z => apU g b k hb hk h1 z) N 0 (by omega) (by omega)
        have i : (10 * nI g + nI b : Int32) = nI (10 * g + b) := ix10 g b
        have hpos : (0 : Int32) ≤ nI b := (nI_leI (a := 0) (by omega) (by omega)).mpr (by omega)
        refine ⟨⟨vp_k (by omega), ?_⟩, ?_, ?_⟩
        · rw [cl_k (by omega), h2, i]
          exact ⟨fun _ => ⟨vp_k (by omega), trivial⟩, fun _ => trivial⟩
        · unfold v_X0_hasBy
          rw [cl_k (k := g) (by omega), h2, if_pos hpos, i, cl_k (by omega), e, hv g b hg hb]
        · rw [e]; exact ((apI g b).mp h1).1
      · have e := hb_none (v := vv r) (fun k hk _ => h1 k hk) N 0 (by omega)
        refine ⟨⟨vp_k (by omega), ?_⟩, ?_, ?_⟩
        · rw [cl_k (by omega), h2]
          exact ⟨fun z => absurd z (by decide), fun _ => trivial⟩
        · unfold v_X0_hasBy
          rw [cl_k (k := g) (by omega), h2, if_neg (by decide), e]
        · rw [e]; decide
    have prI : ∀ a b, a < N → b < N → (C1.2.1 7 a = nI b ↔ ap a b = true) := by
      intro a b ha hb
      rcases hpr a ha with ⟨b2, hb2, h1, h2⟩ | ⟨h1, h2⟩
      · rw [h2, nI_eq (by omega) (by omega)]
        exact ⟨fun z => by rw [← z]; exact h1, fun z => (apU a b b2 hb hb2 z h1)⟩
      · rw [h2]
        refine ⟨fun z => absurd ((nI_leI (a := 0) (b := b) (by omega) (by omega)).mpr (by omega)) (by rw [← z]; decide), fun z => ?_⟩
        rw [h1 b hb] at z
        cases z
    have HA : ∀ d a, a + d = N → lvA (lvP (vv r) ap N) N N 0 = lvA (lvP (vv r) ap N) N d a → wp_X0_leaves_l119 (fun x C1 => x = lvA (lvP (vv r) ap N) N N 0 ∧ frm [5, 7, 10] C C1) (d + 1) C1 (nI a) := by
      intro d
      induction d with
      | zero =>
        intro a ha he
        refine ⟨by rw [eN]; exact hj, fun _ => ⟨by rw [he]; rfl, hf⟩, fun z => ?_⟩
        rw [eg1] at z
        exact absurd ((nI_leI (by omega) (by omega)).mpr (by omega)) z
      | succ d ih =>
        intro a ha he
        refine ⟨by rw [eN]; exact hj, fun z => ?_, fun _ x12 e12 => ?_⟩
        · rw [eg1] at z
          have := (nI_leI (by omega) (by omega)).mp z
          omega
        rw [e12, show (1 : Int32) = nI 1 from rfl, nI_add]
        have HB : ∀ d2 b, b + d2 = N → a < b → lvB (lvP (vv r) ap N) a (N - (a + 1)) (a + 1) = lvB (lvP (vv r) ap N) a d2 b → wp_X0_leaves_l135 (fun x C1 => x = lvA (lvP (vv r) ap N) N N 0 ∧ frm [5, 7, 10] C C1) (fun C' i3 => wp_X0_leaves_l119 (fun x C1 => x = lvA (lvP (vv r) ap N) N N 0 ∧ frm [5, 7, 10] C C1) (d + 1) C' i3) (d2 + 1) C1 (nI a) (nI b) := by
          intro d2
          induction d2 with
          | zero =>
            intro b hb hab hl
            refine ⟨by rw [eN]; exact hj, fun _ x15 e15 => ?_, fun z => ?_⟩
            · rw [e15, o1, nI_add]
              refine ih (a + 1) (by omega) ?_
              rw [he, lvA, hl]
              rfl
            · rw [eg1] at z
              exact absurd ((nI_leI (by omega) (by omega)).mpr (by omega)) z
          | succ d2 ih2 =>
            intro b hb hab hl
            refine ⟨by rw [eN]; exact hj, fun z => ?_, fun _ => ?_⟩
            · rw [eg1] at z
              have := (nI_leI (by omega) (by omega)).mp z
              omega
            rw [ix10, cl_k (by omega), cl_k (by omega), hv a b (by omega) (by omega)]
            have nx : lvP (vv r) ap N a b = false → wp_X0_leaves_j206 (fun x C1 => x = lvA (lvP (vv r) ap N) N N 0 ∧ frm [5, 7, 10] C C1) (fun C' i3 => wp_X0_leaves_l119 (fun x C1 => x = lvA (lvP (vv r) ap N) N N 0 ∧ frm [5, 7, 10] C C1) (d + 1) C' i3) (fun C' i3 i4 => wp_X0_leaves_l135 (fun x C1 => x = lvA (lvP (vv r) ap N) N N 0 ∧ frm [5, 7, 10] C C1) (fun C' i3 => wp_X0_leaves_l119 (fun x C1 => x = lvA (lvP (vv r) ap N) N N 0 ∧ frm [5, 7, 10] C C1) (d + 1) C' i3) (d2 + 1) C' i3 i4) C1 (nI a) (nI b) := by
              intro hf2 x19 e19
              rw [e19, o1, nI_add]
              refine ih2 (b + 1) (by omega) (by omega) ?_
              rw [hl, lvB, hf2, if_neg (by decide)]
            obtain ⟨pa1, pa2, pa3⟩ := hbE a (by omega)
            obtain ⟨pb1, pb2, pb3⟩ := hbE b (by omega)
            refine ⟨vp_k (by omega), fun x17 e17 => ⟨fun z => nx ?_, fun z => ⟨vp_k (by omega), fun y => nx ?_, fun y => ⟨pa1, fun r23 e23 => ⟨fun q => nx ?_, fun q => ⟨pb1, fun r26 e26 => ⟨fun p => nx ?_, fun p => ?_⟩⟩⟩⟩⟩⟩⟩
            · unfold lvP
              rw [e17] at z
              have : vv r a b ≤ hbL ap (vv r) a N 0 := Int32.le_trans (Int32.le_of_lt z) (Int32.not_lt.mp pa3)
              simp [this]
            · rw [prI a b (by omega) (by omega)] at y
              unfold lvP
              simp [y]
            · rw [e17, e23, pa2] at q
              unfold lvP
              simp [q]
            · rw [e17, e26, pb2] at p
              unfold lvP
              simp [p]
            · rw [e17, e23, pa2] at q
              rw [e17, e26, pb2] at p
              rw [prI a b (by omega) (by omega)] at y
              have hT : lvP (vv r) ap N a b = true := by
                unfold lvP
                simp [q, p, y]
              refine ⟨?_, hf⟩
              rw [he, lvA, hl, lvB, if_pos hT, ix100]
        exact ⟨_, HB (N - (a + 1)) (a + 1) (by omega) (by omega) rfl⟩
    exact ⟨_, HA N 0 (by omega) rfl⟩
  have S1 : ∀ d k, k + d = N → ∀ C1 : CS, frm [5, 7, 10] C C1 → (∀ a b, a < N → b < N → C1.2.1 5 (10 * a + b) = vv r a b) → (∀ i, i < k → prS ap N i (C1.2.1 7 i)) → wp_X0_leaves_l33 (fun x C1 => x = lvA (lvP (vv r) ap N) N N 0 ∧ frm [5, 7, 10] C C1) (d + 1) C1 (cH C (27 + s)) (nI k) := by
    intro d
    induction d with
    | zero =>
      intro k hk C1 hf hv hpr
      have eN : cN C1 = cN C := by show C1.2.2.2.2.1 = C.2.2.2.2.1; rw [hf.2.1]
      refine ⟨by rw [eN]; exact hj, fun _ => S2 C1 hf hv (fun i hi => hpr i (by omega)), fun z => ?_⟩
      rw [eN, hf.1, eg] at z
      exact absurd ((nI_leI (by omega) (by omega)).mpr (by omega)) z
    | succ d ih =>
      intro k hk C1 hf hv hpr
      have eN : cN C1 = cN C := by show C1.2.2.2.2.1 = C.2.2.2.2.1; rw [hf.2.1]
      have y1 : rwC C1 (cH C (27 + s)) (fun i => C.2.1 53 (24 * s + i)) := x1.same (by rw [hf.2.1]) (by rw [hf.2.1])
      have y2 : lnO C1 (cH C (27 + s)) = lnO C (cH C (27 + s)) := (tgO_eq (by rw [hf.2.1]) _).2
      refine ⟨by rw [eN]; exact hj, fun z => ?_, fun _ => ?_⟩
      · rw [eN, hf.1, eg] at z
        have := (nI_leI (by omega) (by omega)).mp z
        omega
      obtain ⟨t1, t2⟩ := told_v y1 (k := k) (by omega)
      rw [y2, ← x2] at t2
      refine ⟨t1, fun r31 e31 => ⟨⟨by rw [eN]; exact hj, trivial⟩, fun r33 e33 => ?_⟩⟩
      rw [t2] at e31
      have eG : v_X0_isGlove C1 r31 = v_X3_isGlove C r31 := by
        rw [← hp.isG]
        unfold v_X0_isGlove
        rw [eN, hf.1]
      rw [eG] at e33
      have gi := isGlove_iff hN (a := r31)
      have tb : ∀ b, b < N → p_X0_toldBy C1 (cH C (27 + s)) (nI b) ∧ v_X0_toldBy C1 (cH C (27 + s)) (nI b) = if C.2.1 52 s ≤ nI b then -1000000005 else C.2.1 53 (24 * s + b) := fun b hb => by
        obtain ⟨q1, q2⟩ := told_v y1 (k := b) (by omega)
        rw [y2, ← x2] at q2
        exact ⟨q1, q2⟩
      refine ⟨⟨fun _ => trivial, fun z => ?_⟩, fun x42 e42 x45 e45 => ⟨vp_k (by omega), fun C47 e47 x48 e48 => ?_⟩⟩
      · rw [e33] at z
        obtain ⟨b, hb, e⟩ := gi.mp z
        rw [e]
        refine ⟨(tb b hb).1, ⟨fun _ => ⟨by rw [ix10]; exact vp_k (by omega), trivial⟩, fun _ => trivial⟩, trivial⟩
      · rw [e48, o1, nI_add]
        have f47 : frm [5, 7, 10] C C47 := by rw [e47]; exact frm_w hf (by decide)
        refine ih (k + 1) (by omega) C47 f47 (fun a b ha hb => ?_) (fun i hi => ?_)
        · rw [e47]
          show up2 C1.2.1 7 (Int32.toNatClampNeg (nI k)) x45 5 (10 * a + b) = _
          unfold up2
          rw [if_neg (fun z => absurd z.1 (by decide))]
          exact hv a b ha hb
        · rw [e47, cl_k (by omega)]
          show prS ap N i (up2 C1.2.1 7 k x45 7 i)
          unfold up2
          by_cases c : i = k
          · rw [if_pos ⟨rfl, c⟩, c, e45]
            have key : ∀ b, b < N → (ap k b = true ↔ (r31 = nI b ∧ v_X0_toldBy C1 (cH C (27 + s)) (nI b) = nI k ∧ ¬ C1.2.1 5 (10 * k + b) < 0)) := by
              intro b hb
              rw [apI, hv k b (by omega) hb, (tb b hb).2, e31]
              have nn : ∀ m, m < 10 → ¬ (-1000000005 : Int32) = nI m := fun m hm z => absurd ((nI_leI (a := 0) (b := m) (by omega) (by omega)).mpr (by omega)) (by rw [← z]; decide)
              by_cases q1 : C.2.1 52 s ≤ nI k
              · rw [if_pos q1]
                exact ⟨fun z => absurd q1 z.2.1.1, fun z => absurd z.1 (nn b (by omega))⟩
              · rw [if_neg q1]
                by_cases q2 : C.2.1 52 s ≤ nI b
                · rw [if_pos q2]
                  exact ⟨fun z => absurd q2 z.2.2.1, fun z => absurd z.2.1 (nn k (by omega))⟩
                · rw [if_neg q2]
                  exact ⟨fun z => ⟨z.2.1.2, z.2.2.2, z.1⟩, fun z => ⟨z.2.2, ⟨q1, z.1⟩, q2, z.2.1⟩⟩
            by_cases g : v_X3_isGlove C r31 = 0
            · rw [e42, e33, if_pos g, if_pos rfl]
              refine Or.inr ⟨fun b hb => ?_, rfl⟩
              rw [← Bool.not_eq_true, key b hb]
              exact fun z => gi.mpr ⟨b, hb, z.1⟩ g
            · obtain ⟨b, hb, e⟩ := gi.mp g
              rw [e42, e33, if_neg g]
              rw [e]
              rw [ix10, cl_k (by omega)]
              by_cases q : v_X0_toldBy C1 (cH C (27 + s)) (nI b) = nI k ∧ ¬ C1.2.1 5 (10 * k + b) < 0
              · rw [if_pos q.1, if_neg q.2, if_neg (by decide)]
                exact Or.inl ⟨b, hb, (key b hb).mpr ⟨e, q⟩, rfl⟩
              · have : (if v_X0_toldBy C1 (cH C (27 + s)) (nI b) = nI k then (if C1.2.1 5 (10 * k + b) < 0 then (0 : Int32) else 1) else 0) = 0 := by
                  by_cases u : v_X0_toldBy C1 (cH C (27 + s)) (nI b) = nI k
                  · rw [if_pos u, if_pos (Classical.byContradiction fun y => q ⟨u, y⟩)]
                  · rw [if_neg u]
                rw [this, if_pos rfl]
                refine Or.inr ⟨fun b2 hb2 => ?_, rfl⟩
                rw [← Bool.not_eq_true, key b2 hb2]
                intro z
                have : b2 = b := (nI_eq (by omega) (by omega)).mp (z.1.symm.trans e)
                rw [this] at z
                exact q z.2
          · rw [if_neg (fun z => c z.2)]
            exact hpr i (by omega)
  exact ⟨N + 1, S1 N 0 (by omega) C7 ⟨f7.1, f7.2.1, fun j hj => f7.2.2 j (fun z => hj (by simp at z ⊢; omega))⟩ v7 (fun i hi => by omega)⟩
theorem mc_X0_leaves {w : WD} (wk : wOk w) (l : Launch) (C : CS) (a0 : Int32) (hp : p_X0_leaves C a0) : MC w l yX0_leaves cX0_leaves 6 (some .int) 101 0 0 [.ref (ad w 0), .int a0] C (pIR (v_X0_leaves C a0) (q_X0_leaves C a0)) := MC.postIR (gw_X0_leaves wk l C a0 (sp_X0_leaves C a0 hp))
