theorem within_k {x n : Nat} (hx : x < 2 ^ 31) (hn : n < 2 ^ 31) : v_X3_within (nI x) 0 (nI n) = nI (min x n) := by
  unfold v_X3_within
  rw [if_pos (nI_pos' hx)]
  by_cases c : x ≤ n
  · rw [if_pos ((nI_leI hx hn).mpr c), Nat.min_eq_left c]
  · rw [if_neg (fun h => c ((nI_leI hx hn).mp h)), Nat.min_eq_right (by omega)]
theorem in1 {a : Int32} {m : Nat} (hm : m < 2 ^ 31) (h : ¬ v_X3_in a 1 (nI m) = 0) : ∃ k, 1 ≤ k ∧ k ≤ m ∧ a = nI k := by
  obtain ⟨h1, h2⟩ := in_iff.mp h
  obtain ⟨k, q1, q2⟩ := nI_of2 (M := nI m) (n := m) (nI_toInt hm) (Int32.not_lt.mpr (Int32.le_trans (show (0 : Int32) ≤ 1 by decide) h1)) h2
  subst q2
  rcases Nat.eq_zero_or_pos k with h | h
  · subst h; exact absurd h1 (by decide)
  · exact ⟨k, h, q1, rfl⟩
theorem cf_X0_days : CfV yX0_days "TwoGuilds" cX0_days 4 (some .int) 1 := ⟨⟨by decide, by decide, by decide⟩, q72, q823, q821, q822⟩
def p_X0_days (C : CS) (a0 : Int32) : Prop := opP C ∧ ∃ d, d ≤ 9999 ∧ C.2.1 36 2 = nI d
def v_X0_days (C : CS) (a0 : Int32) : Int32 := v_X3_days C a0
def q_X0_days (C : CS) (a0 : Int32) (C1 : CS) : Prop := if v_X3_in a0 1 100 = 0 then C1 = C else tOp C C1 (goR (C.2.1 36) (-1) (v_X3_within (9999 - C.2.1 36 2) 0 a0).toNatClampNeg).1
def wp_X0_days_l25 (Post : Int32 → CS → Prop) : Nat → CS → Int32 → Int32 → Int32 → Prop
  | 0, _, _, _, _ => False
  | n + 1, C, i1, i2, i3 => (i1 ≤ i3 → 
  isTb (cN C) ∧
    (∃ (g8 : (Nat → Int32)), p_X1_lost C (cN C) g8 ∧
    (∀ r11 : Int32, r11 = (v_X1_lost C (cN C) g8) → 
    Post (r11 - i2) C))) ∧
  (¬ i1 ≤ i3 → 
  isTb (cN C) ∧
    ((9999 ≤ (C.1 (cN C) 3) → 
    ∃ (g14 : (Nat → Int32)), p_X1_lost C (cN C) g14 ∧
      (∀ r16 : Int32, r16 = (v_X1_lost C (cN C) g14) → 
      Post (r16 - i2) C)) ∧
    (¬ 9999 ≤ (C.1 (cN C) 3) → 
    ∃ (g17 : (Nat → Int32)), p_X1_goesOn C (cN C) (-1) g17 ∧
      (∀ C19 : CS, q_X1_goesOn C (cN C) (-1) g17 C19 → 
      ∀ x20 : Int32, x20 = (i3 + Int32.ofInt 1) → 
      wp_X0_days_l25 Post n C19 i1 i2 x20))))
def wp_X0_days (Post : Int32 → CS → Prop) (C : CS) (a0 : Int32) : Prop :=
  ∀ r1 : Int32, r1 = (v_X0_isIn (Int32.toInt64 a0) 1 100) → 
    (r1 = 0 → 
    Post (-1000000001) C) ∧
    (¬ r1 = 0 → 
    isTb (cN C) ∧
      (∃ (g3 : (Nat → Int32)), p_X1_lost C (cN C) g3 ∧
      (∀ r6 : Int32, r6 = (v_X1_lost C (cN C) g3) → 
      ∃ m25, wp_X0_days_l25 Post m25 C a0 r6 0)))
set_option maxHeartbeats 4000000 in
set_option maxRecDepth 100000 in
theorem gw_X0_days_l25 {w : WD} {x : Cx} (ok : Ok w x cX0_days 4 yX0_days.cls (some .int) (rmL 100 0 0)) {Post : Int32 → CS → Prop} : ∀ (n : Nat) (C : CS) (i1 : Int32) (i2 : Int32) (i3 : Int32), wp_X0_days_l25 Post  n C i1 i2 i3 → G w x 4 0 0 (QM w x (fun v C1 => ∃ r : Int32, v = some (.int r) ∧ Post r C1) 0 0) C 25 [(0, .ref (ad w 0)), (1, .int i1), (2, .int i2), (3, .int i3)] [] := by
  intro n
  induction n with
  | zero => intro C i1 i2 i3 hw; exact hw.elim
  | succ n ih =>
    intro C i1 i2 i3 hw
    unfold wp_X0_days_l25 at hw
    refine g_iload_n ok 3 dX0_days_25 rfl ?_
    refine g_iload_n ok 1 dX0_days_26 rfl ?_
    refine g_icmp_ge (tgt := 57) ok dX0_days_27 (by decide) (fun c7 => ?_) (fun c7 => ?_)
    · have hw := hw.1 c7
      refine g_aload_n ok 0 dX0_days_57 rfl ?_
      refine g_get ok 0 rfl rfl in_X0 0 (by decide) q180 rfl dX0_days_58 ?_
      obtain ⟨hf10, hw⟩ := hw
      obtain ⟨g8, hp9, hw⟩ := hw
      refine g_callV ok [] cf_X1_lost q824 (mc_X1_lost ok.wo (xL x) C (cN C) g8 hp9) (recvF ok (cN C) (fObjT hf10) rfl) rfl rfl (Nat.le_of_ble_eq_true rfl) ⟨by decide, by decide⟩ ⟨by decide, by decide⟩ dX0_days_61 (resI ?_)
      refine g_nmI (fun r11 er11 => ?_)
      have hw := hw r11 er11
      refine g_iload_n ok 2 dX0_days_64 rfl ?_
      refine g_isub ok dX0_days_65 ?_
      exact g_iret ok dX0_days_66 ⟨_, rfl, hw⟩
    · have hw := hw.2 c7
      refine g_aload_n ok 0 dX0_days_30 rfl ?_
      refine g_get ok 0 rfl rfl in_X0 0 (by decide) q180 rfl dX0_days_31 ?_
      obtain ⟨hf12, hw⟩ := hw
      refine g_get ok (cN C) (fObjT hf12) rfl in_X1 3 (by decide) q130 rfl dX0_days_34 ?_
      refine g_sipush (v := 9999) ok dX0_days_37 (by decide) ?_
      refine g_icmp_ge (tgt := 57) ok dX0_days_40 (by decide) (fun c13 => ?_) (fun c13 => ?_)
      · have hw := hw.1 c13
        refine g_aload_n ok 0 dX0_days_57 rfl ?_
        refine g_get ok 0 rfl rfl in_X0 0 (by decide) q180 rfl dX0_days_58 ?_
        obtain ⟨g14, hp15, hw⟩ := hw
        refine g_callV ok [] cf_X1_lost q824 (mc_X1_lost ok.wo (xL x) C (cN C) g14 hp15) (recvF ok (cN C) (fObjT hf12) rfl) rfl rfl (Nat.le_of_ble_eq_true rfl) ⟨by decide, by decide⟩ ⟨by decide, by decide⟩ dX0_days_61 (resI ?_)
        refine g_nmI (fun r16 er16 => ?_)
        have hw := hw r16 er16
        refine g_iload_n ok 2 dX0_days_64 rfl ?_
        refine g_isub ok dX0_days_65 ?_
        exact g_iret ok dX0_days_66 ⟨_, rfl, hw⟩
      · have hw := hw.2 c13
        refine g_aload_n ok 0 dX0_days_43 rfl ?_
        refine g_get ok 0 rfl rfl in_X0 0 (by decide) q180 rfl dX0_days_44 ?_
        refine g_iconst (v := -1) ok dX0_days_47 (by decide) ?_
        obtain ⟨g17, hp18, hw⟩ := hw
        refine g_callV ok [.int (-1)] cf_X1_goesOn q829 (mc_X1_goesOn ok.wo (xL x) C (cN C) (-1) g17 hp18) (recvF ok (cN C) (fObjT hf12) rfl) rfl rfl (Nat.le_of_ble_eq_true rfl) ⟨by decide, by decide⟩ ⟨by decide, by decide⟩ dX0_days_48 (resVR fun C19 eC19 => ?_)
        have hw := hw C19 eC19
        refine g_iinc ok 3 (fun z => [(3, .int z), (0, .ref (ad w 0)), (1, .int i1), (2, .int i2)]) dX0_days_51 rfl (by decide) (fun _ => rfl) (fun x20 ex20 => ?_)
        have hw := hw x20 ex20
        refine g_goto (tgt := 25) ok dX0_days_54 (by decide) ?_
        refine g_sub [1, 2, 3, 0] [(0, .ref (ad w 0)), (1, .int i1), (2, .int i2), (3, .int x20)] rfl ?_
        exact ih C19 i1 i2 x20 hw
set_option maxHeartbeats 4000000 in
set_option maxRecDepth 100000 in
theorem gw_X0_days {w : WD} (wk : wOk w) (l : Launch) (C : CS) (a0 : Int32) {Post : Int32 → CS → Prop} (hw : wp_X0_days Post C a0) : MC w l yX0_days cX0_days 4 (some .int) 100 0 0 [.ref (ad w 0), .int a0] C (fun v C1 => ∃ r : Int32, v = some (.int r) ∧ Post r C1) := by
  unfold wp_X0_days at hw
  refine MC.of wk (by decide) (Nat.le_of_ble_eq_true rfl) (fun x hx ok => ?_)
  subst hx
  show G w x 4 0 0 (QM w x _ 0 0) C 0 [(0, .ref (ad w 0)), (1, .int a0)] []
  refine g_iload_n ok 1 dX0_days_0 rfl ?_
  refine g_i2l ok dX0_days_1 ?_
  refine g_lconst (v := 1) ok dX0_days_2 (by decide) ?_
  refine g_ldc2 (v := 100) ok q819 dX0_days_3 ?_
  refine g_callS ok [.long (Int32.toInt64 a0), .long 1, .long 100] cf_X0_isIn q269 (mc_X0_isIn ok.wo (xL x) C (Int32.toInt64 a0) 1 100) rfl rfl (Nat.le_of_ble_eq_true rfl) ⟨by decide, by decide⟩ ⟨by decide, by decide⟩ dX0_days_6 (resI ?_)
  refine g_nmI (fun r1 er1 => ?_)
  have hw := hw r1 er1
  refine g_if_ne (tgt := 15) ok dX0_days_9 (by decide) (fun c2 => ?_) (fun c2 => ?_)
  · have hw := hw.2 c2
    refine g_aload_n ok 0 dX0_days_15 rfl ?_
    refine g_get ok 0 rfl rfl in_X0 0 (by decide) q180 rfl dX0_days_16 ?_
    obtain ⟨hf5, hw⟩ := hw
    obtain ⟨g3, hp4, hw⟩ := hw
    refine g_callV ok [] cf_X1_lost q824 (mc_X1_lost ok.wo (xL x) C (cN C) g3 hp4) (recvF ok (cN C) (fObjT hf5) rfl) rfl rfl (Nat.le_of_ble_eq_true rfl) ⟨by decide, by decide⟩ ⟨by decide, by decide⟩ dX0_days_19 (resI ?_)
    refine g_nmI (fun r6 er6 => ?_)
    have hw := hw r6 er6
    refine g_istore_n0 ok [(2, .int r6), (0, .ref (ad w 0)), (1, .int a0)] dX0_days_22 (by decide) rfl ?_
    refine g_iconst (v := 0) ok dX0_days_23 (by decide) ?_
    refine g_istore_n0 ok [(3, .int 0), (2, .int r6), (0, .ref (ad w 0)), (1, .int a0)] dX0_days_24 (by decide) rfl ?_
    refine g_sub [2, 3, 1, 0] [(0, .ref (ad w 0)), (1, .int a0), (2, .int r6), (3, .int 0)] rfl ?_
    obtain ⟨n21, hw⟩ := hw
    exact gw_X0_days_l25 ok n21 C a0 r6 0 hw
  · have hw := hw.1 c2
    refine g_ldc (v := -1000000001) ok q274 dX0_days_12 ?_
    exact g_iret ok dX0_days_14 ⟨_, rfl, hw⟩
theorem sp_X0_days (C : CS) (a0 : Int32) (hp : p_X0_days C a0) : wp_X0_days (fun x C1 => x = v_X0_days C a0 ∧ q_X0_days C a0 C1) C a0 := by
  obtain ⟨hp, d, hd, ed⟩ := hp
  have hj := hp.1.1
  have ht := hp.1.2
  unfold v_X0_days v_X3_days q_X0_days
  refine fun r1 e1 => ⟨fun c1 => ?_, fun c1 => ?_⟩
  all_goals rw [e1, isIn_eq (b := 1) (B := 1) (c := 100) (D := 100) rfl rfl] at c1
  · simp only [if_pos c1]; exact ⟨trivial, trivial⟩
  simp only [if_neg c1]
  obtain ⟨n, hn1, hn, rfl⟩ := in1 (m := 100) (by decide) c1
  have eD : v_X3_within (9999 - C.2.1 36 2) 0 (nI n) = nI (min (9999 - d) n) := by
    rw [ed, show (9999 : Int32) = nI 9999 from rfl, pk_sub hd, within_k (by omega) (by omega)]
  rw [eD, cl_k (by omega)]
  refine ⟨hj, C.2.1 36, ⟨hj, ht⟩, fun r6 e6 => ?_⟩
  have e6 : r6 = lostR (C.2.1 36) := e6
  obtain ⟨N, eN, hN⟩ := hp.N
  have fin : ∀ C1 : CS, TR C1 (cN C) (goR (C.2.1 36) (-1) (min (9999 - d) n)).1 → dE (cN C) C C1 → ∀ r11 : Int32, r11 = lostR (goR (C.2.1 36) (-1) (min (9999 - d) n)).1 → r11 - r6 = v_X3_goesOn C (nI (min (9999 - d) n)) (-1) ∧ tOp C C1 (goR (C.2.1 36) (-1) (min (9999 - d) n)).1 := by
    intro C1 h1 h2 r11 e11
    refine ⟨?_, h1, h2.tE, h2.gd hp.2⟩
    rw [e11, e6, goR_lost eN hN]
    unfold v_X3_goesOn
    rw [cl_k (by omega), Int32.add_comm, Int32.add_sub_cancel]
  have H : ∀ f k, k + f = min (9999 - d) n → ∀ C1 : CS, TR C1 (cN C) (goR (C.2.1 36) (-1) k).1 → dE (cN C) C C1 → wp_X0_days_l25 (fun x C1 => x = v_X3_goesOn C (nI (min (9999 - d) n)) (-1) ∧ tOp C C1 (goR (C.2.1 36) (-1) (min (9999 - d) n)).1) (f + 1) C1 (nI n) r6 (nI k) := by
    intro f
    induction f with
    | zero =>
      intro k hk C1 h1 h2
      have hk : k = min (9999 - d) n := by omega
      have n1 : cN C1 = cN C := h2.2.2.2.2.1
      have f9 : C1.1 (cN C) 3 = nI (d + k) := by rw [h1.n.2.2.1]; exact goR_day eN hN ed _ k
      refine ⟨fun c => ⟨by rw [n1]; exact hj, (goR (C.2.1 36) (-1) k).1, by rw [n1]; exact ⟨hj, h1⟩, fun r11 e11 => ?_⟩, fun c => ⟨by rw [n1]; exact hj, fun c2 => ⟨(goR (C.2.1 36) (-1) k).1, by rw [n1]; exact ⟨hj, h1⟩, fun r11 e11 => ?_⟩, fun c2 => ?_⟩⟩
      · rw [hk] at h1 e11
        exact fin C1 h1 h2 r11 e11
      · rw [hk] at h1 e11
        exact fin C1 h1 h2 r11 e11
      · rw [nI_leI (by omega) (by omega)] at c
        rw [n1, f9] at c2
        exact absurd ((nI_leI (a := 9999) (by omega) (by omega)).mpr (by omega)) c2
    | succ f ih =>
      intro k hk C1 h1 h2
      have n1 : cN C1 = cN C := h2.2.2.2.2.1
      have f9 : C1.1 (cN C) 3 = nI (d + k) := by rw [h1.n.2.2.1]; exact goR_day eN hN ed _ k
      refine ⟨fun c => ?_, fun c => ⟨by rw [n1]; exact hj, fun c2 => ?_, fun c2 => ?_⟩⟩
      · rw [nI_leI (by omega) (by omega)] at c; omega
      · rw [n1, f9] at c2
        have := (nI_leI (a := 9999) (by omega) (by omega)).mp c2
        omega
      · rw [n1]
        refine ⟨(goR (C.2.1 36) (-1) k).1, ⟨n1.symm, ⟨by rw [n1]; exact hj, by rw [n1]; exact h1⟩, h2.gd hp.2⟩, fun C19 h19 x20 e20 => ?_⟩
        rw [e20, o1, nI_add]
        exact ih (k + 1) (by omega) C19 h19.1 (h2.tr h19.2)
  exact ⟨min (9999 - d) n + 1, H _ 0 (by omega) C ht (dE.rf _ C)⟩
theorem mc_X0_days {w : WD} (wk : wOk w) (l : Launch) (C : CS) (a0 : Int32) (hp : p_X0_days C a0) : MC w l yX0_days cX0_days 4 (some .int) 100 0 0 [.ref (ad w 0), .int a0] C (pIR (v_X0_days C a0) (q_X0_days C a0)) := MC.postIR (gw_X0_days wk l C a0 (sp_X0_days C a0 hp))
theorem updupd (r : Nat → Int32) (i : Nat) (a b : Int32) : upd (upd r i a) i b = upd r i b := by
  funext k
  unfold upd
  by_cases c : k = i
  · rw [if_pos c, if_pos c]
  · rw [if_neg c, if_neg c, if_neg c]
theorem cf_X0_deal : CfV yX0_deal "TwoGuilds" cX0_deal 7 (some .int) 1 := ⟨⟨by decide, by decide, by decide⟩, q72, q744, q742, q743⟩
def p_X0_deal (C : CS) (a0 : Int32) : Prop := opP C
def v_X0_deal (C : CS) (a0 : Int32) : Int32 := v_X3_deal C a0
def q_X0_deal (C : CS) (a0 : Int32) (C1 : CS) : Prop := if v_X3_in a0 1 10 = 0 then C1 = C else tOp C C1 (dealI (C.2.1 36) (dealN (C.2.1 36) a0))
def wp_X0_deal_l32 (Post : Int32 → CS → Prop) : Nat → CS → Int32 → Int32 → Prop
  | 0, _, _, _ => False
  | n + 1, C, i2, i3 => (i2 ≤ i3 → 
  Post i2 C) ∧
  (¬ i2 ≤ i3 → 
  isTb (cN C) ∧
    (p_X1_drawn C (cN C) ∧
    (∀ r8 : Int32, r8 = (v_X1_drawn C (cN C)) → 
    ∀ C9 : CS, C9 = (n_X1_drawn C (cN C)) → 
    ∀ x10 : Int32, x10 = (r8 - r8 / 6 * 6) → 
    isTb (cN C9) ∧
    (p_X1_drawn C9 (cN C9) ∧
    (∀ r13 : Int32, r13 = (v_X1_drawn C9 (cN C9)) → 
    ∀ C14 : CS, C14 = (n_X1_drawn C9 (cN C9)) → 
    ∀ x15 : Int32, x15 = (r13 - r13 / 2 * 2) → 
    isTb (cN C14) ∧
    (p_X1_drawn C14 (cN C14) ∧
    (∀ r18 : Int32, r18 = (v_X1_drawn C14 (cN C14)) → 
    ∀ C19 : CS, C19 = (n_X1_drawn C14 (cN C14)) → 
    ∀ x20 : Int32, x20 = (r18 - r18 / 10 * 10) → 
    isTb (cN C19) ∧
    (p_X1_drawn C19 (cN C19) ∧
    (∀ r23 : Int32, r23 = (v_X1_drawn C19 (cN C19)) → 
    ∀ C24 : CS, C24 = (n_X1_drawn C19 (cN C19)) → 
    ∃ (g25 : (Nat → Int32)) (g26 : Nat), p_X0_comes C24 x10 x15 x20 (r23 - r23 / 100 * 100) g25 g26 ∧
    (∀ C28 : CS, q_X0_comes C24 x10 x15 x20 (r23 - r23 / 100 * 100) g25 g26 C28 → 
    ∀ x29 : Int32, x29 = (i3 + Int32.ofInt 1) → 
    wp_X0_deal_l32 Post n C28 i2 x29))))))))))
def wp_X0_deal (Post : Int32 → CS → Prop) (C : CS) (a0 : Int32) : Prop :=
  ∀ r1 : Int32, r1 = (v_X0_isIn (Int32.toInt64 a0) 1 10) → 
    (r1 = 0 → 
    Post (-1000000001) C) ∧
    (¬ r1 = 0 → 
    isTb (cN C) ∧
      (∀ x4 : Int32, x4 = (v_J5_min a0 (10 - (C.1 (cN C) 0))) → 
      ∃ m32, m32 ≤ 11 ∧ wp_X0_deal_l32 Post m32 C x4 0))
set_option maxHeartbeats 4000000 in
set_option maxRecDepth 100000 in
theorem gw_X0_deal_l32 {w : WD} {x : Cx} (ok : Ok w x cX0_deal 7 yX0_deal.cls (some .int) (rmL 6 11 88)) {Post : Int32 → CS → Prop} : ∀ (n : Nat) (C : CS) (i2 : Int32) (i3 : Int32), wp_X0_deal_l32 Post  n C i2 i3 → n ≤ 11 → G w x 7 (0 + (11 - n) * 1) (0 + (11 - n) * 8) (QM w x (fun v C1 => ∃ r : Int32, v = some (.int r) ∧ Post r C1) 11 88) C 32 [(0, .ref (ad w 0)), (2, .int i2), (3, .int i3)] [] := by
  intro n
  induction n with
  | zero => intro C i2 i3 hw hB; exact hw.elim
  | succ n ih =>
    intro C i2 i3 hw hB
    unfold wp_X0_deal_l32 at hw
    refine g_iload_n ok 2 dX0_deal_32 rfl ?_
    refine g_iload_n ok 1 dX0_deal_33 rfl ?_
    refine g_icmp_ge (tgt := 98) ok dX0_deal_34 (by decide) (fun c5 => ?_) (fun c5 => ?_)
    · have hw := hw.1 c5
      refine g_iload_n ok 1 dX0_deal_98 rfl ?_
      refine g_widen 11 88 (by omega) (by omega) ?_
      exact g_iret ok dX0_deal_99 ⟨_, rfl, hw⟩
    · have hw := hw.2 c5
      refine g_aload_n ok 0 dX0_deal_37 rfl ?_
      refine g_get ok 0 rfl rfl in_X0 0 (by decide) q180 rfl dX0_deal_38 ?_
      obtain ⟨hf7, hw⟩ := hw
      obtain ⟨hp6, hw⟩ := hw
      refine g_callV ok [] cf_X1_drawn q746 (mc_X1_drawn ok.wo (xL x) C (cN C) hp6) (recvF ok (cN C) (fObjT hf7) rfl) rfl rfl (Nat.le_of_ble_eq_true rfl) ⟨by decide, by decide⟩ ⟨by show (0 + (11 - (n + 1)) * 1) + 0 ≤ 11; omega, by show (0 + (11 - (n + 1)) * 8) + 0 ≤ 88; omega⟩ dX0_deal_41 (resI ?_)
      refine g_nmI (fun r8 er8 => ?_)
      have hw := hw r8 er8
      refine g_nmC (fun C9 eC9 => ?_)
      have hw := hw C9 eC9
      refine g_bipush (v := 6) ok dX0_deal_44 (by decide) ?_
      refine g_irem ok dX0_deal_46 (by decide) ?_
      refine g_istore ok (fun z => [(4, .int z), (0, .ref (ad w 0)), (2, .int i2), (3, .int i3)]) dX0_deal_47 (by decide) (fun _ => rfl) (fun x10 ex10 => ?_)
      have hw := hw x10 ex10
      refine g_aload_n ok 1 dX0_deal_49 rfl ?_
      refine g_get ok 0 rfl rfl in_X0 0 (by decide) q180 rfl dX0_deal_50 ?_
      obtain ⟨hf12, hw⟩ := hw
      obtain ⟨hp11, hw⟩ := hw
      refine g_callV ok [] cf_X1_drawn q746 (mc_X1_drawn ok.wo (xL x) C9 (cN C9) hp11) (recvF ok (cN C9) (fObjT hf12) rfl) rfl rfl (Nat.le_of_ble_eq_true rfl) ⟨by decide, by decide⟩ ⟨by show (0 + (11 - (n + 1)) * 1) + 0 ≤ 11; omega, by show (0 + (11 - (n + 1)) * 8) + 0 ≤ 88; omega⟩ dX0_deal_53 (resI ?_)
      refine g_nmI (fun r13 er13 => ?_)
      have hw := hw r13 er13
      refine g_nmC (fun C14 eC14 => ?_)
      have hw := hw C14 eC14
      refine g_iconst (v := 2) ok dX0_deal_56 (by decide) ?_
      refine g_irem ok dX0_deal_57 (by decide) ?_
      refine g_istore ok (fun z => [(5, .int z), (4, .int x10), (0, .ref (ad w 0)), (2, .int i2), (3, .int i3)]) dX0_deal_58 (by decide) (fun _ => rfl) (fun x15 ex15 => ?_)
      have hw := hw x15 ex15
      refine g_aload_n ok 2 dX0_deal_60 rfl ?_
      refine g_get ok 0 rfl rfl in_X0 0 (by decide) q180 rfl dX0_deal_61 ?_
      obtain ⟨hf17, hw⟩ := hw
      obtain ⟨hp16, hw⟩ := hw
      refine g_callV ok [] cf_X1_drawn q746 (mc_X1_drawn ok.wo (xL x) C14 (cN C14) hp16) (recvF ok (cN C14) (fObjT hf17) rfl) rfl rfl (Nat.le_of_ble_eq_true rfl) ⟨by decide, by decide⟩ ⟨by show (0 + (11 - (n + 1)) * 1) + 0 ≤ 11; omega, by show (0 + (11 - (n + 1)) * 8) + 0 ≤ 88; omega⟩ dX0_deal_64 (resI ?_)
      refine g_nmI (fun r18 er18 => ?_)
      have hw := hw r18 er18
      refine g_nmC (fun C19 eC19 => ?_)
      have hw := hw C19 eC19
      refine g_bipush (v := 10) ok dX0_deal_67 (by decide) ?_
      refine g_irem ok dX0_deal_69 (by decide) ?_
      refine g_istore ok (fun z => [(6, .int z), (5, .int x15), (4, .int x10), (0, .ref (ad w 0)), (2, .int i2), (3, .int i3)]) dX0_deal_70 (by decide) (fun _ => rfl) (fun x20 ex20 => ?_)
      have hw := hw x20 ex20
      refine g_aload_n ok 3 dX0_deal_72 rfl ?_
      refine g_iload ok 2 dX0_deal_73 rfl ?_
      refine g_iload ok 1 dX0_deal_75 rfl ?_
      refine g_iload ok 0 dX0_deal_77 rfl ?_
      refine g_aload_n ok 3 dX0_deal_79 rfl ?_
      refine g_get ok 0 rfl rfl in_X0 0 (by decide) q180 rfl dX0_deal_80 ?_
      obtain ⟨hf22, hw⟩ := hw
      obtain ⟨hp21, hw⟩ := hw
      refine g_callV ok [] cf_X1_drawn q746 (mc_X1_drawn ok.wo (xL x) C19 (cN C19) hp21) (recvF ok (cN C19) (fObjT hf22) rfl) rfl rfl (Nat.le_of_ble_eq_true rfl) ⟨by decide, by decide⟩ ⟨by show (0 + (11 - (n + 1)) * 1) + 0 ≤ 11; omega, by show (0 + (11 - (n + 1)) * 8) + 0 ≤ 88; omega⟩ dX0_deal_83 (resI ?_)
      refine g_nmI (fun r23 er23 => ?_)
      have hw := hw r23 er23
      refine g_nmC (fun C24 eC24 => ?_)
      have hw := hw C24 eC24
      refine g_bipush (v := 100) ok dX0_deal_86 (by decide) ?_
      refine g_irem ok dX0_deal_88 (by decide) ?_
      obtain ⟨g25, g26, hp27, hw⟩ := hw
      refine g_callV ok [.int x10, .int x15, .int x20, .int (r23 - r23 / 100 * 100)] cf_X0_comes q276 (mc_X0_comes ok.wo (xL x) C24 x10 x15 x20 (r23 - r23 / 100 * 100) g25 g26 hp27) (recvF ok 0 rfl rfl) rfl rfl (Nat.le_of_ble_eq_true rfl) ⟨by decide, by decide⟩ ⟨by show (0 + (11 - (n + 1)) * 1) + 1 ≤ 11; omega, by show (0 + (11 - (n + 1)) * 8) + 8 ≤ 88; omega⟩ dX0_deal_89 (resVR fun C28 eC28 => ?_)
      have hw := hw C28 eC28
      refine g_iinc ok 5 (fun z => [(3, .int z), (6, .int x20), (5, .int x15), (4, .int x10), (0, .ref (ad w 0)), (2, .int i2)]) dX0_deal_92 rfl (by decide) (fun _ => rfl) (fun x29 ex29 => ?_)
      have hw := hw x29 ex29
      refine g_goto (tgt := 32) ok dX0_deal_95 (by decide) ?_
      refine g_sub [4, 5, 0] [(0, .ref (ad w 0)), (2, .int i2), (3, .int x29)] rfl ?_
      refine g_widen _ _ ?_ ?_ (ih C28 i2 x29 hw (by omega)) <;> omega
set_option maxHeartbeats 4000000 in
set_option maxRecDepth 100000 in
theorem gw_X0_deal {w : WD} (wk : wOk w) (l : Launch) (C : CS) (a0 : Int32) {Post : Int32 → CS → Prop} (hw : wp_X0_deal Post C a0) : MC w l yX0_deal cX0_deal 7 (some .int) 6 11 88 [.ref (ad w 0), .int a0] C (fun v C1 => ∃ r : Int32, v = some (.int r) ∧ Post r C1) := by
  unfold wp_X0_deal at hw
  refine MC.of wk (by decide) (Nat.le_of_ble_eq_true rfl) (fun x hx ok => ?_)
  subst hx
  show G w x 7 0 0 (QM w x _ 11 88) C 0 [(0, .ref (ad w 0)), (1, .int a0)] []
  refine g_iload_n ok 1 dX0_deal_0 rfl ?_
  refine g_i2l ok dX0_deal_1 ?_
  refine g_lconst (v := 1) ok dX0_deal_2 (by decide) ?_
  refine g_ldc2 (v := 10) ok q745 dX0_deal_3 ?_
  refine g_callS ok [.long (Int32.toInt64 a0), .long 1, .long 10] cf_X0_isIn q269 (mc_X0_isIn ok.wo (xL x) C (Int32.toInt64 a0) 1 10) rfl rfl (Nat.le_of_ble_eq_true rfl) ⟨by decide, by decide⟩ ⟨by decide, by decide⟩ dX0_deal_6 (resI ?_)
  refine g_nmI (fun r1 er1 => ?_)
  have hw := hw r1 er1
  refine g_if_ne (tgt := 15) ok dX0_deal_9 (by decide) (fun c2 => ?_) (fun c2 => ?_)
  · have hw := hw.2 c2
    refine g_iload_n ok 1 dX0_deal_15 rfl ?_
    refine g_bipush (v := 10) ok dX0_deal_16 (by decide) ?_
    refine g_aload_n ok 0 dX0_deal_18 rfl ?_
    refine g_get ok 0 rfl rfl in_X0 0 (by decide) q180 rfl dX0_deal_19 ?_
    obtain ⟨hf3, hw⟩ := hw
    refine g_get ok (cN C) (fObjT hf3) rfl in_X1 0 (by decide) q124 rfl dX0_deal_22 ?_
    refine g_isub ok dX0_deal_25 ?_
    refine g_mmin ok q688 (Nat.le_of_ble_eq_true rfl) ⟨by decide, by decide⟩ ⟨by decide, by decide⟩ dX0_deal_26 ?_
    refine g_istore_n ok (fun z => [(2, .int z), (0, .ref (ad w 0)), (1, .int a0)]) dX0_deal_29 (by decide) (fun _ => rfl) (fun x4 ex4 => ?_)
    have hw := hw x4 ex4
    refine g_iconst (v := 0) ok dX0_deal_30 (by decide) ?_
    refine g_istore_n0 ok [(3, .int 0), (2, .int x4), (0, .ref (ad w 0)), (1, .int a0)] dX0_deal_31 (by decide) rfl ?_
    refine g_sub [2, 1, 0] [(0, .ref (ad w 0)), (2, .int x4), (3, .int 0)] rfl ?_
    obtain ⟨n30, hB, hw⟩ := hw
    refine g_widen _ _ ?_ ?_ (gw_X0_deal_l32 ok n30 C x4 0 hw hB) <;> omega
  · have hw := hw.1 c2
    refine g_ldc (v := -1000000001) ok q274 dX0_deal_12 ?_
    refine g_widen 11 88 (by omega) (by omega) ?_
    exact g_iret ok dX0_deal_14 ⟨_, rfl, hw⟩
theorem tOp.next {C C1 : CS} {r : Nat → Int32} (h : tOp C C1 r) (hj : isTb (cN C)) : tbOk C1 r ∧ GD C1 ∧ cN C1 = cN C := by
  obtain ⟨h1, h2, h3⟩ := h
  have : cN C1 = cN C := h2.2.2.2.2.1
  refine ⟨?_, h3, this⟩
  unfold tbOk
  rw [this]
  exact ⟨hj, h1⟩
theorem sp_X0_deal (C : CS) (a0 : Int32) (hp : p_X0_deal C a0) : wp_X0_deal (fun x C1 => x = v_X0_deal C a0 ∧ q_X0_deal C a0 C1) C a0 := by
  have hp : opP C := hp
  have hj := hp.1.1
  have ht := hp.1.2
  unfold v_X0_deal v_X3_deal q_X0_deal
  refine fun r1 e1 => ⟨fun c1 => ?_, fun c1 => ?_⟩
  all_goals rw [e1, isIn_eq (b := 1) (B := 1) (c := 10) (D := 10) rfl rfl] at c1
  · simp only [if_pos c1]; exact ⟨trivial, trivial⟩
  simp only [if_neg c1]
  obtain ⟨n, hn1, hn, rfl⟩ := in1 (m := 10) (by decide) c1
  obtain ⟨N, eN, hN⟩ := hp.N
  have eD : dealN (C.2.1 36) (nI n) = min n (10 - N) := by unfold dealN; rw [eN, cl_k (by omega), cl_k (by omega)]
  rw [eD]
  refine ⟨hj, fun x4 e4 => ?_⟩
  have e4 : x4 = nI (min n (10 - N)) := by
    rw [e4, ht.n.2.1, eN, show (10 : Int32) = nI 10 from rfl, pk_sub hN, mn_eq]
    by_cases c : 10 - N ≤ n
    · rw [if_pos ((nI_leI (by omega) (by omega)).mpr c), Nat.min_eq_right c]
    · rw [if_neg (fun h => c ((nI_leI (by omega) (by omega)).mp h)), Nat.min_eq_left (by omega)]
  have H : ∀ f k, k + f = min n (10 - N) → ∀ C1 : CS, tOp C C1 (dealI (C.2.1 36) k) → wp_X0_deal_l32 (fun x C1 => x = nI (min n (10 - N)) ∧ tOp C C1 (dealI (C.2.1 36) (min n (10 - N)))) (f + 1) C1 x4 (nI k) := by
    intro f
    induction f with
    | zero =>
      intro k hk C1 h1
      have hk : k = min n (10 - N) := by omega
      refine ⟨fun _ => ⟨e4, by rw [← hk]; exact h1⟩, fun c => absurd ?_ c⟩
      rw [e4, hk]; exact Int32.le_refl _
    | succ f ih =>
      intro k hk C1 h1
      refine ⟨fun c => ?_, fun _ => ?_⟩
      · rw [e4, nI_leI (by omega) (by omega)] at c; omega
      obtain ⟨tb1, g1, n1⟩ := h1.next hj
      have j1 : isTb (cN C1) := tb1.1
      have rN : dealI (C.2.1 36) k 1 = nI (N + k) := dealI_1 eN k (by omega)
      generalize hr : dealI (C.2.1 36) k = r at *
      refine ⟨j1, ⟨j1, trivial⟩, fun r8 e8 C9 e9 x10 e10 => ?_⟩
      have n9 : cN C9 = cN C1 := by rw [e9]; rfl
      have t9 : TR C9 (cN C1) (upd r 0 (drw (r 0))) := by rw [e9]; exact tb1.2.drawn j1
      rw [n9]
      refine ⟨j1, ⟨j1, trivial⟩, fun r13 e13 C14 e14 x15 e15 => ?_⟩
      have n14 : cN C14 = cN C1 := by rw [e14]; exact n9
      have t14 : TR C14 (cN C1) (upd r 0 (drw (drw (r 0)))) := by
        rw [e14]
        have := t9.drawn j1
        rw [upd_s, updupd] at this
        exact this
      rw [n14]
      refine ⟨j1, ⟨j1, trivial⟩, fun r18 e18 C19 e19 x20 e20 => ?_⟩
      have n19 : cN C19 = cN C1 := by rw [e19]; exact n14
      have t19 : TR C19 (cN C1) (upd r 0 (drw (drw (drw (r 0))))) := by
        rw [e19]
        have := t14.drawn j1
        rw [upd_s, updupd] at this
        exact this
      rw [n19]
      refine ⟨j1, ⟨j1, trivial⟩, fun r23 e23 C24 e24 => ?_⟩
      have n24 : cN C24 = cN C1 := by rw [e24]; exact n19
      have t24 : TR C24 (cN C1) (upd r 0 (drw (drw (drw (drw (r 0)))))) := by
        rw [e24]
        have := t19.drawn j1
        rw [upd_s, updupd] at this
        exact this
      have d24 : dE (cN C1) C1 C24 := by
        rw [e24, e19, e14, e9]
        exact (((((dE.rf _ C1).wI 5 _).wI 5 _).wI 5 _).wI 5 _)
      have v8 : x10 = rem (shz (drw (r 0))) 6 := by rw [e10, e8, drawn_v, tb1.2.n.1]; rfl
      have v13 : x15 = rem (shz (drw (drw (r 0)))) 2 := by rw [e15, e13, drawn_v, t9.n.1, upd_s]; rfl
      have v18 : x20 = rem (shz (drw (drw (drw (r 0))))) 10 := by rw [e20, e18, drawn_v, t14.n.1, upd_s]; rfl
      have v23 : r23 - r23 / 100 * 100 = rem (shz (drw (drw (drw (drw (r 0)))))) 100 := by rw [e23, drawn_v, t19.n.1, upd_s]; rfl
      have lem : ∀ (z : Int32) (d : Nat), 0 < d → d < 2 ^ 31 → ∃ m, m ≤ d - 1 ∧ rem (shz z) (nI d) = nI m := fun z d h1 h2 => by
        obtain ⟨m, q1, q2⟩ := rem_in z h1 h2
        exact ⟨m, by omega, q2⟩
      refine ⟨upd r 0 (drw (drw (drw (drw (r 0))))), N + k, ⟨⟨by rw [n24]; exact j1, by rw [n24]; exact t24⟩, d24.gd g1, by rw [upd_n (by omega)]; exact rN, by omega, by rw [v8]; exact lem _ 6 (by decide) (by decide), by rw [v13]; exact lem _ 2 (by decide) (by decide), by rw [v18]; exact lem _ 10 (by decide) (by decide), by rw [v23]; exact lem _ 100 (by decide) (by decide)⟩, fun C28 h28 x29 e29 => ?_⟩
      obtain ⟨z1, z2, z3⟩ := h28
      rw [n24] at z1 z2
      rw [e29, o1, nI_add]
      refine ih (k + 1) (by omega) C28 ⟨?_, h1.2.1.tr ?_, z3⟩
      · rw [dealI, hr, ← n1]
        unfold dealS
        rw [rN, cl_k (by omega), ← v8, ← v13, ← v18, ← v23]
        exact z1
      · rw [← n1]
        exact d24.tE.tr z2
  exact ⟨min n (10 - N) + 1, by omega, H _ 0 (by omega) C (tOp.rf hp)⟩
theorem mc_X0_deal {w : WD} (wk : wOk w) (l : Launch) (C : CS) (a0 : Int32) (hp : p_X0_deal C a0) : MC w l yX0_deal cX0_deal 7 (some .int) 6 11 88 [.ref (ad w 0), .int a0] C (pIR (v_X0_deal C a0) (q_X0_deal C a0)) := MC.postIR (gw_X0_deal wk l C a0 (sp_X0_deal C a0 hp))
