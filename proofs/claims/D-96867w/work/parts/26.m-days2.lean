theorem dayR_same {r : Nat → Int32} (h : rowD r) (home : Int32) : ∀ i, i = 1 ∨ (3 ≤ i ∧ i < 16) ∨ 76 ≤ i → (dayR r home).1 i = r i := by
  intro i hi
  obtain ⟨⟨N, e, hN⟩, -⟩ := h
  unfold dayR
  simp only [upd]
  rw [if_neg (by omega), e, cl_k (by omega), dayI_same _ _ _ hN _ (by omega)]
theorem rowD_day {r : Nat → Int32} (h : rowD r) (home : Int32) : rowD (dayR r home).1 := by
  have hs := dayR_same h home
  obtain ⟨⟨N, e, hN⟩, ht⟩ := h
  exact ⟨⟨N, (hs 1 (by omega)).trans e, hN⟩, txsOk_of (hs 5 (by omega)) (fun i hi => hs i (by omega)) ht⟩
/-- n days: the row behind them, how many were lost -/
def goR (r : Nat → Int32) (home : Int32) : Nat → (Nat → Int32) × Int32
  | 0 => (r, 0)
  | k + 1 => ((dayR (goR r home k).1 home).1, (goR r home k).2 + (dayR (goR r home k).1 home).2)
theorem goR_row {r : Nat → Int32} (h : rowD r) (home : Int32) : ∀ n, rowD (goR r home n).1 := by
  intro n
  induction n with
  | zero => exact h
  | succ n ih => exact rowD_day ih home
theorem goR_same {r : Nat → Int32} (h : rowD r) (home : Int32) : ∀ n i, i = 1 ∨ (3 ≤ i ∧ i < 16) ∨ 76 ≤ i → (goR r home n).1 i = r i := by
  intro n
  induction n with
  | zero => intro i _; rfl
  | succ n ih => intro i hi; rw [goR, dayR_same (goR_row h home n) home i hi, ih i hi]
theorem cf_X3_goesOn : CfV yX3_goesOn "TwoGuildsModel" cX3_goesOn 5 (some .int) 2 := ⟨⟨by decide, by decide, by decide⟩, q75, q1635, q1634, qs51⟩
def p_X3_goesOn (C : CS) (a0 a1 : Int32) : Prop := rowD (C.2.1 36) ∧ ∃ n, a0 = nI n ∧ n ≤ 100
def v_X3_goesOn (C : CS) (a0 a1 : Int32) : Int32 := (goR (C.2.1 36) a1 a0.toNatClampNeg).2
def q_X3_goesOn (C : CS) (a0 a1 : Int32) (C1 : CS) : Prop := frm [36, 49, 50] C C1 ∧ C1.2.1 36 = (goR (C.2.1 36) a1 a0.toNatClampNeg).1
def wp_X3_goesOn_l5 (Post : Int32 → CS → Prop) : Nat → CS → Int32 → Int32 → Int32 → Int32 → Prop
  | 0, _, _, _, _, _ => False
  | n + 1, C, i1, i2, i3, i4 => (i1 ≤ i4 → 
  Post i3 C) ∧
  (¬ i1 ≤ i4 → 
  p_X3_day C i2 ∧
    (∀ r3 : Int32, r3 = (v_X3_day C i2) → 
    ∀ C2 : CS, q_X3_day C i2 C2 → 
    ∀ x4 : Int32, x4 = (i3 + r3) → 
    ∀ x5 : Int32, x5 = (i4 + Int32.ofInt 1) → 
    wp_X3_goesOn_l5 Post n C2 i1 i2 x4 x5))
def wp_X3_goesOn (Post : Int32 → CS → Prop) (C : CS) (a0 : Int32) (a1 : Int32) : Prop :=
  ∃ m5, wp_X3_goesOn_l5 Post m5 C a0 a1 0 0
set_option maxHeartbeats 4000000 in
set_option maxRecDepth 100000 in
theorem gw_X3_goesOn_l5 {w : WD} {x : Cx} (ok : Ok w x cX3_goesOn 5 yX3_goesOn.cls (some .int) (rmL 4 0 0)) {Post : Int32 → CS → Prop} : ∀ (n : Nat) (C : CS) (i1 : Int32) (i2 : Int32) (i3 : Int32) (i4 : Int32), wp_X3_goesOn_l5 Post  n C i1 i2 i3 i4 → G w x 5 0 0 (QM w x (fun v C1 => ∃ r : Int32, v = some (.int r) ∧ Post r C1) 0 0) C 5 [(0, .ref (ad w 1)), (1, .int i1), (2, .int i2), (3, .int i3), (4, .int i4)] [] := by
  intro n
  induction n with
  | zero => intro C i1 i2 i3 i4 hw; exact hw.elim
  | succ n ih =>
    intro C i1 i2 i3 i4 hw
    unfold wp_X3_goesOn_l5 at hw
    refine g_iload ok 4 dX3_goesOn_5 rfl ?_
    refine g_iload_n ok 1 dX3_goesOn_7 rfl ?_
    refine g_icmp_ge (tgt := 25) ok dX3_goesOn_8 (by decide) (fun c1 => ?_) (fun c1 => ?_)
    · have hw := hw.1 c1
      refine g_iload_n ok 3 dX3_goesOn_25 rfl ?_
      exact g_iret ok dX3_goesOn_26 ⟨_, rfl, hw⟩
    · have hw := hw.2 c1
      refine g_iload_n ok 3 dX3_goesOn_11 rfl ?_
      refine g_aload_n ok 0 dX3_goesOn_12 rfl ?_
      refine g_iload_n ok 2 dX3_goesOn_13 rfl ?_
      obtain ⟨hp, hw⟩ := hw
      refine g_callVIR ok [.int i2] cf_X3_day q1636 (mc_X3_day ok.wo (xL x) C i2 hp) (recvF ok 1 rfl rfl) rfl rfl (Nat.le_of_ble_eq_true rfl) ⟨by decide, by decide⟩ ⟨by decide, by decide⟩ dX3_goesOn_14 (fun C2 eC2 => ?_)
      refine g_nmI (fun r3 er3 => ?_)
      have hw := hw r3 er3 C2 eC2
      refine g_iadd ok dX3_goesOn_17 ?_
      refine g_istore_n ok (fun z => [(3, .int z), (0, .ref (ad w 1)), (1, .int i1), (2, .int i2), (4, .int i4)]) dX3_goesOn_18 (by decide) (fun _ => rfl) (fun x4 ex4 => ?_)
      have hw := hw x4 ex4
      refine g_iinc ok 4 (fun z => [(4, .int z), (3, .int x4), (0, .ref (ad w 1)), (1, .int i1), (2, .int i2)]) dX3_goesOn_19 rfl (by decide) (fun _ => rfl) (fun x5 ex5 => ?_)
      have hw := hw x5 ex5
      refine g_goto (tgt := 5) ok dX3_goesOn_22 (by decide) ?_
      refine g_sub [2, 3, 4, 1, 0] [(0, .ref (ad w 1)), (1, .int i1), (2, .int i2), (3, .int x4), (4, .int x5)] rfl ?_
      exact ih C2 i1 i2 x4 x5 hw
set_option maxHeartbeats 4000000 in
set_option maxRecDepth 100000 in
theorem gw_X3_goesOn {w : WD} (wk : wOk w) (l : Launch) (C : CS) (a0 : Int32) (a1 : Int32) {Post : Int32 → CS → Prop} (hw : wp_X3_goesOn Post C a0 a1) : MC w l yX3_goesOn cX3_goesOn 5 (some .int) 4 0 0 [.ref (ad w 1), .int a0, .int a1] C (fun v C1 => ∃ r : Int32, v = some (.int r) ∧ Post r C1) := by
  unfold wp_X3_goesOn at hw
  refine MC.of wk (by decide) (Nat.le_of_ble_eq_true rfl) (fun x hx ok => ?_)
  subst hx
  show G w x 5 0 0 (QM w x _ 0 0) C 0 [(0, .ref (ad w 1)), (1, .int a0), (2, .int a1)] []
  refine g_iconst (v := 0) ok dX3_goesOn_0 (by decide) ?_
  refine g_istore_n0 ok [(3, .int 0), (0, .ref (ad w 1)), (1, .int a0), (2, .int a1)] dX3_goesOn_1 (by decide) rfl ?_
  refine g_iconst (v := 0) ok dX3_goesOn_2 (by decide) ?_
  refine g_istore0 ok [(4, .int 0), (3, .int 0), (0, .ref (ad w 1)), (1, .int a0), (2, .int a1)] dX3_goesOn_3 (by decide) rfl ?_
  refine g_sub [2, 3, 4, 1, 0] [(0, .ref (ad w 1)), (1, .int a0), (2, .int a1), (3, .int 0), (4, .int 0)] rfl ?_
  obtain ⟨n6, hw⟩ := hw
  exact gw_X3_goesOn_l5 ok n6 C a0 a1 0 0 hw
theorem sp_X3_goesOn (C : CS) (a0 a1 : Int32) (hp : p_X3_goesOn C a0 a1) : wp_X3_goesOn (fun r C1 => r = v_X3_goesOn C a0 a1 ∧ q_X3_goesOn C a0 a1 C1) C a0 a1 := by
  obtain ⟨hr, n, rfl, hn⟩ := hp
  have H : ∀ d k, k + d = n → ∀ C1 : CS, frm [36, 49, 50] C C1 → C1.2.1 36 = (goR (C.2.1 36) a1 k).1 → wp_X3_goesOn_l5 (fun r C1 => r = v_X3_goesOn C (nI n) a1 ∧ q_X3_goesOn C (nI n) a1 C1) (d + 1) C1 (nI n) a1 (goR (C.2.1 36) a1 k).2 (nI k) := by
    intro d
    induction d with
    | zero =>
      intro k hk C1 hf h36
      have ek : k = n := by omega
      subst ek
      refine ⟨fun _ => ⟨?_, hf, ?_⟩, fun c => absurd ?_ c⟩
      · unfold v_X3_goesOn; rw [cl_k (by omega)]
      · rw [cl_k (by omega)]; exact h36
      · rw [nI_leI (by omega) (by omega)]; omega
    | succ d ih =>
      intro k hk C1 hf h36
      refine ⟨fun c => ?_, fun _ => ⟨by unfold p_X3_day; rw [h36]; exact goR_row hr a1 k, fun r3 e3 C2 e2 x4 e4 x5 e5 => ?_⟩⟩
      · rw [nI_leI (by omega) (by omega)] at c; omega
      · rw [e5, o1, nI_add, e4, e3]
        unfold v_X3_day
        rw [h36]
        exact ih (k + 1) (by omega) C2 (hf.tr e2.1) (by rw [e2.2, h36]; rfl)
  exact ⟨n + 1, H n 0 (by omega) C (frm.rf _ _) rfl⟩
theorem mc_X3_goesOn {w : WD} (wk : wOk w) (l : Launch) (C : CS) (a0 : Int32) (a1 : Int32) (hp : p_X3_goesOn C a0 a1) : MC w l yX3_goesOn cX3_goesOn 5 (some .int) 4 0 0 [.ref (ad w 1), .int a0, .int a1] C (pIR (v_X3_goesOn C a0 a1) (q_X3_goesOn C a0 a1)) := MC.postIR (gw_X3_goesOn wk l C a0 a1 (sp_X3_goesOn C a0 a1 hp))
theorem in_iff {a lo hi : Int32} : ¬ v_X3_in a lo hi = 0 ↔ lo ≤ a ∧ a ≤ hi := by
  unfold v_X3_in
  by_cases h1 : a < lo
  · rw [if_pos h1]
    constructor
    · intro h; exact absurd rfl h
    · intro h; exact absurd h1 (Int32.not_lt.mpr h.1)
  · rw [if_neg h1]
    by_cases h2 : hi < a
    · rw [if_pos h2]
      constructor
      · intro h; exact absurd rfl h
      · intro h; exact absurd h2 (Int32.not_lt.mpr h.2)
    · rw [if_neg h2]
      constructor
      · intro _; exact ⟨Int32.not_lt.mp h1, Int32.not_lt.mp h2⟩
      · intro _; decide
/-- an int between two numbers -/
theorem nI_btw {a : Int32} {lo hi : Nat} (h1 : nI lo ≤ a) (h2 : a ≤ nI hi) (hh : hi < 2 ^ 31) (hl : lo < 2 ^ 31 := by decide) : ∃ n, a = nI n ∧ lo ≤ n ∧ n ≤ hi := by
  have h0 : ¬ a < 0 := Int32.not_lt.mpr (Int32.le_trans (nI_pos' hl) h1)
  obtain ⟨j, hj, rfl⟩ := nI_of h0
  exact ⟨j, rfl, (nI_leI hl hj).mp h1, (nI_leI hj hh).mp h2⟩
theorem within_btw {a : Int32} {hi : Nat} (h : hi < 2 ^ 31) : ∃ n, v_X3_within a 0 (nI hi) = nI n ∧ n ≤ hi := by
  unfold v_X3_within
  by_cases h1 : 0 ≤ a
  · rw [if_pos h1]
    by_cases h2 : a ≤ nI hi
    · rw [if_pos h2]
      obtain ⟨n, e, -, h3⟩ := nI_btw (lo := 0) h1 h2 h
      exact ⟨n, e, h3⟩
    · rw [if_neg h2]; exact ⟨hi, rfl, Nat.le_refl _⟩
  · rw [if_neg h1]; exact ⟨0, rfl, Nat.zero_le _⟩
theorem cf_X3_days : CfV yX3_days "TwoGuildsModel" cX3_days 2 (some .int) 1 := ⟨⟨by decide, by decide, by decide⟩, q75, q1631, q1629, q1630⟩
def p_X3_days (C : CS) (a0 : Int32) : Prop := rowD (C.2.1 36)
def v_X3_days (C : CS) (a0 : Int32) : Int32 := if v_X3_in a0 1 100 = 0 then -1000000001 else v_X3_goesOn C (v_X3_within (9999 - C.2.1 36 2) 0 a0) (-1)
def q_X3_days (C : CS) (a0 : Int32) (C1 : CS) : Prop := if v_X3_in a0 1 100 = 0 then C1 = C else q_X3_goesOn C (v_X3_within (9999 - C.2.1 36 2) 0 a0) (-1) C1
def wp_X3_days (Post : Int32 → CS → Prop) (C : CS) (a0 : Int32) : Prop :=
  ∀ r1 : Int32, r1 = (v_X3_in a0 1 100) → 
    (r1 = 0 → 
    Post (-1000000001) C) ∧
    (¬ r1 = 0 → 
    ∀ r3 : Int32, r3 = (v_X3_within (9999 - (C.2.1 36 2)) 0 a0) → 
      p_X3_goesOn C r3 (-1) ∧
      (∀ r5 : Int32, r5 = (v_X3_goesOn C r3 (-1)) → 
      ∀ C4 : CS, q_X3_goesOn C r3 (-1) C4 → 
      Post r5 C4))
set_option maxHeartbeats 4000000 in
set_option maxRecDepth 100000 in
theorem gw_X3_days {w : WD} (wk : wOk w) (l : Launch) (C : CS) (a0 : Int32) {Post : Int32 → CS → Prop} (hw : wp_X3_days Post C a0) : MC w l yX3_days cX3_days 2 (some .int) 5 0 0 [.ref (ad w 1), .int a0] C (fun v C1 => ∃ r : Int32, v = some (.int r) ∧ Post r C1) := by
  unfold wp_X3_days at hw
  refine MC.of wk (by decide) (Nat.le_of_ble_eq_true rfl) (fun x hx ok => ?_)
  subst hx
  show G w x 2 0 0 (QM w x _ 0 0) C 0 [(0, .ref (ad w 1)), (1, .int a0)] []
  refine g_iload_n ok 1 dX3_days_0 rfl ?_
  refine g_iconst (v := 1) ok dX3_days_1 (by decide) ?_
  refine g_bipush (v := 100) ok dX3_days_2 (by decide) ?_
  refine g_callSI ok [.int a0, .int 1, .int 100] cf_X3_in q1474 (mc_X3_in ok.wo (xL x) C a0 1 100) rfl rfl (Nat.le_of_ble_eq_true rfl) ⟨by decide, by decide⟩ ⟨by decide, by decide⟩ dX3_days_4 ?_
  refine g_nmI (fun r1 er1 => ?_)
  have hw := hw r1 er1
  refine g_if_eq (tgt := 33) ok dX3_days_7 (by decide) (fun c2 => ?_) (fun c2 => ?_)
  · have hw := hw.1 c2
    refine g_ldc (v := -1000000001) ok q1477 dX3_days_33 ?_
    exact g_iret ok dX3_days_35 ⟨_, rfl, hw⟩
  · have hw := hw.2 c2
    refine g_aload_n ok 0 dX3_days_10 rfl ?_
    refine g_sipush (v := 9999) ok dX3_days_11 (by decide) ?_
    refine g_aload_n ok 0 dX3_days_14 rfl ?_
    refine g_get ok 1 rfl rfl in_X3 0 (by decide) q1359 rfl dX3_days_15 ?_
    refine g_iconst (v := 2) ok dX3_days_18 (by decide) ?_
    refine g_iald ok 36 rfl (by unfold vp_in; decide) 2 (by decide) dX3_days_19 ?_
    refine g_isub ok dX3_days_20 ?_
    refine g_iconst (v := 0) ok dX3_days_21 (by decide) ?_
    refine g_iload_n ok 1 dX3_days_22 rfl ?_
    refine g_callSI ok [.int (9999 - (C.2.1 36 2)), .int 0, .int a0] cf_X3_within q1550 (mc_X3_within ok.wo (xL x) C (9999 - (C.2.1 36 2)) 0 a0) rfl rfl (Nat.le_of_ble_eq_true rfl) ⟨by decide, by decide⟩ ⟨by decide, by decide⟩ dX3_days_23 ?_
    refine g_nmI (fun r3 er3 => ?_)
    have hw := hw r3 er3
    refine g_iconst (v := -1) ok dX3_days_26 (by decide) ?_
    obtain ⟨hp, hw⟩ := hw
    refine g_callVIR ok [.int r3, .int (-1)] cf_X3_goesOn q1632 (mc_X3_goesOn ok.wo (xL x) C r3 (-1) hp) (recvF ok 1 rfl rfl) rfl rfl (Nat.le_of_ble_eq_true rfl) ⟨by decide, by decide⟩ ⟨by decide, by decide⟩ dX3_days_27 (fun C4 eC4 => ?_)
    refine g_nmI (fun r5 er5 => ?_)
    have hw := hw r5 er5 C4 eC4
    refine g_goto (tgt := 35) ok dX3_days_30 (by decide) ?_
    exact g_iret ok dX3_days_35 ⟨_, rfl, hw⟩
theorem sp_X3_days (C : CS) (a0 : Int32) (hp : p_X3_days C a0) : wp_X3_days (fun r C1 => r = v_X3_days C a0 ∧ q_X3_days C a0 C1) C a0 := by
  intro r1 e1
  refine ⟨fun c => ?_, fun c r3 e3 => ⟨⟨hp, ?_⟩, fun r5 e5 C4 e4 => ?_⟩⟩
  · exact ⟨by unfold v_X3_days; rw [← e1, if_pos c], by unfold q_X3_days; rw [← e1, if_pos c]⟩
  · rw [e1] at c
    obtain ⟨h1, h2⟩ := in_iff.mp c
    obtain ⟨n, rfl, -, hn⟩ := nI_btw (lo := 1) (hi := 100) h1 h2 (by decide)
    obtain ⟨k, e, hk⟩ := within_btw (a := 9999 - C.2.1 36 2) (hi := n) (by omega)
    exact ⟨k, e3.trans e, by omega⟩
  · exact ⟨by unfold v_X3_days; rw [← e1, if_neg c, ← e3, e5], by unfold q_X3_days; rw [← e1, if_neg c, ← e3]; exact e4⟩
theorem mc_X3_days {w : WD} (wk : wOk w) (l : Launch) (C : CS) (a0 : Int32) (hp : p_X3_days C a0) : MC w l yX3_days cX3_days 2 (some .int) 5 0 0 [.ref (ad w 1), .int a0] C (pIR (v_X3_days C a0) (q_X3_days C a0)) := MC.postIR (gw_X3_days wk l C a0 (sp_X3_days C a0 hp))
