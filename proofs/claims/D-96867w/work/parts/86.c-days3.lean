theorem cf_X1_goesOn_2 : CfV yX1_goesOn_2 "TwoGuilds$Table" cX1_goesOn_2 4 none 2 := ⟨⟨by decide, by decide, by decide⟩, q73, q872, q870, q871⟩
def p_X1_goesOn_2 (C : CS) (j : Nat) (a0 a1 : Int32) (r : Nat → Int32) (m : Nat) : Prop := j = cN C ∧ tbOk C r ∧ GD C ∧ a1 = nI m ∧ m ≤ 100
def q_X1_goesOn_2 (C : CS) (j : Nat) (a0 a1 : Int32) (r : Nat → Int32) (m : Nat) (C1 : CS) : Prop := TR C1 j (goR r a0 m).1 ∧ dE j C C1
def wp_X1_goesOn_2_l2 (Post : CS → Prop) : Nat → CS → Nat → Int32 → Int32 → Int32 → Prop
  | 0, _, _, _, _, _ => False
  | n + 1, C, t0, i1, i2, i3 => (i2 ≤ i3 → 
  Post C) ∧
  (¬ i2 ≤ i3 → 
  isTb t0 ∧
    (∃ (g2 : (Nat → Int32)), p_X1_goesOn C t0 i1 g2 ∧
    (∀ C5 : CS, q_X1_goesOn C t0 i1 g2 C5 → 
    ∀ x6 : Int32, x6 = (i3 + Int32.ofInt 1) → 
    wp_X1_goesOn_2_l2 Post n C5 t0 i1 i2 x6)))
def wp_X1_goesOn_2 (Post : CS → Prop) (C : CS) (j : Nat) (a0 : Int32) (a1 : Int32) : Prop :=
  ∃ m2, wp_X1_goesOn_2_l2 Post m2 C j a0 a1 0
set_option maxHeartbeats 4000000 in
set_option maxRecDepth 100000 in
theorem gw_X1_goesOn_2_l2 {w : WD} {x : Cx} (ok : Ok w x cX1_goesOn_2 4 yX1_goesOn_2.cls none (rmL 100 0 0)) {Post : CS → Prop} : ∀ (n : Nat) (C : CS) (t0 : Nat) (i1 : Int32) (i2 : Int32) (i3 : Int32), wp_X1_goesOn_2_l2 Post  n C t0 i1 i2 i3 → G w x 4 0 0 (QM w x (fun v C1 => v = none ∧ Post C1) 0 0) C 2 [(0, .ref (ad w t0)), (1, .int i1), (2, .int i2), (3, .int i3)] [] := by
  intro n
  induction n with
  | zero => intro C t0 i1 i2 i3 hw; exact hw.elim
  | succ n ih =>
    intro C t0 i1 i2 i3 hw
    unfold wp_X1_goesOn_2_l2 at hw
    refine g_iload_n ok 3 dX1_goesOn_2_2 rfl ?_
    refine g_iload_n ok 2 dX1_goesOn_2_3 rfl ?_
    refine g_icmp_ge (tgt := 18) ok dX1_goesOn_2_4 (by decide) (fun c1 => ?_) (fun c1 => ?_)
    · have hw := hw.1 c1
      exact g_vret ok dX1_goesOn_2_18 ⟨rfl, hw⟩
    · have hw := hw.2 c1
      refine g_aload_n ok 0 dX1_goesOn_2_7 rfl ?_
      refine g_iload_n ok 1 dX1_goesOn_2_8 rfl ?_
      obtain ⟨hf4, hw⟩ := hw
      obtain ⟨g2, hp3, hw⟩ := hw
      refine g_callV ok [.int i1] cf_X1_goesOn q873 (mc_X1_goesOn ok.wo (xL x) C t0 i1 g2 hp3) (recvF ok t0 (fObjT hf4) rfl) rfl rfl (Nat.le_of_ble_eq_true rfl) ⟨by decide, by decide⟩ ⟨by decide, by decide⟩ dX1_goesOn_2_9 (resVR fun C5 eC5 => ?_)
      have hw := hw C5 eC5
      refine g_iinc ok 3 (fun z => [(3, .int z), (0, .ref (ad w t0)), (1, .int i1), (2, .int i2)]) dX1_goesOn_2_12 rfl (by decide) (fun _ => rfl) (fun x6 ex6 => ?_)
      have hw := hw x6 ex6
      refine g_goto (tgt := 2) ok dX1_goesOn_2_15 (by decide) ?_
      refine g_sub [1, 2, 3, 0] [(0, .ref (ad w t0)), (1, .int i1), (2, .int i2), (3, .int x6)] rfl ?_
      exact ih C5 t0 i1 i2 x6 hw
set_option maxHeartbeats 4000000 in
set_option maxRecDepth 100000 in
theorem gw_X1_goesOn_2 {w : WD} (wk : wOk w) (l : Launch) (C : CS) (j : Nat) (a0 : Int32) (a1 : Int32) {Post : CS → Prop} (hw : wp_X1_goesOn_2 Post C j a0 a1) : MC w l yX1_goesOn_2 cX1_goesOn_2 4 none 100 0 0 [.ref (ad w j), .int a0, .int a1] C (fun v C1 => v = none ∧ Post C1) := by
  unfold wp_X1_goesOn_2 at hw
  refine MC.of wk (by decide) (Nat.le_of_ble_eq_true rfl) (fun x hx ok => ?_)
  subst hx
  show G w x 4 0 0 (QM w x _ 0 0) C 0 [(0, .ref (ad w j)), (1, .int a0), (2, .int a1)] []
  refine g_iconst (v := 0) ok dX1_goesOn_2_0 (by decide) ?_
  refine g_istore_n0 ok [(3, .int 0), (0, .ref (ad w j)), (1, .int a0), (2, .int a1)] dX1_goesOn_2_1 (by decide) rfl ?_
  refine g_sub [1, 2, 3, 0] [(0, .ref (ad w j)), (1, .int a0), (2, .int a1), (3, .int 0)] rfl ?_
  obtain ⟨n7, hw⟩ := hw
  exact gw_X1_goesOn_2_l2 ok n7 C j a0 a1 0 hw
theorem sp_X1_goesOn_2 (C : CS) (j : Nat) (a0 a1 : Int32) (r : Nat → Int32) (m : Nat) (hp : p_X1_goesOn_2 C j a0 a1 r m) : wp_X1_goesOn_2 (fun C1 => q_X1_goesOn_2 C j a0 a1 r m C1) C j a0 a1 := by
  obtain ⟨hn, ⟨hj, ht⟩, hg, rfl, hm⟩ := hp
  rw [← hn] at hj ht
  have H : ∀ d k, k + d = m → ∀ C1 : CS, TR C1 j (goR r a0 k).1 → dE j C C1 → wp_X1_goesOn_2_l2 (fun C1 => q_X1_goesOn_2 C j a0 (nI m) r m C1) (d + 1) C1 j a0 (nI m) (nI k) := by
    intro d
    induction d with
    | zero =>
      intro k hk C1 h1 h2
      have : k = m := by omega
      subst this
      exact ⟨fun _ => ⟨h1, h2⟩, fun c => absurd (Int32.le_refl _) c⟩
    | succ d ih =>
      intro k hk C1 h1 h2
      refine ⟨fun c => absurd ((nI_leI (by omega) (by omega)).mp c) (by omega), fun _ => ⟨hj, (goR r a0 k).1, ⟨?_, ?_, h2.gd hg⟩, fun C5 h5 x6 e6 => ?_⟩⟩
      · rw [hn]; exact h2.2.2.2.2.1.symm
      · have : cN C1 = j := by rw [hn]; exact h2.2.2.2.2.1
        unfold tbOk
        rw [this]
        exact ⟨hj, h1⟩
      · rw [e6, o1, nI_add]
        exact ih (k + 1) (by omega) C5 h5.1 (h2.tr h5.2)
  exact ⟨m + 1, H m 0 (by omega) C ht (dE.rf j C)⟩
theorem mc_X1_goesOn_2 {w : WD} (wk : wOk w) (l : Launch) (C : CS) (j : Nat) (a0 : Int32) (a1 : Int32) (r : (Nat → Int32)) (m : Nat) (hp : p_X1_goesOn_2 C j a0 a1 r m) : MC w l yX1_goesOn_2 cX1_goesOn_2 4 none 100 0 0 [.ref (ad w j), .int a0, .int a1] C (pVR (q_X1_goesOn_2 C j a0 a1 r m)) := MC.postVR (gw_X1_goesOn_2 wk l C j a0 a1 (sp_X1_goesOn_2 C j a0 a1 r m hp))
/-! how many are lost -/
theorem lost_o {r : Nat → Int32} {i : Nat} {v : Int32} (h : i < 16 ∨ 76 ≤ i ∨ ∃ g, i = 16 + 6 * g + 4) : ∀ n, n ≤ 10 → lostS (upd r i v) n = lostS r n := by
  intro n
  induction n with
  | zero => intro _; rfl
  | succ n ih =>
    intro hn
    rw [lostS, lostS, ih (by omega), upd_n (by rcases h with h | h | ⟨g, h⟩ <;> omega)]
theorem lost_u {r : Nat → Int32} {g : Nat} {v : Int32} (h0 : r (16 + 6 * g + 5) = 0) : ∀ n, g < n → lostS (upd r (16 + 6 * g + 5) v) n = lostS r n + v := by
  intro n
  induction n with
  | zero => intro h; omega
  | succ n ih =>
    intro hn
    rw [lostS, lostS]
    by_cases c : n = g
    · subst c
      have : ∀ m, m ≤ n → lostS (upd r (16 + 6 * n + 5) v) m = lostS r m := by
        intro m
        induction m with
        | zero => intro _; rfl
        | succ m ih2 => intro hm; rw [lostS, lostS, ih2 (by omega), upd_n (by omega)]
      rw [this n (Nat.le_refl _), upd_s, h0, Int32.add_zero]
    · rw [ih (by omega), upd_n (by omega), Int32.add_assoc, Int32.add_assoc, Int32.add_comm v]
theorem dayS_lost (home : Int32) {g N : Nat} (hg : g < N) (hN : N ≤ 10) (q : (Nat → Int32) × Int32) : lostS (dayS home g q).1 N + q.2 = lostS q.1 N + (dayS home g q).2 := by
  unfold dayS
  by_cases c : nI g = home
  · rw [if_pos c]
  · rw [if_neg c]
    by_cases c2 : q.1 (16 + 6 * g + 5) = 0
    · rw [if_pos c2]
      simp only []
      rw [lost_u (by rw [upd_n (by omega), upd_n (by omega), upd_n (by omega)]; exact c2) N hg, lost_o (Or.inl (by omega)) N hN, lost_o (Or.inr (Or.inr ⟨g, rfl⟩)) N hN, lost_o (Or.inl (by omega)) N hN, Int32.add_assoc, Int32.add_comm q.2]
    · rw [if_neg c2]
theorem dayI_lost (home : Int32) {N : Nat} (hN : N ≤ 10) (r : Nat → Int32) : ∀ n, n ≤ N → lostS (itr (dayS home) n (r, 0)).1 N = lostS r N + (itr (dayS home) n (r, 0)).2 := by
  intro n
  induction n with
  | zero => intro _; rw [itr, Int32.add_zero]
  | succ n ih =>
    intro hn
    have h := dayS_lost home (g := n) (N := N) (by omega) hN (itr (dayS home) n (r, 0))
    rw [ih (by omega)] at h
    rw [itr]
    have h2 : lostS (dayS home n (itr (dayS home) n (r, 0))).1 N + (itr (dayS home) n (r, 0)).2 = (lostS r N + (dayS home n (itr (dayS home) n (r, 0))).2) + (itr (dayS home) n (r, 0)).2 := by
      rw [h, Int32.add_assoc, Int32.add_assoc, Int32.add_comm (itr (dayS home) n (r, 0)).2]
    have h3 := congrArg (fun z => z - (itr (dayS home) n (r, 0)).2) h2
    simpa only [Int32.add_sub_cancel] using h3
theorem dayR_e {r : Nat → Int32} {N : Nat} (e : r 1 = nI N) (hN : N ≤ 10) (home : Int32) : dayR r home = (upd (itr (dayS home) N (r, 0)).1 2 ((itr (dayS home) N (r, 0)).1 2 + 1), (itr (dayS home) N (r, 0)).2) := by
  unfold dayR
  rw [e, cl_k (by omega)]
theorem dayR_lost {r : Nat → Int32} {N : Nat} (e : r 1 = nI N) (hN : N ≤ 10) (home : Int32) : lostR (dayR r home).1 = lostR r + (dayR r home).2 := by
  have h := dayI_lost home hN r N (Nat.le_refl _)
  have e1 : (dayR r home).1 1 = nI N := by
    rw [dayR_e e hN]
    dsimp only
    rw [upd_n (by omega), dayI_same _ _ _ (by omega) _ (by omega)]
    exact e
  unfold lostR
  rw [e1, e, cl_k (by omega)]
  rw [dayR_e e hN]
  show lostS (upd _ _ _) N = _
  rw [lost_o (Or.inl (by omega)) N hN, h]
theorem goR_1 {r : Nat → Int32} {N : Nat} (e : r 1 = nI N) (hN : N ≤ 10) (home : Int32) : ∀ n, (goR r home n).1 1 = nI N := by
  intro n
  induction n with
  | zero => exact e
  | succ n ih =>
    rw [goR, dayR_e ih hN]
    dsimp only
    rw [upd_n (by omega), dayI_same _ _ _ (by omega) _ (by omega)]
    exact ih
theorem goR_lost {r : Nat → Int32} {N : Nat} (e : r 1 = nI N) (hN : N ≤ 10) (home : Int32) : ∀ n, lostR (goR r home n).1 = lostR r + (goR r home n).2 := by
  intro n
  induction n with
  | zero => rw [goR, Int32.add_zero]
  | succ n ih => rw [goR, dayR_lost (goR_1 e hN home n) hN, ih, Int32.add_assoc]
theorem goR_day {r : Nat → Int32} {N d : Nat} (e : r 1 = nI N) (hN : N ≤ 10) (ed : r 2 = nI d) (home : Int32) : ∀ n, (goR r home n).1 2 = nI (d + n) := by
  intro n
  induction n with
  | zero => exact ed
  | succ n ih =>
    rw [goR, dayR_e (goR_1 e hN home n) hN]
    dsimp only
    rw [upd_s, dayI_same _ _ _ (by omega) _ (by omega)]
    show (goR r home n).1 2 + 1 = _
    rw [ih, show (1 : Int32) = nI 1 from rfl, nI_add, Nat.add_assoc]
theorem cf_X0_count : CfV yX0_count "TwoGuilds" cX0_count 2 (some .int) 1 := ⟨⟨by decide, by decide, by decide⟩, q72, q1352, q1350, q1351⟩
def p_X0_count (C : CS) (a0 : Int32) : Prop := opP C ∧ C.1 0 24 = C.1 1 35 ∧ C.1 0 12 = C.1 1 9
def v_X0_count (C : CS) (a0 : Int32) : Int32 := v_X3_count C a0
def wp_X0_count (Post : Int32 → CS → Prop) (C : CS) (a0 : Int32) : Prop :=
  (a0 = 0 → 
    isTb (cN C) ∧
      (Post (C.1 (cN C) 0) C)) ∧
    (¬ a0 = 0 → 
    (a0 = 1 → 
      isTb (cN C) ∧
        (∃ (g4 : (Nat → Int32)), p_X1_lost C (cN C) g4 ∧
        (∀ r7 : Int32, r7 = (v_X1_lost C (cN C) g4) → 
        Post r7 C))) ∧
      (¬ a0 = 1 → 
      (a0 = 2 → 
        isTb (cN C) ∧
          (Post (C.1 (cN C) 3) C)) ∧
        (¬ a0 = 2 → 
        (a0 = 3 → 
          isTb (cN C) ∧
            (Post (C.1 (cN C) 4) C)) ∧
          (¬ a0 = 3 → 
          (a0 = 4 → 
            isTb (cN C) ∧
              (Post (C.1 (cN C) 2) C)) ∧
            (¬ a0 = 4 → 
            (a0 = 5 → 
              isTb (cN C) ∧
                (Post (C.1 (cN C) 1) C)) ∧
              (¬ a0 = 5 → 
              (a0 = 6 → 
                Post (C.1 0 24) C) ∧
                (¬ a0 = 6 → 
                (a0 = 7 → 
                  Post (C.1 0 12) C) ∧
                  (¬ a0 = 7 → 
                  (a0 = 8 → 
                    isTb (cN C) ∧
                      (Post (C.1 (cN C) 5) C)) ∧
                    (¬ a0 = 8 → 
                    Post (-1000000001) C)))))))))
set_option maxHeartbeats 4000000 in
set_option maxRecDepth 100000 in
theorem gw_X0_count {w : WD} (wk : wOk w) (l : Launch) (C : CS) (a0 : Int32) {Post : Int32 → CS → Prop} (hw : wp_X0_count Post C a0) : MC w l yX0_count cX0_count 2 (some .int) 6 0 0 [.ref (ad w 0), .int a0] C (fun v C1 => ∃ r : Int32, v = some (.int r) ∧ Post r C1) := by
  unfold wp_X0_count at hw
  refine MC.of wk (by decide) (Nat.le_of_ble_eq_true rfl) (fun x hx ok => ?_)
  subst hx
  show G w x 2 0 0 (QM w x _ 0 0) C 0 [(0, .ref (ad w 0)), (1, .int a0)] []
  refine g_iload_n ok 1 dX0_count_0 rfl ?_
  by_cases c1 : a0 = 0
  · have hw := hw.1 c1
    refine g_swIn (tgt := 52) ok (0) dX0_count_1 (c1.trans (by decide)) (by decide) rfl (by decide) ?_
    refine g_aload_n ok 0 dX0_count_52 rfl ?_
    refine g_get ok 0 rfl rfl in_X0 0 (by decide) q180 rfl dX0_count_53 ?_
    obtain ⟨hf2, hw⟩ := hw
    refine g_get ok (cN C) (fObjT hf2) rfl in_X1 0 (by decide) q124 rfl dX0_count_56 ?_
    exact g_iret ok dX0_count_59 ⟨_, rfl, hw⟩
  · have hw := hw.2 c1
    by_cases c3 : a0 = 1
    · have hw := hw.1 c3
      refine g_swIn (tgt := 60) ok (1) dX0_count_1 (c3.trans (by decide)) (by decide) rfl (by decide) ?_
      refine g_aload_n ok 0 dX0_count_60 rfl ?_
      refine g_get ok 0 rfl rfl in_X0 0 (by decide) q180 rfl dX0_count_61 ?_
      obtain ⟨hf6, hw⟩ := hw
      obtain ⟨g4, hp5, hw⟩ := hw
      refine g_callV ok [] cf_X1_lost q824 (mc_X1_lost ok.wo (xL x) C (cN C) g4 hp5) (recvF ok (cN C) (fObjT hf6) rfl) rfl rfl (Nat.le_of_ble_eq_true rfl) ⟨by decide, by decide⟩ ⟨by decide, by decide⟩ dX0_count_64 (resI ?_)
      refine g_nmI (fun r7 er7 => ?_)
      have hw := hw r7 er7
      exact g_iret ok dX0_count_67 ⟨_, rfl, hw⟩
    · have hw := hw.2 c3
      by_cases c8 : a0 = 2
      · have hw := hw.1 c8
        refine g_swIn (tgt := 68) ok (2) dX0_count_1 (c8.trans (by decide)) (by decide) rfl (by decide) ?_
        refine g_aload_n ok 0 dX0_count_68 rfl ?_
        refine g_get ok 0 rfl rfl in_X0 0 (by decide) q180 rfl dX0_count_69 ?_
        obtain ⟨hf9, hw⟩ := hw
        refine g_get ok (cN C) (fObjT hf9) rfl in_X1 3 (by decide) q130 rfl dX0_count_72 ?_
        exact g_iret ok dX0_count_75 ⟨_, rfl, hw⟩
      · have hw := hw.2 c8
        by_cases c10 : a0 = 3
        · have hw := hw.1 c10
          refine g_swIn (tgt := 76) ok (3) dX0_count_1 (c10.trans (by decide)) (by decide) rfl (by decide) ?_
          refine g_aload_n ok 0 dX0_count_76 rfl ?_
          refine g_get ok 0 rfl rfl in_X0 0 (by decide) q180 rfl dX0_count_77 ?_
          obtain ⟨hf11, hw⟩ := hw
          refine g_get ok (cN C) (fObjT hf11) rfl in_X1 4 (by decide) q132 rfl dX0_count_80 ?_
          exact g_iret ok dX0_count_83 ⟨_, rfl, hw⟩
        · have hw := hw.2 c10
          by_cases c12 : a0 = 4
          · have hw := hw.1 c12
            refine g_swIn (tgt := 84) ok (4) dX0_count_1 (c12.trans (by decide)) (by decide) rfl (by decide) ?_
            refine g_aload_n ok 0 dX0_count_84 rfl ?_
            refine g_get ok 0 rfl rfl in_X0 0 (by decide) q180 rfl dX0_count_85 ?_
            obtain ⟨hf13, hw⟩ := hw
            refine g_get ok (cN C) (fObjT hf13) rfl in_X1 2 (by decide) q128 rfl dX0_count_88 ?_
            exact g_iret ok dX0_count_91 ⟨_, rfl, hw⟩
          · have hw := hw.2 c12
            by_cases c14 : a0 = 5
            · have hw := hw.1 c14
              refine g_swIn (tgt := 92) ok (5) dX0_count_1 (c14.trans (by decide)) (by decide) rfl (by decide) ?_
              refine g_aload_n ok 0 dX0_count_92 rfl ?_
              refine g_get ok 0 rfl rfl in_X0 0 (by decide) q180 rfl dX0_count_93 ?_
              obtain ⟨hf15, hw⟩ := hw
              refine g_get ok (cN C) (fObjT hf15) rfl in_X1 1 (by decide) q126 rfl dX0_count_96 ?_
              exact g_iret ok dX0_count_99 ⟨_, rfl, hw⟩
            · have hw := hw.2 c14
              by_cases c16 : a0 = 6
              · have hw := hw.1 c16
                refine g_swIn (tgt := 100) ok (6) dX0_count_1 (c16.trans (by decide)) (by decide) rfl (by decide) ?_
                refine g_aload_n ok 0 dX0_count_100 rfl ?_
                refine g_get ok 0 rfl rfl in_X0 24 (by decide) q206 rfl dX0_count_101 ?_
                exact g_iret ok dX0_count_104 ⟨_, rfl, hw⟩
              · have hw := hw.2 c16
                by_cases c17 : a0 = 7
                · have hw := hw.1 c17
                  refine g_swIn (tgt := 105) ok (7) dX0_count_1 (c17.trans (by decide)) (by decide) rfl (by decide) ?_
                  refine g_aload_n ok 0 dX0_count_105 rfl ?_
                  refine g_get ok 0 rfl rfl in_X0 12 (by decide) q194 rfl dX0_count_106 ?_
                  exact g_iret ok dX0_count_109 ⟨_, rfl, hw⟩
                · have hw := hw.2 c17
                  by_cases c18 : a0 = 8
                  · have hw := hw.1 c18
                    refine g_swIn (tgt := 110) ok (8) dX0_count_1 (c18.trans (by decide)) (by decide) rfl (by decide) ?_
                    refine g_aload_n ok 0 dX0_count_110 rfl ?_
                    refine g_get ok 0 rfl rfl in_X0 0 (by decide) q180 rfl dX0_count_111 ?_
                    obtain ⟨hf19, hw⟩ := hw
                    refine g_get ok (cN C) (fObjT hf19) rfl in_X1 5 (by decide) q134 rfl dX0_count_114 ?_
                    exact g_iret ok dX0_count_117 ⟨_, rfl, hw⟩
                  · have hw := hw.2 c18
                    refine g_swOut (tgt := 118) ok dX0_count_1 (fun k k1 k2 => ?_) (by decide) ?_
                    · rcases (show k = 0 ∨ k = 1 ∨ k = 2 ∨ k = 3 ∨ k = 4 ∨ k = 5 ∨ k = 6 ∨ k = 7 ∨ k = 8 by omega) with rfl | rfl | rfl | rfl | rfl | rfl | rfl | rfl | rfl
                      · exact fun h => c1 (h.trans (by decide))
                      · exact fun h => c3 (h.trans (by decide))
                      · exact fun h => c8 (h.trans (by decide))
                      · exact fun h => c10 (h.trans (by decide))
                      · exact fun h => c12 (h.trans (by decide))
                      · exact fun h => c14 (h.trans (by decide))
                      · exact fun h => c16 (h.trans (by decide))
                      · exact fun h => c17 (h.trans (by decide))
                      · exact fun h => c18 (h.trans (by decide))
                    · refine g_ldc (v := -1000000001) ok q274 dX0_count_118 ?_
                      exact g_iret ok dX0_count_120 ⟨_, rfl, hw⟩
theorem sp_X0_count (C : CS) (a0 : Int32) (hp : p_X0_count C a0) : wp_X0_count (fun x C1 => x = v_X0_count C a0 ∧ C1 = C) C a0 := by
  obtain ⟨hp, h6, h7⟩ := hp
  have hj := hp.1.1
  obtain ⟨t0, t1, t2, t3, t4, t5⟩ := hp.1.2.n
  unfold v_X0_count v_X3_count
  refine ⟨fun c => ⟨hj, ?_, rfl⟩, fun n0 => ⟨fun c => ⟨hj, C.2.1 36, ⟨hj, hp.1.2⟩, fun r7 e7 => ⟨?_, rfl⟩⟩, fun n1 => ⟨fun c => ⟨hj, ?_, rfl⟩, fun n2 => ⟨fun c => ⟨hj, ?_, rfl⟩, fun n3 => ⟨fun c => ⟨hj, ?_, rfl⟩, fun n4 => ⟨fun c => ⟨hj, ?_, rfl⟩, fun n5 => ⟨fun c => ⟨?_, rfl⟩, fun n6 => ⟨fun c => ⟨?_, rfl⟩, fun n7 => ⟨fun c => ⟨hj, ?_, rfl⟩, fun n8 => ⟨?_, rfl⟩⟩⟩⟩⟩⟩⟩⟩⟩⟩
  · rw [if_pos c]; exact t1
  · rw [if_neg n0, if_pos c, e7]; rfl
  · rw [if_neg n0, if_neg n1, if_pos c]; exact t2
  · rw [if_neg n0, if_neg n1, if_neg n2, if_pos c]; exact t3
  · rw [if_neg n0, if_neg n1, if_neg n2, if_neg n3, if_pos c]; exact t4
  · rw [if_neg n0, if_neg n1, if_neg n2, if_neg n3, if_neg n4, if_pos c]; exact t5
  · rw [if_neg n0, if_neg n1, if_neg n2, if_neg n3, if_neg n4, if_neg n5, if_pos c]; exact h6
  · rw [if_neg n0, if_neg n1, if_neg n2, if_neg n3, if_neg n4, if_neg n5, if_neg n6, if_pos c]; exact h7
  · rw [if_neg n0, if_neg n1, if_neg n2, if_neg n3, if_neg n4, if_neg n5, if_neg n6, if_neg n7, if_pos c]; exact t0
  · rw [if_neg n0, if_neg n1, if_neg n2, if_neg n3, if_neg n4, if_neg n5, if_neg n6, if_neg n7, if_neg n8]
theorem mc_X0_count {w : WD} (wk : wOk w) (l : Launch) (C : CS) (a0 : Int32) (hp : p_X0_count C a0) : MC w l yX0_count cX0_count 2 (some .int) 6 0 0 [.ref (ad w 0), .int a0] C (pI (v_X0_count C a0) C) := MC.postI (gw_X0_count wk l C a0 (sp_X0_count C a0 hp))
