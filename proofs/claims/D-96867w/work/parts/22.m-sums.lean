def lostS (r : Nat → Int32) : Nat → Int32
  | 0 => 0
  | k + 1 => lostS r k + r (16 + 6 * k + 5)
def wearS (r : Nat → Int32) : Nat → Int32
  | 0 => 0
  | k + 1 => wearS r k + (if r (16 + 6 * k + 5) = 0 then r (16 + 6 * k + 4) else 0)
/-- the text that counts for a key -/
def cntT (r : Nat → Int32) (key : Int32) : Nat → Int32
  | 0 => -1
  | k + 1 => if r (76 + 2 * k) / 1000 = key then nI k else cntT r key k
theorem cf_X3_lostMany : CfV yX3_lostMany "TwoGuildsModel" cX3_lostMany 3 (some .int) 0 := ⟨⟨by decide, by decide, by decide⟩, q75, q1659, q1658, qs56⟩
def p_X3_lostMany (C : CS) : Prop := ∃ N, gOk C N
def v_X3_lostMany (C : CS) : Int32 := lostS (C.2.1 36) (C.2.1 36 1).toNatClampNeg
def wp_X3_lostMany_l4 (Post : Int32 → CS → Prop) : Nat → CS → Int32 → Int32 → Prop
  | 0, _, _, _ => False
  | n + 1, C, i1, i2 => ((C.2.1 36 1) ≤ i2 → 
  Post i1 C) ∧
  (¬ (C.2.1 36 1) ≤ i2 → 
  p_X3_of C i2 5 ∧
    (∀ r2 : Int32, r2 = (v_X3_of C i2 5) → 
    ∀ x3 : Int32, x3 = (i1 + r2) → 
    ∀ x4 : Int32, x4 = (i2 + Int32.ofInt 1) → 
    wp_X3_lostMany_l4 Post n C x3 x4))
def wp_X3_lostMany (Post : Int32 → CS → Prop) (C : CS)  : Prop :=
  ∃ m4, wp_X3_lostMany_l4 Post m4 C 0 0
set_option maxHeartbeats 4000000 in
set_option maxRecDepth 100000 in
theorem gw_X3_lostMany_l4 {w : WD} {x : Cx} (ok : Ok w x cX3_lostMany 3 yX3_lostMany.cls (some .int) (rmL 1 0 0)) {Post : Int32 → CS → Prop} : ∀ (n : Nat) (C : CS) (i1 : Int32) (i2 : Int32), wp_X3_lostMany_l4 Post  n C i1 i2 → G w x 3 0 0 (QM w x (fun v C1 => ∃ r : Int32, v = some (.int r) ∧ Post r C1) 0 0) C 4 [(0, .ref (ad w 1)), (1, .int i1), (2, .int i2)] [] := by
  intro n
  induction n with
  | zero => intro C i1 i2 hw; exact hw.elim
  | succ n ih =>
    intro C i1 i2 hw
    unfold wp_X3_lostMany_l4 at hw
    refine g_iload_n ok 2 dX3_lostMany_4 rfl ?_
    refine g_aload_n ok 0 dX3_lostMany_5 rfl ?_
    refine g_get ok 1 rfl rfl in_X3 0 (by decide) q1359 rfl dX3_lostMany_6 ?_
    refine g_iconst (v := 1) ok dX3_lostMany_9 (by decide) ?_
    refine g_iald ok 36 rfl (by unfold vp_in; decide) 1 (by decide) dX3_lostMany_10 ?_
    refine g_icmp_ge (tgt := 29) ok dX3_lostMany_11 (by decide) (fun c1 => ?_) (fun c1 => ?_)
    · have hw := hw.1 c1
      refine g_iload_n ok 1 dX3_lostMany_29 rfl ?_
      exact g_iret ok dX3_lostMany_30 ⟨_, rfl, hw⟩
    · have hw := hw.2 c1
      refine g_iload_n ok 1 dX3_lostMany_14 rfl ?_
      refine g_aload_n ok 0 dX3_lostMany_15 rfl ?_
      refine g_iload_n ok 2 dX3_lostMany_16 rfl ?_
      refine g_iconst (v := 5) ok dX3_lostMany_17 (by decide) ?_
      obtain ⟨hp, hw⟩ := hw
      refine g_callVI ok [.int i2, .int 5] cf_X3_of q1495 (mc_X3_of ok.wo (xL x) C i2 5 hp) (recvF ok 1 rfl rfl) rfl rfl (Nat.le_of_ble_eq_true rfl) ⟨by decide, by decide⟩ ⟨by decide, by decide⟩ dX3_lostMany_18 ?_
      refine g_nmI (fun r2 er2 => ?_)
      have hw := hw r2 er2
      refine g_iadd ok dX3_lostMany_21 ?_
      refine g_istore_n ok (fun z => [(1, .int z), (0, .ref (ad w 1)), (2, .int i2)]) dX3_lostMany_22 (by decide) (fun _ => rfl) (fun x3 ex3 => ?_)
      have hw := hw x3 ex3
      refine g_iinc ok 2 (fun z => [(2, .int z), (1, .int x3), (0, .ref (ad w 1))]) dX3_lostMany_23 rfl (by decide) (fun _ => rfl) (fun x4 ex4 => ?_)
      have hw := hw x4 ex4
      refine g_goto (tgt := 4) ok dX3_lostMany_26 (by decide) ?_
      refine g_sub [2, 1, 0] [(0, .ref (ad w 1)), (1, .int x3), (2, .int x4)] rfl ?_
      exact ih C x3 x4 hw
set_option maxHeartbeats 4000000 in
set_option maxRecDepth 100000 in
theorem gw_X3_lostMany {w : WD} (wk : wOk w) (l : Launch) (C : CS)  {Post : Int32 → CS → Prop} (hw : wp_X3_lostMany Post C ) : MC w l yX3_lostMany cX3_lostMany 3 (some .int) 1 0 0 [.ref (ad w 1)] C (fun v C1 => ∃ r : Int32, v = some (.int r) ∧ Post r C1) := by
  unfold wp_X3_lostMany at hw
  refine MC.of wk (by decide) (Nat.le_of_ble_eq_true rfl) (fun x hx ok => ?_)
  subst hx
  show G w x 3 0 0 (QM w x _ 0 0) C 0 [(0, .ref (ad w 1))] []
  refine g_iconst (v := 0) ok dX3_lostMany_0 (by decide) ?_
  refine g_istore_n0 ok [(1, .int 0), (0, .ref (ad w 1))] dX3_lostMany_1 (by decide) rfl ?_
  refine g_iconst (v := 0) ok dX3_lostMany_2 (by decide) ?_
  refine g_istore_n0 ok [(2, .int 0), (1, .int 0), (0, .ref (ad w 1))] dX3_lostMany_3 (by decide) rfl ?_
  refine g_sub [2, 1, 0] [(0, .ref (ad w 1)), (1, .int 0), (2, .int 0)] rfl ?_
  obtain ⟨n5, hw⟩ := hw
  exact gw_X3_lostMany_l4 ok n5 C 0 0 hw
theorem sp_X3_lostMany (C : CS) (hp : p_X3_lostMany C) : wp_X3_lostMany (fun r C1 => r = v_X3_lostMany C ∧ C1 = C) C := by
  obtain ⟨N, e, hN⟩ := hp
  have H : ∀ d k, k + d = N → wp_X3_lostMany_l4 (fun r C1 => r = v_X3_lostMany C ∧ C1 = C) (d + 1) C (lostS (C.2.1 36) k) (nI k) := by
    intro d
    induction d with
    | zero =>
      intro k hk
      refine ⟨fun _ => ⟨?_, rfl⟩, fun c => absurd ?_ c⟩
      · unfold v_X3_lostMany; rw [e, cl_k (by omega)]; congr 1
      · rw [e, nI_leI (by omega) (by omega)]; omega
    | succ d ih =>
      intro k hk
      refine ⟨fun c => ?_, fun _ => ⟨pof_k C 5 (by omega), ?_⟩⟩
      · rw [e, nI_leI (by omega) (by omega)] at c; omega
      · intro r4 e4 x5 e5 x6 e6
        rw [e6, o1, nI_add, e5, e4, show (5 : Int32) = nI 5 from rfl, of_k C 5 (by omega) (by omega)]
        exact ih (k + 1) (by omega)
  exact ⟨N + 1, H N 0 (by omega)⟩
theorem mc_X3_lostMany {w : WD} (wk : wOk w) (l : Launch) (C : CS)  (hp : p_X3_lostMany C ) : MC w l yX3_lostMany cX3_lostMany 3 (some .int) 1 0 0 [.ref (ad w 1)] C (pI (v_X3_lostMany C ) C) := MC.postI (gw_X3_lostMany wk l C  (sp_X3_lostMany C  hp))
theorem cf_X3_wearAll : CfV yX3_wearAll "TwoGuildsModel" cX3_wearAll 3 (some .int) 0 := ⟨⟨by decide, by decide, by decide⟩, q75, q1663, q1662, qs57⟩
def p_X3_wearAll (C : CS) : Prop := ∃ N, gOk C N
def v_X3_wearAll (C : CS) : Int32 := wearS (C.2.1 36) (C.2.1 36 1).toNatClampNeg
def wp_X3_wearAll_l4 (Post : Int32 → CS → Prop) : Nat → CS → Int32 → Int32 → Prop
  | 0, _, _, _ => False
  | n + 1, C, i1, i2 => ((C.2.1 36 1) ≤ i2 → 
  Post i1 C) ∧
  (¬ (C.2.1 36 1) ≤ i2 → 
  p_X3_of C i2 5 ∧
    (∀ r2 : Int32, r2 = (v_X3_of C i2 5) → 
    ((r2 = 0 → 
      p_X3_of C i2 4 ∧
        (True)) ∧
      (¬ r2 = 0 → 
      True)) ∧
    (∀ x5 : Int32, x5 = (if r2 = 0 then (v_X3_of C i2 4) else 0) → 
    ∀ x6 : Int32, x6 = (i1 + x5) → 
    ∀ x7 : Int32, x7 = (i2 + Int32.ofInt 1) → 
    wp_X3_wearAll_l4 Post n C x6 x7)))
def wp_X3_wearAll (Post : Int32 → CS → Prop) (C : CS)  : Prop :=
  ∃ m4, wp_X3_wearAll_l4 Post m4 C 0 0
set_option maxHeartbeats 4000000 in
set_option maxRecDepth 100000 in
theorem gw_X3_wearAll_l4 {w : WD} {x : Cx} (ok : Ok w x cX3_wearAll 3 yX3_wearAll.cls (some .int) (rmL 1 0 0)) {Post : Int32 → CS → Prop} : ∀ (n : Nat) (C : CS) (i1 : Int32) (i2 : Int32), wp_X3_wearAll_l4 Post  n C i1 i2 → G w x 3 0 0 (QM w x (fun v C1 => ∃ r : Int32, v = some (.int r) ∧ Post r C1) 0 0) C 4 [(0, .ref (ad w 1)), (1, .int i1), (2, .int i2)] [] := by
  intro n
  induction n with
  | zero => intro C i1 i2 hw; exact hw.elim
  | succ n ih =>
    intro C i1 i2 hw
    unfold wp_X3_wearAll_l4 at hw
    refine g_iload_n ok 2 dX3_wearAll_4 rfl ?_
    refine g_aload_n ok 0 dX3_wearAll_5 rfl ?_
    refine g_get ok 1 rfl rfl in_X3 0 (by decide) q1359 rfl dX3_wearAll_6 ?_
    refine g_iconst (v := 1) ok dX3_wearAll_9 (by decide) ?_
    refine g_iald ok 36 rfl (by unfold vp_in; decide) 1 (by decide) dX3_wearAll_10 ?_
    refine g_icmp_ge (tgt := 42) ok dX3_wearAll_11 (by decide) (fun c1 => ?_) (fun c1 => ?_)
    · have hw := hw.1 c1
      refine g_iload_n ok 1 dX3_wearAll_42 rfl ?_
      exact g_iret ok dX3_wearAll_43 ⟨_, rfl, hw⟩
    · have hw := hw.2 c1
      refine g_iload_n ok 1 dX3_wearAll_14 rfl ?_
      refine g_aload_n ok 0 dX3_wearAll_15 rfl ?_
      refine g_iload_n ok 2 dX3_wearAll_16 rfl ?_
      refine g_iconst (v := 5) ok dX3_wearAll_17 (by decide) ?_
      obtain ⟨hp, hw⟩ := hw
      refine g_callVI ok [.int i2, .int 5] cf_X3_of q1495 (mc_X3_of ok.wo (xL x) C i2 5 hp) (recvF ok 1 rfl rfl) rfl rfl (Nat.le_of_ble_eq_true rfl) ⟨by decide, by decide⟩ ⟨by decide, by decide⟩ dX3_wearAll_18 ?_
      refine g_nmI (fun r2 er2 => ?_)
      have hw := hw r2 er2
      obtain ⟨hr, hw⟩ := hw
      have kj4 : ∀ x5 : Int32, x5 = (if r2 = 0 then (v_X3_of C i2 4) else 0) → G w x 3 0 0 (QM w x (fun v C1 => ∃ r : Int32, v = some (.int r) ∧ Post r C1) 0 0) C 34 [(0, .ref (ad w 1)), (2, .int i2)] [.int x5, .int i1] := by
        intro x5 ex5
        have hw := hw x5 ex5
        refine g_iadd ok dX3_wearAll_34 ?_
        refine g_istore_n ok (fun z => [(1, .int z), (0, .ref (ad w 1)), (2, .int i2)]) dX3_wearAll_35 (by decide) (fun _ => rfl) (fun x6 ex6 => ?_)
        have hw := hw x6 ex6
        refine g_iinc ok 2 (fun z => [(2, .int z), (1, .int x6), (0, .ref (ad w 1))]) dX3_wearAll_36 rfl (by decide) (fun _ => rfl) (fun x7 ex7 => ?_)
        have hw := hw x7 ex7
        refine g_goto (tgt := 4) ok dX3_wearAll_39 (by decide) ?_
        refine g_sub [2, 1, 0] [(0, .ref (ad w 1)), (1, .int x6), (2, .int x7)] rfl ?_
        exact ih C x6 x7 hw
      have hw := hr
      refine g_if_ne (tgt := 33) ok dX3_wearAll_21 (by decide) (fun c3 => ?_) (fun c3 => ?_)
      · have hw := hw.2 c3
        refine g_iconst (v := 0) ok dX3_wearAll_33 (by decide) ?_
        exact g_sub [0, 2] [(0, .ref (ad w 1)), (2, .int i2)] rfl (kj4 _ (by simp only [if_neg c3]))
      · have hw := hw.1 c3
        refine g_aload_n ok 0 dX3_wearAll_24 rfl ?_
        refine g_iload_n ok 2 dX3_wearAll_25 rfl ?_
        refine g_iconst (v := 4) ok dX3_wearAll_26 (by decide) ?_
        obtain ⟨hp, hw⟩ := hw
        refine g_callVI ok [.int i2, .int 4] cf_X3_of q1495 (mc_X3_of ok.wo (xL x) C i2 4 hp) (recvF ok 1 rfl rfl) rfl rfl (Nat.le_of_ble_eq_true rfl) ⟨by decide, by decide⟩ ⟨by decide, by decide⟩ dX3_wearAll_27 ?_
        refine g_goto (tgt := 34) ok dX3_wearAll_30 (by decide) ?_
        exact g_sub [0, 2] [(0, .ref (ad w 1)), (2, .int i2)] rfl (kj4 _ (by simp only [if_pos c3]))
set_option maxHeartbeats 4000000 in
set_option maxRecDepth 100000 in
theorem gw_X3_wearAll {w : WD} (wk : wOk w) (l : Launch) (C : CS)  {Post : Int32 → CS → Prop} (hw : wp_X3_wearAll Post C ) : MC w l yX3_wearAll cX3_wearAll 3 (some .int) 1 0 0 [.ref (ad w 1)] C (fun v C1 => ∃ r : Int32, v = some (.int r) ∧ Post r C1) := by
  unfold wp_X3_wearAll at hw
  refine MC.of wk (by decide) (Nat.le_of_ble_eq_true rfl) (fun x hx ok => ?_)
  subst hx
  show G w x 3 0 0 (QM w x _ 0 0) C 0 [(0, .ref (ad w 1))] []
  refine g_iconst (v := 0) ok dX3_wearAll_0 (by decide) ?_
  refine g_istore_n0 ok [(1, .int 0), (0, .ref (ad w 1))] dX3_wearAll_1 (by decide) rfl ?_
  refine g_iconst (v := 0) ok dX3_wearAll_2 (by decide) ?_
  refine g_istore_n0 ok [(2, .int 0), (1, .int 0), (0, .ref (ad w 1))] dX3_wearAll_3 (by decide) rfl ?_
  refine g_sub [2, 1, 0] [(0, .ref (ad w 1)), (1, .int 0), (2, .int 0)] rfl ?_
  obtain ⟨n8, hw⟩ := hw
  exact gw_X3_wearAll_l4 ok n8 C 0 0 hw
theorem sp_X3_wearAll (C : CS) (hp : p_X3_wearAll C) : wp_X3_wearAll (fun r C1 => r = v_X3_wearAll C ∧ C1 = C) C := by
  obtain ⟨N, e, hN⟩ := hp
  have H : ∀ d k, k + d = N → wp_X3_wearAll_l4 (fun r C1 => r = v_X3_wearAll C ∧ C1 = C) (d + 1) C (wearS (C.2.1 36) k) (nI k) := by
    intro d
    induction d with
    | zero =>
      intro k hk
      refine ⟨fun _ => ⟨?_, rfl⟩, fun c => absurd ?_ c⟩
      · unfold v_X3_wearAll; rw [e, cl_k (by omega)]; congr 1
      · rw [e, nI_leI (by omega) (by omega)]; omega
    | succ d ih =>
      intro k hk
      refine ⟨fun c => ?_, fun _ => ⟨pof_k C 5 (by omega), ?_⟩⟩
      · rw [e, nI_leI (by omega) (by omega)] at c; omega
      · intro r4 e4
        refine ⟨⟨fun _ => ⟨pof_k C 4 (by omega), trivial⟩, fun _ => trivial⟩, ?_⟩
        intro x7 e7 x8 e8 x9 e9
        rw [e9, o1, nI_add, e8, e7, e4, show (5 : Int32) = nI 5 from rfl, show (4 : Int32) = nI 4 from rfl, of_k C 5 (by omega) (by omega), of_k C 4 (by omega) (by omega)]
        exact ih (k + 1) (by omega)
  exact ⟨N + 1, H N 0 (by omega)⟩
theorem mc_X3_wearAll {w : WD} (wk : wOk w) (l : Launch) (C : CS)  (hp : p_X3_wearAll C ) : MC w l yX3_wearAll cX3_wearAll 3 (some .int) 1 0 0 [.ref (ad w 1)] C (pI (v_X3_wearAll C ) C) := MC.postI (gw_X3_wearAll wk l C  (sp_X3_wearAll C  hp))
theorem cf_X3_counts : CfV yX3_counts "TwoGuildsModel" cX3_counts 3 (some .int) 1 := ⟨⟨by decide, by decide, by decide⟩, q75, q1549, q1548, qs42⟩
def p_X3_counts (C : CS) (key : Int32) : Prop := ∃ T, tOk C T
def v_X3_counts (C : CS) (key : Int32) : Int32 := cntT (C.2.1 36) key (C.2.1 36 5).toNatClampNeg
def wp_X3_counts_l9 (Post : Int32 → CS → Prop) : Nat → CS → Int32 → Int32 → Prop
  | 0, _, _, _ => False
  | n + 1, C, i1, i2 => (i2 < 0 → 
  Post (-1) C) ∧
  (¬ i2 < 0 → 
  vp_in (76 + (2 * i2)) 1448 ∧
    ((((C.2.1 36 (Int32.toNatClampNeg (76 + (2 * i2)))) / 1000) = i1 → 
    Post i2 C) ∧
    (¬ ((C.2.1 36 (Int32.toNatClampNeg (76 + (2 * i2)))) / 1000) = i1 → 
    ∀ x4 : Int32, x4 = (i2 + Int32.ofInt (-1)) → 
      wp_X3_counts_l9 Post n C i1 x4)))
def wp_X3_counts (Post : Int32 → CS → Prop) (C : CS) (a0 : Int32) : Prop :=
  ∀ x1 : Int32, x1 = ((C.2.1 36 5) - 1) → 
    ∃ m9, wp_X3_counts_l9 Post m9 C a0 x1
set_option maxHeartbeats 4000000 in
set_option maxRecDepth 100000 in
theorem gw_X3_counts_l9 {w : WD} {x : Cx} (ok : Ok w x cX3_counts 3 yX3_counts.cls (some .int) (rmL 0 0 0)) {Post : Int32 → CS → Prop} : ∀ (n : Nat) (C : CS) (i1 : Int32) (i2 : Int32), wp_X3_counts_l9 Post  n C i1 i2 → G w x 3 0 0 (QM w x (fun v C1 => ∃ r : Int32, v = some (.int r) ∧ Post r C1) 0 0) C 9 [(0, .ref (ad w 1)), (1, .int i1), (2, .int i2)] [] := by
  intro n
  induction n with
  | zero => intro C i1 i2 hw; exact hw.elim
  | succ n ih =>
    intro C i1 i2 hw
    unfold wp_X3_counts_l9 at hw
    refine g_iload_n ok 2 dX3_counts_9 rfl ?_
    refine g_if_lt (tgt := 40) ok dX3_counts_10 (by decide) (fun c2 => ?_) (fun c2 => ?_)
    · have hw := hw.1 c2
      refine g_iconst (v := -1) ok dX3_counts_40 (by decide) ?_
      exact g_iret ok dX3_counts_41 ⟨_, rfl, hw⟩
    · have hw := hw.2 c2
      refine g_aload_n ok 0 dX3_counts_13 rfl ?_
      refine g_get ok 1 rfl rfl in_X3 0 (by decide) q1359 rfl dX3_counts_14 ?_
      refine g_bipush (v := 76) ok dX3_counts_17 (by decide) ?_
      refine g_iconst (v := 2) ok dX3_counts_19 (by decide) ?_
      refine g_iload_n ok 2 dX3_counts_20 rfl ?_
      refine g_imul ok dX3_counts_21 ?_
      refine g_iadd ok dX3_counts_22 ?_
      obtain ⟨hg, hw⟩ := hw
      refine g_iald ok 36 rfl hg _ rfl dX3_counts_23 ?_
      refine g_sipush (v := 1000) ok dX3_counts_24 (by decide) ?_
      refine g_idiv ok dX3_counts_27 (by decide) ?_
      refine g_iload_n ok 1 dX3_counts_28 rfl ?_
      refine g_icmp_ne (tgt := 34) ok dX3_counts_29 (by decide) (fun c3 => ?_) (fun c3 => ?_)
      · have hw := hw.2 c3
        refine g_iinc ok 2 (fun z => [(2, .int z), (0, .ref (ad w 1)), (1, .int i1)]) dX3_counts_34 rfl (by decide) (fun _ => rfl) (fun x4 ex4 => ?_)
        have hw := hw x4 ex4
        refine g_goto (tgt := 9) ok dX3_counts_37 (by decide) ?_
        refine g_sub [1, 2, 0] [(0, .ref (ad w 1)), (1, .int i1), (2, .int x4)] rfl ?_
        exact ih C i1 x4 hw
      · have hw := hw.1 c3
        refine g_iload_n ok 2 dX3_counts_32 rfl ?_
        exact g_iret ok dX3_counts_33 ⟨_, rfl, hw⟩
set_option maxHeartbeats 4000000 in
set_option maxRecDepth 100000 in
theorem gw_X3_counts {w : WD} (wk : wOk w) (l : Launch) (C : CS) (a0 : Int32) {Post : Int32 → CS → Prop} (hw : wp_X3_counts Post C a0) : MC w l yX3_counts cX3_counts 3 (some .int) 0 0 0 [.ref (ad w 1), .int a0] C (fun v C1 => ∃ r : Int32, v = some (.int r) ∧ Post r C1) := by
  unfold wp_X3_counts at hw
  refine MC.of wk (by decide) (Nat.le_of_ble_eq_true rfl) (fun x hx ok => ?_)
  subst hx
  show G w x 3 0 0 (QM w x _ 0 0) C 0 [(0, .ref (ad w 1)), (1, .int a0)] []
  refine g_aload_n ok 0 dX3_counts_0 rfl ?_
  refine g_get ok 1 rfl rfl in_X3 0 (by decide) q1359 rfl dX3_counts_1 ?_
  refine g_iconst (v := 5) ok dX3_counts_4 (by decide) ?_
  refine g_iald ok 36 rfl (by unfold vp_in; decide) 5 (by decide) dX3_counts_5 ?_
  refine g_iconst (v := 1) ok dX3_counts_6 (by decide) ?_
  refine g_isub ok dX3_counts_7 ?_
  refine g_istore_n ok (fun z => [(2, .int z), (0, .ref (ad w 1)), (1, .int a0)]) dX3_counts_8 (by decide) (fun _ => rfl) (fun x1 ex1 => ?_)
  have hw := hw x1 ex1
  refine g_sub [1, 2, 0] [(0, .ref (ad w 1)), (1, .int a0), (2, .int x1)] rfl ?_
  obtain ⟨n5, hw⟩ := hw
  exact gw_X3_counts_l9 ok n5 C a0 x1 hw
theorem sp_X3_counts (C : CS) (a0 : Int32) (hp : p_X3_counts C a0) : wp_X3_counts (fun r C1 => r = v_X3_counts C a0 ∧ C1 = C) C a0 := by
  obtain ⟨T, e, hT⟩ := hp
  intro x1 e1
  have H : ∀ t, t ≤ T → v_X3_counts C a0 = cntT (C.2.1 36) a0 t → wp_X3_counts_l9 (fun r C1 => r = v_X3_counts C a0 ∧ C1 = C) (t + 1) C a0 (nI t - 1) := by
    intro t
    induction t with
    | zero =>
      intro _ h
      exact ⟨fun _ => ⟨h.symm, rfl⟩, fun c => absurd (by decide) c⟩
    | succ t ih =>
      intro ht h
      rw [nI_pred]
      refine ⟨fun c => absurd c (nI_pos (by omega)), fun _ => ⟨by rw [ix76]; exact vp_k (by omega), fun c => ⟨?_, rfl⟩, fun c x4 e4 => ?_⟩⟩
      · rw [ix76, cl_k (by omega)] at c
        rw [h, cntT, if_pos c]
      · rw [ix76, cl_k (by omega)] at c
        rw [e4, om1, ← Int32.sub_eq_add_neg]
        exact ih (by omega) (by rw [h, cntT, if_neg c])
  rw [e1, e]
  exact ⟨T + 1, H T (Nat.le_refl _) (by unfold v_X3_counts; rw [e, cl_k (by omega)])⟩
theorem mc_X3_counts {w : WD} (wk : wOk w) (l : Launch) (C : CS) (a0 : Int32) (hp : p_X3_counts C a0) : MC w l yX3_counts cX3_counts 3 (some .int) 0 0 0 [.ref (ad w 1), .int a0] C (pI (v_X3_counts C a0) C) := MC.postI (gw_X3_counts wk l C a0 (sp_X3_counts C a0 hp))
theorem cf_X3_thinks : CfV yX3_thinks "TwoGuildsModel" cX3_thinks 2 none 0 := ⟨⟨by decide, by decide, by decide⟩, q75, q1651, q1650, qs54⟩
def n_X3_thinks (C : CS) : CS := cpA C 36 41 76
def wp_X3_thinks_l2 (Post : CS → Prop) : Nat → CS → Int32 → Prop
  | 0, _, _ => False
  | n + 1, C, i1 => (76 ≤ i1 → 
  Post C) ∧
  (¬ 76 ≤ i1 → 
  vp_in i1 1448 ∧
    (vp_in i1 76 ∧
    (∀ C2 : CS, C2 = (wA C 41 (Int32.toNatClampNeg i1) (C.2.1 36 (Int32.toNatClampNeg i1))) → 
    ∀ x3 : Int32, x3 = (i1 + Int32.ofInt 1) → 
    wp_X3_thinks_l2 Post n C2 x3)))
def wp_X3_thinks (Post : CS → Prop) (C : CS)  : Prop :=
  ∃ m2, wp_X3_thinks_l2 Post m2 C 0
set_option maxHeartbeats 4000000 in
set_option maxRecDepth 100000 in
theorem gw_X3_thinks_l2 {w : WD} {x : Cx} (ok : Ok w x cX3_thinks 2 yX3_thinks.cls none (rmL 0 0 0)) {Post : CS → Prop} : ∀ (n : Nat) (C : CS) (i1 : Int32), wp_X3_thinks_l2 Post  n C i1 → G w x 2 0 0 (QM w x (fun v C1 => v = none ∧ Post C1) 0 0) C 2 [(0, .ref (ad w 1)), (1, .int i1)] [] := by
  intro n
  induction n with
  | zero => intro C i1 hw; exact hw.elim
  | succ n ih =>
    intro C i1 hw
    unfold wp_X3_thinks_l2 at hw
    refine g_iload_n ok 1 dX3_thinks_2 rfl ?_
    refine g_bipush (v := 76) ok dX3_thinks_3 (by decide) ?_
    refine g_icmp_ge (tgt := 26) ok dX3_thinks_5 (by decide) (fun c1 => ?_) (fun c1 => ?_)
    · have hw := hw.1 c1
      exact g_vret ok dX3_thinks_26 ⟨rfl, hw⟩
    · have hw := hw.2 c1
      refine g_aload_n ok 0 dX3_thinks_8 rfl ?_
      refine g_get ok 1 rfl rfl in_X3 6 (by decide) q1365 rfl dX3_thinks_9 ?_
      refine g_iload_n ok 1 dX3_thinks_12 rfl ?_
      refine g_aload_n ok 0 dX3_thinks_13 rfl ?_
      refine g_get ok 1 rfl rfl in_X3 0 (by decide) q1359 rfl dX3_thinks_14 ?_
      refine g_iload_n ok 1 dX3_thinks_17 rfl ?_
      obtain ⟨hg, hw⟩ := hw
      refine g_iald ok 36 rfl hg _ rfl dX3_thinks_18 ?_
      obtain ⟨hg, hw⟩ := hw
      refine g_iast ok 41 rfl hg _ rfl dX3_thinks_19 (fun C2 eC2 => ?_)
      have hw := hw C2 eC2
      refine g_iinc ok 1 (fun z => [(1, .int z), (0, .ref (ad w 1))]) dX3_thinks_20 rfl (by decide) (fun _ => rfl) (fun x3 ex3 => ?_)
      have hw := hw x3 ex3
      refine g_goto (tgt := 2) ok dX3_thinks_23 (by decide) ?_
      refine g_sub [1, 0] [(0, .ref (ad w 1)), (1, .int x3)] rfl ?_
      exact ih C2 x3 hw
set_option maxHeartbeats 4000000 in
set_option maxRecDepth 100000 in
theorem gw_X3_thinks {w : WD} (wk : wOk w) (l : Launch) (C : CS)  {Post : CS → Prop} (hw : wp_X3_thinks Post C ) : MC w l yX3_thinks cX3_thinks 2 none 0 0 0 [.ref (ad w 1)] C (fun v C1 => v = none ∧ Post C1) := by
  unfold wp_X3_thinks at hw
  refine MC.of wk (by decide) (Nat.le_of_ble_eq_true rfl) (fun x hx ok => ?_)
  subst hx
  show G w x 2 0 0 (QM w x _ 0 0) C 0 [(0, .ref (ad w 1))] []
  refine g_iconst (v := 0) ok dX3_thinks_0 (by decide) ?_
  refine g_istore_n0 ok [(1, .int 0), (0, .ref (ad w 1))] dX3_thinks_1 (by decide) rfl ?_
  refine g_sub [1, 0] [(0, .ref (ad w 1)), (1, .int 0)] rfl ?_
  obtain ⟨n4, hw⟩ := hw
  exact gw_X3_thinks_l2 ok n4 C 0 hw
theorem sp_X3_thinks (C : CS) : wp_X3_thinks (fun C1 => C1 = n_X3_thinks C) C := by
  have H : ∀ d k, k + d = 76 → wp_X3_thinks_l2 (fun C1 => C1 = n_X3_thinks C) (d + 1) (cpA C 36 41 k) (nI k) := by
    intro d
    induction d with
    | zero =>
      intro k hk
      refine ⟨fun _ => by rw [show k = 76 by omega]; rfl, fun c => absurd ?_ c⟩
      rw [show k = 76 by omega]; decide
    | succ d ih =>
      intro k hk
      refine ⟨fun c => ?_, fun _ => ⟨vp_k (by omega), vp_k (by omega), ?_⟩⟩
      · rw [show (76 : Int32) = nI 76 from rfl, nI_leI (by omega) (by omega)] at c; omega
      · intro C3 e3 x4 e4
        rw [e4, o1, nI_add, e3, cl_k (by omega), cpA_step _ _ _ _ (by decide)]
        exact ih (k + 1) (by omega)
  have h := H 76 0 (by omega)
  rw [cpA_0] at h
  exact ⟨77, h⟩
theorem mc_X3_thinks {w : WD} (wk : wOk w) (l : Launch) (C : CS)  : MC w l yX3_thinks cX3_thinks 2 none 0 0 0 [.ref (ad w 1)] C (pV (n_X3_thinks C )) := MC.postV (gw_X3_thinks wk l C  (sp_X3_thinks C ))
theorem cf_X3_putsBack : CfV yX3_putsBack "TwoGuildsModel" cX3_putsBack 2 none 0 := ⟨⟨by decide, by decide, by decide⟩, q75, q1667, q1666, qs58⟩
def n_X3_putsBack (C : CS) : CS := cpA C 41 36 76
def wp_X3_putsBack_l2 (Post : CS → Prop) : Nat → CS → Int32 → Prop
  | 0, _, _ => False
  | n + 1, C, i1 => (76 ≤ i1 → 
  Post C) ∧
  (¬ 76 ≤ i1 → 
  vp_in i1 76 ∧
    (vp_in i1 1448 ∧
    (∀ C2 : CS, C2 = (wA C 36 (Int32.toNatClampNeg i1) (C.2.1 41 (Int32.toNatClampNeg i1))) → 
    ∀ x3 : Int32, x3 = (i1 + Int32.ofInt 1) → 
    wp_X3_putsBack_l2 Post n C2 x3)))
def wp_X3_putsBack (Post : CS → Prop) (C : CS)  : Prop :=
  ∃ m2, wp_X3_putsBack_l2 Post m2 C 0
set_option maxHeartbeats 4000000 in
set_option maxRecDepth 100000 in
theorem gw_X3_putsBack_l2 {w : WD} {x : Cx} (ok : Ok w x cX3_putsBack 2 yX3_putsBack.cls none (rmL 0 0 0)) {Post : CS → Prop} : ∀ (n : Nat) (C : CS) (i1 : Int32), wp_X3_putsBack_l2 Post  n C i1 → G w x 2 0 0 (QM w x (fun v C1 => v = none ∧ Post C1) 0 0) C 2 [(0, .ref (ad w 1)), (1, .int i1)] [] := by
  intro n
  induction n with
  | zero => intro C i1 hw; exact hw.elim
  | succ n ih =>
    intro C i1 hw
    unfold wp_X3_putsBack_l2 at hw
    refine g_iload_n ok 1 dX3_putsBack_2 rfl ?_
    refine g_bipush (v := 76) ok dX3_putsBack_3 (by decide) ?_
    refine g_icmp_ge (tgt := 26) ok dX3_putsBack_5 (by decide) (fun c1 => ?_) (fun c1 => ?_)
    · have hw := hw.1 c1
      exact g_vret ok dX3_putsBack_26 ⟨rfl, hw⟩
    · have hw := hw.2 c1
      refine g_aload_n ok 0 dX3_putsBack_8 rfl ?_
      refine g_get ok 1 rfl rfl in_X3 0 (by decide) q1359 rfl dX3_putsBack_9 ?_
      refine g_iload_n ok 1 dX3_putsBack_12 rfl ?_
      refine g_aload_n ok 0 dX3_putsBack_13 rfl ?_
      refine g_get ok 1 rfl rfl in_X3 6 (by decide) q1365 rfl dX3_putsBack_14 ?_
      refine g_iload_n ok 1 dX3_putsBack_17 rfl ?_
      obtain ⟨hg, hw⟩ := hw
      refine g_iald ok 41 rfl hg _ rfl dX3_putsBack_18 ?_
      obtain ⟨hg, hw⟩ := hw
      refine g_iast ok 36 rfl hg _ rfl dX3_putsBack_19 (fun C2 eC2 => ?_)
      have hw := hw C2 eC2
      refine g_iinc ok 1 (fun z => [(1, .int z), (0, .ref (ad w 1))]) dX3_putsBack_20 rfl (by decide) (fun _ => rfl) (fun x3 ex3 => ?_)
      have hw := hw x3 ex3
      refine g_goto (tgt := 2) ok dX3_putsBack_23 (by decide) ?_
      refine g_sub [1, 0] [(0, .ref (ad w 1)), (1, .int x3)] rfl ?_
      exact ih C2 x3 hw
set_option maxHeartbeats 4000000 in
set_option maxRecDepth 100000 in
theorem gw_X3_putsBack {w : WD} (wk : wOk w) (l : Launch) (C : CS)  {Post : CS → Prop} (hw : wp_X3_putsBack Post C ) : MC w l yX3_putsBack cX3_putsBack 2 none 0 0 0 [.ref (ad w 1)] C (fun v C1 => v = none ∧ Post C1) := by
  unfold wp_X3_putsBack at hw
  refine MC.of wk (by decide) (Nat.le_of_ble_eq_true rfl) (fun x hx ok => ?_)
  subst hx
  show G w x 2 0 0 (QM w x _ 0 0) C 0 [(0, .ref (ad w 1))] []
  refine g_iconst (v := 0) ok dX3_putsBack_0 (by decide) ?_
  refine g_istore_n0 ok [(1, .int 0), (0, .ref (ad w 1))] dX3_putsBack_1 (by decide) rfl ?_
  refine g_sub [1, 0] [(0, .ref (ad w 1)), (1, .int 0)] rfl ?_
  obtain ⟨n4, hw⟩ := hw
  exact gw_X3_putsBack_l2 ok n4 C 0 hw
theorem sp_X3_putsBack (C : CS) : wp_X3_putsBack (fun C1 => C1 = n_X3_putsBack C) C := by
  have H : ∀ d k, k + d = 76 → wp_X3_putsBack_l2 (fun C1 => C1 = n_X3_putsBack C) (d + 1) (cpA C 41 36 k) (nI k) := by
    intro d
    induction d with
    | zero =>
      intro k hk
      refine ⟨fun _ => by rw [show k = 76 by omega]; rfl, fun c => absurd ?_ c⟩
      rw [show k = 76 by omega]; decide
    | succ d ih =>
      intro k hk
      refine ⟨fun c => ?_, fun _ => ⟨vp_k (by omega), vp_k (by omega), ?_⟩⟩
      · rw [show (76 : Int32) = nI 76 from rfl, nI_leI (by omega) (by omega)] at c; omega
      · intro C3 e3 x4 e4
        rw [e4, o1, nI_add, e3, cl_k (by omega), cpA_step _ _ _ _ (by decide)]
        exact ih (k + 1) (by omega)
  have h := H 76 0 (by omega)
  rw [cpA_0] at h
  exact ⟨77, h⟩
theorem mc_X3_putsBack {w : WD} (wk : wOk w) (l : Launch) (C : CS)  : MC w l yX3_putsBack cX3_putsBack 2 none 0 0 0 [.ref (ad w 1)] C (pV (n_X3_putsBack C )) := MC.postV (gw_X3_putsBack wk l C  (sp_X3_putsBack C ))
theorem cf_X3_copyAll : CfS yX3_copyAll cX3_copyAll 3 none 2 := ⟨⟨by decide, by decide, by decide⟩, q75, q1829, q1828⟩
def n_X3_copyAll_36_37 (C : CS) : CS := cpR C 36 37
def m_X3_copyAll_36_37 (C : CS) : CS := cpA C 36 37 1448
def wp_X3_copyAll_36_37_l2 (Post : CS → Prop) : Nat → CS → Int32 → Prop
  | 0, _, _ => False
  | n + 1, C, i2 => (1448 ≤ i2 → 
  Post C) ∧
  (¬ 1448 ≤ i2 → 
  vp_in i2 1448 ∧
    (vp_in i2 1448 ∧
    (∀ C2 : CS, C2 = (wA C 37 (Int32.toNatClampNeg i2) (C.2.1 36 (Int32.toNatClampNeg i2))) → 
    ∀ x3 : Int32, x3 = (i2 + Int32.ofInt 1) → 
    wp_X3_copyAll_36_37_l2 Post n C2 x3)))
def wp_X3_copyAll_36_37 (Post : CS → Prop) (C : CS)  : Prop :=
  ∃ m2, wp_X3_copyAll_36_37_l2 Post m2 C 0
set_option maxHeartbeats 4000000 in
set_option maxRecDepth 100000 in
theorem gw_X3_copyAll_36_37_l2 {w : WD} {x : Cx} (ok : Ok w x cX3_copyAll 3 yX3_copyAll.cls none (rmL 0 0 0)) {Post : CS → Prop} : ∀ (n : Nat) (C : CS) (i2 : Int32), wp_X3_copyAll_36_37_l2 Post  n C i2 → G w x 3 0 0 (QM w x (fun v C1 => v = none ∧ Post C1) 0 0) C 2 [(0, .ref (ad w 36)), (1, .ref (ad w 37)), (2, .int i2)] [] := by
  intro n
  induction n with
  | zero => intro C i2 hw; exact hw.elim
  | succ n ih =>
    intro C i2 hw
    unfold wp_X3_copyAll_36_37_l2 at hw
    refine g_iload_n ok 2 dX3_copyAll_2 rfl ?_
    refine g_sipush (v := 1448) ok dX3_copyAll_3 (by decide) ?_
    refine g_icmp_ge (tgt := 21) ok dX3_copyAll_6 (by decide) (fun c1 => ?_) (fun c1 => ?_)
    · have hw := hw.1 c1
      exact g_vret ok dX3_copyAll_21 ⟨rfl, hw⟩
    · have hw := hw.2 c1
      refine g_aload_n ok 1 dX3_copyAll_9 rfl ?_
      refine g_iload_n ok 2 dX3_copyAll_10 rfl ?_
      refine g_aload_n ok 0 dX3_copyAll_11 rfl ?_
      refine g_iload_n ok 2 dX3_copyAll_12 rfl ?_
      obtain ⟨hg, hw⟩ := hw
      refine g_iald ok 36 rfl hg _ rfl dX3_copyAll_13 ?_
      obtain ⟨hg, hw⟩ := hw
      refine g_iast ok 37 rfl hg _ rfl dX3_copyAll_14 (fun C2 eC2 => ?_)
      have hw := hw C2 eC2
      refine g_iinc ok 2 (fun z => [(2, .int z), (0, .ref (ad w 36)), (1, .ref (ad w 37))]) dX3_copyAll_15 rfl (by decide) (fun _ => rfl) (fun x3 ex3 => ?_)
      have hw := hw x3 ex3
      refine g_goto (tgt := 2) ok dX3_copyAll_18 (by decide) ?_
      refine g_sub [1, 2, 0] [(0, .ref (ad w 36)), (1, .ref (ad w 37)), (2, .int x3)] rfl ?_
      exact ih C2 x3 hw
set_option maxHeartbeats 4000000 in
set_option maxRecDepth 100000 in
theorem gw_X3_copyAll_36_37 {w : WD} (wk : wOk w) (l : Launch) (C : CS)  {Post : CS → Prop} (hw : wp_X3_copyAll_36_37 Post C ) : MC w l yX3_copyAll cX3_copyAll 3 none 0 0 0 [.ref (ad w 36), .ref (ad w 37)] C (fun v C1 => v = none ∧ Post C1) := by
  unfold wp_X3_copyAll_36_37 at hw
  refine MC.of wk (by decide) (Nat.le_of_ble_eq_true rfl) (fun x hx ok => ?_)
  subst hx
  show G w x 3 0 0 (QM w x _ 0 0) C 0 [(0, .ref (ad w 36)), (1, .ref (ad w 37))] []
  refine g_iconst (v := 0) ok dX3_copyAll_0 (by decide) ?_
  refine g_istore_n0 ok [(2, .int 0), (0, .ref (ad w 36)), (1, .ref (ad w 37))] dX3_copyAll_1 (by decide) rfl ?_
  refine g_sub [1, 2, 0] [(0, .ref (ad w 36)), (1, .ref (ad w 37)), (2, .int 0)] rfl ?_
  obtain ⟨n4, hw⟩ := hw
  exact gw_X3_copyAll_36_37_l2 ok n4 C 0 hw
theorem sp_X3_copyAll_36_37 (C : CS) : wp_X3_copyAll_36_37 (fun C1 => C1 = m_X3_copyAll_36_37 C) C := by
  have H : ∀ d k, k + d = 1448 → wp_X3_copyAll_36_37_l2 (fun C1 => C1 = m_X3_copyAll_36_37 C) (d + 1) (cpA C 36 37 k) (nI k) := by
    intro d
    induction d with
    | zero =>
      intro k hk
      refine ⟨fun _ => by rw [show k = 1448 by omega]; rfl, fun c => absurd ?_ c⟩
      rw [show k = 1448 by omega]; decide
    | succ d ih =>
      intro k hk
      refine ⟨fun c => ?_, fun _ => ⟨vp_k (by omega), vp_k (by omega), ?_⟩⟩
      · rw [show (1448 : Int32) = nI 1448 from rfl, nI_leI (by omega) (by omega)] at c; omega
      · intro C3 e3 x4 e4
        rw [e4, o1, nI_add, e3, cl_k (by omega), cpA_step _ _ _ _ (by decide)]
        exact ih (k + 1) (by omega)
  have h := H 1448 0 (by omega)
  rw [cpA_0] at h
  exact ⟨1449, h⟩
theorem mc_X3_copyAll_36_37 {w : WD} (wk : wOk w) (l : Launch) (C : CS) : MC w l yX3_copyAll cX3_copyAll 3 none 0 0 0 [.ref (ad w 36), .ref (ad w 37)] C (pV (n_X3_copyAll_36_37 C)) := MC.postH (fun H h => cpR_hA h rfl) (gw_X3_copyAll_36_37 wk l C (sp_X3_copyAll_36_37 C))
def n_X3_copyAll_37_36 (C : CS) : CS := cpR C 37 36
def m_X3_copyAll_37_36 (C : CS) : CS := cpA C 37 36 1448
def wp_X3_copyAll_37_36_l2 (Post : CS → Prop) : Nat → CS → Int32 → Prop
  | 0, _, _ => False
  | n + 1, C, i2 => (1448 ≤ i2 → 
  Post C) ∧
  (¬ 1448 ≤ i2 → 
  vp_in i2 1448 ∧
    (vp_in i2 1448 ∧
    (∀ C2 : CS, C2 = (wA C 36 (Int32.toNatClampNeg i2) (C.2.1 37 (Int32.toNatClampNeg i2))) → 
    ∀ x3 : Int32, x3 = (i2 + Int32.ofInt 1) → 
    wp_X3_copyAll_37_36_l2 Post n C2 x3)))
def wp_X3_copyAll_37_36 (Post : CS → Prop) (C : CS)  : Prop :=
  ∃ m2, wp_X3_copyAll_37_36_l2 Post m2 C 0
set_option maxHeartbeats 4000000 in
set_option maxRecDepth 100000 in
theorem gw_X3_copyAll_37_36_l2 {w : WD} {x : Cx} (ok : Ok w x cX3_copyAll 3 yX3_copyAll.cls none (rmL 0 0 0)) {Post : CS → Prop} : ∀ (n : Nat) (C : CS) (i2 : Int32), wp_X3_copyAll_37_36_l2 Post  n C i2 → G w x 3 0 0 (QM w x (fun v C1 => v = none ∧ Post C1) 0 0) C 2 [(0, .ref (ad w 37)), (1, .ref (ad w 36)), (2, .int i2)] [] := by
  intro n
  induction n with
  | zero => intro C i2 hw; exact hw.elim
  | succ n ih =>
    intro C i2 hw
    unfold wp_X3_copyAll_37_36_l2 at hw
    refine g_iload_n ok 2 dX3_copyAll_2 rfl ?_
    refine g_sipush (v := 1448) ok dX3_copyAll_3 (by decide) ?_
    refine g_icmp_ge (tgt := 21) ok dX3_copyAll_6 (by decide) (fun c1 => ?_) (fun c1 => ?_)
    · have hw := hw.1 c1
      exact g_vret ok dX3_copyAll_21 ⟨rfl, hw⟩
    · have hw := hw.2 c1
      refine g_aload_n ok 1 dX3_copyAll_9 rfl ?_
      refine g_iload_n ok 2 dX3_copyAll_10 rfl ?_
      refine g_aload_n ok 0 dX3_copyAll_11 rfl ?_
      refine g_iload_n ok 2 dX3_copyAll_12 rfl ?_
      obtain ⟨hg, hw⟩ := hw
      refine g_iald ok 37 rfl hg _ rfl dX3_copyAll_13 ?_
      obtain ⟨hg, hw⟩ := hw
      refine g_iast ok 36 rfl hg _ rfl dX3_copyAll_14 (fun C2 eC2 => ?_)
      have hw := hw C2 eC2
      refine g_iinc ok 2 (fun z => [(2, .int z), (0, .ref (ad w 37)), (1, .ref (ad w 36))]) dX3_copyAll_15 rfl (by decide) (fun _ => rfl) (fun x3 ex3 => ?_)
      have hw := hw x3 ex3
      refine g_goto (tgt := 2) ok dX3_copyAll_18 (by decide) ?_
      refine g_sub [1, 2, 0] [(0, .ref (ad w 37)), (1, .ref (ad w 36)), (2, .int x3)] rfl ?_
      exact ih C2 x3 hw
set_option maxHeartbeats 4000000 in
set_option maxRecDepth 100000 in
theorem gw_X3_copyAll_37_36 {w : WD} (wk : wOk w) (l : Launch) (C : CS)  {Post : CS → Prop} (hw : wp_X3_copyAll_37_36 Post C ) : MC w l yX3_copyAll cX3_copyAll 3 none 0 0 0 [.ref (ad w 37), .ref (ad w 36)] C (fun v C1 => v = none ∧ Post C1) := by
  unfold wp_X3_copyAll_37_36 at hw
  refine MC.of wk (by decide) (Nat.le_of_ble_eq_true rfl) (fun x hx ok => ?_)
  subst hx
  show G w x 3 0 0 (QM w x _ 0 0) C 0 [(0, .ref (ad w 37)), (1, .ref (ad w 36))] []
  refine g_iconst (v := 0) ok dX3_copyAll_0 (by decide) ?_
  refine g_istore_n0 ok [(2, .int 0), (0, .ref (ad w 37)), (1, .ref (ad w 36))] dX3_copyAll_1 (by decide) rfl ?_
  refine g_sub [1, 2, 0] [(0, .ref (ad w 37)), (1, .ref (ad w 36)), (2, .int 0)] rfl ?_
  obtain ⟨n4, hw⟩ := hw
  exact gw_X3_copyAll_37_36_l2 ok n4 C 0 hw
theorem sp_X3_copyAll_37_36 (C : CS) : wp_X3_copyAll_37_36 (fun C1 => C1 = m_X3_copyAll_37_36 C) C := by
  have H : ∀ d k, k + d = 1448 → wp_X3_copyAll_37_36_l2 (fun C1 => C1 = m_X3_copyAll_37_36 C) (d + 1) (cpA C 37 36 k) (nI k) := by
    intro d
    induction d with
    | zero =>
      intro k hk
      refine ⟨fun _ => by rw [show k = 1448 by omega]; rfl, fun c => absurd ?_ c⟩
      rw [show k = 1448 by omega]; decide
    | succ d ih =>
      intro k hk
      refine ⟨fun c => ?_, fun _ => ⟨vp_k (by omega), vp_k (by omega), ?_⟩⟩
      · rw [show (1448 : Int32) = nI 1448 from rfl, nI_leI (by omega) (by omega)] at c; omega
      · intro C3 e3 x4 e4
        rw [e4, o1, nI_add, e3, cl_k (by omega), cpA_step _ _ _ _ (by decide)]
        exact ih (k + 1) (by omega)
  have h := H 1448 0 (by omega)
  rw [cpA_0] at h
  exact ⟨1449, h⟩
theorem mc_X3_copyAll_37_36 {w : WD} (wk : wOk w) (l : Launch) (C : CS) : MC w l yX3_copyAll cX3_copyAll 3 none 0 0 0 [.ref (ad w 37), .ref (ad w 36)] C (pV (n_X3_copyAll_37_36 C)) := MC.postH (fun H h => cpR_hA h rfl) (gw_X3_copyAll_37_36 wk l C (sp_X3_copyAll_37_36 C))
def n_X3_copyAll_36_38 (C : CS) : CS := cpR C 36 38
def m_X3_copyAll_36_38 (C : CS) : CS := cpA C 36 38 1448
def wp_X3_copyAll_36_38_l2 (Post : CS → Prop) : Nat → CS → Int32 → Prop
  | 0, _, _ => False
  | n + 1, C, i2 => (1448 ≤ i2 → 
  Post C) ∧
  (¬ 1448 ≤ i2 → 
  vp_in i2 1448 ∧
    (vp_in i2 1448 ∧
    (∀ C2 : CS, C2 = (wA C 38 (Int32.toNatClampNeg i2) (C.2.1 36 (Int32.toNatClampNeg i2))) → 
    ∀ x3 : Int32, x3 = (i2 + Int32.ofInt 1) → 
    wp_X3_copyAll_36_38_l2 Post n C2 x3)))
def wp_X3_copyAll_36_38 (Post : CS → Prop) (C : CS)  : Prop :=
  ∃ m2, wp_X3_copyAll_36_38_l2 Post m2 C 0
set_option maxHeartbeats 4000000 in
set_option maxRecDepth 100000 in
theorem gw_X3_copyAll_36_38_l2 {w : WD} {x : Cx} (ok : Ok w x cX3_copyAll 3 yX3_copyAll.cls none (rmL 0 0 0)) {Post : CS → Prop} : ∀ (n : Nat) (C : CS) (i2 : Int32), wp_X3_copyAll_36_38_l2 Post  n C i2 → G w x 3 0 0 (QM w x (fun v C1 => v = none ∧ Post C1) 0 0) C 2 [(0, .ref (ad w 36)), (1, .ref (ad w 38)), (2, .int i2)] [] := by
  intro n
  induction n with
  | zero => intro C i2 hw; exact hw.elim
  | succ n ih =>
    intro C i2 hw
    unfold wp_X3_copyAll_36_38_l2 at hw
    refine g_iload_n ok 2 dX3_copyAll_2 rfl ?_
    refine g_sipush (v := 1448) ok dX3_copyAll_3 (by decide) ?_
    refine g_icmp_ge (tgt := 21) ok dX3_copyAll_6 (by decide) (fun c1 => ?_) (fun c1 => ?_)
    · have hw := hw.1 c1
      exact g_vret ok dX3_copyAll_21 ⟨rfl, hw⟩
    · have hw := hw.2 c1
      refine g_aload_n ok 1 dX3_copyAll_9 rfl ?_
      refine g_iload_n ok 2 dX3_copyAll_10 rfl ?_
      refine g_aload_n ok 0 dX3_copyAll_11 rfl ?_
      refine g_iload_n ok 2 dX3_copyAll_12 rfl ?_
      obtain ⟨hg, hw⟩ := hw
      refine g_iald ok 36 rfl hg _ rfl dX3_copyAll_13 ?_
      obtain ⟨hg, hw⟩ := hw
      refine g_iast ok 38 rfl hg _ rfl dX3_copyAll_14 (fun C2 eC2 => ?_)
      have hw := hw C2 eC2
      refine g_iinc ok 2 (fun z => [(2, .int z), (0, .ref (ad w 36)), (1, .ref (ad w 38))]) dX3_copyAll_15 rfl (by decide) (fun _ => rfl) (fun x3 ex3 => ?_)
      have hw := hw x3 ex3
      refine g_goto (tgt := 2) ok dX3_copyAll_18 (by decide) ?_
      refine g_sub [1, 2, 0] [(0, .ref (ad w 36)), (1, .ref (ad w 38)), (2, .int x3)] rfl ?_
      exact ih C2 x3 hw
set_option maxHeartbeats 4000000 in
set_option maxRecDepth 100000 in
theorem gw_X3_copyAll_36_38 {w : WD} (wk : wOk w) (l : Launch) (C : CS)  {Post : CS → Prop} (hw : wp_X3_copyAll_36_38 Post C ) : MC w l yX3_copyAll cX3_copyAll 3 none 0 0 0 [.ref (ad w 36), .ref (ad w 38)] C (fun v C1 => v = none ∧ Post C1) := by
  unfold wp_X3_copyAll_36_38 at hw
  refine MC.of wk (by decide) (Nat.le_of_ble_eq_true rfl) (fun x hx ok => ?_)
  subst hx
  show G w x 3 0 0 (QM w x _ 0 0) C 0 [(0, .ref (ad w 36)), (1, .ref (ad w 38))] []
  refine g_iconst (v := 0) ok dX3_copyAll_0 (by decide) ?_
  refine g_istore_n0 ok [(2, .int 0), (0, .ref (ad w 36)), (1, .ref (ad w 38))] dX3_copyAll_1 (by decide) rfl ?_
  refine g_sub [1, 2, 0] [(0, .ref (ad w 36)), (1, .ref (ad w 38)), (2, .int 0)] rfl ?_
  obtain ⟨n4, hw⟩ := hw
  exact gw_X3_copyAll_36_38_l2 ok n4 C 0 hw
theorem sp_X3_copyAll_36_38 (C : CS) : wp_X3_copyAll_36_38 (fun C1 => C1 = m_X3_copyAll_36_38 C) C := by
  have H : ∀ d k, k + d = 1448 → wp_X3_copyAll_36_38_l2 (fun C1 => C1 = m_X3_copyAll_36_38 C) (d + 1) (cpA C 36 38 k) (nI k) := by
    intro d
    induction d with
    | zero =>
      intro k hk
      refine ⟨fun _ => by rw [show k = 1448 by omega]; rfl, fun c => absurd ?_ c⟩
      rw [show k = 1448 by omega]; decide
    | succ d ih =>
      intro k hk
      refine ⟨fun c => ?_, fun _ => ⟨vp_k (by omega), vp_k (by omega), ?_⟩⟩
      · rw [show (1448 : Int32) = nI 1448 from rfl, nI_leI (by omega) (by omega)] at c; omega
      · intro C3 e3 x4 e4
        rw [e4, o1, nI_add, e3, cl_k (by omega), cpA_step _ _ _ _ (by decide)]
        exact ih (k + 1) (by omega)
  have h := H 1448 0 (by omega)
  rw [cpA_0] at h
  exact ⟨1449, h⟩
theorem mc_X3_copyAll_36_38 {w : WD} (wk : wOk w) (l : Launch) (C : CS) : MC w l yX3_copyAll cX3_copyAll 3 none 0 0 0 [.ref (ad w 36), .ref (ad w 38)] C (pV (n_X3_copyAll_36_38 C)) := MC.postH (fun H h => cpR_hA h rfl) (gw_X3_copyAll_36_38 wk l C (sp_X3_copyAll_36_38 C))
def n_X3_copyAll_38_36 (C : CS) : CS := cpR C 38 36
def m_X3_copyAll_38_36 (C : CS) : CS := cpA C 38 36 1448
def wp_X3_copyAll_38_36_l2 (Post : CS → Prop) : Nat → CS → Int32 → Prop
  | 0, _, _ => False
  | n + 1, C, i2 => (1448 ≤ i2 → 
  Post C) ∧
  (¬ 1448 ≤ i2 → 
  vp_in i2 1448 ∧
    (vp_in i2 1448 ∧
    (∀ C2 : CS, C2 = (wA C 36 (Int32.toNatClampNeg i2) (C.2.1 38 (Int32.toNatClampNeg i2))) → 
    ∀ x3 : Int32, x3 = (i2 + Int32.ofInt 1) → 
    wp_X3_copyAll_38_36_l2 Post n C2 x3)))
def wp_X3_copyAll_38_36 (Post : CS → Prop) (C : CS)  : Prop :=
  ∃ m2, wp_X3_copyAll_38_36_l2 Post m2 C 0
set_option maxHeartbeats 4000000 in
set_option maxRecDepth 100000 in
theorem gw_X3_copyAll_38_36_l2 {w : WD} {x : Cx} (ok : Ok w x cX3_copyAll 3 yX3_copyAll.cls none (rmL 0 0 0)) {Post : CS → Prop} : ∀ (n : Nat) (C : CS) (i2 : Int32), wp_X3_copyAll_38_36_l2 Post  n C i2 → G w x 3 0 0 (QM w x (fun v C1 => v = none ∧ Post C1) 0 0) C 2 [(0, .ref (ad w 38)), (1, .ref (ad w 36)), (2, .int i2)] [] := by
  intro n
  induction n with
  | zero => intro C i2 hw; exact hw.elim
  | succ n ih =>
    intro C i2 hw
    unfold wp_X3_copyAll_38_36_l2 at hw
    refine g_iload_n ok 2 dX3_copyAll_2 rfl ?_
    refine g_sipush (v := 1448) ok dX3_copyAll_3 (by decide) ?_
    refine g_icmp_ge (tgt := 21) ok dX3_copyAll_6 (by decide) (fun c1 => ?_) (fun c1 => ?_)
    · have hw := hw.1 c1
      exact g_vret ok dX3_copyAll_21 ⟨rfl, hw⟩
    · have hw := hw.2 c1
      refine g_aload_n ok 1 dX3_copyAll_9 rfl ?_
      refine g_iload_n ok 2 dX3_copyAll_10 rfl ?_
      refine g_aload_n ok 0 dX3_copyAll_11 rfl ?_
      refine g_iload_n ok 2 dX3_copyAll_12 rfl ?_
      obtain ⟨hg, hw⟩ := hw
      refine g_iald ok 38 rfl hg _ rfl dX3_copyAll_13 ?_
      obtain ⟨hg, hw⟩ := hw
      refine g_iast ok 36 rfl hg _ rfl dX3_copyAll_14 (fun C2 eC2 => ?_)
      have hw := hw C2 eC2
      refine g_iinc ok 2 (fun z => [(2, .int z), (0, .ref (ad w 38)), (1, .ref (ad w 36))]) dX3_copyAll_15 rfl (by decide) (fun _ => rfl) (fun x3 ex3 => ?_)
      have hw := hw x3 ex3
      refine g_goto (tgt := 2) ok dX3_copyAll_18 (by decide) ?_
      refine g_sub [1, 2, 0] [(0, .ref (ad w 38)), (1, .ref (ad w 36)), (2, .int x3)] rfl ?_
      exact ih C2 x3 hw
set_option maxHeartbeats 4000000 in
set_option maxRecDepth 100000 in
theorem gw_X3_copyAll_38_36 {w : WD} (wk : wOk w) (l : Launch) (C : CS)  {Post : CS → Prop} (hw : wp_X3_copyAll_38_36 Post C ) : MC w l yX3_copyAll cX3_copyAll 3 none 0 0 0 [.ref (ad w 38), .ref (ad w 36)] C (fun v C1 => v = none ∧ Post C1) := by
  unfold wp_X3_copyAll_38_36 at hw
  refine MC.of wk (by decide) (Nat.le_of_ble_eq_true rfl) (fun x hx ok => ?_)
  subst hx
  show G w x 3 0 0 (QM w x _ 0 0) C 0 [(0, .ref (ad w 38)), (1, .ref (ad w 36))] []
  refine g_iconst (v := 0) ok dX3_copyAll_0 (by decide) ?_
  refine g_istore_n0 ok [(2, .int 0), (0, .ref (ad w 38)), (1, .ref (ad w 36))] dX3_copyAll_1 (by decide) rfl ?_
  refine g_sub [1, 2, 0] [(0, .ref (ad w 38)), (1, .ref (ad w 36)), (2, .int 0)] rfl ?_
  obtain ⟨n4, hw⟩ := hw
  exact gw_X3_copyAll_38_36_l2 ok n4 C 0 hw
theorem sp_X3_copyAll_38_36 (C : CS) : wp_X3_copyAll_38_36 (fun C1 => C1 = m_X3_copyAll_38_36 C) C := by
  have H : ∀ d k, k + d = 1448 → wp_X3_copyAll_38_36_l2 (fun C1 => C1 = m_X3_copyAll_38_36 C) (d + 1) (cpA C 38 36 k) (nI k) := by
    intro d
    induction d with
    | zero =>
      intro k hk
      refine ⟨fun _ => by rw [show k = 1448 by omega]; rfl, fun c => absurd ?_ c⟩
      rw [show k = 1448 by omega]; decide
    | succ d ih =>
      intro k hk
      refine ⟨fun c => ?_, fun _ => ⟨vp_k (by omega), vp_k (by omega), ?_⟩⟩
      · rw [show (1448 : Int32) = nI 1448 from rfl, nI_leI (by omega) (by omega)] at c; omega
      · intro C3 e3 x4 e4
        rw [e4, o1, nI_add, e3, cl_k (by omega), cpA_step _ _ _ _ (by decide)]
        exact ih (k + 1) (by omega)
  have h := H 1448 0 (by omega)
  rw [cpA_0] at h
  exact ⟨1449, h⟩
theorem mc_X3_copyAll_38_36 {w : WD} (wk : wOk w) (l : Launch) (C : CS) : MC w l yX3_copyAll cX3_copyAll 3 none 0 0 0 [.ref (ad w 38), .ref (ad w 36)] C (pV (n_X3_copyAll_38_36 C)) := MC.postH (fun H h => cpR_hA h rfl) (gw_X3_copyAll_38_36 wk l C (sp_X3_copyAll_38_36 C))
theorem cf_X3_firstOf : CfS yX3_firstOf cX3_firstOf 2 (some .int) 1 := ⟨⟨by decide, by decide, by decide⟩, q75, q1592, q1591⟩
def p_X3_firstOf (C : CS) (a0 : Int32) : Prop := ∃ s : Nat, 0 < s ∧ s < 1024 ∧ a0 = nI s
def v_X3_firstOf (a0 : Int32) : Int32 := nI (fbit a0.toNatClampNeg)
def wp_X3_firstOf_l2 (Post : Int32 → CS → Prop) : Nat → CS → Int32 → Int32 → Prop
  | 0, _, _, _ => False
  | n + 1, C, i0, i1 => (((i0 >>> (i1 &&& 31)) &&& 1) = 0 → 
  ∀ x2 : Int32, x2 = (i1 + Int32.ofInt 1) → 
    wp_X3_firstOf_l2 Post n C i0 x2) ∧
  (¬ ((i0 >>> (i1 &&& 31)) &&& 1) = 0 → 
  Post i1 C)
def wp_X3_firstOf (Post : Int32 → CS → Prop) (C : CS) (a0 : Int32) : Prop :=
  ∃ m2, wp_X3_firstOf_l2 Post m2 C a0 0
set_option maxHeartbeats 4000000 in
set_option maxRecDepth 100000 in
theorem gw_X3_firstOf_l2 {w : WD} {x : Cx} (ok : Ok w x cX3_firstOf 2 yX3_firstOf.cls (some .int) (rmL 0 0 0)) {Post : Int32 → CS → Prop} : ∀ (n : Nat) (C : CS) (i0 : Int32) (i1 : Int32), wp_X3_firstOf_l2 Post  n C i0 i1 → G w x 2 0 0 (QM w x (fun v C1 => ∃ r : Int32, v = some (.int r) ∧ Post r C1) 0 0) C 2 [(0, .int i0), (1, .int i1)] [] := by
  intro n
  induction n with
  | zero => intro C i0 i1 hw; exact hw.elim
  | succ n ih =>
    intro C i0 i1 hw
    unfold wp_X3_firstOf_l2 at hw
    refine g_iload_n ok 0 dX3_firstOf_2 rfl ?_
    refine g_iload_n ok 1 dX3_firstOf_3 rfl ?_
    refine g_ishr ok dX3_firstOf_4 ?_
    refine g_iconst (v := 1) ok dX3_firstOf_5 (by decide) ?_
    refine g_iand ok dX3_firstOf_6 ?_
    refine g_if_ne (tgt := 16) ok dX3_firstOf_7 (by decide) (fun c1 => ?_) (fun c1 => ?_)
    · have hw := hw.2 c1
      refine g_iload_n ok 1 dX3_firstOf_16 rfl ?_
      exact g_iret ok dX3_firstOf_17 ⟨_, rfl, hw⟩
    · have hw := hw.1 c1
      refine g_iinc ok 1 (fun z => [(1, .int z), (0, .int i0)]) dX3_firstOf_10 rfl (by decide) (fun _ => rfl) (fun x2 ex2 => ?_)
      have hw := hw x2 ex2
      refine g_goto (tgt := 2) ok dX3_firstOf_13 (by decide) ?_
      refine g_sub [1, 0] [(0, .int i0), (1, .int x2)] rfl ?_
      exact ih C i0 x2 hw
set_option maxHeartbeats 4000000 in
set_option maxRecDepth 100000 in
theorem gw_X3_firstOf {w : WD} (wk : wOk w) (l : Launch) (C : CS) (a0 : Int32) {Post : Int32 → CS → Prop} (hw : wp_X3_firstOf Post C a0) : MC w l yX3_firstOf cX3_firstOf 2 (some .int) 0 0 0 [.int a0] C (fun v C1 => ∃ r : Int32, v = some (.int r) ∧ Post r C1) := by
  unfold wp_X3_firstOf at hw
  refine MC.of wk (by decide) (Nat.le_of_ble_eq_true rfl) (fun x hx ok => ?_)
  subst hx
  show G w x 2 0 0 (QM w x _ 0 0) C 0 [(0, .int a0)] []
  refine g_iconst (v := 0) ok dX3_firstOf_0 (by decide) ?_
  refine g_istore_n0 ok [(1, .int 0), (0, .int a0)] dX3_firstOf_1 (by decide) rfl ?_
  refine g_sub [1, 0] [(0, .int a0), (1, .int 0)] rfl ?_
  obtain ⟨n3, hw⟩ := hw
  exact gw_X3_firstOf_l2 ok n3 C a0 0 hw
theorem sp_X3_firstOf (C : CS) (a0 : Int32) (hp : p_X3_firstOf C a0) : wp_X3_firstOf (fun r C1 => r = v_X3_firstOf a0 ∧ C1 = C) C a0 := by
  obtain ⟨s, h0, hs, rfl⟩ := hp
  have H : ∀ d g, g + d = 10 → s / 2 ^ g ≠ 0 → fbit s = g + fbF d (s / 2 ^ g) → wp_X3_firstOf_l2 (fun r C1 => r = v_X3_firstOf (nI s) ∧ C1 = C) (d + 1) C (nI s) (nI g) := by
    intro d
    induction d with
    | zero =>
      intro g hg h1
      exact absurd (by rw [show g = 10 by omega]; omega) h1
    | succ d ih =>
      intro g hg h1 h2
      have hb : ((nI s >>> (nI g &&& 31)) &&& 1) = nI (s / 2 ^ g % 2) := by rw [shr_k (by omega) (by omega), and1 (Nat.lt_of_le_of_lt (Nat.div_le_self _ _) (by omega))]
      refine ⟨fun c x3 e3 => ?_, fun c => ⟨?_, rfl⟩⟩
      · rw [hb, show (0 : Int32) = nI 0 from rfl, nI_eq (by omega) (by omega)] at c
        rw [e3, o1, nI_add]
        have h3 : s / 2 ^ (g + 1) = s / 2 ^ g / 2 := by rw [Nat.pow_succ, Nat.div_div_eq_div_mul]
        refine ih (g + 1) (by omega) (by omega) ?_
        rw [h2, fbF, if_neg (by omega), h3]; omega
      · rw [hb, show (0 : Int32) = nI 0 from rfl, nI_eq (by omega) (by omega)] at c
        unfold v_X3_firstOf
        rw [cl_k (by omega), h2, fbF, if_pos (by omega)]; rfl
  exact ⟨11, H 10 0 (by omega) (by rw [Nat.pow_zero, Nat.div_one]; omega) (by rw [Nat.pow_zero, Nat.div_one, Nat.zero_add]; rfl)⟩
theorem mc_X3_firstOf {w : WD} (wk : wOk w) (l : Launch) (C : CS) (a0 : Int32) (hp : p_X3_firstOf C a0) : MC w l yX3_firstOf cX3_firstOf 2 (some .int) 0 0 0 [.int a0] C (pI (v_X3_firstOf a0) C) := MC.postI (gw_X3_firstOf wk l C a0 (sp_X3_firstOf C a0 hp))
