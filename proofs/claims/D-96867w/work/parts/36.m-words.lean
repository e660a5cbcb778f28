theorem cf_X3_joins : CfV yX3_joins "TwoGuildsModel" cX3_joins 1 (some .int) 0 := ⟨⟨by decide, by decide, by decide⟩, q75, q1690, q1688, q1689⟩
def p_X3_joins (C : CS) : Prop := wnOk (C.2.1 36)
def v_X3_joins (C : CS) : Int32 := nI (jn (C.2.1 36) 3125)
def q_X3_joins (C : CS) (C1 : CS) : Prop := frm [42] C C1
def wp_X3_joins (Post : Int32 → CS → Prop) (C : CS)  : Prop :=
  p_X3_findJoins C ∧
    (∀ r2 : Int32, r2 = (v_X3_findJoins C) → 
    ∀ C1 : CS, q_X3_findJoins C C1 → 
    Post r2 C1)
set_option maxHeartbeats 4000000 in
set_option maxRecDepth 100000 in
theorem gw_X3_joins {w : WD} (wk : wOk w) (l : Launch) (C : CS)  {Post : Int32 → CS → Prop} (hw : wp_X3_joins Post C ) : MC w l yX3_joins cX3_joins 1 (some .int) 3 0 0 [.ref (ad w 1)] C (fun v C1 => ∃ r : Int32, v = some (.int r) ∧ Post r C1) := by
  unfold wp_X3_joins at hw
  refine MC.of wk (by decide) (Nat.le_of_ble_eq_true rfl) (fun x hx ok => ?_)
  subst hx
  show G w x 1 0 0 (QM w x _ 0 0) C 0 [(0, .ref (ad w 1))] []
  refine g_aload_n ok 0 dX3_joins_0 rfl ?_
  obtain ⟨hp, hw⟩ := hw
  refine g_callVIR ok [] cf_X3_findJoins q1691 (mc_X3_findJoins ok.wo (xL x) C hp) (recvF ok 1 rfl rfl) rfl rfl (Nat.le_of_ble_eq_true rfl) ⟨by decide, by decide⟩ ⟨by decide, by decide⟩ dX3_joins_1 (fun C1 eC1 => ?_)
  refine g_nmI (fun r2 er2 => ?_)
  have hw := hw r2 er2 C1 eC1
  exact g_iret ok dX3_joins_4 ⟨_, rfl, hw⟩
theorem sp_X3_joins (C : CS) (hp : p_X3_joins C) : wp_X3_joins (fun r C1 => r = v_X3_joins C ∧ q_X3_joins C C1) C := by
  exact ⟨hp, fun r1 e1 C1 e2 => ⟨e1, e2.1⟩⟩
theorem mc_X3_joins {w : WD} (wk : wOk w) (l : Launch) (C : CS)  (hp : p_X3_joins C ) : MC w l yX3_joins cX3_joins 1 (some .int) 3 0 0 [.ref (ad w 1)] C (pIR (v_X3_joins C ) (q_X3_joins C )) := MC.postIR (gw_X3_joins wk l C  (sp_X3_joins C  hp))
/-- the last word that all joins give (-1000000005: none) -/
def suS (r : Nat → Int32) (left : Nat) (d : Nat) (acc : Int32) : Int32 := if jg r (5 * left + d) 3125 = jn r 3125 then nI d else acc
def suR (r : Nat → Int32) (left : Nat) : Int32 := if jn r 3125 = 0 then -1000000005 else itr (suS r left) 5 (-1000000005)
theorem cf_X3_sure : CfV yX3_sure "TwoGuildsModel" cX3_sure 5 (some .int) 1 := ⟨⟨by decide, by decide, by decide⟩, q75, q1707, q1705, q1706⟩
def p_X3_sure (C : CS) (a0 : Int32) : Prop := wnOk (C.2.1 36)
def v_X3_sure (C : CS) (a0 : Int32) : Int32 := if v_X3_isWord a0 = 0 then -1000000001 else suR (C.2.1 36) a0.toNatClampNeg
def q_X3_sure (C : CS) (a0 : Int32) (C1 : CS) : Prop := frm [42] C C1
def wp_X3_sure_l21 (Post : Int32 → CS → Prop) : Nat → CS → Int32 → Int32 → Int32 → Int32 → Prop
  | 0, _, _, _, _, _ => False
  | n + 1, C, i1, i2, i3, i4 => (5 ≤ i4 → 
  Post i3 C) ∧
  (¬ 5 ≤ i4 → 
  (i2 ≤ 0 → 
    Post i3 C) ∧
    (¬ i2 ≤ 0 → 
    vp_in ((5 * i1) + i4) 25 ∧
      (∀ x9 : Int32, x9 = (if (C.2.1 42 (Int32.toNatClampNeg ((5 * i1) + i4))) = i2 then i4 else i3) → 
      ∀ x10 : Int32, x10 = (i4 + Int32.ofInt 1) → 
      wp_X3_sure_l21 Post n C i1 i2 x9 x10)))
def wp_X3_sure (Post : Int32 → CS → Prop) (C : CS) (a0 : Int32) : Prop :=
  ∀ r1 : Int32, r1 = (v_X3_isWord a0) → 
    (r1 = 0 → 
    Post (-1000000001) C) ∧
    (¬ r1 = 0 → 
    p_X3_findJoins C ∧
      (∀ r4 : Int32, r4 = (v_X3_findJoins C) → 
      ∀ C3 : CS, q_X3_findJoins C C3 → 
      ∃ m21, wp_X3_sure_l21 Post m21 C3 a0 r4 (-1000000005) 0))
set_option maxHeartbeats 4000000 in
set_option maxRecDepth 100000 in
theorem gw_X3_sure_l21 {w : WD} {x : Cx} (ok : Ok w x cX3_sure 5 yX3_sure.cls (some .int) (rmL 3 0 0)) {Post : Int32 → CS → Prop} : ∀ (n : Nat) (C : CS) (i1 : Int32) (i2 : Int32) (i3 : Int32) (i4 : Int32), wp_X3_sure_l21 Post  n C i1 i2 i3 i4 → G w x 5 0 0 (QM w x (fun v C1 => ∃ r : Int32, v = some (.int r) ∧ Post r C1) 0 0) C 21 [(0, .ref (ad w 1)), (1, .int i1), (2, .int i2), (3, .int i3), (4, .int i4)] [] := by
  intro n
  induction n with
  | zero => intro C i1 i2 i3 i4 hw; exact hw.elim
  | succ n ih =>
    intro C i1 i2 i3 i4 hw
    unfold wp_X3_sure_l21 at hw
    refine g_iload ok 4 dX3_sure_21 rfl ?_
    refine g_iconst (v := 5) ok dX3_sure_23 (by decide) ?_
    refine g_icmp_ge (tgt := 59) ok dX3_sure_24 (by decide) (fun c5 => ?_) (fun c5 => ?_)
    · have hw := hw.1 c5
      refine g_iload_n ok 3 dX3_sure_59 rfl ?_
      exact g_iret ok dX3_sure_60 ⟨_, rfl, hw⟩
    · have hw := hw.2 c5
      refine g_iload_n ok 2 dX3_sure_27 rfl ?_
      refine g_if_le (tgt := 59) ok dX3_sure_28 (by decide) (fun c6 => ?_) (fun c6 => ?_)
      · have hw := hw.1 c6
        refine g_iload_n ok 3 dX3_sure_59 rfl ?_
        exact g_iret ok dX3_sure_60 ⟨_, rfl, hw⟩
      · have hw := hw.2 c6
        refine g_aload_n ok 0 dX3_sure_31 rfl ?_
        refine g_get ok 1 rfl rfl in_X3 7 (by decide) q1366 rfl dX3_sure_32 ?_
        refine g_iconst (v := 5) ok dX3_sure_35 (by decide) ?_
        refine g_iload_n ok 1 dX3_sure_36 rfl ?_
        refine g_imul ok dX3_sure_37 ?_
        refine g_iload ok 4 dX3_sure_38 rfl ?_
        refine g_iadd ok dX3_sure_40 ?_
        obtain ⟨hg, hw⟩ := hw
        refine g_iald ok 42 rfl hg _ rfl dX3_sure_41 ?_
        refine g_iload_n ok 2 dX3_sure_42 rfl ?_
        have kj8 : ∀ x9 : Int32, x9 = (if (C.2.1 42 (Int32.toNatClampNeg ((5 * i1) + i4))) = i2 then i4 else i3) → G w x 5 0 0 (QM w x (fun v C1 => ∃ r : Int32, v = some (.int r) ∧ Post r C1) 0 0) C 52 [(0, .ref (ad w 1)), (1, .int i1), (2, .int i2), (4, .int i4)] [.int x9] := by
          intro x9 ex9
          have hw := hw x9 ex9
          refine g_istore_n0 ok [(3, .int x9), (0, .ref (ad w 1)), (1, .int i1), (2, .int i2), (4, .int i4)] dX3_sure_52 (by decide) rfl ?_
          refine g_iinc ok 4 (fun z => [(4, .int z), (3, .int x9), (0, .ref (ad w 1)), (1, .int i1), (2, .int i2)]) dX3_sure_53 rfl (by decide) (fun _ => rfl) (fun x10 ex10 => ?_)
          have hw := hw x10 ex10
          refine g_goto (tgt := 21) ok dX3_sure_56 (by decide) ?_
          refine g_sub [2, 3, 4, 1, 0] [(0, .ref (ad w 1)), (1, .int i1), (2, .int i2), (3, .int x9), (4, .int x10)] rfl ?_
          exact ih C i1 i2 x9 x10 hw
        refine g_icmp_ne (tgt := 51) ok dX3_sure_43 (by decide) (fun c7 => ?_) (fun c7 => ?_)
        · refine g_iload_n ok 3 dX3_sure_51 rfl ?_
          exact g_sub [0, 1, 2, 4] [(0, .ref (ad w 1)), (1, .int i1), (2, .int i2), (4, .int i4)] rfl (kj8 _ (by simp only [if_neg c7]))
        · refine g_iload ok 4 dX3_sure_46 rfl ?_
          refine g_goto (tgt := 52) ok dX3_sure_48 (by decide) ?_
          exact g_sub [0, 1, 2, 4] [(0, .ref (ad w 1)), (1, .int i1), (2, .int i2), (4, .int i4)] rfl (kj8 _ (by simp only [if_pos c7]))
set_option maxHeartbeats 4000000 in
set_option maxRecDepth 100000 in
theorem gw_X3_sure {w : WD} (wk : wOk w) (l : Launch) (C : CS) (a0 : Int32) {Post : Int32 → CS → Prop} (hw : wp_X3_sure Post C a0) : MC w l yX3_sure cX3_sure 5 (some .int) 3 0 0 [.ref (ad w 1), .int a0] C (fun v C1 => ∃ r : Int32, v = some (.int r) ∧ Post r C1) := by
  unfold wp_X3_sure at hw
  refine MC.of wk (by decide) (Nat.le_of_ble_eq_true rfl) (fun x hx ok => ?_)
  subst hx
  show G w x 5 0 0 (QM w x _ 0 0) C 0 [(0, .ref (ad w 1)), (1, .int a0)] []
  refine g_iload_n ok 1 dX3_sure_0 rfl ?_
  refine g_callSI ok [.int a0] cf_X3_isWord q1680 (mc_X3_isWord ok.wo (xL x) C a0) rfl rfl (Nat.le_of_ble_eq_true rfl) ⟨by decide, by decide⟩ ⟨by decide, by decide⟩ dX3_sure_1 ?_
  refine g_nmI (fun r1 er1 => ?_)
  have hw := hw r1 er1
  refine g_if_ne (tgt := 10) ok dX3_sure_4 (by decide) (fun c2 => ?_) (fun c2 => ?_)
  · have hw := hw.2 c2
    refine g_aload_n ok 0 dX3_sure_10 rfl ?_
    obtain ⟨hp, hw⟩ := hw
    refine g_callVIR ok [] cf_X3_findJoins q1691 (mc_X3_findJoins ok.wo (xL x) C hp) (recvF ok 1 rfl rfl) rfl rfl (Nat.le_of_ble_eq_true rfl) ⟨by decide, by decide⟩ ⟨by decide, by decide⟩ dX3_sure_11 (fun C3 eC3 => ?_)
    refine g_nmI (fun r4 er4 => ?_)
    have hw := hw r4 er4 C3 eC3
    refine g_istore_n0 ok [(2, .int r4), (0, .ref (ad w 1)), (1, .int a0)] dX3_sure_14 (by decide) rfl ?_
    refine g_ldc (v := -1000000005) ok q1560 dX3_sure_15 ?_
    refine g_istore_n0 ok [(3, .int (-1000000005)), (2, .int r4), (0, .ref (ad w 1)), (1, .int a0)] dX3_sure_17 (by decide) rfl ?_
    refine g_iconst (v := 0) ok dX3_sure_18 (by decide) ?_
    refine g_istore0 ok [(4, .int 0), (3, .int (-1000000005)), (2, .int r4), (0, .ref (ad w 1)), (1, .int a0)] dX3_sure_19 (by decide) rfl ?_
    refine g_sub [3, 4, 2, 1, 0] [(0, .ref (ad w 1)), (1, .int a0), (2, .int r4), (3, .int (-1000000005)), (4, .int 0)] rfl ?_
    obtain ⟨n11, hw⟩ := hw
    exact gw_X3_sure_l21 ok n11 C3 a0 r4 (-1000000005) 0 hw
  · have hw := hw.1 c2
    refine g_ldc (v := -1000000001) ok q1477 dX3_sure_7 ?_
    exact g_iret ok dX3_sure_9 ⟨_, rfl, hw⟩
theorem sp_X3_sure (C : CS) (a0 : Int32) (hp : p_X3_sure C a0) : wp_X3_sure (fun r C1 => r = v_X3_sure C a0 ∧ q_X3_sure C a0 C1) C a0 := by
  intro r1 e1
  refine ⟨fun c => ⟨by unfold v_X3_sure; rw [← e1, if_pos c], frm.rf _ _⟩, fun c => ⟨hp, fun r4 e4 C3 e3 => ?_⟩⟩
  have c' := c
  rw [e1] at c'
  unfold v_X3_isWord at c'
  rw [in_iff] at c'
  obtain ⟨w, rfl, -, hw⟩ := nI_btw (lo := 0) (hi := 4) c'.1 c'.2 (by decide)
  obtain ⟨f3, h42⟩ := e3
  have hv : v_X3_sure C (nI w) = suR (C.2.1 36) w := by unfold v_X3_sure; rw [← e1, if_neg c, cl_k (by omega)]
  have hn := jn_le (C.2.1 36) 3125
  have e4 : r4 = nI (jn (C.2.1 36) 3125) := e4
  have H : ∀ d k, k + d = 5 → wp_X3_sure_l21 (fun r C1 => r = v_X3_sure C (nI w) ∧ q_X3_sure C (nI w) C1) (d + 1) C3 (nI w) r4 (if jn (C.2.1 36) 3125 = 0 then -1000000005 else itr (suS (C.2.1 36) w) k (-1000000005)) (nI k) := by
    intro d
    induction d with
    | zero =>
      intro k hk
      have ek : k = 5 := by omega
      subst ek
      refine ⟨fun _ => ⟨?_, f3⟩, fun c1 => absurd (by decide) c1⟩
      rw [hv, suR]
    | succ d ih =>
      intro k hk
      refine ⟨fun c1 => ?_, fun _ => ⟨fun c2 => ⟨?_, f3⟩, fun c2 => ⟨by rw [ix5]; exact vp_k (by omega), fun x9 e9 x10 e10 => ?_⟩⟩⟩
      · rw [show (5 : Int32) = nI 5 from rfl, nI_leI (by omega) (by omega)] at c1; omega
      · rw [e4, show (0 : Int32) = nI 0 from rfl, nI_leI (by omega) (by omega)] at c2
        rw [hv, suR, if_pos (show jn (C.2.1 36) 3125 = 0 by omega), if_pos (show jn (C.2.1 36) 3125 = 0 by omega)]
      · rw [e4, show (0 : Int32) = nI 0 from rfl, nI_leI (by omega) (by omega)] at c2
        have h0 : ¬ jn (C.2.1 36) 3125 = 0 := by omega
        rw [ix5, cl_k (by omega), h42 _ (by omega), e4] at e9
        have hg := jg_le (C.2.1 36) (5 * w + k) 3125
        have hz : (nI (jg (C.2.1 36) (5 * w + k) 3125) = nI (jn (C.2.1 36) 3125)) ↔ jg (C.2.1 36) (5 * w + k) 3125 = jn (C.2.1 36) 3125 := nI_eq (by omega) (by omega)
        have h3 := ih (k + 1) (by omega)
        have e5 : (if jn (C.2.1 36) 3125 = 0 then -1000000005 else itr (suS (C.2.1 36) w) (k + 1) (-1000000005)) = x9 := by
          rw [if_neg h0, itr, suS, e9, if_neg h0]
          by_cases hj : jg (C.2.1 36) (5 * w + k) 3125 = jn (C.2.1 36) 3125
          · rw [if_pos hj, if_pos (hz.mpr hj)]
          · rw [if_neg hj, if_neg (fun z => hj (hz.mp z))]
        rw [e5] at h3
        rw [e10, o1, nI_add]
        exact h3
  have h := H 5 0 (by omega)
  have e0 : (if jn (C.2.1 36) 3125 = 0 then (-1000000005 : Int32) else itr (suS (C.2.1 36) w) 0 (-1000000005)) = -1000000005 := by split <;> rfl
  rw [e0] at h
  exact ⟨_, h⟩
theorem mc_X3_sure {w : WD} (wk : wOk w) (l : Launch) (C : CS) (a0 : Int32) (hp : p_X3_sure C a0) : MC w l yX3_sure cX3_sure 5 (some .int) 3 0 0 [.ref (ad w 1), .int a0] C (pIR (v_X3_sure C a0) (q_X3_sure C a0)) := MC.postIR (gw_X3_sure wk l C a0 (sp_X3_sure C a0 hp))
/-- at worst so many joins are left behind a left word -/
def btS (A : Nat → Int32) (w : Nat) (d : Nat) (acc : Int32) : Int32 := if A (5 * w + d) ≤ acc then acc else A (5 * w + d)
def btW (A : Nat → Int32) (w : Nat) : Int32 := itr (btS A w) 5 0
def btT (A : Nat → Int32) (w : Nat) (q : Int32 × Int32) : Int32 × Int32 :=
  ((if q.1 < 0 then nI w else (if q.2 ≤ btW A w then q.1 else nI w)), if (if q.1 < 0 then nI w else (if q.2 ≤ btW A w then q.1 else nI w)) = nI w then btW A w else q.2)
def jA (r : Nat → Int32) : Nat → Int32 := fun q => nI (jg r q 3125)
def btR (r : Nat → Int32) (what : Int32) : Int32 := if jn r 3125 = 0 then -1000000005 else if what = 0 then (itr (btT (jA r)) 5 (-1, 0)).1 else (itr (btT (jA r)) 5 (-1, 0)).2
theorem cf_X3_better : CfV yX3_better "TwoGuildsModel" cX3_better 7 (some .int) 1 := ⟨⟨by decide, by decide, by decide⟩, q75, q1711, q1709, q1710⟩
def p_X3_better (C : CS) (a0 : Int32) : Prop := wnOk (C.2.1 36)
def v_X3_better (C : CS) (a0 : Int32) : Int32 := if v_X3_in a0 0 1 = 0 then -1000000001 else btR (C.2.1 36) a0
def q_X3_better (C : CS) (a0 : Int32) (C1 : CS) : Prop := frm [42] C C1
def wp_X3_better_l41 (Post : Int32 → CS → Prop) (R29 : CS → Int32 → Int32 → Int32 → Int32 → Prop) : Nat → CS → Int32 → Int32 → Int32 → Int32 → Int32 → Int32 → Prop
  | 0, _, _, _, _, _, _, _ => False
  | n + 1, C, i1, i2, i3, i4, i5, i6 => (5 ≤ i6 → 
  ∀ x13 : Int32, x13 = (if i2 < 0 then i4 else (if i3 ≤ i5 then i2 else i4)) → 
    ∀ x16 : Int32, x16 = (if x13 = i4 then i5 else i3) → 
    ∀ x17 : Int32, x17 = (i4 + Int32.ofInt 1) → 
    R29 C i1 x13 x16 x17) ∧
  (¬ 5 ≤ i6 → 
  vp_in ((5 * i4) + i6) 25 ∧
    ((((C.2.1 42 (Int32.toNatClampNeg ((5 * i4) + i6))) ≤ i5 → 
      True) ∧
      (¬ (C.2.1 42 (Int32.toNatClampNeg ((5 * i4) + i6))) ≤ i5 → 
      vp_in ((5 * i4) + i6) 25 ∧
        (True))) ∧
    (∀ x20 : Int32, x20 = (if (C.2.1 42 (Int32.toNatClampNeg ((5 * i4) + i6))) ≤ i5 then i5 else (C.2.1 42 (Int32.toNatClampNeg ((5 * i4) + i6)))) → 
    ∀ x21 : Int32, x21 = (i6 + Int32.ofInt 1) → 
    wp_X3_better_l41 Post R29 n C i1 i2 i3 i4 x20 x21)))
def wp_X3_better_l29 (Post : Int32 → CS → Prop) : Nat → CS → Int32 → Int32 → Int32 → Int32 → Prop
  | 0, _, _, _, _, _ => False
  | n + 1, C, i1, i2, i3, i4 => (5 ≤ i4 → 
  (i1 = 0 → 
    Post i2 C) ∧
    (¬ i1 = 0 → 
    Post i3 C)) ∧
  (¬ 5 ≤ i4 → 
  ∃ m41, wp_X3_better_l41 Post (fun C i1 i2 i3 i4 => wp_X3_better_l29 Post n C i1 i2 i3 i4) m41 C i1 i2 i3 i4 0 0)
def wp_X3_better (Post : Int32 → CS → Prop) (C : CS) (a0 : Int32) : Prop :=
  ∀ r1 : Int32, r1 = (v_X3_in a0 0 1) → 
    (r1 = 0 → 
    Post (-1000000001) C) ∧
    (¬ r1 = 0 → 
    p_X3_findJoins C ∧
      (∀ r4 : Int32, r4 = (v_X3_findJoins C) → 
      ∀ C3 : CS, q_X3_findJoins C C3 → 
      (r4 = 0 → 
      Post (-1000000005) C3) ∧
      (¬ r4 = 0 → 
      ∃ m29, wp_X3_better_l29 Post m29 C3 a0 (-1) 0 0)))
set_option maxHeartbeats 4000000 in
set_option maxRecDepth 100000 in
theorem gw_X3_better_l41 {w : WD} {x : Cx} (ok : Ok w x cX3_better 7 yX3_better.cls (some .int) (rmL 3 0 0)) {Post : Int32 → CS → Prop} {R29 : CS → Int32 → Int32 → Int32 → Int32 → Prop} (hR29 : ∀ C (i1 : Int32) (i2 : Int32) (i3 : Int32) (i4 : Int32), R29 C i1 i2 i3 i4 → G w x 7 0 0 (QM w x (fun v C1 => ∃ r : Int32, v = some (.int r) ∧ Post r C1) 0 0) C 29 [(0, .ref (ad w 1)), (1, .int i1), (2, .int i2), (3, .int i3), (4, .int i4)] []) : ∀ (n : Nat) (C : CS) (i1 : Int32) (i2 : Int32) (i3 : Int32) (i4 : Int32) (i5 : Int32) (i6 : Int32), wp_X3_better_l41 Post R29 n C i1 i2 i3 i4 i5 i6 → G w x 7 0 0 (QM w x (fun v C1 => ∃ r : Int32, v = some (.int r) ∧ Post r C1) 0 0) C 41 [(0, .ref (ad w 1)), (1, .int i1), (2, .int i2), (3, .int i3), (4, .int i4), (5, .int i5), (6, .int i6)] [] := by
  intro n
  induction n with
  | zero => intro C i1 i2 i3 i4 i5 i6 hw; exact hw.elim
  | succ n ih =>
    intro C i1 i2 i3 i4 i5 i6 hw
    unfold wp_X3_better_l41 at hw
    refine g_iload ok 6 dX3_better_41 rfl ?_
    refine g_iconst (v := 5) ok dX3_better_43 (by decide) ?_
    refine g_icmp_ge (tgt := 89) ok dX3_better_44 (by decide) (fun c8 => ?_) (fun c8 => ?_)
    · have hw := hw.1 c8
      refine g_iload_n ok 2 dX3_better_89 rfl ?_
      have kj12 : ∀ x13 : Int32, x13 = (if i2 < 0 then i4 else (if i3 ≤ i5 then i2 else i4)) → G w x 7 0 0 (QM w x (fun v C1 => ∃ r : Int32, v = some (.int r) ∧ Post r C1) 0 0) C 105 [(0, .ref (ad w 1)), (1, .int i1), (3, .int i3), (4, .int i4), (5, .int i5)] [.int x13] := by
        intro x13 ex13
        have hw := hw x13 ex13
        refine g_istore_n0 ok [(2, .int x13), (0, .ref (ad w 1)), (1, .int i1), (3, .int i3), (4, .int i4), (5, .int i5)] dX3_better_105 (by decide) rfl ?_
        refine g_iload_n ok 0 dX3_better_106 rfl ?_
        refine g_iload ok 4 dX3_better_107 rfl ?_
        have kj15 : ∀ x16 : Int32, x16 = (if x13 = i4 then i5 else i3) → G w x 7 0 0 (QM w x (fun v C1 => ∃ r : Int32, v = some (.int r) ∧ Post r C1) 0 0) C 118 [(0, .ref (ad w 1)), (1, .int i1), (2, .int x13), (4, .int i4)] [.int x16] := by
          intro x16 ex16
          have hw := hw x16 ex16
          refine g_istore_n0 ok [(3, .int x16), (0, .ref (ad w 1)), (1, .int i1), (2, .int x13), (4, .int i4)] dX3_better_118 (by decide) rfl ?_
          refine g_iinc ok 4 (fun z => [(4, .int z), (3, .int x16), (0, .ref (ad w 1)), (1, .int i1), (2, .int x13)]) dX3_better_119 rfl (by decide) (fun _ => rfl) (fun x17 ex17 => ?_)
          have hw := hw x17 ex17
          refine g_goto (tgt := 29) ok dX3_better_122 (by decide) ?_
          refine g_sub [2, 3, 4, 1, 0] [(0, .ref (ad w 1)), (1, .int i1), (2, .int x13), (3, .int x16), (4, .int x17)] rfl ?_
          exact hR29 C i1 x13 x16 x17 hw
        refine g_icmp_ne (tgt := 117) ok dX3_better_109 (by decide) (fun c14 => ?_) (fun c14 => ?_)
        · refine g_iload_n ok 3 dX3_better_117 rfl ?_
          exact g_sub [1, 2, 0, 4] [(0, .ref (ad w 1)), (1, .int i1), (2, .int x13), (4, .int i4)] rfl (kj15 _ (by simp only [if_neg c14]))
        · refine g_iload ok 5 dX3_better_112 rfl ?_
          refine g_goto (tgt := 118) ok dX3_better_114 (by decide) ?_
          exact g_sub [1, 2, 0, 4] [(0, .ref (ad w 1)), (1, .int i1), (2, .int x13), (4, .int i4)] rfl (kj15 _ (by simp only [if_pos c14]))
      refine g_if_lt (tgt := 99) ok dX3_better_90 (by decide) (fun c9 => ?_) (fun c9 => ?_)
      · refine g_iload ok 4 dX3_better_99 rfl ?_
        refine g_goto (tgt := 105) ok dX3_better_101 (by decide) ?_
        exact g_sub [0, 1, 3, 4, 5] [(0, .ref (ad w 1)), (1, .int i1), (3, .int i3), (4, .int i4), (5, .int i5)] rfl (kj12 _ (by simp only [if_pos c9]))
      · refine g_iload ok 5 dX3_better_93 rfl ?_
        refine g_iload_n ok 3 dX3_better_95 rfl ?_
        have kj11 : G w x 7 0 0 (QM w x (fun v C1 => ∃ r : Int32, v = some (.int r) ∧ Post r C1) 0 0) C 105 [(0, .ref (ad w 1)), (1, .int i1), (3, .int i3), (4, .int i4), (5, .int i5)] [.int (if i3 ≤ i5 then i2 else i4)] := by
          exact (kj12 _ (by simp only [if_neg c9]))
        refine g_icmp_ge (tgt := 104) ok dX3_better_96 (by decide) (fun c10 => ?_) (fun c10 => ?_)
        · refine g_iload_n ok 2 dX3_better_104 rfl ?_
          simp only [if_pos c10] at kj11
          exact g_sub [0, 1, 3, 4, 5] [(0, .ref (ad w 1)), (1, .int i1), (3, .int i3), (4, .int i4), (5, .int i5)] rfl kj11
        · refine g_iload ok 4 dX3_better_99 rfl ?_
          refine g_goto (tgt := 105) ok dX3_better_101 (by decide) ?_
          simp only [if_neg c10] at kj11
          exact g_sub [0, 1, 3, 4, 5] [(0, .ref (ad w 1)), (1, .int i1), (3, .int i3), (4, .int i4), (5, .int i5)] rfl kj11
    · have hw := hw.2 c8
      refine g_aload_n ok 0 dX3_better_47 rfl ?_
      refine g_get ok 1 rfl rfl in_X3 7 (by decide) q1366 rfl dX3_better_48 ?_
      refine g_iconst (v := 5) ok dX3_better_51 (by decide) ?_
      refine g_iload ok 4 dX3_better_52 rfl ?_
      refine g_imul ok dX3_better_54 ?_
      refine g_iload ok 6 dX3_better_55 rfl ?_
      refine g_iadd ok dX3_better_57 ?_
      obtain ⟨hg, hw⟩ := hw
      refine g_iald ok 42 rfl hg _ rfl dX3_better_58 ?_
      refine g_iload ok 5 dX3_better_59 rfl ?_
      obtain ⟨hr, hw⟩ := hw
      have kj19 : ∀ x20 : Int32, x20 = (if (C.2.1 42 (Int32.toNatClampNeg ((5 * i4) + i6))) ≤ i5 then i5 else (C.2.1 42 (Int32.toNatClampNeg ((5 * i4) + i6)))) → G w x 7 0 0 (QM w x (fun v C1 => ∃ r : Int32, v = some (.int r) ∧ Post r C1) 0 0) C 81 [(0, .ref (ad w 1)), (1, .int i1), (2, .int i2), (3, .int i3), (4, .int i4), (6, .int i6)] [.int x20] := by
        intro x20 ex20
        have hw := hw x20 ex20
        refine g_istore0 ok [(5, .int x20), (0, .ref (ad w 1)), (1, .int i1), (2, .int i2), (3, .int i3), (4, .int i4), (6, .int i6)] dX3_better_81 (by decide) rfl ?_
        refine g_iinc ok 6 (fun z => [(6, .int z), (5, .int x20), (0, .ref (ad w 1)), (1, .int i1), (2, .int i2), (3, .int i3), (4, .int i4)]) dX3_better_83 rfl (by decide) (fun _ => rfl) (fun x21 ex21 => ?_)
        have hw := hw x21 ex21
        refine g_goto (tgt := 41) ok dX3_better_86 (by decide) ?_
        refine g_sub [2, 3, 4, 5, 6, 1, 0] [(0, .ref (ad w 1)), (1, .int i1), (2, .int i2), (3, .int i3), (4, .int i4), (5, .int x20), (6, .int x21)] rfl ?_
        exact ih C i1 i2 i3 i4 x20 x21 hw
      have hw := hr
      refine g_icmp_le (tgt := 79) ok dX3_better_61 (by decide) (fun c18 => ?_) (fun c18 => ?_)
      · have hw := hw.1 c18
        refine g_iload ok 5 dX3_better_79 rfl ?_
        exact g_sub [0, 1, 2, 3, 4, 6] [(0, .ref (ad w 1)), (1, .int i1), (2, .int i2), (3, .int i3), (4, .int i4), (6, .int i6)] rfl (kj19 _ (by simp only [if_pos c18]))
      · have hw := hw.2 c18
        refine g_aload_n ok 0 dX3_better_64 rfl ?_
        refine g_get ok 1 rfl rfl in_X3 7 (by decide) q1366 rfl dX3_better_65 ?_
        refine g_iconst (v := 5) ok dX3_better_68 (by decide) ?_
        refine g_iload ok 4 dX3_better_69 rfl ?_
        refine g_imul ok dX3_better_71 ?_
        refine g_iload ok 6 dX3_better_72 rfl ?_
        refine g_iadd ok dX3_better_74 ?_
        obtain ⟨hg, hw⟩ := hw
        refine g_iald ok 42 rfl hg _ rfl dX3_better_75 ?_
        refine g_goto (tgt := 81) ok dX3_better_76 (by decide) ?_
        exact g_sub [0, 1, 2, 3, 4, 6] [(0, .ref (ad w 1)), (1, .int i1), (2, .int i2), (3, .int i3), (4, .int i4), (6, .int i6)] rfl (kj19 _ (by simp only [if_neg c18]))
set_option maxHeartbeats 4000000 in
set_option maxRecDepth 100000 in
theorem gw_X3_better_l29 {w : WD} {x : Cx} (ok : Ok w x cX3_better 7 yX3_better.cls (some .int) (rmL 3 0 0)) {Post : Int32 → CS → Prop} : ∀ (n : Nat) (C : CS) (i1 : Int32) (i2 : Int32) (i3 : Int32) (i4 : Int32), wp_X3_better_l29 Post  n C i1 i2 i3 i4 → G w x 7 0 0 (QM w x (fun v C1 => ∃ r : Int32, v = some (.int r) ∧ Post r C1) 0 0) C 29 [(0, .ref (ad w 1)), (1, .int i1), (2, .int i2), (3, .int i3), (4, .int i4)] [] := by
  intro n
  induction n with
  | zero => intro C i1 i2 i3 i4 hw; exact hw.elim
  | succ n ih =>
    intro C i1 i2 i3 i4 hw
    unfold wp_X3_better_l29 at hw
    refine g_iload ok 4 dX3_better_29 rfl ?_
    refine g_iconst (v := 5) ok dX3_better_31 (by decide) ?_
    refine g_icmp_ge (tgt := 125) ok dX3_better_32 (by decide) (fun c6 => ?_) (fun c6 => ?_)
    · have hw := hw.1 c6
      refine g_iload_n ok 1 dX3_better_125 rfl ?_
      refine g_if_ne (tgt := 133) ok dX3_better_126 (by decide) (fun c7 => ?_) (fun c7 => ?_)
      · have hw := hw.2 c7
        refine g_iload_n ok 3 dX3_better_133 rfl ?_
        exact g_iret ok dX3_better_134 ⟨_, rfl, hw⟩
      · have hw := hw.1 c7
        refine g_iload_n ok 2 dX3_better_129 rfl ?_
        refine g_goto (tgt := 134) ok dX3_better_130 (by decide) ?_
        exact g_iret ok dX3_better_134 ⟨_, rfl, hw⟩
    · have hw := hw.2 c6
      refine g_iconst (v := 0) ok dX3_better_35 (by decide) ?_
      refine g_istore0 ok [(5, .int 0), (0, .ref (ad w 1)), (1, .int i1), (2, .int i2), (3, .int i3), (4, .int i4)] dX3_better_36 (by decide) rfl ?_
      refine g_iconst (v := 0) ok dX3_better_38 (by decide) ?_
      refine g_istore0 ok [(6, .int 0), (5, .int 0), (0, .ref (ad w 1)), (1, .int i1), (2, .int i2), (3, .int i3), (4, .int i4)] dX3_better_39 (by decide) rfl ?_
      refine g_sub [2, 3, 4, 5, 6, 1, 0] [(0, .ref (ad w 1)), (1, .int i1), (2, .int i2), (3, .int i3), (4, .int i4), (5, .int 0), (6, .int 0)] rfl ?_
      obtain ⟨n22, hw⟩ := hw
      exact gw_X3_better_l41 ok (fun C i1 i2 i3 i4 hw => ih C i1 i2 i3 i4 hw) n22 C i1 i2 i3 i4 0 0 hw
set_option maxHeartbeats 4000000 in
set_option maxRecDepth 100000 in
theorem gw_X3_better {w : WD} (wk : wOk w) (l : Launch) (C : CS) (a0 : Int32) {Post : Int32 → CS → Prop} (hw : wp_X3_better Post C a0) : MC w l yX3_better cX3_better 7 (some .int) 3 0 0 [.ref (ad w 1), .int a0] C (fun v C1 => ∃ r : Int32, v = some (.int r) ∧ Post r C1) := by
  unfold wp_X3_better at hw
  refine MC.of wk (by decide) (Nat.le_of_ble_eq_true rfl) (fun x hx ok => ?_)
  subst hx
  show G w x 7 0 0 (QM w x _ 0 0) C 0 [(0, .ref (ad w 1)), (1, .int a0)] []
  refine g_iload_n ok 1 dX3_better_0 rfl ?_
  refine g_iconst (v := 0) ok dX3_better_1 (by decide) ?_
  refine g_iconst (v := 1) ok dX3_better_2 (by decide) ?_
  refine g_callSI ok [.int a0, .int 0, .int 1] cf_X3_in q1474 (mc_X3_in ok.wo (xL x) C a0 0 1) rfl rfl (Nat.le_of_ble_eq_true rfl) ⟨by decide, by decide⟩ ⟨by decide, by decide⟩ dX3_better_3 ?_
  refine g_nmI (fun r1 er1 => ?_)
  have hw := hw r1 er1
  refine g_if_ne (tgt := 12) ok dX3_better_6 (by decide) (fun c2 => ?_) (fun c2 => ?_)
  · have hw := hw.2 c2
    refine g_aload_n ok 0 dX3_better_12 rfl ?_
    obtain ⟨hp, hw⟩ := hw
    refine g_callVIR ok [] cf_X3_findJoins q1691 (mc_X3_findJoins ok.wo (xL x) C hp) (recvF ok 1 rfl rfl) rfl rfl (Nat.le_of_ble_eq_true rfl) ⟨by decide, by decide⟩ ⟨by decide, by decide⟩ dX3_better_13 (fun C3 eC3 => ?_)
    refine g_nmI (fun r4 er4 => ?_)
    have hw := hw r4 er4 C3 eC3
    refine g_if_ne (tgt := 22) ok dX3_better_16 (by decide) (fun c5 => ?_) (fun c5 => ?_)
    · have hw := hw.2 c5
      refine g_iconst (v := -1) ok dX3_better_22 (by decide) ?_
      refine g_istore_n0 ok [(2, .int (-1)), (0, .ref (ad w 1)), (1, .int a0)] dX3_better_23 (by decide) rfl ?_
      refine g_iconst (v := 0) ok dX3_better_24 (by decide) ?_
      refine g_istore_n0 ok [(3, .int 0), (2, .int (-1)), (0, .ref (ad w 1)), (1, .int a0)] dX3_better_25 (by decide) rfl ?_
      refine g_iconst (v := 0) ok dX3_better_26 (by decide) ?_
      refine g_istore0 ok [(4, .int 0), (3, .int 0), (2, .int (-1)), (0, .ref (ad w 1)), (1, .int a0)] dX3_better_27 (by decide) rfl ?_
      refine g_sub [3, 4, 2, 1, 0] [(0, .ref (ad w 1)), (1, .int a0), (2, .int (-1)), (3, .int 0), (4, .int 0)] rfl ?_
      obtain ⟨n23, hw⟩ := hw
      exact gw_X3_better_l29 ok n23 C3 a0 (-1) 0 0 hw
    · have hw := hw.1 c5
      refine g_ldc (v := -1000000005) ok q1560 dX3_better_19 ?_
      exact g_iret ok dX3_better_21 ⟨_, rfl, hw⟩
  · have hw := hw.1 c2
    refine g_ldc (v := -1000000001) ok q1477 dX3_better_9 ?_
    exact g_iret ok dX3_better_11 ⟨_, rfl, hw⟩
theorem sp_X3_better (C : CS) (a0 : Int32) (hp : p_X3_better C a0) : wp_X3_better (fun r C1 => r = v_X3_better C a0 ∧ q_X3_better C a0 C1) C a0 := by
  intro r1 e1
  refine ⟨fun c => ⟨by unfold v_X3_better; rw [← e1, if_pos c], frm.rf _ _⟩, fun c => ⟨hp, fun r4 e4 C3 e3 => ?_⟩⟩
  obtain ⟨f3, h42⟩ := e3
  have hv : v_X3_better C a0 = btR (C.2.1 36) a0 := by unfold v_X3_better; rw [← e1, if_neg c]
  have hn := jn_le (C.2.1 36) 3125
  have e4 : r4 = nI (jn (C.2.1 36) 3125) := e4
  refine ⟨fun c4 => ⟨?_, f3⟩, fun c4 => ?_⟩
  · rw [e4, show (0 : Int32) = nI 0 from rfl, nI_eq (by omega) (by omega)] at c4
    rw [hv, btR, if_pos c4]
  · rw [e4, show (0 : Int32) = nI 0 from rfl, nI_eq (by omega) (by omega)] at c4
    have hA : ∀ q, q < 25 → C3.2.1 42 q = jA (C.2.1 36) q := h42
    have H : ∀ d w, w + d = 5 → wp_X3_better_l29 (fun r C1 => r = v_X3_better C a0 ∧ q_X3_better C a0 C1) (d + 1) C3 a0 (itr (btT (jA (C.2.1 36))) w (-1, 0)).1 (itr (btT (jA (C.2.1 36))) w (-1, 0)).2 (nI w) := by
      intro d
      induction d with
      | zero =>
        intro w hw
        have ew : w = 5 := by omega
        subst ew
        refine ⟨fun _ => ⟨fun c5 => ⟨?_, f3⟩, fun c5 => ⟨?_, f3⟩⟩, fun c1 => absurd (by decide) c1⟩
        · rw [hv, btR, if_neg c4, if_pos c5]
        · rw [hv, btR, if_neg c4, if_neg c5]
      | succ d ih =>
        intro w hw
        refine ⟨fun c1 => ?_, fun _ => ?_⟩
        · rw [show (5 : Int32) = nI 5 from rfl, nI_leI (by omega) (by omega)] at c1; omega
        · have H2 : ∀ k j, j + k = 5 → wp_X3_better_l41 (fun r C1 => r = v_X3_better C a0 ∧ q_X3_better C a0 C1) (fun D i1 i2 i3 i4 => wp_X3_better_l29 (fun r C1 => r = v_X3_better C a0 ∧ q_X3_better C a0 C1) (d + 1) D i1 i2 i3 i4) (k + 1) C3 a0 (itr (btT (jA (C.2.1 36))) w (-1, 0)).1 (itr (btT (jA (C.2.1 36))) w (-1, 0)).2 (nI w) (itr (btS (jA (C.2.1 36)) w) j 0) (nI j) := by
            intro k
            induction k with
            | zero =>
              intro j hj
              have ej : j = 5 := by omega
              subst ej
              refine ⟨fun _ x13 e13 x16 e16 x17 e17 => ?_, fun c1 => absurd (by decide) c1⟩
              have e2 : itr (btT (jA (C.2.1 36))) (w + 1) (-1, 0) = (x13, x16) := by
                rw [itr, btT, btW, ← e13, ← e16]
              have h3 := ih (w + 1) (by omega)
              rw [e2] at h3
              rw [e17, o1, nI_add]
              exact h3
            | succ k ihk =>
              intro j hj
              refine ⟨fun c1 => ?_, fun _ => ⟨by rw [ix5]; exact vp_k (by omega), ⟨fun _ => trivial, fun _ => ⟨by rw [ix5]; exact vp_k (by omega), trivial⟩⟩, fun x20 e20 x21 e21 => ?_⟩⟩
              · rw [show (5 : Int32) = nI 5 from rfl, nI_leI (by omega) (by omega)] at c1; omega
              · rw [ix5, cl_k (by omega), hA _ (by omega)] at e20
                have h3 := ihk (j + 1) (by omega)
                rw [itr, btS, ← e20] at h3
                rw [e21, o1, nI_add]
                exact h3
          exact ⟨_, H2 5 0 (by omega)⟩
    exact ⟨_, H 5 0 (by omega)⟩
theorem mc_X3_better {w : WD} (wk : wOk w) (l : Launch) (C : CS) (a0 : Int32) (hp : p_X3_better C a0) : MC w l yX3_better cX3_better 7 (some .int) 3 0 0 [.ref (ad w 1), .int a0] C (pIR (v_X3_better C a0) (q_X3_better C a0)) := MC.postIR (gw_X3_better wk l C a0 (sp_X3_better C a0 hp))
