theorem ix24 (a b : Nat) : (24 * nI a + nI b : Int32) = nI (24 * a + b) := by rw [show (24 : Int32) = nI 24 from rfl, pk_mul, nI_add]
/-- sheet s tells a the number b -/
def tdR (sz cl : Nat → Int32) (s a b : Nat) : Bool := decide (¬ sz s ≤ nI a) && decide (cl (24 * s + a) = nI b)
/-- they are partners by sheet s -/
def apR (v : Nat → Nat → Int32) (sz cl : Nat → Int32) (s a b : Nat) : Bool := decide (¬ v a b < 0) && (tdR sz cl s a b && tdR sz cl s b a)
theorem told_iff (C : CS) {s a b : Nat} (hs : s < 4) (ha : a < 24) : (v_X3_isTold C (nI s) (nI a) (nI b) = 0) ↔ tdR (C.2.1 52) (C.2.1 53) s a b = false := by
  unfold v_X3_isTold tdR
  rw [ix24, cl_k (by omega), cl_k (by omega)]
  by_cases h1 : C.2.1 52 s ≤ nI a
  · simp [h1]
  · by_cases h2 : C.2.1 53 (24 * s + a) = nI b
    · simp [h1, h2]
    · simp [h1, h2]
theorem part_iff (C : CS) {s a b : Nat} (hs : s < 4) (ha : a < 10) (hb : b < 10) : (v_X3_arePartners C (nI s) (nI a) (nI b) = 0) ↔ apR (fun a b => C.2.1 39 (10 * a + b)) (C.2.1 52) (C.2.1 53) s a b = false := by
  unfold v_X3_arePartners apR
  rw [ix10, cl_k (by omega)]
  have t1 := told_iff C (s := s) (a := a) (b := b) hs (by omega)
  have t2 := told_iff C (s := s) (a := b) (b := a) hs (by omega)
  by_cases h1 : C.2.1 39 (10 * a + b) < 0
  · simp [h1]
  · by_cases h2 : v_X3_isTold C (nI s) (nI a) (nI b) = 0
    · simp [h1, h2, t1.mp h2]
    · by_cases h3 : v_X3_isTold C (nI s) (nI b) (nI a) = 0
      · simp [h1, h2, h3, t2.mp h3]
      · have k1 : tdR (C.2.1 52) (C.2.1 53) s a b = true := by
          cases hh : tdR (C.2.1 52) (C.2.1 53) s a b with
          | true => rfl
          | false => exact absurd (t1.mpr hh) h2
        have k2 : tdR (C.2.1 52) (C.2.1 53) s b a = true := by
          cases hh : tdR (C.2.1 52) (C.2.1 53) s b a with
          | true => rfl
          | false => exact absurd (t2.mpr hh) h3
        simp [h1, h2, h3, k1, k2]
theorem ppart (C : CS) {s a b : Nat} (hs : s < 4) (ha : a < 10) (hb : b < 10) : p_X3_arePartners C (nI s) (nI a) (nI b) := by
  have t : ∀ x y, x < 10 → p_X3_isTold C (nI s) (nI x) (nI y) := fun x y hx => ⟨vp_k hs, fun _ => trivial, fun _ => ⟨by rw [ix24]; exact vp_k (by omega), trivial⟩⟩
  exact ⟨by rw [ix10]; exact vp_k (by omega), fun _ => trivial, fun _ => ⟨t a b ha, fun _ => trivial, fun _ => ⟨t b a hb, trivial⟩⟩⟩
/-- what g has by its partner among k, k + 1 .. -/
def hbL (ap : Nat → Nat → Bool) (v : Nat → Nat → Int32) (g : Nat) : Nat → Nat → Int32
  | 0, _ => 0
  | d + 1, k => if k = g then hbL ap v g d (k + 1) else if ap g k = true then v g k else hbL ap v g d (k + 1)
theorem hbL_congr {ap ap2 : Nat → Nat → Bool} {v v2 : Nat → Nat → Int32} {g N : Nat} (h1 : ∀ k, k < N → k ≠ g → ap g k = ap2 g k ∧ v g k = v2 g k) : ∀ d k, k + d ≤ N → hbL ap v g d k = hbL ap2 v2 g d k := by
  intro d
  induction d with
  | zero => intro k _; rfl
  | succ d ih =>
    intro k hk
    rw [hbL, hbL, ih (k + 1) (by omega)]
    by_cases h : k = g
    · rw [if_pos h, if_pos h]
    · rw [if_neg h, if_neg h, (h1 k (by omega) h).1, (h1 k (by omega) h).2]
theorem cf_X3_hasBy : CfV yX3_hasBy "TwoGuildsModel" cX3_hasBy 4 (some .int) 2 := ⟨⟨by decide, by decide, by decide⟩, q75, q1615, q1614, qs48⟩
def p_X3_hasBy (C : CS) (a0 a1 : Int32) : Prop := ∃ N s g, gOk C N ∧ a0 = nI s ∧ s < 4 ∧ a1 = nI g ∧ g < N
def v_X3_hasBy (C : CS) (a0 a1 : Int32) : Int32 := hbL (apR (fun a b => C.2.1 39 (10 * a + b)) (C.2.1 52) (C.2.1 53) a0.toNatClampNeg) (fun a b => C.2.1 39 (10 * a + b)) a1.toNatClampNeg (C.2.1 36 1).toNatClampNeg 0
def wp_X3_hasBy_j39 (Post : Int32 → CS → Prop) (R2 : CS → Int32 → Int32 → Int32 → Prop) (C : CS) (i1 : Int32) (i2 : Int32) (i3 : Int32) : Prop := ∀ x3 : Int32, x3 = (i3 + Int32.ofInt 1) → 
  R2 C i1 i2 x3
def wp_X3_hasBy_l2 (Post : Int32 → CS → Prop) : Nat → CS → Int32 → Int32 → Int32 → Prop
  | 0, _, _, _, _ => False
  | n + 1, C, i1, i2, i3 => ((C.2.1 36 1) ≤ i3 → 
  Post 0 C) ∧
  (¬ (C.2.1 36 1) ≤ i3 → 
  (i3 = i2 → 
    wp_X3_hasBy_j39 Post (fun C i1 i2 i3 => wp_X3_hasBy_l2 Post n C i1 i2 i3) C i1 i2 i3) ∧
    (¬ i3 = i2 → 
    p_X3_arePartners C i1 i2 i3 ∧
      (∀ r4 : Int32, r4 = (v_X3_arePartners C i1 i2 i3) → 
      (r4 = 0 → 
      wp_X3_hasBy_j39 Post (fun C i1 i2 i3 => wp_X3_hasBy_l2 Post n C i1 i2 i3) C i1 i2 i3) ∧
      (¬ r4 = 0 → 
      vp_in ((10 * i2) + i3) 100 ∧
        (Post (C.2.1 39 (Int32.toNatClampNeg ((10 * i2) + i3))) C)))))
def wp_X3_hasBy (Post : Int32 → CS → Prop) (C : CS) (a0 : Int32) (a1 : Int32) : Prop :=
  ∃ m2, wp_X3_hasBy_l2 Post m2 C a0 a1 0
set_option maxHeartbeats 4000000 in
set_option maxRecDepth 100000 in
theorem gw_X3_hasBy_j39 {w : WD} {x : Cx} (ok : Ok w x cX3_hasBy 4 yX3_hasBy.cls (some .int) (rmL 2 0 0)) {Post : Int32 → CS → Prop} {R2 : CS → Int32 → Int32 → Int32 → Prop} (hR2 : ∀ C (i1 : Int32) (i2 : Int32) (i3 : Int32), R2 C i1 i2 i3 → G w x 4 0 0 (QM w x (fun v C1 => ∃ r : Int32, v = some (.int r) ∧ Post r C1) 0 0) C 2 [(0, .ref (ad w 1)), (1, .int i1), (2, .int i2), (3, .int i3)] []) : ∀ (C : CS) (i1 : Int32) (i2 : Int32) (i3 : Int32), wp_X3_hasBy_j39 Post R2 C i1 i2 i3 → G w x 4 0 0 (QM w x (fun v C1 => ∃ r : Int32, v = some (.int r) ∧ Post r C1) 0 0) C 39 [(0, .ref (ad w 1)), (1, .int i1), (2, .int i2), (3, .int i3)] [] := by
  intro C i1 i2 i3 hw
  unfold wp_X3_hasBy_j39 at hw
  refine g_iinc ok 3 (fun z => [(3, .int z), (0, .ref (ad w 1)), (1, .int i1), (2, .int i2)]) dX3_hasBy_39 rfl (by decide) (fun _ => rfl) (fun x3 ex3 => ?_)
  have hw := hw x3 ex3
  refine g_goto (tgt := 2) ok dX3_hasBy_42 (by decide) ?_
  refine g_sub [1, 2, 3, 0] [(0, .ref (ad w 1)), (1, .int i1), (2, .int i2), (3, .int x3)] rfl ?_
  exact hR2 C i1 i2 x3 hw
set_option maxHeartbeats 4000000 in
set_option maxRecDepth 100000 in
theorem gw_X3_hasBy_l2 {w : WD} {x : Cx} (ok : Ok w x cX3_hasBy 4 yX3_hasBy.cls (some .int) (rmL 2 0 0)) {Post : Int32 → CS → Prop} : ∀ (n : Nat) (C : CS) (i1 : Int32) (i2 : Int32) (i3 : Int32), wp_X3_hasBy_l2 Post  n C i1 i2 i3 → G w x 4 0 0 (QM w x (fun v C1 => ∃ r : Int32, v = some (.int r) ∧ Post r C1) 0 0) C 2 [(0, .ref (ad w 1)), (1, .int i1), (2, .int i2), (3, .int i3)] [] := by
  intro n
  induction n with
  | zero => intro C i1 i2 i3 hw; exact hw.elim
  | succ n ih =>
    intro C i1 i2 i3 hw
    unfold wp_X3_hasBy_l2 at hw
    refine g_iload_n ok 3 dX3_hasBy_2 rfl ?_
    refine g_aload_n ok 0 dX3_hasBy_3 rfl ?_
    refine g_get ok 1 rfl rfl in_X3 0 (by decide) q1359 rfl dX3_hasBy_4 ?_
    refine g_iconst (v := 1) ok dX3_hasBy_7 (by decide) ?_
    refine g_iald ok 36 rfl (by unfold vp_in; decide) 1 (by decide) dX3_hasBy_8 ?_
    refine g_icmp_ge (tgt := 45) ok dX3_hasBy_9 (by decide) (fun c1 => ?_) (fun c1 => ?_)
    · have hw := hw.1 c1
      refine g_iconst (v := 0) ok dX3_hasBy_45 (by decide) ?_
      exact g_iret ok dX3_hasBy_46 ⟨_, rfl, hw⟩
    · have hw := hw.2 c1
      refine g_iload_n ok 3 dX3_hasBy_12 rfl ?_
      refine g_iload_n ok 2 dX3_hasBy_13 rfl ?_
      refine g_icmp_eq (tgt := 39) ok dX3_hasBy_14 (by decide) (fun c2 => ?_) (fun c2 => ?_)
      · have hw := hw.1 c2
        exact gw_X3_hasBy_j39 ok (fun C i1 i2 i3 hw => ih C i1 i2 i3 hw) C i1 i2 i3 hw
      · have hw := hw.2 c2
        refine g_aload_n ok 0 dX3_hasBy_17 rfl ?_
        refine g_iload_n ok 1 dX3_hasBy_18 rfl ?_
        refine g_iload_n ok 2 dX3_hasBy_19 rfl ?_
        refine g_iload_n ok 3 dX3_hasBy_20 rfl ?_
        obtain ⟨hp, hw⟩ := hw
        refine g_callVI ok [.int i1, .int i2, .int i3] cf_X3_arePartners q1616 (mc_X3_arePartners ok.wo (xL x) C i1 i2 i3 hp) (recvF ok 1 rfl rfl) rfl rfl (Nat.le_of_ble_eq_true rfl) ⟨by decide, by decide⟩ ⟨by decide, by decide⟩ dX3_hasBy_21 ?_
        refine g_nmI (fun r4 er4 => ?_)
        have hw := hw r4 er4
        refine g_if_eq (tgt := 39) ok dX3_hasBy_24 (by decide) (fun c5 => ?_) (fun c5 => ?_)
        · have hw := hw.1 c5
          exact gw_X3_hasBy_j39 ok (fun C i1 i2 i3 hw => ih C i1 i2 i3 hw) C i1 i2 i3 hw
        · have hw := hw.2 c5
          refine g_aload_n ok 0 dX3_hasBy_27 rfl ?_
          refine g_get ok 1 rfl rfl in_X3 4 (by decide) q1363 rfl dX3_hasBy_28 ?_
          refine g_bipush (v := 10) ok dX3_hasBy_31 (by decide) ?_
          refine g_iload_n ok 2 dX3_hasBy_33 rfl ?_
          refine g_imul ok dX3_hasBy_34 ?_
          refine g_iload_n ok 3 dX3_hasBy_35 rfl ?_
          refine g_iadd ok dX3_hasBy_36 ?_
          obtain ⟨hg, hw⟩ := hw
          refine g_iald ok 39 rfl hg _ rfl dX3_hasBy_37 ?_
          exact g_iret ok dX3_hasBy_38 ⟨_, rfl, hw⟩
set_option maxHeartbeats 4000000 in
set_option maxRecDepth 100000 in
theorem gw_X3_hasBy {w : WD} (wk : wOk w) (l : Launch) (C : CS) (a0 : Int32) (a1 : Int32) {Post : Int32 → CS → Prop} (hw : wp_X3_hasBy Post C a0 a1) : MC w l yX3_hasBy cX3_hasBy 4 (some .int) 2 0 0 [.ref (ad w 1), .int a0, .int a1] C (fun v C1 => ∃ r : Int32, v = some (.int r) ∧ Post r C1) := by
  unfold wp_X3_hasBy at hw
  refine MC.of wk (by decide) (Nat.le_of_ble_eq_true rfl) (fun x hx ok => ?_)
  subst hx
  show G w x 4 0 0 (QM w x _ 0 0) C 0 [(0, .ref (ad w 1)), (1, .int a0), (2, .int a1)] []
  refine g_iconst (v := 0) ok dX3_hasBy_0 (by decide) ?_
  refine g_istore_n0 ok [(3, .int 0), (0, .ref (ad w 1)), (1, .int a0), (2, .int a1)] dX3_hasBy_1 (by decide) rfl ?_
  refine g_sub [1, 2, 3, 0] [(0, .ref (ad w 1)), (1, .int a0), (2, .int a1), (3, .int 0)] rfl ?_
  obtain ⟨n6, hw⟩ := hw
  exact gw_X3_hasBy_l2 ok n6 C a0 a1 0 hw
theorem sp_X3_hasBy (C : CS) (a0 a1 : Int32) (hp : p_X3_hasBy C a0 a1) : wp_X3_hasBy (fun r C1 => r = v_X3_hasBy C a0 a1 ∧ C1 = C) C a0 a1 := by
  obtain ⟨N, s, g, ⟨e, hN⟩, rfl, hs, rfl, hg⟩ := hp
  have H : ∀ d k, k + d = N → v_X3_hasBy C (nI s) (nI g) = hbL (apR (fun a b => C.2.1 39 (10 * a + b)) (C.2.1 52) (C.2.1 53) s) (fun a b => C.2.1 39 (10 * a + b)) g d k → wp_X3_hasBy_l2 (fun r C1 => r = v_X3_hasBy C (nI s) (nI g) ∧ C1 = C) (d + 1) C (nI s) (nI g) (nI k) := by
    intro d
    induction d with
    | zero =>
      intro k hk hv
      refine ⟨fun _ => ⟨hv.symm, rfl⟩, fun c => absurd ?_ c⟩
      rw [e, nI_leI (by omega) (by omega)]; omega
    | succ d ih =>
      intro k hk hv
      rw [hbL] at hv
      refine ⟨fun c => ?_, fun _ => ⟨fun c x3 e3 => ?_, fun c => ⟨ppart C hs (by omega) (by omega), fun r4 e4 => ⟨fun c4 x3 e3 => ?_, fun c4 => ⟨by rw [ix10]; exact vp_k (by omega), ?_, rfl⟩⟩⟩⟩⟩
      · rw [e, nI_leI (by omega) (by omega)] at c; omega
      · rw [nI_eq (by omega) (by omega)] at c
        rw [if_pos c] at hv
        rw [e3, o1, nI_add]
        exact ih (k + 1) (by omega) hv
      · rw [nI_eq (by omega) (by omega)] at c
        rw [e4, part_iff C hs (by omega) (by omega)] at c4
        rw [if_neg c, c4, if_neg (by decide)] at hv
        rw [e3, o1, nI_add]
        exact ih (k + 1) (by omega) hv
      · rw [nI_eq (by omega) (by omega)] at c
        rw [e4, part_iff C hs (by omega) (by omega), Bool.not_eq_false] at c4
        rw [if_neg c, c4, if_pos rfl] at hv
        rw [hv, ix10, cl_k (by omega)]
  refine ⟨N + 1, H N 0 (by omega) ?_⟩
  unfold v_X3_hasBy
  rw [cl_k (by omega), cl_k (by omega), e, cl_k (by omega)]
theorem mc_X3_hasBy {w : WD} (wk : wOk w) (l : Launch) (C : CS) (a0 : Int32) (a1 : Int32) (hp : p_X3_hasBy C a0 a1) : MC w l yX3_hasBy cX3_hasBy 4 (some .int) 2 0 0 [.ref (ad w 1), .int a0, .int a1] C (pI (v_X3_hasBy C a0 a1) C) := MC.postI (gw_X3_hasBy wk l C a0 a1 (sp_X3_hasBy C a0 a1 hp))
/-- the first two (a, b), b from b0 on, that leave -/
def lvB (P : Nat → Nat → Bool) (a : Nat) : Nat → Nat → Option Int32
  | 0, _ => none
  | d + 1, b => if P a b = true then some (nI (100 * a + b)) else lvB P a d (b + 1)
def lvA (P : Nat → Nat → Bool) (N : Nat) : Nat → Nat → Int32
  | 0, _ => -1000000005
  | d + 1, a => match lvB P a (N - (a + 1)) (a + 1) with
    | some x => x
    | none => lvA P N d (a + 1)
/-- two leave: their VALUE is above what each has, and they are no partners -/
def lvP (v : Nat → Nat → Int32) (ap : Nat → Nat → Bool) (N : Nat) (a b : Nat) : Bool := decide (¬ v a b ≤ hbL ap v a N 0) && (decide (¬ v a b ≤ hbL ap v b N 0) && !(ap a b))
def lvR (r sz cl : Nat → Int32) (s : Nat) : Int32 := lvA (lvP (vv r) (apR (vv r) sz cl s) (r 1).toNatClampNeg) (r 1).toNatClampNeg (r 1).toNatClampNeg 0
theorem ix100 (a b : Nat) : (100 * nI a + nI b : Int32) = nI (100 * a + b) := by rw [show (100 : Int32) = nI 100 from rfl, pk_mul, nI_add]
theorem cf_X3_leaves : CfV yX3_leaves "TwoGuildsModel" cX3_leaves 5 (some .int) 1 := ⟨⟨by decide, by decide, by decide⟩, q75, q1607, q1605, q1606⟩
def p_X3_leaves (C : CS) (a0 : Int32) : Prop := rowD (C.2.1 36)
def v_X3_leaves (C : CS) (a0 : Int32) : Int32 := if v_X3_isSheet a0 = 0 then -1000000001 else if 0 ≤ C.2.1 51 a0.toNatClampNeg then lvR (C.2.1 36) (C.2.1 52) (C.2.1 53) a0.toNatClampNeg else -1000000011
def q_X3_leaves (C : CS) (a0 : Int32) (C1 : CS) : Prop := frm [39, 40, 49, 50] C C1
def wp_X3_leaves_j104 (Post : Int32 → CS → Prop) (R28 : CS → Int32 → Int32 → Prop) (R42 : CS → Int32 → Int32 → Int32 → Prop) (C : CS) (i1 : Int32) (i2 : Int32) (i3 : Int32) : Prop := ∀ x12 : Int32, x12 = (i3 + Int32.ofInt 1) → 
  R42 C i1 i2 x12
def wp_X3_leaves_l42 (Post : Int32 → CS → Prop) (R28 : CS → Int32 → Int32 → Prop) : Nat → CS → Int32 → Int32 → Int32 → Prop
  | 0, _, _, _, _ => False
  | n + 1, C, i1, i2, i3 => ((C.2.1 36 1) ≤ i3 → 
  ∀ x8 : Int32, x8 = (i2 + Int32.ofInt 1) → 
    R28 C i1 x8) ∧
  (¬ (C.2.1 36 1) ≤ i3 → 
  vp_in ((10 * i2) + i3) 100 ∧
    (∀ x9 : Int32, x9 = (C.2.1 39 (Int32.toNatClampNeg ((10 * i2) + i3))) → 
    p_X3_hasBy C i1 i2 ∧
    (∀ r10 : Int32, r10 = (v_X3_hasBy C i1 i2) → 
    (x9 ≤ r10 → 
    wp_X3_leaves_j104 Post R28 (fun C i1 i2 i3 => wp_X3_leaves_l42 Post R28 n C i1 i2 i3) C i1 i2 i3) ∧
    (¬ x9 ≤ r10 → 
    p_X3_hasBy C i1 i3 ∧
      (∀ r13 : Int32, r13 = (v_X3_hasBy C i1 i3) → 
      (x9 ≤ r13 → 
      wp_X3_leaves_j104 Post R28 (fun C i1 i2 i3 => wp_X3_leaves_l42 Post R28 n C i1 i2 i3) C i1 i2 i3) ∧
      (¬ x9 ≤ r13 → 
      p_X3_arePartners C i1 i2 i3 ∧
        (∀ r15 : Int32, r15 = (v_X3_arePartners C i1 i2 i3) → 
        (r15 = 0 → 
        Post ((100 * i2) + i3) C) ∧
        (¬ r15 = 0 → 
        wp_X3_leaves_j104 Post R28 (fun C i1 i2 i3 => wp_X3_leaves_l42 Post R28 n C i1 i2 i3) C i1 i2 i3))))))))
def wp_X3_leaves_l28 (Post : Int32 → CS → Prop) : Nat → CS → Int32 → Int32 → Prop
  | 0, _, _, _ => False
  | n + 1, C, i1, i2 => ((C.2.1 36 1) ≤ i2 → 
  Post (-1000000005) C) ∧
  (¬ (C.2.1 36 1) ≤ i2 → 
  ∀ x6 : Int32, x6 = (i2 + 1) → 
    ∃ m42, wp_X3_leaves_l42 Post (fun C i1 i2 => wp_X3_leaves_l28 Post n C i1 i2) m42 C i1 i2 x6)
def wp_X3_leaves (Post : Int32 → CS → Prop) (C : CS) (a0 : Int32) : Prop :=
  ∀ r1 : Int32, r1 = (v_X3_isSheet a0) → 
    (r1 = 0 → 
    Post (-1000000001) C) ∧
    (¬ r1 = 0 → 
    vp_in a0 4 ∧
      ((0 ≤ (C.2.1 51 (Int32.toNatClampNeg a0)) → 
      p_X3_findBests C ∧
        (∀ C4 : CS, q_X3_findBests C C4 → 
        ∃ m28, wp_X3_leaves_l28 Post m28 C4 a0 0)) ∧
      (¬ 0 ≤ (C.2.1 51 (Int32.toNatClampNeg a0)) → 
      Post (-1000000011) C)))
set_option maxHeartbeats 4000000 in
set_option maxRecDepth 100000 in
theorem gw_X3_leaves_j104 {w : WD} {x : Cx} (ok : Ok w x cX3_leaves 5 yX3_leaves.cls (some .int) (rmL 4 0 0)) {Post : Int32 → CS → Prop} {R28 : CS → Int32 → Int32 → Prop} {R42 : CS → Int32 → Int32 → Int32 → Prop} (hR28 : ∀ C (i1 : Int32) (i2 : Int32), R28 C i1 i2 → G w x 5 0 0 (QM w x (fun v C1 => ∃ r : Int32, v = some (.int r) ∧ Post r C1) 0 0) C 28 [(0, .ref (ad w 1)), (1, .int i1), (2, .int i2)] []) (hR42 : ∀ C (i1 : Int32) (i2 : Int32) (i3 : Int32), R42 C i1 i2 i3 → G w x 5 0 0 (QM w x (fun v C1 => ∃ r : Int32, v = some (.int r) ∧ Post r C1) 0 0) C 42 [(0, .ref (ad w 1)), (1, .int i1), (2, .int i2), (3, .int i3)] []) : ∀ (C : CS) (i1 : Int32) (i2 : Int32) (i3 : Int32), wp_X3_leaves_j104 Post R28 R42 C i1 i2 i3 → G w x 5 0 0 (QM w x (fun v C1 => ∃ r : Int32, v = some (.int r) ∧ Post r C1) 0 0) C 104 [(0, .ref (ad w 1)), (1, .int i1), (2, .int i2), (3, .int i3)] [] := by
  intro C i1 i2 i3 hw
  unfold wp_X3_leaves_j104 at hw
  refine g_iinc ok 3 (fun z => [(3, .int z), (0, .ref (ad w 1)), (1, .int i1), (2, .int i2)]) dX3_leaves_104 rfl (by decide) (fun _ => rfl) (fun x12 ex12 => ?_)
  have hw := hw x12 ex12
  refine g_goto (tgt := 42) ok dX3_leaves_107 (by decide) ?_
  refine g_sub [1, 2, 3, 0] [(0, .ref (ad w 1)), (1, .int i1), (2, .int i2), (3, .int x12)] rfl ?_
  exact hR42 C i1 i2 x12 hw
set_option maxHeartbeats 4000000 in
set_option maxRecDepth 100000 in
theorem gw_X3_leaves_l42 {w : WD} {x : Cx} (ok : Ok w x cX3_leaves 5 yX3_leaves.cls (some .int) (rmL 4 0 0)) {Post : Int32 → CS → Prop} {R28 : CS → Int32 → Int32 → Prop} (hR28 : ∀ C (i1 : Int32) (i2 : Int32), R28 C i1 i2 → G w x 5 0 0 (QM w x (fun v C1 => ∃ r : Int32, v = some (.int r) ∧ Post r C1) 0 0) C 28 [(0, .ref (ad w 1)), (1, .int i1), (2, .int i2)] []) : ∀ (n : Nat) (C : CS) (i1 : Int32) (i2 : Int32) (i3 : Int32), wp_X3_leaves_l42 Post R28 n C i1 i2 i3 → G w x 5 0 0 (QM w x (fun v C1 => ∃ r : Int32, v = some (.int r) ∧ Post r C1) 0 0) C 42 [(0, .ref (ad w 1)), (1, .int i1), (2, .int i2), (3, .int i3)] [] := by
  intro n
  induction n with
  | zero => intro C i1 i2 i3 hw; exact hw.elim
  | succ n ih =>
    intro C i1 i2 i3 hw
    unfold wp_X3_leaves_l42 at hw
    refine g_iload_n ok 3 dX3_leaves_42 rfl ?_
    refine g_aload_n ok 0 dX3_leaves_43 rfl ?_
    refine g_get ok 1 rfl rfl in_X3 0 (by decide) q1359 rfl dX3_leaves_44 ?_
    refine g_iconst (v := 1) ok dX3_leaves_47 (by decide) ?_
    refine g_iald ok 36 rfl (by unfold vp_in; decide) 1 (by decide) dX3_leaves_48 ?_
    refine g_icmp_ge (tgt := 110) ok dX3_leaves_49 (by decide) (fun c7 => ?_) (fun c7 => ?_)
    · have hw := hw.1 c7
      refine g_iinc ok 2 (fun z => [(2, .int z), (0, .ref (ad w 1)), (1, .int i1), (3, .int i3)]) dX3_leaves_110 rfl (by decide) (fun _ => rfl) (fun x8 ex8 => ?_)
      have hw := hw x8 ex8
      refine g_goto (tgt := 28) ok dX3_leaves_113 (by decide) ?_
      refine g_sub [1, 2, 0] [(0, .ref (ad w 1)), (1, .int i1), (2, .int x8)] rfl ?_
      exact hR28 C i1 x8 hw
    · have hw := hw.2 c7
      refine g_aload_n ok 0 dX3_leaves_52 rfl ?_
      refine g_get ok 1 rfl rfl in_X3 4 (by decide) q1363 rfl dX3_leaves_53 ?_
      refine g_bipush (v := 10) ok dX3_leaves_56 (by decide) ?_
      refine g_iload_n ok 2 dX3_leaves_58 rfl ?_
      refine g_imul ok dX3_leaves_59 ?_
      refine g_iload_n ok 3 dX3_leaves_60 rfl ?_
      refine g_iadd ok dX3_leaves_61 ?_
      obtain ⟨hg, hw⟩ := hw
      refine g_iald ok 39 rfl hg _ rfl dX3_leaves_62 ?_
      refine g_istore ok (fun z => [(4, .int z), (0, .ref (ad w 1)), (1, .int i1), (2, .int i2), (3, .int i3)]) dX3_leaves_63 (by decide) (fun _ => rfl) (fun x9 ex9 => ?_)
      have hw := hw x9 ex9
      refine g_iload ok 0 dX3_leaves_65 rfl ?_
      refine g_aload_n ok 1 dX3_leaves_67 rfl ?_
      refine g_iload_n ok 2 dX3_leaves_68 rfl ?_
      refine g_iload_n ok 3 dX3_leaves_69 rfl ?_
      obtain ⟨hp, hw⟩ := hw
      refine g_callVI ok [.int i1, .int i2] cf_X3_hasBy q1612 (mc_X3_hasBy ok.wo (xL x) C i1 i2 hp) (recvF ok 1 rfl rfl) rfl rfl (Nat.le_of_ble_eq_true rfl) ⟨by decide, by decide⟩ ⟨by decide, by decide⟩ dX3_leaves_70 ?_
      refine g_nmI (fun r10 er10 => ?_)
      have hw := hw r10 er10
      refine g_icmp_le (tgt := 104) ok dX3_leaves_73 (by decide) (fun c11 => ?_) (fun c11 => ?_)
      · have hw := hw.1 c11
        refine g_sub [1, 2, 3, 4] [(0, .ref (ad w 1)), (1, .int i1), (2, .int i2), (3, .int i3)] rfl ?_
        exact gw_X3_leaves_j104 ok hR28 (fun C i1 i2 i3 hw => ih C i1 i2 i3 hw) C i1 i2 i3 hw
      · have hw := hw.2 c11
        refine g_iload ok 0 dX3_leaves_76 rfl ?_
        refine g_aload_n ok 1 dX3_leaves_78 rfl ?_
        refine g_iload_n ok 2 dX3_leaves_79 rfl ?_
        refine g_iload_n ok 4 dX3_leaves_80 rfl ?_
        obtain ⟨hp, hw⟩ := hw
        refine g_callVI ok [.int i1, .int i3] cf_X3_hasBy q1612 (mc_X3_hasBy ok.wo (xL x) C i1 i3 hp) (recvF ok 1 rfl rfl) rfl rfl (Nat.le_of_ble_eq_true rfl) ⟨by decide, by decide⟩ ⟨by decide, by decide⟩ dX3_leaves_81 ?_
        refine g_nmI (fun r13 er13 => ?_)
        have hw := hw r13 er13
        refine g_icmp_le (tgt := 104) ok dX3_leaves_84 (by decide) (fun c14 => ?_) (fun c14 => ?_)
        · have hw := hw.1 c14
          refine g_sub [1, 2, 3, 4] [(0, .ref (ad w 1)), (1, .int i1), (2, .int i2), (3, .int i3)] rfl ?_
          exact gw_X3_leaves_j104 ok hR28 (fun C i1 i2 i3 hw => ih C i1 i2 i3 hw) C i1 i2 i3 hw
        · have hw := hw.2 c14
          refine g_aload_n ok 1 dX3_leaves_87 rfl ?_
          refine g_iload_n ok 2 dX3_leaves_88 rfl ?_
          refine g_iload_n ok 3 dX3_leaves_89 rfl ?_
          refine g_iload_n ok 4 dX3_leaves_90 rfl ?_
          obtain ⟨hp, hw⟩ := hw
          refine g_callVI ok [.int i1, .int i2, .int i3] cf_X3_arePartners q1616 (mc_X3_arePartners ok.wo (xL x) C i1 i2 i3 hp) (recvF ok 1 rfl rfl) rfl rfl (Nat.le_of_ble_eq_true rfl) ⟨by decide, by decide⟩ ⟨by decide, by decide⟩ dX3_leaves_91 ?_
          refine g_nmI (fun r15 er15 => ?_)
          have hw := hw r15 er15
          refine g_if_ne (tgt := 104) ok dX3_leaves_94 (by decide) (fun c16 => ?_) (fun c16 => ?_)
          · have hw := hw.2 c16
            refine g_sub [1, 2, 3, 4] [(0, .ref (ad w 1)), (1, .int i1), (2, .int i2), (3, .int i3)] rfl ?_
            exact gw_X3_leaves_j104 ok hR28 (fun C i1 i2 i3 hw => ih C i1 i2 i3 hw) C i1 i2 i3 hw
          · have hw := hw.1 c16
            refine g_bipush (v := 100) ok dX3_leaves_97 (by decide) ?_
            refine g_iload_n ok 3 dX3_leaves_99 rfl ?_
            refine g_imul ok dX3_leaves_100 ?_
            refine g_iload_n ok 4 dX3_leaves_101 rfl ?_
            refine g_iadd ok dX3_leaves_102 ?_
            exact g_iret ok dX3_leaves_103 ⟨_, rfl, hw⟩
set_option maxHeartbeats 4000000 in
set_option maxRecDepth 100000 in
theorem gw_X3_leaves_l28 {w : WD} {x : Cx} (ok : Ok w x cX3_leaves 5 yX3_leaves.cls (some .int) (rmL 4 0 0)) {Post : Int32 → CS → Prop} : ∀ (n : Nat) (C : CS) (i1 : Int32) (i2 : Int32), wp_X3_leaves_l28 Post  n C i1 i2 → G w x 5 0 0 (QM w x (fun v C1 => ∃ r : Int32, v = some (.int r) ∧ Post r C1) 0 0) C 28 [(0, .ref (ad w 1)), (1, .int i1), (2, .int i2)] [] := by
  intro n
  induction n with
  | zero => intro C i1 i2 hw; exact hw.elim
  | succ n ih =>
    intro C i1 i2 hw
    unfold wp_X3_leaves_l28 at hw
    refine g_iload_n ok 2 dX3_leaves_28 rfl ?_
    refine g_aload_n ok 0 dX3_leaves_29 rfl ?_
    refine g_get ok 1 rfl rfl in_X3 0 (by decide) q1359 rfl dX3_leaves_30 ?_
    refine g_iconst (v := 1) ok dX3_leaves_33 (by decide) ?_
    refine g_iald ok 36 rfl (by unfold vp_in; decide) 1 (by decide) dX3_leaves_34 ?_
    refine g_icmp_ge (tgt := 116) ok dX3_leaves_35 (by decide) (fun c5 => ?_) (fun c5 => ?_)
    · have hw := hw.1 c5
      refine g_ldc (v := -1000000005) ok q1560 dX3_leaves_116 ?_
      exact g_iret ok dX3_leaves_118 ⟨_, rfl, hw⟩
    · have hw := hw.2 c5
      refine g_iload_n ok 2 dX3_leaves_38 rfl ?_
      refine g_iconst (v := 1) ok dX3_leaves_39 (by decide) ?_
      refine g_iadd ok dX3_leaves_40 ?_
      refine g_istore_n ok (fun z => [(3, .int z), (0, .ref (ad w 1)), (1, .int i1), (2, .int i2)]) dX3_leaves_41 (by decide) (fun _ => rfl) (fun x6 ex6 => ?_)
      have hw := hw x6 ex6
      refine g_sub [1, 2, 3, 0] [(0, .ref (ad w 1)), (1, .int i1), (2, .int i2), (3, .int x6)] rfl ?_
      obtain ⟨n17, hw⟩ := hw
      exact gw_X3_leaves_l42 ok (fun C i1 i2 hw => ih C i1 i2 hw) n17 C i1 i2 x6 hw
set_option maxHeartbeats 4000000 in
set_option maxRecDepth 100000 in
theorem gw_X3_leaves {w : WD} (wk : wOk w) (l : Launch) (C : CS) (a0 : Int32) {Post : Int32 → CS → Prop} (hw : wp_X3_leaves Post C a0) : MC w l yX3_leaves cX3_leaves 5 (some .int) 4 0 0 [.ref (ad w 1), .int a0] C (fun v C1 => ∃ r : Int32, v = some (.int r) ∧ Post r C1) := by
  unfold wp_X3_leaves at hw
  refine MC.of wk (by decide) (Nat.le_of_ble_eq_true rfl) (fun x hx ok => ?_)
  subst hx
  show G w x 5 0 0 (QM w x _ 0 0) C 0 [(0, .ref (ad w 1)), (1, .int a0)] []
  refine g_iload_n ok 1 dX3_leaves_0 rfl ?_
  refine g_callSI ok [.int a0] cf_X3_isSheet q1608 (mc_X3_isSheet ok.wo (xL x) C a0) rfl rfl (Nat.le_of_ble_eq_true rfl) ⟨by decide, by decide⟩ ⟨by decide, by decide⟩ dX3_leaves_1 ?_
  refine g_nmI (fun r1 er1 => ?_)
  have hw := hw r1 er1
  refine g_if_ne (tgt := 10) ok dX3_leaves_4 (by decide) (fun c2 => ?_) (fun c2 => ?_)
  · have hw := hw.2 c2
    refine g_aload_n ok 0 dX3_leaves_10 rfl ?_
    refine g_get ok 1 rfl rfl in_X3 26 (by decide) q1385 rfl dX3_leaves_11 ?_
    refine g_iload_n ok 1 dX3_leaves_14 rfl ?_
    obtain ⟨hg, hw⟩ := hw
    refine g_iald ok 51 rfl hg _ rfl dX3_leaves_15 ?_
    refine g_if_ge (tgt := 22) ok dX3_leaves_16 (by decide) (fun c3 => ?_) (fun c3 => ?_)
    · have hw := hw.1 c3
      refine g_aload_n ok 0 dX3_leaves_22 rfl ?_
      obtain ⟨hp, hw⟩ := hw
      refine g_callVVR ok [] cf_X3_findBests q1582 (mc_X3_findBests ok.wo (xL x) C hp) (recvF ok 1 rfl rfl) rfl rfl (Nat.le_of_ble_eq_true rfl) ⟨by decide, by decide⟩ ⟨by decide, by decide⟩ dX3_leaves_23 (fun C4 eC4 => ?_)
      have hw := hw C4 eC4
      refine g_iconst (v := 0) ok dX3_leaves_26 (by decide) ?_
      refine g_istore_n0 ok [(2, .int 0), (0, .ref (ad w 1)), (1, .int a0)] dX3_leaves_27 (by decide) rfl ?_
      refine g_sub [1, 2, 0] [(0, .ref (ad w 1)), (1, .int a0), (2, .int 0)] rfl ?_
      obtain ⟨n18, hw⟩ := hw
      exact gw_X3_leaves_l28 ok n18 C4 a0 0 hw
    · have hw := hw.2 c3
      refine g_ldc (v := -1000000011) ok q1611 dX3_leaves_19 ?_
      exact g_iret ok dX3_leaves_21 ⟨_, rfl, hw⟩
  · have hw := hw.1 c2
    refine g_ldc (v := -1000000001) ok q1477 dX3_leaves_7 ?_
    exact g_iret ok dX3_leaves_9 ⟨_, rfl, hw⟩
theorem sp_X3_leaves (C : CS) (a0 : Int32) (hp : p_X3_leaves C a0) : wp_X3_leaves (fun r C1 => r = v_X3_leaves C a0 ∧ q_X3_leaves C a0 C1) C a0 := by
  intro r1 e1
  refine ⟨fun c => ⟨by unfold v_X3_leaves; rw [← e1, if_pos c], frm.rf _ _⟩, fun c => ?_⟩
  have c' := c
  rw [e1] at c'
  unfold v_X3_isSheet at c'
  rw [in_iff] at c'
  obtain ⟨s, rfl, -, hs⟩ := nI_btw (lo := 0) (hi := 3) c'.1 c'.2 (by decide)
  refine ⟨vp_k (by omega), fun c2 => ⟨hp, fun C4 e4 => ?_⟩, fun c2 => ⟨by unfold v_X3_leaves; rw [← e1, if_neg c, if_neg c2], frm.rf _ _⟩⟩
  obtain ⟨N, e, hN⟩ := hp.1
  obtain ⟨f4, b4⟩ := e4
  have h36 : C4.2.1 36 = C.2.1 36 := f4.2.2 36 (by decide)
  have h52 : C4.2.1 52 = C.2.1 52 := f4.2.2 52 (by decide)
  have h53 : C4.2.1 53 = C.2.1 53 := f4.2.2 53 (by decide)
  have h1 : C4.2.1 36 1 = nI N := by rw [h36]; exact e
  have hN1 : (C.2.1 36 1).toNatClampNeg = N := by rw [e, cl_k (by omega)]
  rw [hN1] at b4
  obtain ⟨b39, -⟩ := b4
  have hv : v_X3_leaves C (nI s) = lvA (lvP (vv (C.2.1 36)) (apR (vv (C.2.1 36)) (C.2.1 52) (C.2.1 53) s) N) N N 0 := by
    unfold v_X3_leaves lvR; rw [← e1, if_neg c, if_pos c2, cl_k (by omega), hN1]
  have hap : ∀ a b, a < N → b < N → a ≠ b → apR (fun a b => C4.2.1 39 (10 * a + b)) (C4.2.1 52) (C4.2.1 53) s a b = apR (vv (C.2.1 36)) (C.2.1 52) (C.2.1 53) s a b := by
    intro a b ha hb hab
    unfold apR
    simp only [h52, h53, b39 a b ha hb hab]
  have hhb : ∀ g, g < N → v_X3_hasBy C4 (nI s) (nI g) = hbL (apR (vv (C.2.1 36)) (C.2.1 52) (C.2.1 53) s) (vv (C.2.1 36)) g N 0 := by
    intro g hg
    unfold v_X3_hasBy
    rw [cl_k (by omega), cl_k (by omega), h1, cl_k (by omega)]
    exact hbL_congr (fun k hk hkg => ⟨hap g k hg hk (Ne.symm hkg), b39 g k hg hk (Ne.symm hkg)⟩) N 0 (by omega)
  have H1 : ∀ d a, a + d = N → v_X3_leaves C (nI s) = lvA (lvP (vv (C.2.1 36)) (apR (vv (C.2.1 36)) (C.2.1 52) (C.2.1 53) s) N) N d a → wp_X3_leaves_l28 (fun r C1 => r = v_X3_leaves C (nI s) ∧ q_X3_leaves C (nI s) C1) (d + 1) C4 (nI s) (nI a) := by
    intro d
    induction d with
    | zero =>
      intro a ha hva
      refine ⟨fun _ => ⟨hva.symm, f4⟩, fun c => absurd ?_ c⟩
      rw [h1, nI_leI (by omega) (by omega)]; omega
    | succ d ih =>
      intro a ha hva
      rw [lvA] at hva
      refine ⟨fun c => ?_, fun _ x6 e6 => ?_⟩
      · rw [h1, nI_leI (by omega) (by omega)] at c; omega
      · have H2 : ∀ k b, b + k = N → a < b → (v_X3_leaves C (nI s) = match lvB (lvP (vv (C.2.1 36)) (apR (vv (C.2.1 36)) (C.2.1 52) (C.2.1 53) s) N) a k b with | some x => x | none => lvA (lvP (vv (C.2.1 36)) (apR (vv (C.2.1 36)) (C.2.1 52) (C.2.1 53) s) N) N d (a + 1)) → wp_X3_leaves_l42 (fun r C1 => r = v_X3_leaves C (nI s) ∧ q_X3_leaves C (nI s) C1) (fun D i1 i2 => wp_X3_leaves_l28 (fun r C1 => r = v_X3_leaves C (nI s) ∧ q_X3_leaves C (nI s) C1) (d + 1) D i1 i2) (k + 1) C4 (nI s) (nI a) (nI b) := by
          intro k
          induction k with
          | zero =>
            intro b hb _ hvb
            refine ⟨fun _ x8 e8 => ?_, fun c => absurd ?_ c⟩
            · rw [e8, o1, nI_add]
              exact ih (a + 1) (by omega) hvb
            · rw [h1, nI_leI (by omega) (by omega)]; omega
          | succ k ihk =>
            intro b hb hab hvb
            rw [lvB] at hvb
            have hval : C4.2.1 39 (10 * a + b) = vv (C.2.1 36) a b := b39 a b (by omega) (by omega) (by omega)
            have next : ¬ lvP (vv (C.2.1 36)) (apR (vv (C.2.1 36)) (C.2.1 52) (C.2.1 53) s) N a b = true → wp_X3_leaves_j104 (fun r C1 => r = v_X3_leaves C (nI s) ∧ q_X3_leaves C (nI s) C1) (fun D i1 i2 => wp_X3_leaves_l28 (fun r C1 => r = v_X3_leaves C (nI s) ∧ q_X3_leaves C (nI s) C1) (d + 1) D i1 i2) (fun D i1 i2 i3 => wp_X3_leaves_l42 (fun r C1 => r = v_X3_leaves C (nI s) ∧ q_X3_leaves C (nI s) C1) (fun D i1 i2 => wp_X3_leaves_l28 (fun r C1 => r = v_X3_leaves C (nI s) ∧ q_X3_leaves C (nI s) C1) (d + 1) D i1 i2) (k + 1) D i1 i2 i3) C4 (nI s) (nI a) (nI b) := by
              intro hn x12 e12
              rw [e12, o1, nI_add]
              rw [if_neg hn] at hvb
              exact ihk (b + 1) (by omega) (by omega) hvb
            refine ⟨fun c => ?_, fun _ => ⟨by rw [ix10]; exact vp_k (by omega), fun x9 e9 => ⟨⟨N, s, a, ⟨h1, hN⟩, rfl, by omega, rfl, by omega⟩, fun r10 e10 => ⟨fun c10 => next ?_, fun c10 => ⟨⟨N, s, b, ⟨h1, hN⟩, rfl, by omega, rfl, by omega⟩, fun r13 e13 => ⟨fun c13 => next ?_, fun c13 => ⟨ppart C4 (by omega) (by omega) (by omega), fun r15 e15 => ⟨fun c15 => ⟨?_, f4⟩, fun c15 => next ?_⟩⟩⟩⟩⟩⟩⟩⟩
            · rw [h1, nI_leI (by omega) (by omega)] at c; omega
            all_goals rw [ix10, cl_k (by omega), hval] at e9
            · rw [e9, e10, hhb a (by omega)] at c10
              unfold lvP; simp [c10]
            · rw [e9, e13, hhb b (by omega)] at c13
              unfold lvP; simp [c13]
            · rw [e9, e10, hhb a (by omega)] at c10
              rw [e9, e13, hhb b (by omega)] at c13
              rw [e15, part_iff C4 (by omega) (by omega) (by omega), hap a b (by omega) (by omega) (by omega)] at c15
              have : lvP (vv (C.2.1 36)) (apR (vv (C.2.1 36)) (C.2.1 52) (C.2.1 53) s) N a b = true := by unfold lvP; simp [c10, c13, c15]
              rw [if_pos this] at hvb
              rw [hvb, ix100]
            · rw [e15, part_iff C4 (by omega) (by omega) (by omega), hap a b (by omega) (by omega) (by omega), Bool.not_eq_false] at c15
              unfold lvP; simp [c15]
        rw [e6, show (1 : Int32) = nI 1 from rfl, nI_add]
        exact ⟨_, H2 (N - (a + 1)) (a + 1) (by omega) (by omega) hva⟩
  exact ⟨N + 1, H1 N 0 (by omega) hv⟩
theorem mc_X3_leaves {w : WD} (wk : wOk w) (l : Launch) (C : CS) (a0 : Int32) (hp : p_X3_leaves C a0) : MC w l yX3_leaves cX3_leaves 5 (some .int) 4 0 0 [.ref (ad w 1), .int a0] C (pIR (v_X3_leaves C a0) (q_X3_leaves C a0)) := MC.postIR (gw_X3_leaves wk l C a0 (sp_X3_leaves C a0 hp))
