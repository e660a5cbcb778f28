/-- a world of one row -/
def rowC (r : Nat → Int32) : CS := (fun _ _ => 0, fun _ => r, fun _ _ => none, fun _ => none, 0, fun _ => none, fun _ _ => 0, fun _ _ => none, fun _ _ => 0, fun _ _ => 0)
/-- whether two gloves of a row are a pair -/
def ipR (r : Nat → Int32) (a b : Nat) : Int32 := v_X3_isPair (rowC r) (nI a) (nI b)
theorem ipR_C (C : CS) (a b : Nat) : v_X3_isPair C (nI a) (nI b) = ipR (C.2.1 36) a b := rfl
theorem pisPair (C : CS) {a b : Nat} (ha : a < 10) (hb : b < 10) : p_X3_isPair C (nI a) (nI b) := by
  obtain ⟨a0, a1, a2, a3, a4, a5⟩ := pofn C ha
  obtain ⟨b0, b1, b2, b3, b4, b5⟩ := pofn C hb
  have hd : ∀ x y : Int32, p_X3_of C x 0 → p_X3_of C x 2 → p_X3_of C x 3 → p_X3_of C x 4 → p_X3_of C y 0 → p_X3_of C y 2 → p_X3_of C y 3 → p_X3_of C y 4 → p_X3_doesFit C x y := by
    intro x y h0 h1 h2 h3 k0 k1 k2 k3
    unfold p_X3_doesFit
    simp only [h0, h1, h2, h3, k0, k1, k2, k3, true_and, and_true, implies_true, and_self]
  have d1 := hd _ _ a0 a2 a3 a4 b0 b2 b3 b4
  have d2 := hd _ _ b0 b2 b3 b4 a0 a2 a3 a4
  unfold p_X3_isPair
  simp only [a0, a1, a5, b0, b1, b5, d1, d2, true_and, and_true, implies_true, and_self]
/-- VALUE of two gloves of a row, -1: no pair; the higher one first -/
def vS (r : Nat → Int32) (hi lo : Nat) : Int32 := if ipR r hi lo = 0 then -1 else pvR r hi lo
def vv (r : Nat → Int32) (a b : Nat) : Int32 := if a < b then vS r b a else vS r a b
/-- values are right for all pairs up to (one, other) -/
def vTo (r A : Nat → Int32) (one other : Nat) : Prop := ∀ a b, b < a → a < 10 → (a < one ∨ (a = one ∧ b < other)) → A (10 * a + b) = vS r a b ∧ A (10 * b + a) = vS r a b
theorem vTo_next {r A : Nat → Int32} {one : Nat} (h : vTo r A one one) : vTo r A (one + 1) 0 := by
  intro a b h1 h2 h3
  exact h a b h1 h2 (by omega)
theorem vTo_put {r A : Nat → Int32} {one other : Nat} (h : vTo r A one other) (ho : other < one) (h10 : one < 10) : vTo r (upd (upd A (10 * one + other) (vS r one other)) (10 * other + one) (vS r one other)) one (other + 1) := by
  intro a b h1 h2 h3
  by_cases hab : a = one ∧ b = other
  · obtain ⟨rfl, rfl⟩ := hab
    refine ⟨?_, ?_⟩
    · unfold upd; rw [if_neg (by omega), if_pos rfl]
    · unfold upd; rw [if_pos rfl]
  · obtain ⟨q1, q2⟩ := h a b h1 h2 (by omega)
    refine ⟨?_, ?_⟩
    · unfold upd; rw [if_neg (by omega), if_neg (by omega)]; exact q1
    · unfold upd; rw [if_neg (by omega), if_neg (by omega)]; exact q2
theorem cf_X3_findBests : CfV yX3_findBests "TwoGuildsModel" cX3_findBests 4 none 0 := ⟨⟨by decide, by decide, by decide⟩, q75, q1585, q1584, qs46⟩
def p_X3_findBests (C : CS) : Prop := rowD (C.2.1 36)
/-- values of all pairs, best pairings of all sets lie there -/
def bOk (C : CS) (r : Nat → Int32) (N : Nat) : Prop := (∀ a b, a < N → b < N → a ≠ b → C.2.1 39 (10 * a + b) = vv r a b) ∧ ∀ s, s < 2 ^ N → C.2.1 40 s = bT (vv r) N s
def q_X3_findBests (C : CS) (C1 : CS) : Prop := frm [39, 40, 49, 50] C C1 ∧ bOk C1 (C.2.1 36) (C.2.1 36 1).toNatClampNeg
def wp_X3_findBests_l77 (Post : CS → Prop) : Nat → CS → Int32 → Prop
  | 0, _, _ => False
  | n + 1, C, i1 => ((1 <<< ((C.2.1 36 1) &&& 31)) ≤ i1 → 
  Post C) ∧
  (¬ (1 <<< ((C.2.1 36 1) &&& 31)) ≤ i1 → 
  p_X3_bestFrom C i1 ∧
    (∀ r3 : Int32, r3 = (v_X3_bestFrom C i1) → 
    vp_in i1 1024 ∧
    (∀ C4 : CS, C4 = (wA C 40 (Int32.toNatClampNeg i1) r3) → 
    ∀ x5 : Int32, x5 = (i1 + Int32.ofInt 1) → 
    wp_X3_findBests_l77 Post n C4 x5)))
def wp_X3_findBests_j38 (Post : CS → Prop) (R2 : CS → Int32 → Prop) (R14 : CS → Int32 → Int32 → Prop) (C : CS) (i1 : Int32) (i2 : Int32) (s0 : Int32) : Prop := vp_in ((10 * i1) + i2) 100 ∧
  (∀ C11 : CS, C11 = (wA C 39 (Int32.toNatClampNeg ((10 * i1) + i2)) s0) → 
  vp_in ((10 * i2) + i1) 100 ∧
  (∀ C12 : CS, C12 = (wA C11 39 (Int32.toNatClampNeg ((10 * i2) + i1)) s0) → 
  ∀ x13 : Int32, x13 = (i2 + Int32.ofInt 1) → 
  R14 C12 i1 x13))
def wp_X3_findBests_l14 (Post : CS → Prop) (R2 : CS → Int32 → Prop) : Nat → CS → Int32 → Int32 → Prop
  | 0, _, _, _ => False
  | n + 1, C, i1, i2 => (i1 ≤ i2 → 
  ∀ x8 : Int32, x8 = (i1 + Int32.ofInt 1) → 
    R2 C x8) ∧
  (¬ i1 ≤ i2 → 
  p_X3_isPair C i1 i2 ∧
    (∀ r9 : Int32, r9 = (v_X3_isPair C i1 i2) → 
    (r9 = 0 → 
    wp_X3_findBests_j38 Post R2 (fun C i1 i2 => wp_X3_findBests_l14 Post R2 n C i1 i2) C i1 i2 (-1)) ∧
    (¬ r9 = 0 → 
    p_X3_valueOf C i1 i2 ∧
      (∀ r15 : Int32, r15 = (v_X3_valueOf C i1 i2) → 
      ∀ C14 : CS, q_X3_valueOf C i1 i2 C14 → 
      wp_X3_findBests_j38 Post R2 (fun C i1 i2 => wp_X3_findBests_l14 Post R2 n C i1 i2) C14 i1 i2 r15))))
def wp_X3_findBests_l2 (Post : CS → Prop) : Nat → CS → Int32 → Prop
  | 0, _, _ => False
  | n + 1, C, i1 => ((C.2.1 36 1) ≤ i1 → 
  ∃ m77, wp_X3_findBests_l77 Post m77 C 0) ∧
  (¬ (C.2.1 36 1) ≤ i1 → 
  ∃ m14, wp_X3_findBests_l14 Post (fun C i1 => wp_X3_findBests_l2 Post n C i1) m14 C i1 0)
def wp_X3_findBests (Post : CS → Prop) (C : CS)  : Prop :=
  ∃ m2, wp_X3_findBests_l2 Post m2 C 0
set_option maxHeartbeats 4000000 in
set_option maxRecDepth 100000 in
theorem gw_X3_findBests_l77 {w : WD} {x : Cx} (ok : Ok w x cX3_findBests 4 yX3_findBests.cls none (rmL 3 0 0)) {Post : CS → Prop} : ∀ (n : Nat) (C : CS) (i1 : Int32), wp_X3_findBests_l77 Post  n C i1 → G w x 4 0 0 (QM w x (fun v C1 => v = none ∧ Post C1) 0 0) C 77 [(0, .ref (ad w 1)), (1, .int i1)] [] := by
  intro n
  induction n with
  | zero => intro C i1 hw; exact hw.elim
  | succ n ih =>
    intro C i1 hw
    unfold wp_X3_findBests_l77 at hw
    refine g_iload_n ok 1 dX3_findBests_77 rfl ?_
    refine g_iconst (v := 1) ok dX3_findBests_78 (by decide) ?_
    refine g_aload_n ok 0 dX3_findBests_79 rfl ?_
    refine g_get ok 1 rfl rfl in_X3 0 (by decide) q1359 rfl dX3_findBests_80 ?_
    refine g_iconst (v := 1) ok dX3_findBests_83 (by decide) ?_
    refine g_iald ok 36 rfl (by unfold vp_in; decide) 1 (by decide) dX3_findBests_84 ?_
    refine g_ishl ok dX3_findBests_85 ?_
    refine g_icmp_ge (tgt := 106) ok dX3_findBests_86 (by decide) (fun c2 => ?_) (fun c2 => ?_)
    · have hw := hw.1 c2
      exact g_vret ok dX3_findBests_106 ⟨rfl, hw⟩
    · have hw := hw.2 c2
      refine g_aload_n ok 0 dX3_findBests_89 rfl ?_
      refine g_get ok 1 rfl rfl in_X3 5 (by decide) q1364 rfl dX3_findBests_90 ?_
      refine g_iload_n ok 1 dX3_findBests_93 rfl ?_
      refine g_aload_n ok 0 dX3_findBests_94 rfl ?_
      refine g_iload_n ok 1 dX3_findBests_95 rfl ?_
      obtain ⟨hp, hw⟩ := hw
      refine g_callVI ok [.int i1] cf_X3_bestFrom q1586 (mc_X3_bestFrom ok.wo (xL x) C i1 hp) (recvF ok 1 rfl rfl) rfl rfl (Nat.le_of_ble_eq_true rfl) ⟨by decide, by decide⟩ ⟨by decide, by decide⟩ dX3_findBests_96 ?_
      refine g_nmI (fun r3 er3 => ?_)
      have hw := hw r3 er3
      obtain ⟨hg, hw⟩ := hw
      refine g_iast ok 40 rfl hg _ rfl dX3_findBests_99 (fun C4 eC4 => ?_)
      have hw := hw C4 eC4
      refine g_iinc ok 1 (fun z => [(1, .int z), (0, .ref (ad w 1))]) dX3_findBests_100 rfl (by decide) (fun _ => rfl) (fun x5 ex5 => ?_)
      have hw := hw x5 ex5
      refine g_goto (tgt := 77) ok dX3_findBests_103 (by decide) ?_
      refine g_sub [1, 0] [(0, .ref (ad w 1)), (1, .int x5)] rfl ?_
      exact ih C4 x5 hw
set_option maxHeartbeats 4000000 in
set_option maxRecDepth 100000 in
theorem gw_X3_findBests_j38 {w : WD} {x : Cx} (ok : Ok w x cX3_findBests 4 yX3_findBests.cls none (rmL 3 0 0)) {Post : CS → Prop} {R2 : CS → Int32 → Prop} {R14 : CS → Int32 → Int32 → Prop} (hR2 : ∀ C (i1 : Int32), R2 C i1 → G w x 4 0 0 (QM w x (fun v C1 => v = none ∧ Post C1) 0 0) C 2 [(0, .ref (ad w 1)), (1, .int i1)] []) (hR14 : ∀ C (i1 : Int32) (i2 : Int32), R14 C i1 i2 → G w x 4 0 0 (QM w x (fun v C1 => v = none ∧ Post C1) 0 0) C 14 [(0, .ref (ad w 1)), (1, .int i1), (2, .int i2)] []) : ∀ (C : CS) (i1 : Int32) (i2 : Int32) (s0 : Int32), wp_X3_findBests_j38 Post R2 R14 C i1 i2 s0 → G w x 4 0 0 (QM w x (fun v C1 => v = none ∧ Post C1) 0 0) C 38 [(0, .ref (ad w 1)), (1, .int i1), (2, .int i2)] [.int s0] := by
  intro C i1 i2 s0 hw
  unfold wp_X3_findBests_j38 at hw
  refine g_istore_n0 ok [(3, .int s0), (0, .ref (ad w 1)), (1, .int i1), (2, .int i2)] dX3_findBests_38 (by decide) rfl ?_
  refine g_aload_n ok 1 dX3_findBests_39 rfl ?_
  refine g_get ok 1 rfl rfl in_X3 4 (by decide) q1363 rfl dX3_findBests_40 ?_
  refine g_bipush (v := 10) ok dX3_findBests_43 (by decide) ?_
  refine g_iload_n ok 2 dX3_findBests_45 rfl ?_
  refine g_imul ok dX3_findBests_46 ?_
  refine g_iload_n ok 3 dX3_findBests_47 rfl ?_
  refine g_iadd ok dX3_findBests_48 ?_
  refine g_iload_n ok 0 dX3_findBests_49 rfl ?_
  obtain ⟨hg, hw⟩ := hw
  refine g_iast ok 39 rfl hg _ rfl dX3_findBests_50 (fun C11 eC11 => ?_)
  have hw := hw C11 eC11
  refine g_aload_n ok 1 dX3_findBests_51 rfl ?_
  refine g_get ok 1 rfl rfl in_X3 4 (by decide) q1363 rfl dX3_findBests_52 ?_
  refine g_bipush (v := 10) ok dX3_findBests_55 (by decide) ?_
  refine g_iload_n ok 3 dX3_findBests_57 rfl ?_
  refine g_imul ok dX3_findBests_58 ?_
  refine g_iload_n ok 2 dX3_findBests_59 rfl ?_
  refine g_iadd ok dX3_findBests_60 ?_
  refine g_iload_n ok 0 dX3_findBests_61 rfl ?_
  obtain ⟨hg, hw⟩ := hw
  refine g_iast ok 39 rfl hg _ rfl dX3_findBests_62 (fun C12 eC12 => ?_)
  have hw := hw C12 eC12
  refine g_iinc ok 3 (fun z => [(2, .int z), (3, .int s0), (0, .ref (ad w 1)), (1, .int i1)]) dX3_findBests_63 rfl (by decide) (fun _ => rfl) (fun x13 ex13 => ?_)
  have hw := hw x13 ex13
  refine g_goto (tgt := 14) ok dX3_findBests_66 (by decide) ?_
  refine g_sub [2, 3, 0] [(0, .ref (ad w 1)), (1, .int i1), (2, .int x13)] rfl ?_
  exact hR14 C12 i1 x13 hw
set_option maxHeartbeats 4000000 in
set_option maxRecDepth 100000 in
theorem gw_X3_findBests_l14 {w : WD} {x : Cx} (ok : Ok w x cX3_findBests 4 yX3_findBests.cls none (rmL 3 0 0)) {Post : CS → Prop} {R2 : CS → Int32 → Prop} (hR2 : ∀ C (i1 : Int32), R2 C i1 → G w x 4 0 0 (QM w x (fun v C1 => v = none ∧ Post C1) 0 0) C 2 [(0, .ref (ad w 1)), (1, .int i1)] []) : ∀ (n : Nat) (C : CS) (i1 : Int32) (i2 : Int32), wp_X3_findBests_l14 Post R2 n C i1 i2 → G w x 4 0 0 (QM w x (fun v C1 => v = none ∧ Post C1) 0 0) C 14 [(0, .ref (ad w 1)), (1, .int i1), (2, .int i2)] [] := by
  intro n
  induction n with
  | zero => intro C i1 i2 hw; exact hw.elim
  | succ n ih =>
    intro C i1 i2 hw
    unfold wp_X3_findBests_l14 at hw
    refine g_iload_n ok 2 dX3_findBests_14 rfl ?_
    refine g_iload_n ok 1 dX3_findBests_15 rfl ?_
    refine g_icmp_ge (tgt := 69) ok dX3_findBests_16 (by decide) (fun c7 => ?_) (fun c7 => ?_)
    · have hw := hw.1 c7
      refine g_iinc ok 1 (fun z => [(1, .int z), (0, .ref (ad w 1)), (2, .int i2)]) dX3_findBests_69 rfl (by decide) (fun _ => rfl) (fun x8 ex8 => ?_)
      have hw := hw x8 ex8
      refine g_goto (tgt := 2) ok dX3_findBests_72 (by decide) ?_
      refine g_sub [1, 0] [(0, .ref (ad w 1)), (1, .int x8)] rfl ?_
      exact hR2 C x8 hw
    · have hw := hw.2 c7
      refine g_aload_n ok 0 dX3_findBests_19 rfl ?_
      refine g_iload_n ok 1 dX3_findBests_20 rfl ?_
      refine g_iload_n ok 2 dX3_findBests_21 rfl ?_
      obtain ⟨hp, hw⟩ := hw
      refine g_callVI ok [.int i1, .int i2] cf_X3_isPair q1538 (mc_X3_isPair ok.wo (xL x) C i1 i2 hp) (recvF ok 1 rfl rfl) rfl rfl (Nat.le_of_ble_eq_true rfl) ⟨by decide, by decide⟩ ⟨by decide, by decide⟩ dX3_findBests_22 ?_
      refine g_nmI (fun r9 er9 => ?_)
      have hw := hw r9 er9
      refine g_if_eq (tgt := 37) ok dX3_findBests_25 (by decide) (fun c10 => ?_) (fun c10 => ?_)
      · have hw := hw.1 c10
        refine g_iconst (v := -1) ok dX3_findBests_37 (by decide) ?_
        exact gw_X3_findBests_j38 ok hR2 (fun C i1 i2 hw => ih C i1 i2 hw) C i1 i2 (-1) hw
      · have hw := hw.2 c10
        refine g_aload_n ok 0 dX3_findBests_28 rfl ?_
        refine g_iload_n ok 1 dX3_findBests_29 rfl ?_
        refine g_iload_n ok 2 dX3_findBests_30 rfl ?_
        obtain ⟨hp, hw⟩ := hw
        refine g_callVIR ok [.int i1, .int i2] cf_X3_valueOf q1542 (mc_X3_valueOf ok.wo (xL x) C i1 i2 hp) (recvF ok 1 rfl rfl) rfl rfl (Nat.le_of_ble_eq_true rfl) ⟨by decide, by decide⟩ ⟨by decide, by decide⟩ dX3_findBests_31 (fun C14 eC14 => ?_)
        refine g_nmI (fun r15 er15 => ?_)
        have hw := hw r15 er15 C14 eC14
        refine g_goto (tgt := 38) ok dX3_findBests_34 (by decide) ?_
        exact gw_X3_findBests_j38 ok hR2 (fun C i1 i2 hw => ih C i1 i2 hw) C14 i1 i2 r15 hw
set_option maxHeartbeats 4000000 in
set_option maxRecDepth 100000 in
theorem gw_X3_findBests_l2 {w : WD} {x : Cx} (ok : Ok w x cX3_findBests 4 yX3_findBests.cls none (rmL 3 0 0)) {Post : CS → Prop} : ∀ (n : Nat) (C : CS) (i1 : Int32), wp_X3_findBests_l2 Post  n C i1 → G w x 4 0 0 (QM w x (fun v C1 => v = none ∧ Post C1) 0 0) C 2 [(0, .ref (ad w 1)), (1, .int i1)] [] := by
  intro n
  induction n with
  | zero => intro C i1 hw; exact hw.elim
  | succ n ih =>
    intro C i1 hw
    unfold wp_X3_findBests_l2 at hw
    refine g_iload_n ok 1 dX3_findBests_2 rfl ?_
    refine g_aload_n ok 0 dX3_findBests_3 rfl ?_
    refine g_get ok 1 rfl rfl in_X3 0 (by decide) q1359 rfl dX3_findBests_4 ?_
    refine g_iconst (v := 1) ok dX3_findBests_7 (by decide) ?_
    refine g_iald ok 36 rfl (by unfold vp_in; decide) 1 (by decide) dX3_findBests_8 ?_
    refine g_icmp_ge (tgt := 75) ok dX3_findBests_9 (by decide) (fun c1 => ?_) (fun c1 => ?_)
    · have hw := hw.1 c1
      refine g_iconst (v := 0) ok dX3_findBests_75 (by decide) ?_
      refine g_istore_n0 ok [(1, .int 0), (0, .ref (ad w 1))] dX3_findBests_76 (by decide) rfl ?_
      refine g_sub [1, 0] [(0, .ref (ad w 1)), (1, .int 0)] rfl ?_
      obtain ⟨n6, hw⟩ := hw
      exact gw_X3_findBests_l77 ok n6 C 0 hw
    · have hw := hw.2 c1
      refine g_iconst (v := 0) ok dX3_findBests_12 (by decide) ?_
      refine g_istore_n0 ok [(2, .int 0), (0, .ref (ad w 1)), (1, .int i1)] dX3_findBests_13 (by decide) rfl ?_
      refine g_sub [1, 2, 0] [(0, .ref (ad w 1)), (1, .int i1), (2, .int 0)] rfl ?_
      obtain ⟨n16, hw⟩ := hw
      exact gw_X3_findBests_l14 ok (fun C i1 hw => ih C i1 hw) n16 C i1 0 hw
set_option maxHeartbeats 4000000 in
set_option maxRecDepth 100000 in
theorem gw_X3_findBests {w : WD} (wk : wOk w) (l : Launch) (C : CS)  {Post : CS → Prop} (hw : wp_X3_findBests Post C ) : MC w l yX3_findBests cX3_findBests 4 none 3 0 0 [.ref (ad w 1)] C (fun v C1 => v = none ∧ Post C1) := by
  unfold wp_X3_findBests at hw
  refine MC.of wk (by decide) (Nat.le_of_ble_eq_true rfl) (fun x hx ok => ?_)
  subst hx
  show G w x 4 0 0 (QM w x _ 0 0) C 0 [(0, .ref (ad w 1))] []
  refine g_iconst (v := 0) ok dX3_findBests_0 (by decide) ?_
  refine g_istore_n0 ok [(1, .int 0), (0, .ref (ad w 1))] dX3_findBests_1 (by decide) rfl ?_
  refine g_sub [1, 0] [(0, .ref (ad w 1)), (1, .int 0)] rfl ?_
  obtain ⟨n17, hw⟩ := hw
  exact gw_X3_findBests_l2 ok n17 C 0 hw
theorem sp_X3_findBests (C : CS) (hp : p_X3_findBests C) : wp_X3_findBests (fun C1 => q_X3_findBests C C1) C := by
  obtain ⟨⟨N, e, hN⟩, ht⟩ := hp
  have pw : 2 ^ N ≤ 1024 := (Nat.pow_le_pow_right (by decide) hN : 2 ^ N ≤ 2 ^ 10)
  have h36 : ∀ C1 : CS, frm [39, 40, 49, 50] C C1 → C1.2.1 36 = C.2.1 36 := fun C1 h => h.2.2 36 (by decide)
  -- the sets
  have H3 : ∀ d s, s + d = 2 ^ N → ∀ C1 : CS, frm [39, 40, 49, 50] C C1 → (∀ a b, a < N → b < N → a ≠ b → C1.2.1 39 (10 * a + b) = vv (C.2.1 36) a b) → (∀ q, q < s → C1.2.1 40 q = bT (vv (C.2.1 36)) N q) → wp_X3_findBests_l77 (fun C1 => q_X3_findBests C C1) (d + 1) C1 (nI s) := by
    intro d
    induction d with
    | zero =>
      intro s hs C1 hf hv hb
      have h1 : C1.2.1 36 1 = nI N := by rw [h36 C1 hf]; exact e
      refine ⟨fun _ => ⟨hf, ?_⟩, fun c => absurd ?_ c⟩
      · rw [e, cl_k (by omega)]
        exact ⟨hv, fun q hq => hb q (by omega)⟩
      · rw [h1, shl_i N (by omega), nI_leI (by omega) (by omega)]; omega
    | succ d ih =>
      intro s hs C1 hf hv hb
      have h1 : C1.2.1 36 1 = nI N := by rw [h36 C1 hf]; exact e
      refine ⟨fun c => ?_, fun _ => ⟨⟨N, s, ⟨h1, hN⟩, rfl, by omega⟩, fun r3 e3 => ⟨vp_k (by omega), fun C4 e4 x5 e5 => ?_⟩⟩⟩
      · rw [h1, shl_i N (by omega), nI_leI (by omega) (by omega)] at c; omega
      · rw [e5, o1, nI_add]
        rw [cl_k (by omega)] at e4
        have hr : r3 = bT (vv (C.2.1 36)) N s := by
          rw [e3, bT_eq (by omega) hN]
          unfold v_X3_bestFrom
          rw [h1, cl_k (by omega), cl_k (by omega)]
          exact bestF_congr (by omega) hN (fun f g h2 h3 => hv f g (by omega) h3 (by omega)) hb
        refine ih (s + 1) (by omega) C4 (by rw [e4]; exact hf.w (by decide)) (fun a b h2 h3 h4 => ?_) (fun q hq => ?_)
        · rw [e4, wA_ne C1 _ _ (by decide)]; exact hv a b h2 h3 h4
        · rw [e4, wA_row, upd]
          by_cases hqs : q = s
          · rw [if_pos hqs, hqs, hr]
          · rw [if_neg hqs]; exact hb q (by omega)
  -- the pairs
  have H1 : ∀ d one, one + d = N → ∀ C1 : CS, frm [39, 40, 49, 50] C C1 → vTo (C.2.1 36) (C1.2.1 39) one 0 → wp_X3_findBests_l2 (fun C1 => q_X3_findBests C C1) (d + 1) C1 (nI one) := by
    intro d
    induction d with
    | zero =>
      intro one hone C1 hf hv
      have h1 : C1.2.1 36 1 = nI N := by rw [h36 C1 hf]; exact e
      refine ⟨fun _ => ⟨_, H3 (2 ^ N) 0 (by omega) C1 hf (fun a b ha hb hab => ?_) (fun q hq => by omega)⟩, fun c => absurd ?_ c⟩
      · unfold vv
        by_cases hlt : a < b
        · rw [if_pos hlt]; exact (hv b a hlt (by omega) (Or.inl (by omega))).2
        · rw [if_neg hlt]; exact (hv a b (by omega) (by omega) (Or.inl (by omega))).1
      · rw [h1, nI_leI (by omega) (by omega)]; omega
    | succ d ih =>
      intro one hone C1 hf hv
      have h1 : C1.2.1 36 1 = nI N := by rw [h36 C1 hf]; exact e
      refine ⟨fun c => ?_, fun _ => ?_⟩
      · rw [h1, nI_leI (by omega) (by omega)] at c; omega
      · have H2 : ∀ k other, other + k = one → ∀ C2 : CS, frm [39, 40, 49, 50] C C2 → vTo (C.2.1 36) (C2.2.1 39) one other → wp_X3_findBests_l14 (fun C1 => q_X3_findBests C C1) (fun D i1 => wp_X3_findBests_l2 (fun C1 => q_X3_findBests C C1) (d + 1) D i1) (k + 1) C2 (nI one) (nI other) := by
          intro k
          induction k with
          | zero =>
            intro other ho C2 hf2 hv2
            refine ⟨fun _ x8 e8 => ?_, fun c => absurd ?_ c⟩
            · rw [e8, o1, nI_add]
              rw [show other = one by omega] at hv2
              exact ih (one + 1) (by omega) C2 hf2 (vTo_next hv2)
            · rw [nI_leI (by omega) (by omega)]; omega
          | succ k ihk =>
            intro other ho C2 hf2 hv2
            have hrow := h36 C2 hf2
            have fin : ∀ C3 : CS, frm [39, 40, 49, 50] C C3 → C3.2.1 39 = C2.2.1 39 → wp_X3_findBests_j38 (fun C1 => q_X3_findBests C C1) (fun D i1 => wp_X3_findBests_l2 (fun C1 => q_X3_findBests C C1) (d + 1) D i1) (fun C4 i1 i2 => wp_X3_findBests_l14 (fun C1 => q_X3_findBests C C1) (fun D i1 => wp_X3_findBests_l2 (fun C1 => q_X3_findBests C C1) (d + 1) D i1) (k + 1) C4 i1 i2) C3 (nI one) (nI other) (vS (C.2.1 36) one other) := by
              intro C3 hf3 h39
              refine ⟨by rw [ix10]; exact vp_k (by omega), fun C11 e11 => ⟨by rw [ix10]; exact vp_k (by omega), fun C12 e12 x13 e13 => ?_⟩⟩
              rw [ix10, cl_k (by omega)] at e11 e12
              rw [e13, o1, nI_add]
              refine ihk (other + 1) (by omega) C12 (by rw [e12, e11]; exact (hf3.w (by decide)).w (by decide)) ?_
              rw [e12, wA_row, e11, wA_row, h39]
              exact vTo_put hv2 (by omega) (by omega)
            refine ⟨fun c => ?_, fun _ => ⟨pisPair C2 (by omega) (by omega), fun r9 e9 => ⟨fun c2 => ?_, fun c2 => ⟨⟨one, other, rfl, rfl, by omega, by omega, by rw [hrow]; exact ht⟩, fun r15 e15 C14 e14 => ?_⟩⟩⟩⟩
            · rw [nI_leI (by omega) (by omega)] at c; omega
            · have h2 := fin C2 hf2 rfl
              rw [e9, ipR_C, hrow] at c2
              rw [vS, if_pos c2] at h2
              exact h2
            · have h2 := fin C14 (hf2.tr (e14.mono (by decide))) (e14.2.2 39 (by decide))
              rw [e9, ipR_C, hrow] at c2
              rw [vS, if_neg c2] at h2
              rw [e15]
              unfold v_X3_valueOf
              rw [hrow, cl_k (by omega), cl_k (by omega)]
              exact h2
        exact ⟨_, H2 one 0 (by omega) C1 hf hv⟩
  exact ⟨_, H1 N 0 (by omega) C (frm.rf _ _) (fun a b h1 h2 h3 => by omega)⟩
theorem mc_X3_findBests {w : WD} (wk : wOk w) (l : Launch) (C : CS)  (hp : p_X3_findBests C ) : MC w l yX3_findBests cX3_findBests 4 none 3 0 0 [.ref (ad w 1)] C (pVR (q_X3_findBests C )) := MC.postVR (gw_X3_findBests wk l C  (sp_X3_findBests C  hp))
