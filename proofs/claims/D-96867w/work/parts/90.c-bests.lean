theorem ipR_iff (r : Nat → Int32) (a b : Nat) : ¬ ipR r a b = 0 ↔ ¬ nI a = nI b ∧ (¬ v_X3_of (rowC r) (nI a) 1 = v_X3_of (rowC r) (nI b) 1 ∨ v_X3_of (rowC r) (nI a) 0 = 4 ∨ v_X3_of (rowC r) (nI b) 0 = 4) ∧ v_X3_of (rowC r) (nI a) 5 = 0 ∧ v_X3_of (rowC r) (nI b) 5 = 0 ∧ ¬ v_X3_doesFit (rowC r) (nI a) (nI b) = 0 ∧ ¬ v_X3_doesFit (rowC r) (nI b) (nI a) = 0 := by
  unfold ipR v_X3_isPair
  by_cases c1 : nI a = nI b
  · simp [c1]
  · by_cases c2 : v_X3_of (rowC r) (nI a) 1 = v_X3_of (rowC r) (nI b) 1 <;> by_cases c3 : v_X3_of (rowC r) (nI a) 0 = 4 <;> by_cases c4 : v_X3_of (rowC r) (nI b) 0 = 4 <;> by_cases c5 : v_X3_of (rowC r) (nI a) 5 = 0 <;> by_cases c6 : v_X3_of (rowC r) (nI b) 5 = 0 <;> by_cases c7 : v_X3_doesFit (rowC r) (nI a) (nI b) = 0 <;> by_cases c8 : v_X3_doesFit (rowC r) (nI b) (nI a) = 0 <;> simp [c1, c2, c3, c4, c5, c6, c7, c8]
theorem ipR_sym (r : Nat → Int32) (a b : Nat) : ipR r a b = 0 ↔ ipR r b a = 0 := by
  have h : ¬ ipR r a b = 0 ↔ ¬ ipR r b a = 0 := by
    rw [ipR_iff, ipR_iff]
    constructor
    · intro ⟨h1, h2, h3, h4, h5, h6⟩
      exact ⟨fun h => h1 h.symm, h2.elim (fun h => Or.inl (fun q => h q.symm)) (fun h => Or.inr h.symm), h4, h3, h6, h5⟩
    · intro ⟨h1, h2, h3, h4, h5, h6⟩
      exact ⟨fun h => h1 h.symm, h2.elim (fun h => Or.inl (fun q => h q.symm)) (fun h => Or.inr h.symm), h4, h3, h6, h5⟩
  exact Decidable.not_iff_not.mp h
theorem pvR_sym (r : Nat → Int32) (a b : Nat) : pvR r a b = pvR r b a := by
  unfold pvR
  generalize r (16 + 6 * a + 3) = x
  generalize r (16 + 6 * b + 3) = y
  rw [Int32.add_comm (r (16 + 6 * a + 4)), Int32.add_comm x]
  by_cases c : y ≤ x
  · by_cases c2 : x ≤ y
    · have : x = y := Int32.le_antisymm c2 c
      subst this
      rfl
    · rw [if_pos c, if_pos c, if_neg c2, if_neg c2]
  · have c2 : x ≤ y := Int32.le_of_lt (Int32.not_le.mp c)
    rw [if_neg c, if_neg c, if_pos c2, if_pos c2]
def vw (r : Nat → Int32) (a b : Nat) : Int32 := if ipR r a b = 0 then -1 else pvR r a b
theorem vw_vv (r : Nat → Int32) (a b : Nat) : vw r a b = vv r a b := by
  unfold vw vv vS
  by_cases c : a < b
  · rw [if_pos c]
    by_cases h : ipR r a b = 0
    · rw [if_pos h, if_pos ((ipR_sym r a b).mp h)]
    · rw [if_neg h, if_neg (fun q => h ((ipR_sym r a b).mpr q)), pvR_sym]
  · rw [if_neg c]
theorem GD.frm {J : List Nat} {C C1 : CS} (hg : GD C) (h : frm J C C1) : GD C1 := by
  obtain ⟨-, h2, -⟩ := h
  have Ga : ∀ x y, cG C1 x y = cG C x y := fun x y => by show C1.2.2.1 x y = _; rw [h2]
  refine ⟨fun j2 k2 a h1 h2' h3 => ?_, fun j2 k2 j3 k3 a h1 h2' h3 h4 h5 h6 => ?_⟩
  · rw [Ga] at h3
    exact (hg.1 j2 k2 a h1 h2' h3).keep (by show C1.2.2.2.2.2.1 a = _; rw [h2])
  · rw [Ga] at h5 h6
    exact hg.2 j2 k2 j3 k3 a h1 h2' h3 h4 h5 h6
theorem GD.same {C : CS} (hg : GD C) {j k k2 b b2 : Nat} (hj : isTb j) (hk : k < 10) (hk2 : k2 < 10) (hb : cG C (17 + 4 * (j - 2)) k = some b) (hb2 : cG C (17 + 4 * (j - 2)) k2 = some b2) : b2 = b ↔ k = k2 := by
  constructor
  · intro h
    subst h
    exact (hg.2 _ _ _ _ _ hj hj hk hk2 hb hb2).2
  · intro h
    subst h
    rw [hb] at hb2
    cases hb2
    rfl
theorem wA_s {C : CS} {j i : Nat} {v : Int32} : (wA C j i v).2.1 j i = v := u2s
theorem wA_n {C : CS} {j i x y : Nat} {v : Int32} (h : ¬ (x = j ∧ y = i)) : (wA C j i v).2.1 x y = C.2.1 x y := u2n h
theorem cf_X0_layValues : CfV yX0_layValues "TwoGuilds" cX0_layValues 4 none 0 := ⟨⟨by decide, by decide, by decide⟩, q72, q770, q769, qs10⟩
def p_X0_layValues (C : CS) (r : Nat → Int32) : Prop := tbOk C r ∧ GD C
def q_X0_layValues (C : CS) (r : Nat → Int32) (C1 : CS) : Prop := frm [5, 10] C C1 ∧ ∀ N, r 1 = nI N → N ≤ 10 → ∀ a b, a < N → b < N → C1.2.1 5 (10 * a + b) = vv r a b
def wp_X0_layValues_j88 (Post : CS → Prop) (R2 : CS → Int32 → Prop) (R15 : CS → Int32 → Int32 → Prop) (C : CS) (i1 : Int32) (i2 : Int32) (s0 : Int32) (s1 : Int32) : Prop := vp_in s1 100 ∧
  (∀ C15 : CS, C15 = (wA C 5 (Int32.toNatClampNeg s1) s0) → 
  ∀ x16 : Int32, x16 = (i2 + Int32.ofInt 1) → 
  R15 C15 i1 x16)
def wp_X0_layValues_l15 (Post : CS → Prop) (R2 : CS → Int32 → Prop) : Nat → CS → Int32 → Int32 → Prop
  | 0, _, _, _ => False
  | n + 1, C, i1, i2 => isTb (cN C) ∧
  (((C.1 (cN C) 0) ≤ i2 → 
  ∀ x5 : Int32, x5 = (i1 + Int32.ofInt 1) → 
    R2 C x5) ∧
  (¬ (C.1 (cN C) 0) ≤ i2 → 
  vp_in i1 10 ∧
    (∃ d7 : Nat, (cG C (17 + 4 * ((cN C) - 2)) (Int32.toNatClampNeg i1)) = some d7 ∧
    (vp_in i2 10 ∧
    (∃ d9 : Nat, (cG C (17 + 4 * ((cN C) - 2)) (Int32.toNatClampNeg i2)) = some d9 ∧
    (isGl C d7 ∧
    (p_X4_pairs C d7 d9 ∧
    (∀ r12 : Int32, r12 = (v_X4_pairs C d7 d9) → 
    (r12 = 0 → 
    wp_X0_layValues_j88 Post R2 (fun C i1 i2 => wp_X0_layValues_l15 Post R2 n C i1 i2) C i1 i2 (-1) ((10 * i1) + i2)) ∧
    (¬ r12 = 0 → 
    ∃ (g17 : (Nat → Int32)) (g18 : Nat) (g19 : Nat), p_X0_valueOf C d7 d9 g17 g18 g19 ∧
      (∀ r22 : Int32, r22 = (v_X0_valueOf C d7 d9 g17 g18 g19) → 
      ∀ C21 : CS, q_X0_valueOf C d7 d9 g17 g18 g19 C21 → 
      wp_X0_layValues_j88 Post R2 (fun C i1 i2 => wp_X0_layValues_l15 Post R2 n C i1 i2) C21 i1 i2 r22 ((10 * i1) + i2)))))))))))
def wp_X0_layValues_l2 (Post : CS → Prop) : Nat → CS → Int32 → Prop
  | 0, _, _ => False
  | n + 1, C, i1 => isTb (cN C) ∧
  (((C.1 (cN C) 0) ≤ i1 → 
  Post C) ∧
  (¬ (C.1 (cN C) 0) ≤ i1 → 
  ∃ m15, wp_X0_layValues_l15 Post (fun C i1 => wp_X0_layValues_l2 Post n C i1) m15 C i1 0))
def wp_X0_layValues (Post : CS → Prop) (C : CS)  : Prop :=
  ∃ m2, wp_X0_layValues_l2 Post m2 C 0
set_option maxHeartbeats 4000000 in
set_option maxRecDepth 100000 in
theorem gw_X0_layValues_j88 {w : WD} {x : Cx} (ok : Ok w x cX0_layValues 4 yX0_layValues.cls none (rmL 99 0 0)) {Post : CS → Prop} {R2 : CS → Int32 → Prop} {R15 : CS → Int32 → Int32 → Prop} (hR2 : ∀ C (i1 : Int32), R2 C i1 → G w x 4 0 0 (QM w x (fun v C1 => v = none ∧ Post C1) 0 0) C 2 [(0, .ref (ad w 0)), (1, .int i1)] []) (hR15 : ∀ C (i1 : Int32) (i2 : Int32), R15 C i1 i2 → G w x 4 0 0 (QM w x (fun v C1 => v = none ∧ Post C1) 0 0) C 15 [(0, .ref (ad w 0)), (1, .int i1), (2, .int i2)] []) : ∀ (C : CS) (i1 : Int32) (i2 : Int32) (s0 : Int32) (s1 : Int32), wp_X0_layValues_j88 Post R2 R15 C i1 i2 s0 s1 → G w x 4 0 0 (QM w x (fun v C1 => v = none ∧ Post C1) 0 0) C 88 [(0, .ref (ad w 0)), (1, .int i1), (2, .int i2)] [.int s0, .int s1, .ref (ad w 5)] := by
  intro C i1 i2 s0 s1 hw
  unfold wp_X0_layValues_j88 at hw
  obtain ⟨hf14, hw⟩ := hw
  refine g_iast ok 5 rfl hf14 _ rfl dX0_layValues_88 (fun C15 eC15 => ?_)
  have hw := hw C15 eC15
  refine g_iinc ok 2 (fun z => [(2, .int z), (0, .ref (ad w 0)), (1, .int i1)]) dX0_layValues_89 rfl (by decide) (fun _ => rfl) (fun x16 ex16 => ?_)
  have hw := hw x16 ex16
  refine g_goto (tgt := 15) ok dX0_layValues_92 (by decide) ?_
  refine g_sub [1, 2, 0] [(0, .ref (ad w 0)), (1, .int i1), (2, .int x16)] rfl ?_
  exact hR15 C15 i1 x16 hw
set_option maxHeartbeats 4000000 in
set_option maxRecDepth 100000 in
theorem gw_X0_layValues_l15 {w : WD} {x : Cx} (ok : Ok w x cX0_layValues 4 yX0_layValues.cls none (rmL 99 0 0)) {Post : CS → Prop} {R2 : CS → Int32 → Prop} (hR2 : ∀ C (i1 : Int32), R2 C i1 → G w x 4 0 0 (QM w x (fun v C1 => v = none ∧ Post C1) 0 0) C 2 [(0, .ref (ad w 0)), (1, .int i1)] []) : ∀ (n : Nat) (C : CS) (i1 : Int32) (i2 : Int32), wp_X0_layValues_l15 Post R2 n C i1 i2 → G w x 4 0 0 (QM w x (fun v C1 => v = none ∧ Post C1) 0 0) C 15 [(0, .ref (ad w 0)), (1, .int i1), (2, .int i2)] [] := by
  intro n
  induction n with
  | zero => intro C i1 i2 hw; exact hw.elim
  | succ n ih =>
    intro C i1 i2 hw
    unfold wp_X0_layValues_l15 at hw
    refine g_iload_n ok 2 dX0_layValues_15 rfl ?_
    refine g_aload_n ok 0 dX0_layValues_16 rfl ?_
    refine g_get ok 0 rfl rfl in_X0 0 (by decide) q180 rfl dX0_layValues_17 ?_
    obtain ⟨hf3, hw⟩ := hw
    refine g_get ok (cN C) (fObjT hf3) rfl in_X1 0 (by decide) q124 rfl dX0_layValues_20 ?_
    refine g_icmp_ge (tgt := 95) ok dX0_layValues_23 (by decide) (fun c4 => ?_) (fun c4 => ?_)
    · have hw := hw.1 c4
      refine g_iinc ok 1 (fun z => [(1, .int z), (0, .ref (ad w 0)), (2, .int i2)]) dX0_layValues_95 rfl (by decide) (fun _ => rfl) (fun x5 ex5 => ?_)
      have hw := hw x5 ex5
      refine g_goto (tgt := 2) ok dX0_layValues_98 (by decide) ?_
      refine g_sub [1, 0] [(0, .ref (ad w 0)), (1, .int x5)] rfl ?_
      exact hR2 C x5 hw
    · have hw := hw.2 c4
      refine g_aload_n ok 0 dX0_layValues_26 rfl ?_
      refine g_get ok 0 rfl rfl in_X0 0 (by decide) q180 rfl dX0_layValues_27 ?_
      refine g_get ok (cN C) (fObjT hf3) rfl in_X1 8 (by decide) q140 rfl dX0_layValues_30 ?_
      refine g_iload_n ok 1 dX0_layValues_33 rfl ?_
      obtain ⟨hf6, hw⟩ := hw
      obtain ⟨d7, ed7, hw⟩ := hw
      refine g_rald (v := .ref d7) ok _ (fRefG hf3) (Or.inl rfl) hf6 (congrArg va_rf ed7) dX0_layValues_34 ?_
      refine g_aload_n ok 0 dX0_layValues_35 rfl ?_
      refine g_get ok 0 rfl rfl in_X0 0 (by decide) q180 rfl dX0_layValues_36 ?_
      refine g_get ok (cN C) (fObjT hf3) rfl in_X1 8 (by decide) q140 rfl dX0_layValues_39 ?_
      refine g_iload_n ok 2 dX0_layValues_42 rfl ?_
      obtain ⟨hf8, hw⟩ := hw
      obtain ⟨d9, ed9, hw⟩ := hw
      refine g_rald (v := .ref d9) ok _ (fRefG hf3) (Or.inl rfl) hf8 (congrArg va_rf ed9) dX0_layValues_43 ?_
      obtain ⟨hf11, hw⟩ := hw
      obtain ⟨hp10, hw⟩ := hw
      refine g_callG ok [.ref d9] cfG_X4_pairs q634 (mc_X4_pairs ok.wo (xL x) C d7 d9 hp10) hf11 rfl rfl (Nat.le_of_ble_eq_true rfl) ⟨by decide, by decide⟩ ⟨by decide, by decide⟩ dX0_layValues_44 (resI ?_)
      refine g_nmI (fun r12 er12 => ?_)
      have hw := hw r12 er12
      refine g_istore_n0 ok [(3, .int r12), (0, .ref (ad w 0)), (1, .int i1), (2, .int i2)] dX0_layValues_47 (by decide) rfl ?_
      refine g_aload_n ok 1 dX0_layValues_48 rfl ?_
      refine g_get ok 0 rfl rfl in_X0 4 (by decide) q184 rfl dX0_layValues_49 ?_
      refine g_bipush (v := 10) ok dX0_layValues_52 (by decide) ?_
      refine g_iload_n ok 2 dX0_layValues_54 rfl ?_
      refine g_imul ok dX0_layValues_55 ?_
      refine g_iload_n ok 3 dX0_layValues_56 rfl ?_
      refine g_iadd ok dX0_layValues_57 ?_
      refine g_iload_n ok 0 dX0_layValues_58 rfl ?_
      refine g_if_eq (tgt := 87) ok dX0_layValues_59 (by decide) (fun c13 => ?_) (fun c13 => ?_)
      · have hw := hw.1 c13
        refine g_iconst (v := -1) ok dX0_layValues_87 (by decide) ?_
        refine g_sub [1, 2, 3] [(0, .ref (ad w 0)), (1, .int i1), (2, .int i2)] rfl ?_
        exact gw_X0_layValues_j88 ok hR2 (fun C i1 i2 hw => ih C i1 i2 hw) C i1 i2 (-1) ((10 * i1) + i2) hw
      · have hw := hw.2 c13
        refine g_aload_n ok 1 dX0_layValues_62 rfl ?_
        refine g_aload_n ok 1 dX0_layValues_63 rfl ?_
        refine g_get ok 0 rfl rfl in_X0 0 (by decide) q180 rfl dX0_layValues_64 ?_
        refine g_get ok (cN C) (fObjT hf3) rfl in_X1 8 (by decide) q140 rfl dX0_layValues_67 ?_
        refine g_iload_n ok 2 dX0_layValues_70 rfl ?_
        refine g_rald (v := .ref d7) ok _ (fRefG hf3) (Or.inl rfl) hf6 (congrArg va_rf ed7) dX0_layValues_71 ?_
        refine g_aload_n ok 1 dX0_layValues_72 rfl ?_
        refine g_get ok 0 rfl rfl in_X0 0 (by decide) q180 rfl dX0_layValues_73 ?_
        refine g_get ok (cN C) (fObjT hf3) rfl in_X1 8 (by decide) q140 rfl dX0_layValues_76 ?_
        refine g_iload_n ok 3 dX0_layValues_79 rfl ?_
        refine g_rald (v := .ref d9) ok _ (fRefG hf3) (Or.inl rfl) hf8 (congrArg va_rf ed9) dX0_layValues_80 ?_
        obtain ⟨g17, g18, g19, hp20, hw⟩ := hw
        refine g_callV ok [.ref d7, .ref d9] cf_X0_valueOf q684 (mc_X0_valueOf ok.wo (xL x) C d7 d9 g17 g18 g19 hp20) (recvF ok 0 rfl rfl) rfl rfl (Nat.le_of_ble_eq_true rfl) ⟨by decide, by decide⟩ ⟨by decide, by decide⟩ dX0_layValues_81 (resIR fun C21 eC21 => ?_)
        refine g_nmI (fun r22 er22 => ?_)
        have hw := hw r22 er22 C21 eC21
        refine g_goto (tgt := 88) ok dX0_layValues_84 (by decide) ?_
        refine g_sub [1, 2, 3] [(0, .ref (ad w 0)), (1, .int i1), (2, .int i2)] rfl ?_
        exact gw_X0_layValues_j88 ok hR2 (fun C i1 i2 hw => ih C i1 i2 hw) C21 i1 i2 r22 ((10 * i1) + i2) hw
set_option maxHeartbeats 4000000 in
set_option maxRecDepth 100000 in
theorem gw_X0_layValues_l2 {w : WD} {x : Cx} (ok : Ok w x cX0_layValues 4 yX0_layValues.cls none (rmL 99 0 0)) {Post : CS → Prop} : ∀ (n : Nat) (C : CS) (i1 : Int32), wp_X0_layValues_l2 Post  n C i1 → G w x 4 0 0 (QM w x (fun v C1 => v = none ∧ Post C1) 0 0) C 2 [(0, .ref (ad w 0)), (1, .int i1)] [] := by
  intro n
  induction n with
  | zero => intro C i1 hw; exact hw.elim
  | succ n ih =>
    intro C i1 hw
    unfold wp_X0_layValues_l2 at hw
    refine g_iload_n ok 1 dX0_layValues_2 rfl ?_
    refine g_aload_n ok 0 dX0_layValues_3 rfl ?_
    refine g_get ok 0 rfl rfl in_X0 0 (by decide) q180 rfl dX0_layValues_4 ?_
    obtain ⟨hf1, hw⟩ := hw
    refine g_get ok (cN C) (fObjT hf1) rfl in_X1 0 (by decide) q124 rfl dX0_layValues_7 ?_
    refine g_icmp_ge (tgt := 101) ok dX0_layValues_10 (by decide) (fun c2 => ?_) (fun c2 => ?_)
    · have hw := hw.1 c2
      exact g_vret ok dX0_layValues_101 ⟨rfl, hw⟩
    · have hw := hw.2 c2
      refine g_iconst (v := 0) ok dX0_layValues_13 (by decide) ?_
      refine g_istore_n0 ok [(2, .int 0), (0, .ref (ad w 0)), (1, .int i1)] dX0_layValues_14 (by decide) rfl ?_
      refine g_sub [1, 2, 0] [(0, .ref (ad w 0)), (1, .int i1), (2, .int 0)] rfl ?_
      obtain ⟨n23, hw⟩ := hw
      exact gw_X0_layValues_l15 ok (fun C i1 hw => ih C i1 hw) n23 C i1 0 hw
set_option maxHeartbeats 4000000 in
set_option maxRecDepth 100000 in
theorem gw_X0_layValues {w : WD} (wk : wOk w) (l : Launch) (C : CS)  {Post : CS → Prop} (hw : wp_X0_layValues Post C ) : MC w l yX0_layValues cX0_layValues 4 none 99 0 0 [.ref (ad w 0)] C (fun v C1 => v = none ∧ Post C1) := by
  unfold wp_X0_layValues at hw
  refine MC.of wk (by decide) (Nat.le_of_ble_eq_true rfl) (fun x hx ok => ?_)
  subst hx
  show G w x 4 0 0 (QM w x _ 0 0) C 0 [(0, .ref (ad w 0))] []
  refine g_iconst (v := 0) ok dX0_layValues_0 (by decide) ?_
  refine g_istore_n0 ok [(1, .int 0), (0, .ref (ad w 0))] dX0_layValues_1 (by decide) rfl ?_
  refine g_sub [1, 0] [(0, .ref (ad w 0)), (1, .int 0)] rfl ?_
  obtain ⟨n24, hw⟩ := hw
  exact gw_X0_layValues_l2 ok n24 C 0 hw
theorem sp_X0_layValues (C : CS) (r : Nat → Int32) (hp : p_X0_layValues C r) : wp_X0_layValues (fun C1 => q_X0_layValues C r C1) C := by
  obtain ⟨ht, hg⟩ := hp
  have hj := ht.1
  obtain ⟨N, eN, hN, -⟩ := ht.2.g
  have J : ∀ k, 15 ≤ k → k ≤ 26 → k ∉ [5, 10] := by intro k h1 h2; simp; omega
  have Inner : ∀ (a : Nat) (R2 : CS → Int32 → Prop), a < N → (∀ C1 : CS, frm [5, 10] C C1 → (∀ x y, x < N → y < N → x < a + 1 → C1.2.1 5 (10 * x + y) = vv r x y) → R2 C1 (nI (a + 1))) →
      ∀ d b, b + d = N → ∀ C1 : CS, frm [5, 10] C C1 → (∀ x y, x < N → y < N → (x < a ∨ x = a ∧ y < b) → C1.2.1 5 (10 * x + y) = vv r x y) → wp_X0_layValues_l15 (fun C1 => q_X0_layValues C r C1) R2 (d + 1) C1 (nI a) (nI b) := by
    intro a R2 ha hR d
    induction d with
    | zero =>
      intro b hb C1 hf hv
      have hb : b = N := by omega
      subst hb
      have t1 := ht.frm hf J
      have e0 : C1.1 (cN C1) 0 = nI b := t1.2.n.2.1.trans eN
      refine ⟨t1.1, fun _ x5 e5 => ?_, fun c => absurd ?_ c⟩
      · rw [e5, o1, nI_add]
        exact hR C1 hf (fun x y hx hy hxa => hv x y hx hy (by omega))
      · rw [e0]; exact Int32.le_refl _
    | succ d ih =>
      intro b hb C1 hf hv
      have t1 := ht.frm hf J
      have g1 := hg.frm hf
      have e0 : C1.1 (cN C1) 0 = nI N := t1.2.n.2.1.trans eN
      obtain ⟨u, hu, gu⟩ := t1.2.gN eN hN a (by omega)
      obtain ⟨u2, hu2, gu2⟩ := t1.2.gN eN hN b (by omega)
      have hpe := pairs_eq gu gu2 (by omega) (by omega) (g1.same t1.1 (by omega) (by omega) hu hu2)
      -- the write
      have fin : ∀ C2 : CS, frm [10] C1 C2 → wp_X0_layValues_j88 (fun C1 => q_X0_layValues C r C1) R2 (fun D i1 i2 => wp_X0_layValues_l15 (fun C1 => q_X0_layValues C r C1) R2 (d + 1) D i1 i2) C2 (nI a) (nI b) (vw r a b) ((10 * nI a) + nI b) := by
        intro C2 hf2
        rw [ix10]
        refine ⟨vp_k (by omega), fun C15 e15 x16 e16 => ?_⟩
        rw [cl_k (by omega)] at e15
        rw [e16, o1, nI_add]
        have hf3 : frm [5, 10] C C2 := hf.tr (hf2.mono (by simp))
        refine ih (b + 1) (by omega) C15 (by rw [e15]; exact hf3.w (by simp)) (fun x y hx hy hxy => ?_)
        rw [e15]
        by_cases c : x = a ∧ y = b
        · rw [c.1, c.2, wA_s, vw_vv]
        · rw [wA_n (by omega), hf2.2.2 5 (by simp)]
          exact hv x y hx hy (by omega)
      refine ⟨t1.1, fun c => ?_, fun _ => ⟨vp_k (by omega), u, by rw [cl_k (by omega)]; exact hu, vp_k (by omega), u2, by rw [cl_k (by omega)]; exact hu2, gu.1, pairs_p gu.1 gu2.1, fun r12 e12 => ⟨fun c => ?_, fun c => ?_⟩⟩⟩
      · rw [e0, nI_leI (by omega) (by omega)] at c; omega
      · rw [e12, hpe] at c
        have := fin C1 (frm.rf _ C1)
        unfold vw at this
        rw [if_pos c] at this
        exact this
      · rw [e12, hpe] at c
        refine ⟨r, a, b, ⟨t1, gu, gu2⟩, fun r22 e22 C21 h21 => ?_⟩
        have := fin C21 h21
        unfold vw at this
        rw [if_neg c] at this
        rw [e22]
        exact this
  have Outer : ∀ d a, a + d = N → ∀ C1 : CS, frm [5, 10] C C1 → (∀ x y, x < N → y < N → x < a → C1.2.1 5 (10 * x + y) = vv r x y) → wp_X0_layValues_l2 (fun C1 => q_X0_layValues C r C1) (d + 1) C1 (nI a) := by
    intro d
    induction d with
    | zero =>
      intro a ha C1 hf hv
      have ha : a = N := by omega
      subst ha
      have t1 := ht.frm hf J
      have e0 : C1.1 (cN C1) 0 = nI a := t1.2.n.2.1.trans eN
      refine ⟨t1.1, fun _ => ⟨hf, fun N2 eN2 hN2 x y hx hy => ?_⟩, fun c => absurd ?_ c⟩
      · have : N2 = a := (nI_eq (by omega) (by omega)).mp (eN2.symm.trans eN)
        subst this
        exact hv x y hx hy hx
      · rw [e0]; exact Int32.le_refl _
    | succ d ih =>
      intro a ha C1 hf hv
      have t1 := ht.frm hf J
      have e0 : C1.1 (cN C1) 0 = nI N := t1.2.n.2.1.trans eN
      refine ⟨t1.1, fun c => ?_, fun _ => ⟨N + 1, ?_⟩⟩
      · rw [e0, nI_leI (by omega) (by omega)] at c; omega
      · exact Inner a _ (by omega) (fun C2 h2 hv2 => ih (a + 1) (by omega) C2 h2 hv2) N 0 (by omega) C1 hf (fun x y hx hy hxy => hv x y hx hy (by omega))
  exact ⟨N + 1, Outer N 0 (by omega) C (frm.rf _ C) (fun x y _ _ h => absurd h (by omega))⟩
theorem mc_X0_layValues {w : WD} (wk : wOk w) (l : Launch) (C : CS)  (r : (Nat → Int32)) (hp : p_X0_layValues C r) : MC w l yX0_layValues cX0_layValues 4 none 99 0 0 [.ref (ad w 0)] C (pVR (q_X0_layValues C r)) := MC.postVR (gw_X0_layValues wk l C  (sp_X0_layValues C r hp))
