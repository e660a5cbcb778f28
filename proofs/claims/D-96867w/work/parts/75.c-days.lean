theorem asb : ∀ l, l < 2 → v_X0_asBit (nI l) = nI l := by decide
theorem TR.gl {C : CS} {j : Nat} {r : Nat → Int32} (h : TR C j r) : ∃ N, r 1 = nI N ∧ C.1 j 0 = nI N ∧ N ≤ 10 ∧ ∀ k, k < N → ∃ a, cG C (17 + 4 * (j - 2)) k = some a ∧ glR C a r k := by
  obtain ⟨a1, ⟨N, a2, a3, a4⟩, -⟩ := h
  exact ⟨N, a2, a1.2.1.trans a2, a3, a4⟩
theorem cf_X1_lost : CfV yX1_lost "TwoGuilds$Table" cX1_lost 3 (some .int) 0 := ⟨⟨by decide, by decide, by decide⟩, q73, q827, q825, q826⟩
def p_X1_lost (C : CS) (j : Nat) (r : Nat → Int32) : Prop := isTb j ∧ TR C j r
def v_X1_lost (C : CS) (j : Nat) (r : Nat → Int32) : Int32 := lostR r
def wp_X1_lost_l4 (Post : Int32 → CS → Prop) : Nat → CS → Nat → Int32 → Int32 → Prop
  | 0, _, _, _, _ => False
  | n + 1, C, t0, i1, i2 => isTb t0 ∧
  (((C.1 t0 0) ≤ i2 → 
  Post i1 C) ∧
  (¬ (C.1 t0 0) ≤ i2 → 
  vp_in i2 10 ∧
    (∃ d4 : Nat, (cG C (17 + 4 * (t0 - 2)) (Int32.toNatClampNeg i2)) = some d4 ∧
    (isGl C d4 ∧
    (∀ r6 : Int32, r6 = (v_X0_asBit (cDI C 44 d4)) → 
    ∀ x7 : Int32, x7 = (i1 + r6) → 
    ∀ x8 : Int32, x8 = (i2 + Int32.ofInt 1) → 
    wp_X1_lost_l4 Post n C t0 x7 x8)))))
def wp_X1_lost (Post : Int32 → CS → Prop) (C : CS) (j : Nat) : Prop :=
  ∃ m4, wp_X1_lost_l4 Post m4 C j 0 0
set_option maxHeartbeats 4000000 in
set_option maxRecDepth 100000 in
theorem gw_X1_lost_l4 {w : WD} {x : Cx} (ok : Ok w x cX1_lost 3 yX1_lost.cls (some .int) (rmL 1 0 0)) {Post : Int32 → CS → Prop} : ∀ (n : Nat) (C : CS) (t0 : Nat) (i1 : Int32) (i2 : Int32), wp_X1_lost_l4 Post  n C t0 i1 i2 → G w x 3 0 0 (QM w x (fun v C1 => ∃ r : Int32, v = some (.int r) ∧ Post r C1) 0 0) C 4 [(0, .ref (ad w t0)), (1, .int i1), (2, .int i2)] [] := by
  intro n
  induction n with
  | zero => intro C t0 i1 i2 hw; exact hw.elim
  | succ n ih =>
    intro C t0 i1 i2 hw
    unfold wp_X1_lost_l4 at hw
    refine g_iload_n ok 2 dX1_lost_4 rfl ?_
    refine g_aload_n ok 0 dX1_lost_5 rfl ?_
    obtain ⟨hf1, hw⟩ := hw
    refine g_get ok t0 (fObjT hf1) rfl in_X1 0 (by decide) q123 rfl dX1_lost_6 ?_
    refine g_icmp_ge (tgt := 33) ok dX1_lost_9 (by decide) (fun c2 => ?_) (fun c2 => ?_)
    · have hw := hw.1 c2
      refine g_iload_n ok 1 dX1_lost_33 rfl ?_
      exact g_iret ok dX1_lost_34 ⟨_, rfl, hw⟩
    · have hw := hw.2 c2
      refine g_iload_n ok 1 dX1_lost_12 rfl ?_
      refine g_aload_n ok 0 dX1_lost_13 rfl ?_
      refine g_get ok t0 (fObjT hf1) rfl in_X1 8 (by decide) q139 rfl dX1_lost_14 ?_
      refine g_iload_n ok 2 dX1_lost_17 rfl ?_
      obtain ⟨hf3, hw⟩ := hw
      obtain ⟨d4, ed4, hw⟩ := hw
      refine g_rald (v := .ref d4) ok _ (fRefG hf1) (Or.inl rfl) hf3 (congrArg va_rf ed4) dX1_lost_18 ?_
      obtain ⟨hf5, hw⟩ := hw
      refine g_gget ok hf5 4 (by decide) q309 (Or.inl rfl) dX1_lost_19 ?_
      refine g_callSN ok [.int (cDI C 44 d4)] cf_X0_asBit q828 (mc_X0_asBit ok.wo (xL x) C (cDI C 44 d4)) rfl rfl (Nat.le_of_ble_eq_true rfl) ⟨by decide, by decide⟩ ⟨by decide, by decide⟩ dX1_lost_22 (resI ?_)
      refine g_nmI (fun r6 er6 => ?_)
      have hw := hw r6 er6
      refine g_iadd ok dX1_lost_25 ?_
      refine g_istore_n ok (fun z => [(1, .int z), (0, .ref (ad w t0)), (2, .int i2)]) dX1_lost_26 (by decide) (fun _ => rfl) (fun x7 ex7 => ?_)
      have hw := hw x7 ex7
      refine g_iinc ok 2 (fun z => [(2, .int z), (1, .int x7), (0, .ref (ad w t0))]) dX1_lost_27 rfl (by decide) (fun _ => rfl) (fun x8 ex8 => ?_)
      have hw := hw x8 ex8
      refine g_goto (tgt := 4) ok dX1_lost_30 (by decide) ?_
      refine g_sub [2, 1, 0] [(0, .ref (ad w t0)), (1, .int x7), (2, .int x8)] rfl ?_
      exact ih C t0 x7 x8 hw
set_option maxHeartbeats 4000000 in
set_option maxRecDepth 100000 in
theorem gw_X1_lost {w : WD} (wk : wOk w) (l : Launch) (C : CS) (j : Nat) {Post : Int32 → CS → Prop} (hw : wp_X1_lost Post C j) : MC w l yX1_lost cX1_lost 3 (some .int) 1 0 0 [.ref (ad w j)] C (fun v C1 => ∃ r : Int32, v = some (.int r) ∧ Post r C1) := by
  unfold wp_X1_lost at hw
  refine MC.of wk (by decide) (Nat.le_of_ble_eq_true rfl) (fun x hx ok => ?_)
  subst hx
  show G w x 3 0 0 (QM w x _ 0 0) C 0 [(0, .ref (ad w j))] []
  refine g_iconst (v := 0) ok dX1_lost_0 (by decide) ?_
  refine g_istore_n0 ok [(1, .int 0), (0, .ref (ad w j))] dX1_lost_1 (by decide) rfl ?_
  refine g_iconst (v := 0) ok dX1_lost_2 (by decide) ?_
  refine g_istore_n0 ok [(2, .int 0), (1, .int 0), (0, .ref (ad w j))] dX1_lost_3 (by decide) rfl ?_
  refine g_sub [2, 1, 0] [(0, .ref (ad w j)), (1, .int 0), (2, .int 0)] rfl ?_
  obtain ⟨n9, hw⟩ := hw
  exact gw_X1_lost_l4 ok n9 C j 0 0 hw
theorem sp_X1_lost (C : CS) (j : Nat) (r : Nat → Int32) (hp : p_X1_lost C j r) : wp_X1_lost (fun x C1 => x = v_X1_lost C j r ∧ C1 = C) C j := by
  obtain ⟨hj, ht⟩ := hp
  obtain ⟨N, e, e0, hN, hg⟩ := ht.gl
  have H : ∀ d k, k + d = N → wp_X1_lost_l4 (fun x C1 => x = v_X1_lost C j r ∧ C1 = C) (d + 1) C j (lostS r k) (nI k) := by
    intro d
    induction d with
    | zero =>
      intro k hk
      refine ⟨hj, fun _ => ⟨?_, rfl⟩, fun c => absurd ?_ c⟩
      · unfold v_X1_lost lostR; rw [e, cl_k (by omega)]; congr 1
      · rw [e0, nI_leI (by omega) (by omega)]; omega
    | succ d ih =>
      intro k hk
      refine ⟨hj, fun c => ?_, fun _ => ?_⟩
      · rw [e0, nI_leI (by omega) (by omega)] at c; omega
      · obtain ⟨a, q1, q2⟩ := hg k (by omega)
        refine ⟨vp_k (by omega), a, by rw [cl_k (by omega)]; exact q1, q2.1, fun r6 e6 x7 e7 x8 e8 => ?_⟩
        obtain ⟨-, -, -, -, -, -, g7, -, -, -, -, l, hl, el⟩ := q2
        have e6 : r6 = r (16 + 6 * k + 5) := by rw [e6, g7, el, asb l (by omega)]
        rw [e8, o1, nI_add, e7, e6]
        exact ih (k + 1) (by omega)
  exact ⟨N + 1, H N 0 (by omega)⟩
theorem mc_X1_lost {w : WD} (wk : wOk w) (l : Launch) (C : CS) (j : Nat) (r : (Nat → Int32)) (hp : p_X1_lost C j r) : MC w l yX1_lost cX1_lost 3 (some .int) 1 0 0 [.ref (ad w j)] C (pI (v_X1_lost C j r) C) := MC.postI (gw_X1_lost wk l C j (sp_X1_lost C j r hp))
theorem cf_X1_allWear : CfV yX1_allWear "TwoGuilds$Table" cX1_allWear 3 (some .int) 0 := ⟨⟨by decide, by decide, by decide⟩, q73, q878, q876, q877⟩
def p_X1_allWear (C : CS) (j : Nat) (r : Nat → Int32) : Prop := isTb j ∧ TR C j r
def v_X1_allWear (C : CS) (j : Nat) (r : Nat → Int32) : Int32 := wearR r
def wp_X1_allWear_l4 (Post : Int32 → CS → Prop) : Nat → CS → Nat → Int32 → Int32 → Prop
  | 0, _, _, _, _ => False
  | n + 1, C, t0, i1, i2 => isTb t0 ∧
  (((C.1 t0 0) ≤ i2 → 
  Post i1 C) ∧
  (¬ (C.1 t0 0) ≤ i2 → 
  vp_in i2 10 ∧
    (∃ d4 : Nat, (cG C (17 + 4 * (t0 - 2)) (Int32.toNatClampNeg i2)) = some d4 ∧
    (isGl C d4 ∧
    (∀ x8 : Int32, x8 = (if (cDI C 44 d4) = 0 then (cDI C 43 d4) else 0) → 
    ∀ x9 : Int32, x9 = (i1 + x8) → 
    ∀ x10 : Int32, x10 = (i2 + Int32.ofInt 1) → 
    wp_X1_allWear_l4 Post n C t0 x9 x10)))))
def wp_X1_allWear (Post : Int32 → CS → Prop) (C : CS) (j : Nat) : Prop :=
  ∃ m4, wp_X1_allWear_l4 Post m4 C j 0 0
set_option maxHeartbeats 4000000 in
set_option maxRecDepth 100000 in
theorem gw_X1_allWear_l4 {w : WD} {x : Cx} (ok : Ok w x cX1_allWear 3 yX1_allWear.cls (some .int) (rmL 0 0 0)) {Post : Int32 → CS → Prop} : ∀ (n : Nat) (C : CS) (t0 : Nat) (i1 : Int32) (i2 : Int32), wp_X1_allWear_l4 Post  n C t0 i1 i2 → G w x 3 0 0 (QM w x (fun v C1 => ∃ r : Int32, v = some (.int r) ∧ Post r C1) 0 0) C 4 [(0, .ref (ad w t0)), (1, .int i1), (2, .int i2)] [] := by
  intro n
  induction n with
  | zero => intro C t0 i1 i2 hw; exact hw.elim
  | succ n ih =>
    intro C t0 i1 i2 hw
    unfold wp_X1_allWear_l4 at hw
    refine g_iload_n ok 2 dX1_allWear_4 rfl ?_
    refine g_aload_n ok 0 dX1_allWear_5 rfl ?_
    obtain ⟨hf1, hw⟩ := hw
    refine g_get ok t0 (fObjT hf1) rfl in_X1 0 (by decide) q123 rfl dX1_allWear_6 ?_
    refine g_icmp_ge (tgt := 46) ok dX1_allWear_9 (by decide) (fun c2 => ?_) (fun c2 => ?_)
    · have hw := hw.1 c2
      refine g_iload_n ok 1 dX1_allWear_46 rfl ?_
      exact g_iret ok dX1_allWear_47 ⟨_, rfl, hw⟩
    · have hw := hw.2 c2
      refine g_iload_n ok 1 dX1_allWear_12 rfl ?_
      refine g_aload_n ok 0 dX1_allWear_13 rfl ?_
      refine g_get ok t0 (fObjT hf1) rfl in_X1 8 (by decide) q139 rfl dX1_allWear_14 ?_
      refine g_iload_n ok 2 dX1_allWear_17 rfl ?_
      obtain ⟨hf3, hw⟩ := hw
      obtain ⟨d4, ed4, hw⟩ := hw
      refine g_rald (v := .ref d4) ok _ (fRefG hf1) (Or.inl rfl) hf3 (congrArg va_rf ed4) dX1_allWear_18 ?_
      obtain ⟨hf5, hw⟩ := hw
      refine g_gget ok hf5 4 (by decide) q309 (Or.inl rfl) dX1_allWear_19 ?_
      have kj7 : ∀ x8 : Int32, x8 = (if (cDI C 44 d4) = 0 then (cDI C 43 d4) else 0) → G w x 3 0 0 (QM w x (fun v C1 => ∃ r : Int32, v = some (.int r) ∧ Post r C1) 0 0) C 38 [(0, .ref (ad w t0)), (2, .int i2)] [.int x8, .int i1] := by
        intro x8 ex8
        have hw := hw x8 ex8
        refine g_iadd ok dX1_allWear_38 ?_
        refine g_istore_n ok (fun z => [(1, .int z), (0, .ref (ad w t0)), (2, .int i2)]) dX1_allWear_39 (by decide) (fun _ => rfl) (fun x9 ex9 => ?_)
        have hw := hw x9 ex9
        refine g_iinc ok 2 (fun z => [(2, .int z), (1, .int x9), (0, .ref (ad w t0))]) dX1_allWear_40 rfl (by decide) (fun _ => rfl) (fun x10 ex10 => ?_)
        have hw := hw x10 ex10
        refine g_goto (tgt := 4) ok dX1_allWear_43 (by decide) ?_
        refine g_sub [2, 1, 0] [(0, .ref (ad w t0)), (1, .int x9), (2, .int x10)] rfl ?_
        exact ih C t0 x9 x10 hw
      refine g_if_eq (tgt := 29) ok dX1_allWear_22 (by decide) (fun c6 => ?_) (fun c6 => ?_)
      · refine g_aload_n ok 0 dX1_allWear_29 rfl ?_
        refine g_get ok t0 (fObjT hf1) rfl in_X1 8 (by decide) q139 rfl dX1_allWear_30 ?_
        refine g_iload_n ok 2 dX1_allWear_33 rfl ?_
        refine g_rald (v := .ref d4) ok _ (fRefG hf1) (Or.inl rfl) hf3 (congrArg va_rf ed4) dX1_allWear_34 ?_
        refine g_gget ok hf5 3 (by decide) q306 (Or.inl rfl) dX1_allWear_35 ?_
        exact g_sub [0, 2] [(0, .ref (ad w t0)), (2, .int i2)] rfl (kj7 _ (by simp only [if_pos c6]))
      · refine g_iconst (v := 0) ok dX1_allWear_25 (by decide) ?_
        refine g_goto (tgt := 38) ok dX1_allWear_26 (by decide) ?_
        exact g_sub [0, 2] [(0, .ref (ad w t0)), (2, .int i2)] rfl (kj7 _ (by simp only [if_neg c6]))
set_option maxHeartbeats 4000000 in
set_option maxRecDepth 100000 in
theorem gw_X1_allWear {w : WD} (wk : wOk w) (l : Launch) (C : CS) (j : Nat) {Post : Int32 → CS → Prop} (hw : wp_X1_allWear Post C j) : MC w l yX1_allWear cX1_allWear 3 (some .int) 0 0 0 [.ref (ad w j)] C (fun v C1 => ∃ r : Int32, v = some (.int r) ∧ Post r C1) := by
  unfold wp_X1_allWear at hw
  refine MC.of wk (by decide) (Nat.le_of_ble_eq_true rfl) (fun x hx ok => ?_)
  subst hx
  show G w x 3 0 0 (QM w x _ 0 0) C 0 [(0, .ref (ad w j))] []
  refine g_iconst (v := 0) ok dX1_allWear_0 (by decide) ?_
  refine g_istore_n0 ok [(1, .int 0), (0, .ref (ad w j))] dX1_allWear_1 (by decide) rfl ?_
  refine g_iconst (v := 0) ok dX1_allWear_2 (by decide) ?_
  refine g_istore_n0 ok [(2, .int 0), (1, .int 0), (0, .ref (ad w j))] dX1_allWear_3 (by decide) rfl ?_
  refine g_sub [2, 1, 0] [(0, .ref (ad w j)), (1, .int 0), (2, .int 0)] rfl ?_
  obtain ⟨n11, hw⟩ := hw
  exact gw_X1_allWear_l4 ok n11 C j 0 0 hw
theorem sp_X1_allWear (C : CS) (j : Nat) (r : Nat → Int32) (hp : p_X1_allWear C j r) : wp_X1_allWear (fun x C1 => x = v_X1_allWear C j r ∧ C1 = C) C j := by
  obtain ⟨hj, ht⟩ := hp
  obtain ⟨N, e, e0, hN, hg⟩ := ht.gl
  have H : ∀ d k, k + d = N → wp_X1_allWear_l4 (fun x C1 => x = v_X1_allWear C j r ∧ C1 = C) (d + 1) C j (wearS r k) (nI k) := by
    intro d
    induction d with
    | zero =>
      intro k hk
      refine ⟨hj, fun _ => ⟨?_, rfl⟩, fun c => absurd ?_ c⟩
      · unfold v_X1_allWear wearR; rw [e, cl_k (by omega)]; congr 1
      · rw [e0, nI_leI (by omega) (by omega)]; omega
    | succ d ih =>
      intro k hk
      refine ⟨hj, fun c => ?_, fun _ => ?_⟩
      · rw [e0, nI_leI (by omega) (by omega)] at c; omega
      · obtain ⟨a, q1, q2⟩ := hg k (by omega)
        refine ⟨vp_k (by omega), a, by rw [cl_k (by omega)]; exact q1, q2.1, fun x6 e6 x7 e7 x8 e8 => ?_⟩
        obtain ⟨-, -, -, -, -, g6, g7, -⟩ := q2
        rw [e8, o1, nI_add, e7, e6, g6, g7]
        exact ih (k + 1) (by omega)
  exact ⟨N + 1, H N 0 (by omega)⟩
theorem mc_X1_allWear {w : WD} (wk : wOk w) (l : Launch) (C : CS) (j : Nat) (r : (Nat → Int32)) (hp : p_X1_allWear C j r) : MC w l yX1_allWear cX1_allWear 3 (some .int) 0 0 0 [.ref (ad w j)] C (pI (v_X1_allWear C j r) C) := MC.postI (gw_X1_allWear wk l C j (sp_X1_allWear C j r hp))
/-- the tables' gloves are gloves, and no two are one -/
def GD (C : CS) : Prop := (∀ j k a, isTb j → k < 10 → cG C (17 + 4 * (j - 2)) k = some a → isGl C a) ∧ ∀ j k j2 k2 a, isTb j → isTb j2 → k < 10 → k2 < 10 → cG C (17 + 4 * (j - 2)) k = some a → cG C (17 + 4 * (j2 - 2)) k2 = some a → j = j2 ∧ k = k2
/-- nothing but table j's own numbers, its gloves and the names has changed -/
def dE (j : Nat) (C C1 : CS) : Prop := (∀ i, i ≠ j → C1.1 i = C.1 i) ∧ (∀ i, i ≠ 10 → C1.2.1 i = C.2.1 i) ∧ C1.2.2.1 = C.2.2.1 ∧ C1.2.2.2.1 = C.2.2.2.1 ∧ C1.2.2.2.2.1 = C.2.2.2.2.1 ∧ C1.2.2.2.2.2.1 = C.2.2.2.2.2.1 ∧ C1.2.2.2.2.2.2.2 = C.2.2.2.2.2.2.2 ∧ ∀ k a, (∀ i, i < 10 → ¬ cG C (17 + 4 * (j - 2)) i = some a) → cDI C1 k a = cDI C k a
theorem dE.rf (j : Nat) (C : CS) : dE j C C := ⟨fun _ _ => rfl, fun _ _ => rfl, rfl, rfl, rfl, rfl, rfl, fun _ _ _ => rfl⟩
theorem dE.tr {j : Nat} {C C1 C2 : CS} (h : dE j C C1) (h2 : dE j C1 C2) : dE j C C2 := by
  obtain ⟨a1, a2, a3, a4, a5, a6, a7, a8⟩ := h
  obtain ⟨b1, b2, b3, b4, b5, b6, b7, b8⟩ := h2
  refine ⟨fun i hi => (b1 i hi).trans (a1 i hi), fun i hi => (b2 i hi).trans (a2 i hi), b3.trans a3, b4.trans a4, b5.trans a5, b6.trans a6, b7.trans a7, fun k a hn => ?_⟩
  rw [b8 k a (fun i hi => by show ¬ C1.2.2.1 _ _ = _; rw [a3]; exact hn i hi), a8 k a hn]
theorem dE.wI {j : Nat} {C C1 : CS} (h : dE j C C1) (k : Nat) (v : Int32) : dE j C (wI C1 j k v) := by
  refine h.tr ⟨fun i hi => ?_, fun _ _ => rfl, rfl, rfl, rfl, rfl, rfl, fun _ _ _ => rfl⟩
  funext q
  show up2 _ _ _ _ _ _ = _
  unfold up2
  rw [if_neg (fun h => hi h.1)]
theorem dE.fr {j : Nat} {C C1 C2 : CS} (h : dE j C C1) (hf : frm [10] C1 C2) : dE j C C2 := by
  obtain ⟨f1, f2, f3⟩ := hf
  exact h.tr ⟨fun i _ => by rw [f1], fun i hi => f3 i (by simpa using hi), by rw [f2], by rw [f2], by rw [f2], by rw [f2], by rw [f2], fun k a _ => by show C2.2.2.2.2.2.2.1 k a = _; rw [f2]⟩
theorem dE.wDI {j : Nat} {C C1 : CS} (h : dE j C C1) {i a : Nat} (hi : i < 10) (ha : cG C (17 + 4 * (j - 2)) i = some a) (k : Nat) (v : Int32) : dE j C (wDI C1 k a v) := by
  have ha1 : cG C1 (17 + 4 * (j - 2)) i = some a := by show C1.2.2.1 _ _ = _; rw [h.2.2.1]; exact ha
  refine h.tr ⟨fun _ _ => rfl, fun _ _ => rfl, rfl, rfl, rfl, rfl, rfl, fun k2 a2 hn => ?_⟩
  show up2 _ _ _ _ _ _ = _
  unfold up2
  rw [if_neg (fun hh => hn i hi (by rw [hh.2]; exact ha1))]
theorem dE.gd {j : Nat} {C C1 : CS} (h : dE j C C1) (hg : GD C) : GD C1 := by
  obtain ⟨-, -, a3, -, -, a6, -⟩ := h
  have e : ∀ x y, cG C1 x y = cG C x y := fun x y => by show C1.2.2.1 x y = _; rw [a3]
  refine ⟨fun j k a h1 h2 h3 => ?_, fun j k j2 k2 a h1 h2 h3 h4 h5 h6 => ?_⟩
  · rw [e] at h3
    exact (hg.1 j k a h1 h2 h3).keep (by show C1.2.2.2.2.2.1 a = _; rw [a6])
  · rw [e] at h5 h6
    exact hg.2 j k j2 k2 a h1 h2 h3 h4 h5 h6
theorem dE.keepX {j : Nat} {C C1 : CS} (h : dE j C C1) (hj : isTb j) (hg : GD C) : keepX C C1 := by
  obtain ⟨-, -, a3, -, -, a6, a7, a8⟩ := h
  intro a c n h1 h2 h3
  refine ⟨by show C1.2.2.2.2.2.1 a = _; rw [a6]; exact h1, fun k => a8 k a (fun i hi hh => ?_), fun k => by show C1.2.2.2.2.2.2.2.1 k a = _; rw [a7]⟩
  obtain ⟨c2, n2, g1, g2, g3⟩ := hg.1 j i a hj hi hh
  have : c = c2 := by rw [show C.2.2.2.2.2.1 a = some (c, n) from h1] at g1; cases g1; rfl
  omega
/-- another table stays -/
theorem dE.other {j j2 : Nat} {C C1 : CS} (h : dE j C C1) (hj : isTb j) (hj2 : isTb j2) (hne : j2 ≠ j) (hg : GD C) {r : Nat → Int32} (ht : TR C j2 r) : TR C1 j2 r := by
  have hx := h.keepX hj hg
  obtain ⟨a1, a2, a3, -, -, a6, a7, a8⟩ := h
  have hr : 15 + 4 * (j2 - 2) ≠ 10 ∧ 16 + 4 * (j2 - 2) ≠ 10 := by omega
  refine ht.keep (a1 j2 hne) (fun i _ => by rw [a2 _ hr.1]) (fun i _ => by rw [a2 _ hr.2]) (fun i _ => by show C1.2.2.1 _ _ = _; rw [a3]) (fun i _ => by show C1.2.2.1 _ _ = _; rw [a3]) hx (fun k a hk ha => ⟨by show C1.2.2.2.2.2.1 a = _; rw [a6], fun q _ => a8 _ a (fun i hi hh => hne (hg.2 j2 k j i a hj2 hj hk hi ha hh).1)⟩)
/-- table j becomes the row r1 -/
theorem TR.mk {C C1 : CS} {j : Nat} {r r1 : Nat → Int32} (h : TR C j r) (h0 : C1.1 j 5 = r1 0 ∧ C1.1 j 0 = r1 1 ∧ C1.1 j 3 = r1 2 ∧ C1.1 j 4 = r1 3 ∧ C1.1 j 2 = r1 4 ∧ C1.1 j 1 = r1 5) (e1 : r1 1 = r 1) (e4 : r1 4 = r 4) (e5 : r1 5 = r 5) (ew : ∀ i, 6 ≤ i → i < 16 → r1 i = r i) (et : ∀ i, 76 ≤ i → r1 i = r i)
    (f2 : ∀ i, i < 10 → C1.2.1 (15 + 4 * (j - 2)) i = C.2.1 (15 + 4 * (j - 2)) i) (f3 : ∀ i, i < 10 → C1.2.1 (16 + 4 * (j - 2)) i = C.2.1 (16 + 4 * (j - 2)) i) (f5 : ∀ i, i < 14 → cG C1 (18 + 4 * (j - 2)) i = cG C (18 + 4 * (j - 2)) i) (hx : keepX C C1)
    (hg : ∀ N k, r 1 = nI N → N ≤ 10 → k < N → ∃ a, cG C1 (17 + 4 * (j - 2)) k = some a ∧ glR C1 a r1 k) : TR C1 j r1 := by
  obtain ⟨-, ⟨N, a2, a3, -⟩, ⟨W, b1, b2, b3⟩, T, c1, c2, c3⟩ := h
  refine ⟨h0, ⟨N, e1.trans a2, a3, fun k hk => hg N k a2 a3 hk⟩, ⟨W, e4.trans b1, b2, fun k hk => ?_⟩, T, e5.trans c1, c2, fun t ht => ?_⟩
  · obtain ⟨p, q, z1, z2, z3, z4, z5⟩ := b3 k hk
    exact ⟨p, q, z1, z2, (f2 k (by omega)).trans z3, (f3 k (by omega)).trans z4, (ew _ (by omega) (by omega)).trans z5⟩
  · obtain ⟨a, q1, q2⟩ := c3 t ht
    refine ⟨a, (f5 t (by omega)).trans q1, ?_⟩
    obtain ⟨x1, x2, x3, b, c, d, x4, x5, x6, x7, x8⟩ := q2.keep hx
    have y1 : r1 (76 + 2 * t) = r (76 + 2 * t) := et _ (by omega)
    have y2 : txN r1 t = txN r t := by unfold txN; rw [y1]
    refine ⟨x1, by rw [y1]; exact x2, by rw [et _ (by omega)]; exact x3, b, c, d, x4, x5, x6, by rw [y2]; exact x7, fun k hk => ?_⟩
    rw [← x8 k hk]
    exact et _ (by omega)
theorem wv_in {r : Nat → Int32} {i m : Nat} (hm : m ≤ 9) : ∃ q, q ≤ 20 ∧ wvR r i (nI m) = nI q := by
  unfold wvR
  by_cases c : 0 ≤ cntR r 1
  · rw [if_pos c]
    generalize evR r _ _ = v
    unfold v_X3_within
    by_cases c1 : (0 : Int32) ≤ v
    · rw [if_pos c1]
      by_cases c2 : v ≤ 20
      · rw [if_pos c2]
        obtain ⟨q, h1, h2⟩ := nI_of2 (M := 20) (n := 20) (by decide) (Int32.not_lt.mpr c1) c2
        exact ⟨q, h1, h2⟩
      · rw [if_neg c2]; exact ⟨20, by decide, rfl⟩
    · rw [if_neg c1]; exact ⟨0, by decide, rfl⟩
  · rw [if_neg c, show (4 : Int32) = nI 4 from rfl, pk_div (by omega) (by decide) (by decide)]
    exact ⟨m / 4, by omega, rfl⟩
theorem shz_in (z : Int32) : ∃ m, m < 2 ^ 24 ∧ shz z = nI m := by
  unfold shz
  have h := pk_ushr z 8 8 (by decide)
  have h2 := z.toBitVec.isLt
  exact ⟨z.toBitVec.toNat / 2 ^ 8, by omega, Int32.toBitVec_inj.mp (BitVec.eq_of_toNat_eq (by rw [h, pk_tn (by omega)]))⟩
theorem rem_in (z : Int32) {d : Nat} (h0 : 0 < d) (hd : d < 2 ^ 31) : ∃ m, m < d ∧ rem (shz z) (nI d) = nI m := by
  obtain ⟨m, h1, h2⟩ := shz_in z
  unfold rem
  rw [h2, pk_rem (by omega) h0 hd]
  exact ⟨m % d, Nat.mod_lt _ h0, rfl⟩
theorem drawn_v (C : CS) (j : Nat) : v_X1_drawn C j = shz (drw (C.1 j 5)) := by
  unfold v_X1_drawn shz drw
  simp [wI, up2]
