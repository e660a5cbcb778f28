theorem tbOk.w0 {C : CS} {r : Nat → Int32} (h : tbOk C r) (k : Nat) (v : Int32) : tbOk (wI C 0 k v) r := ⟨h.1, h.2.w0 (by have := h.1; unfold isTb at this; omega) k v⟩
theorem tbOk.wnK {C : CS} {r : Nat → Int32} (h : tbOk C r) : wnOk r := by
  obtain ⟨W, e, hW, hk⟩ := h.2.w
  refine ⟨W, e, hW, fun k hk1 => ?_⟩
  obtain ⟨p, q, hp, hq, -, -, h3⟩ := hk k hk1
  have e1 : wn r k = 10 * p + q := by unfold wn; rw [h3, cl_k (by omega)]
  exact ⟨by rw [e1]; exact h3, by rw [e1]; omega, by rw [e1]; omega⟩
theorem cf_X0_isJoin : CfV yX0_isJoin "TwoGuilds" cX0_isJoin 5 (some .boolean) 1 := ⟨⟨by decide, by decide, by decide⟩, q72, q908, q907, qs17⟩
def p_X0_isJoin (C : CS) (a0 : Int32) : Prop := ∃ c, c < 3125 ∧ a0 = nI c
def v_X0_isJoin (C : CS) (a0 : Int32) : Int32 := if orD a0.toNatClampNeg 5 = 31 then 1 else 0
theorem vb_X0_isJoin (C : CS) (a0 : Int32) : v_X0_isJoin C a0 = 0 ∨ v_X0_isJoin C a0 = 1 := ib_ite (Or.inr rfl) (Or.inl rfl)
def q_X0_isJoin (C : CS) (a0 : Int32) (C1 : CS) : Prop := frm [9] C C1 ∧ ∀ l, l < 5 → C1.2.1 9 l = nI (dig a0.toNatClampNeg l)
def wp_X0_isJoin_l7 (Post : Int32 → CS → Prop) : Nat → CS → Int32 → Int32 → Int32 → Prop
  | 0, _, _, _, _ => False
  | n + 1, C, i2, i3, i4 => (5 ≤ i4 → 
  (i3 = 31 → 
    Post 1 C) ∧
    (¬ i3 = 31 → 
    Post 0 C)) ∧
  (¬ 5 ≤ i4 → 
  vp_in i4 5 ∧
    (∀ C4 : CS, C4 = (wA C 9 (Int32.toNatClampNeg i4) (i2 - i2 / 5 * 5)) → 
    ∀ x5 : Int32, x5 = (i2 / 5) → 
    ∀ x6 : Int32, x6 = (i3 ||| (1 <<< ((C4.2.1 9 (Int32.toNatClampNeg i4)) &&& 31))) → 
    ∀ x7 : Int32, x7 = (i4 + Int32.ofInt 1) → 
    wp_X0_isJoin_l7 Post n C4 x5 x6 x7))
def wp_X0_isJoin (Post : Int32 → CS → Prop) (C : CS) (a0 : Int32) : Prop :=
  ∃ m7, wp_X0_isJoin_l7 Post m7 C a0 0 0
set_option maxHeartbeats 4000000 in
set_option maxRecDepth 100000 in
theorem gw_X0_isJoin_l7 {w : WD} {x : Cx} (ok : Ok w x cX0_isJoin 5 yX0_isJoin.cls (some .boolean) (rmL 0 0 0)) {Post : Int32 → CS → Prop} : ∀ (n : Nat) (C : CS) (i2 : Int32) (i3 : Int32) (i4 : Int32), wp_X0_isJoin_l7 Post  n C i2 i3 i4 → G w x 5 0 0 (QM w x (fun v C1 => ∃ r : Int32, v = some (.int r) ∧ Post r C1) 0 0) C 7 [(0, .ref (ad w 0)), (2, .int i2), (3, .int i3), (4, .int i4)] [] := by
  intro n
  induction n with
  | zero => intro C i2 i3 i4 hw; exact hw.elim
  | succ n ih =>
    intro C i2 i3 i4 hw
    unfold wp_X0_isJoin_l7 at hw
    refine g_iload ok 3 dX0_isJoin_7 rfl ?_
    refine g_iconst (v := 5) ok dX0_isJoin_9 (by decide) ?_
    refine g_icmp_ge (tgt := 45) ok dX0_isJoin_10 (by decide) (fun c1 => ?_) (fun c1 => ?_)
    · have hw := hw.1 c1
      refine g_iload_n ok 2 dX0_isJoin_45 rfl ?_
      refine g_bipush (v := 31) ok dX0_isJoin_46 (by decide) ?_
      refine g_icmp_ne (tgt := 55) ok dX0_isJoin_48 (by decide) (fun c2 => ?_) (fun c2 => ?_)
      · have hw := hw.2 c2
        refine g_iconst (v := 0) ok dX0_isJoin_55 (by decide) ?_
        exact g_zret ok dX0_isJoin_56 (Or.inl rfl) ⟨_, rfl, hw⟩
      · have hw := hw.1 c2
        refine g_iconst (v := 1) ok dX0_isJoin_51 (by decide) ?_
        refine g_goto (tgt := 56) ok dX0_isJoin_52 (by decide) ?_
        exact g_zret ok dX0_isJoin_56 (Or.inr rfl) ⟨_, rfl, hw⟩
    · have hw := hw.2 c1
      refine g_aload_n ok 0 dX0_isJoin_13 rfl ?_
      refine g_get ok 0 rfl rfl in_X0 8 (by decide) q188 rfl dX0_isJoin_14 ?_
      refine g_iload ok 3 dX0_isJoin_17 rfl ?_
      refine g_iload_n ok 1 dX0_isJoin_19 rfl ?_
      refine g_iconst (v := 5) ok dX0_isJoin_20 (by decide) ?_
      refine g_irem ok dX0_isJoin_21 (by decide) ?_
      obtain ⟨hf3, hw⟩ := hw
      refine g_iast ok 9 rfl hf3 _ rfl dX0_isJoin_22 (fun C4 eC4 => ?_)
      have hw := hw C4 eC4
      refine g_iload_n ok 1 dX0_isJoin_23 rfl ?_
      refine g_iconst (v := 5) ok dX0_isJoin_24 (by decide) ?_
      refine g_idiv ok dX0_isJoin_25 (by decide) ?_
      refine g_istore_n ok (fun z => [(2, .int z), (0, .ref (ad w 0)), (3, .int i3), (4, .int i4)]) dX0_isJoin_26 (by decide) (fun _ => rfl) (fun x5 ex5 => ?_)
      have hw := hw x5 ex5
      refine g_iload_n ok 2 dX0_isJoin_27 rfl ?_
      refine g_iconst (v := 1) ok dX0_isJoin_28 (by decide) ?_
      refine g_aload_n ok 1 dX0_isJoin_29 rfl ?_
      refine g_get ok 0 rfl rfl in_X0 8 (by decide) q188 rfl dX0_isJoin_30 ?_
      refine g_iload ok 3 dX0_isJoin_33 rfl ?_
      refine g_iald ok 9 rfl hf3 _ rfl dX0_isJoin_35 ?_
      refine g_ishl ok dX0_isJoin_36 ?_
      refine g_ior ok dX0_isJoin_37 ?_
      refine g_istore_n ok (fun z => [(3, .int z), (2, .int x5), (0, .ref (ad w 0)), (4, .int i4)]) dX0_isJoin_38 (by decide) (fun _ => rfl) (fun x6 ex6 => ?_)
      have hw := hw x6 ex6
      refine g_iinc ok 3 (fun z => [(4, .int z), (3, .int x6), (2, .int x5), (0, .ref (ad w 0))]) dX0_isJoin_39 rfl (by decide) (fun _ => rfl) (fun x7 ex7 => ?_)
      have hw := hw x7 ex7
      refine g_goto (tgt := 7) ok dX0_isJoin_42 (by decide) ?_
      refine g_sub [3, 2, 1, 0] [(0, .ref (ad w 0)), (2, .int x5), (3, .int x6), (4, .int x7)] rfl ?_
      exact ih C4 x5 x6 x7 hw
set_option maxHeartbeats 4000000 in
set_option maxRecDepth 100000 in
theorem gw_X0_isJoin {w : WD} (wk : wOk w) (l : Launch) (C : CS) (a0 : Int32) {Post : Int32 → CS → Prop} (hw : wp_X0_isJoin Post C a0) : MC w l yX0_isJoin cX0_isJoin 5 (some .boolean) 0 0 0 [.ref (ad w 0), .int a0] C (fun v C1 => ∃ r : Int32, v = some (.int r) ∧ Post r C1) := by
  unfold wp_X0_isJoin at hw
  refine MC.of wk (by decide) (Nat.le_of_ble_eq_true rfl) (fun x hx ok => ?_)
  subst hx
  show G w x 5 0 0 (QM w x _ 0 0) C 0 [(0, .ref (ad w 0)), (1, .int a0)] []
  refine g_iload_n ok 1 dX0_isJoin_0 rfl ?_
  refine g_istore_n0 ok [(2, .int a0), (0, .ref (ad w 0)), (1, .int a0)] dX0_isJoin_1 (by decide) rfl ?_
  refine g_iconst (v := 0) ok dX0_isJoin_2 (by decide) ?_
  refine g_istore_n0 ok [(3, .int 0), (2, .int a0), (0, .ref (ad w 0)), (1, .int a0)] dX0_isJoin_3 (by decide) rfl ?_
  refine g_iconst (v := 0) ok dX0_isJoin_4 (by decide) ?_
  refine g_istore0 ok [(4, .int 0), (3, .int 0), (2, .int a0), (0, .ref (ad w 0)), (1, .int a0)] dX0_isJoin_5 (by decide) rfl ?_
  refine g_sub [3, 2, 1, 0] [(0, .ref (ad w 0)), (2, .int a0), (3, .int 0), (4, .int 0)] rfl ?_
  obtain ⟨n8, hw⟩ := hw
  exact gw_X0_isJoin_l7 ok n8 C a0 0 0 hw
theorem sp_X0_isJoin (C : CS) (a0 : Int32) (hp : p_X0_isJoin C a0) : wp_X0_isJoin (fun x C1 => x = v_X0_isJoin C a0 ∧ q_X0_isJoin C a0 C1) C a0 := by
  obtain ⟨c, hc, rfl⟩ := hp
  have hv : v_X0_isJoin C (nI c) = if orD c 5 = 31 then 1 else 0 := by unfold v_X0_isJoin; rw [cl_k (by omega)]
  have H : ∀ d k, k + d = 5 → ∀ C1 : CS, frm [9] C C1 → (∀ l, l < k → C1.2.1 9 l = nI (dig c l)) → wp_X0_isJoin_l7 (fun x C1 => x = v_X0_isJoin C (nI c) ∧ q_X0_isJoin C (nI c) C1) (d + 1) C1 (nI (c / 5 ^ k)) (nI (orD c k)) (nI k) := by
    intro d
    induction d with
    | zero =>
      intro k hk C1 hf hl
      have ek : k = 5 := by omega
      subst ek
      have := orD_lt c 5
      have hz : (nI (orD c 5) = 31) ↔ orD c 5 = 31 := by rw [show (31 : Int32) = nI 31 from rfl]; exact nI_eq (by omega) (by omega)
      have hq : q_X0_isJoin C (nI c) C1 := ⟨hf, by rw [cl_k (by omega)]; exact hl⟩
      refine ⟨fun _ => ⟨fun c1 => ⟨?_, hq⟩, fun c1 => ⟨?_, hq⟩⟩, fun c1 => absurd (by decide) c1⟩
      · rw [hv, if_pos (hz.mp c1)]
      · rw [hv, if_neg (fun z => c1 (hz.mpr z))]
    | succ d ih =>
      intro k hk C1 hf hl
      refine ⟨fun c1 => ?_, fun _ => ⟨vp_k (by omega), fun C4 e4 x5 e5 x6 e6 x7 e7 => ?_⟩⟩
      · rw [show (5 : Int32) = nI 5 from rfl, nI_leI (by omega) (by omega)] at c1; omega
      · have hlt : c / 5 ^ k < 2 ^ 31 := Nat.lt_of_le_of_lt (Nat.div_le_self _ _) (by omega)
        rw [cl_k (by omega), show (5 : Int32) = nI 5 from rfl, pk_rem hlt (by decide) (by decide)] at e4
        rw [show (5 : Int32) = nI 5 from rfl, pk_div hlt (by decide) (by decide)] at e5
        have hd : C4.2.1 9 k = nI (dig c k) := by rw [e4]; exact wA_s
        rw [cl_k (by omega), hd, or_i _ (orD_lt c k) _ (dig_lt c k)] at e6
        have e8 : c / 5 ^ k / 5 = c / 5 ^ (k + 1) := by rw [Nat.div_div_eq_div_mul, Nat.pow_succ]
        rw [e7, o1, nI_add, e6, e5, e8]
        refine ih (k + 1) (by omega) C4 (by rw [e4]; exact hf.w (by decide)) (fun l hl1 => ?_)
        by_cases hlk : l = k
        · rw [hlk]; exact hd
        · rw [e4, wA_n (fun h => hlk h.2)]; exact hl l (by omega)
  have h := H 5 0 (by omega) C (frm.rf _ _) (fun l hl => by omega)
  rw [Nat.pow_zero, Nat.div_one] at h
  exact ⟨_, h⟩
theorem mc_X0_isJoin {w : WD} (wk : wOk w) (l : Launch) (C : CS) (a0 : Int32) (hp : p_X0_isJoin C a0) : MC w l yX0_isJoin cX0_isJoin 5 (some .boolean) 0 0 0 [.ref (ad w 0), .int a0] C (pIR (v_X0_isJoin C a0) (q_X0_isJoin C a0)) := MC.postIR (gw_X0_isJoin wk l C a0 (sp_X0_isJoin C a0 hp))
theorem cf_X0_holds : CfV yX0_holds "TwoGuilds" cX0_holds 2 (some .boolean) 0 := ⟨⟨by decide, by decide, by decide⟩, q72, q912, q911, qs18⟩
def p_X0_holds (C : CS) (r : Nat → Int32) (c : Nat) : Prop := tbOk C r ∧ orD c 5 = 31 ∧ ∀ l, l < 5 → C.2.1 9 l = nI (dig c l)
def v_X0_holds (C : CS) (r : Nat → Int32) (c : Nat) : Int32 := if hR r c (wN1 r) = true then 1 else 0
theorem vb_X0_holds (C : CS) (r : Nat → Int32) (c : Nat) : v_X0_holds C r c = 0 ∨ v_X0_holds C r c = 1 := ib_ite (Or.inr rfl) (Or.inl rfl)
def wp_X0_holds_l2 (Post : Int32 → CS → Prop) : Nat → CS → Int32 → Prop
  | 0, _, _ => False
  | n + 1, C, i1 => isTb (cN C) ∧
  (((C.1 (cN C) 2) ≤ i1 → 
  Post 1 C) ∧
  (¬ (C.1 (cN C) 2) ≤ i1 → 
  vp_in i1 10 ∧
    (vp_in (C.2.1 (15 + 4 * ((cN C) - 2)) (Int32.toNatClampNeg i1)) 5 ∧
    (((C.2.1 9 (Int32.toNatClampNeg (C.2.1 (15 + 4 * ((cN C) - 2)) (Int32.toNatClampNeg i1)))) = (C.2.1 (16 + 4 * ((cN C) - 2)) (Int32.toNatClampNeg i1)) → 
    ∀ x6 : Int32, x6 = (i1 + Int32.ofInt 1) → 
      wp_X0_holds_l2 Post n C x6) ∧
    (¬ (C.2.1 9 (Int32.toNatClampNeg (C.2.1 (15 + 4 * ((cN C) - 2)) (Int32.toNatClampNeg i1)))) = (C.2.1 (16 + 4 * ((cN C) - 2)) (Int32.toNatClampNeg i1)) → 
    Post 0 C)))))
def wp_X0_holds (Post : Int32 → CS → Prop) (C : CS)  : Prop :=
  ∃ m2, wp_X0_holds_l2 Post m2 C 0
set_option maxHeartbeats 4000000 in
set_option maxRecDepth 100000 in
theorem gw_X0_holds_l2 {w : WD} {x : Cx} (ok : Ok w x cX0_holds 2 yX0_holds.cls (some .boolean) (rmL 0 0 0)) {Post : Int32 → CS → Prop} : ∀ (n : Nat) (C : CS) (i1 : Int32), wp_X0_holds_l2 Post  n C i1 → G w x 2 0 0 (QM w x (fun v C1 => ∃ r : Int32, v = some (.int r) ∧ Post r C1) 0 0) C 2 [(0, .ref (ad w 0)), (1, .int i1)] [] := by
  intro n
  induction n with
  | zero => intro C i1 hw; exact hw.elim
  | succ n ih =>
    intro C i1 hw
    unfold wp_X0_holds_l2 at hw
    refine g_iload_n ok 1 dX0_holds_2 rfl ?_
    refine g_aload_n ok 0 dX0_holds_3 rfl ?_
    refine g_get ok 0 rfl rfl in_X0 0 (by decide) q180 rfl dX0_holds_4 ?_
    obtain ⟨hf1, hw⟩ := hw
    refine g_get ok (cN C) (fObjT hf1) rfl in_X1 2 (by decide) q128 rfl dX0_holds_7 ?_
    refine g_icmp_ge (tgt := 47) ok dX0_holds_10 (by decide) (fun c2 => ?_) (fun c2 => ?_)
    · have hw := hw.1 c2
      refine g_iconst (v := 1) ok dX0_holds_47 (by decide) ?_
      exact g_zret ok dX0_holds_48 (Or.inr rfl) ⟨_, rfl, hw⟩
    · have hw := hw.2 c2
      refine g_aload_n ok 0 dX0_holds_13 rfl ?_
      refine g_get ok 0 rfl rfl in_X0 8 (by decide) q188 rfl dX0_holds_14 ?_
      refine g_aload_n ok 0 dX0_holds_17 rfl ?_
      refine g_get ok 0 rfl rfl in_X0 0 (by decide) q180 rfl dX0_holds_18 ?_
      refine g_get ok (cN C) (fObjT hf1) rfl in_X1 6 (by decide) q136 rfl dX0_holds_21 ?_
      refine g_iload_n ok 1 dX0_holds_24 rfl ?_
      obtain ⟨hf3, hw⟩ := hw
      refine g_iald ok (15 + 4 * ((cN C) - 2)) (fArrL hf1) hf3 _ rfl dX0_holds_25 ?_
      obtain ⟨hf4, hw⟩ := hw
      refine g_iald ok 9 rfl hf4 _ rfl dX0_holds_26 ?_
      refine g_aload_n ok 0 dX0_holds_27 rfl ?_
      refine g_get ok 0 rfl rfl in_X0 0 (by decide) q180 rfl dX0_holds_28 ?_
      refine g_get ok (cN C) (fObjT hf1) rfl in_X1 7 (by decide) q138 rfl dX0_holds_31 ?_
      refine g_iload_n ok 1 dX0_holds_34 rfl ?_
      refine g_iald ok (16 + 4 * ((cN C) - 2)) (fArrR hf1) hf3 _ rfl dX0_holds_35 ?_
      refine g_icmp_eq (tgt := 41) ok dX0_holds_36 (by decide) (fun c5 => ?_) (fun c5 => ?_)
      · have hw := hw.1 c5
        refine g_iinc ok 1 (fun z => [(1, .int z), (0, .ref (ad w 0))]) dX0_holds_41 rfl (by decide) (fun _ => rfl) (fun x6 ex6 => ?_)
        have hw := hw x6 ex6
        refine g_goto (tgt := 2) ok dX0_holds_44 (by decide) ?_
        refine g_sub [1, 0] [(0, .ref (ad w 0)), (1, .int x6)] rfl ?_
        exact ih C x6 hw
      · have hw := hw.2 c5
        refine g_iconst (v := 0) ok dX0_holds_39 (by decide) ?_
        exact g_zret ok dX0_holds_40 (Or.inl rfl) ⟨_, rfl, hw⟩
set_option maxHeartbeats 4000000 in
set_option maxRecDepth 100000 in
theorem gw_X0_holds {w : WD} (wk : wOk w) (l : Launch) (C : CS)  {Post : Int32 → CS → Prop} (hw : wp_X0_holds Post C ) : MC w l yX0_holds cX0_holds 2 (some .boolean) 0 0 0 [.ref (ad w 0)] C (fun v C1 => ∃ r : Int32, v = some (.int r) ∧ Post r C1) := by
  unfold wp_X0_holds at hw
  refine MC.of wk (by decide) (Nat.le_of_ble_eq_true rfl) (fun x hx ok => ?_)
  subst hx
  show G w x 2 0 0 (QM w x _ 0 0) C 0 [(0, .ref (ad w 0))] []
  refine g_iconst (v := 0) ok dX0_holds_0 (by decide) ?_
  refine g_istore_n0 ok [(1, .int 0), (0, .ref (ad w 0))] dX0_holds_1 (by decide) rfl ?_
  refine g_sub [1, 0] [(0, .ref (ad w 0)), (1, .int 0)] rfl ?_
  obtain ⟨n7, hw⟩ := hw
  exact gw_X0_holds_l2 ok n7 C 0 hw
theorem sp_X0_holds (C : CS) (r : Nat → Int32) (c : Nat) (hp : p_X0_holds C r c) : wp_X0_holds (fun x C1 => x = v_X0_holds C r c ∧ C1 = C) C := by
  obtain ⟨ht, ho, hl⟩ := hp
  obtain ⟨W, e, hW, hk⟩ := ht.2.w
  have e2 : C.1 (cN C) 2 = nI W := by rw [ht.2.n.2.2.2.2.1, e]
  have hv : v_X0_holds C r c = if hR r c W = true then 1 else 0 := by unfold v_X0_holds wN1; rw [e, cl_k (by omega)]
  have H : ∀ d k, k + d = W → hR r c k = true → wp_X0_holds_l2 (fun x C1 => x = v_X0_holds C r c ∧ C1 = C) (d + 1) C (nI k) := by
    intro d
    induction d with
    | zero =>
      intro k hk1 hr
      have ek : k = W := by omega
      subst ek
      refine ⟨ht.1, fun _ => ⟨by rw [hv, if_pos hr], rfl⟩, fun c1 => absurd ?_ c1⟩
      rw [e2, nI_leI (by omega) (by omega)]; omega
    | succ d ih =>
      intro k hk1 hr
      obtain ⟨p, q, hp5, hq5, g1, g2, g3⟩ := hk k (by omega)
      have ew : wn r k = 10 * p + q := by unfold wn; rw [g3, cl_k (by omega)]
      have hz : (nI (dig c p) = nI q) ↔ dig c p = q := nI_eq (by have := dig_lt c p; omega) (by omega)
      have hs : hR r c (k + 1) = (hR r c k && decide (dig c p = q)) := by rw [hR, ew, show (10 * p + q) / 10 = p by omega, show (10 * p + q) % 10 = q by omega]
      refine ⟨ht.1, fun c1 => ?_, fun _ => ⟨vp_k (by omega), ?_⟩⟩
      · rw [e2, nI_leI (by omega) (by omega)] at c1; omega
      · rw [cl_k (by omega), g1, g2, cl_k (by omega), hl p hp5]
        refine ⟨vp_k (by omega), fun c1 x6 e6 => ?_, fun c1 => ⟨?_, rfl⟩⟩
        · rw [e6, o1, nI_add]
          exact ih (k + 1) (by omega) (by rw [hs, hr]; simp [hz.mp c1])
        · have hf : hR r c (k + 1) = false := by rw [hs, hr]; simp; exact fun z => c1 (hz.mpr z)
          rw [hv, ← hk1, show k + (d + 1) = k + 1 + d by omega, hR_mono d (k + 1) hf]
          rfl
  exact ⟨_, H W 0 (by omega) (by rw [hR, ho]; rfl)⟩
theorem mc_X0_holds {w : WD} (wk : wOk w) (l : Launch) (C : CS)  (r : (Nat → Int32)) (c : Nat) (hp : p_X0_holds C r c) : MC w l yX0_holds cX0_holds 2 (some .boolean) 0 0 0 [.ref (ad w 0)] C (pI (v_X0_holds C r c) C) := MC.postI (gw_X0_holds wk l C  (sp_X0_holds C r c hp))
theorem cf_X0_layJoins : CfV yX0_layJoins "TwoGuilds" cX0_layJoins 3 none 0 := ⟨⟨by decide, by decide, by decide⟩, q72, q904, q903, qs16⟩
def p_X0_layJoins (C : CS) (r : Nat → Int32) : Prop := tbOk C r
def q_X0_layJoins (C : CS) (r : Nat → Int32) (C1 : CS) : Prop := frm [8, 9] (wI C 0 9 (nI (jn r 3125))) C1 ∧ ∀ q, q < 25 → C1.2.1 8 q = nI (jg r q 3125)
def wp_X0_layJoins_j92 (Post : CS → Prop) (R28 : CS → Int32 → Prop) (C : CS) (i1 : Int32) : Prop := ∀ x8 : Int32, x8 = (i1 + Int32.ofInt 1) → 
  R28 C x8
def wp_X0_layJoins_l62 (Post : CS → Prop) (R28 : CS → Int32 → Prop) : Nat → CS → Int32 → Int32 → Prop
  | 0, _, _, _ => False
  | n + 1, C, i1, i2 => (5 ≤ i2 → 
  wp_X0_layJoins_j92 Post R28 C i1) ∧
  (¬ 5 ≤ i2 → 
  vp_in i2 5 ∧
    (vp_in ((5 * i2) + (C.2.1 9 (Int32.toNatClampNeg i2))) 25 ∧
    (∀ C18 : CS, C18 = (wA C 8 (Int32.toNatClampNeg ((5 * i2) + (C.2.1 9 (Int32.toNatClampNeg i2)))) ((C.2.1 8 (Int32.toNatClampNeg ((5 * i2) + (C.2.1 9 (Int32.toNatClampNeg i2))))) + 1)) → 
    ∀ x19 : Int32, x19 = (i2 + Int32.ofInt 1) → 
    wp_X0_layJoins_l62 Post R28 n C18 i1 x19)))
def wp_X0_layJoins_l28 (Post : CS → Prop) : Nat → CS → Int32 → Prop
  | 0, _, _ => False
  | n + 1, C, i1 => (3125 ≤ i1 → 
  Post C) ∧
  (¬ 3125 ≤ i1 → 
  p_X0_isJoin C i1 ∧
    (∀ r6 : Int32, r6 = (v_X0_isJoin C i1) → 
    ∀ C5 : CS, q_X0_isJoin C i1 C5 → 
    (r6 = 0 → 
    wp_X0_layJoins_j92 Post (fun C i1 => wp_X0_layJoins_l28 Post n C i1) C5 i1) ∧
    (¬ r6 = 0 → 
    ∃ (g9 : (Nat → Int32)) (g10 : Nat), p_X0_holds C5 g9 g10 ∧
      (∀ r12 : Int32, r12 = (v_X0_holds C5 g9 g10) → 
      (r12 = 0 → 
      wp_X0_layJoins_j92 Post (fun C i1 => wp_X0_layJoins_l28 Post n C i1) C5 i1) ∧
      (¬ r12 = 0 → 
      ∀ C14 : CS, C14 = (wI C5 0 9 ((C5.1 0 9) + 1)) → 
        ∃ m62, wp_X0_layJoins_l62 Post (fun C i1 => wp_X0_layJoins_l28 Post n C i1) m62 C14 i1 0)))))
def wp_X0_layJoins_l7 (Post : CS → Prop) : Nat → CS → Int32 → Prop
  | 0, _, _ => False
  | n + 1, C, i1 => (25 ≤ i1 → 
  ∃ m28, wp_X0_layJoins_l28 Post m28 C 0) ∧
  (¬ 25 ≤ i1 → 
  vp_in i1 25 ∧
    (∀ C23 : CS, C23 = (wA C 8 (Int32.toNatClampNeg i1) 0) → 
    ∀ x24 : Int32, x24 = (i1 + Int32.ofInt 1) → 
    wp_X0_layJoins_l7 Post n C23 x24))
def wp_X0_layJoins (Post : CS → Prop) (C : CS)  : Prop :=
  ∀ C1 : CS, C1 = (wI C 0 9 0) → 
    ∃ m7, wp_X0_layJoins_l7 Post m7 C1 0
set_option maxHeartbeats 4000000 in
set_option maxRecDepth 100000 in
theorem gw_X0_layJoins_j92 {w : WD} {x : Cx} (ok : Ok w x cX0_layJoins 3 yX0_layJoins.cls none (rmL 1 0 0)) {Post : CS → Prop} {R28 : CS → Int32 → Prop} (hR28 : ∀ C (i1 : Int32), R28 C i1 → G w x 3 0 0 (QM w x (fun v C1 => v = none ∧ Post C1) 0 0) C 28 [(0, .ref (ad w 0)), (1, .int i1)] []) : ∀ (C : CS) (i1 : Int32), wp_X0_layJoins_j92 Post R28 C i1 → G w x 3 0 0 (QM w x (fun v C1 => v = none ∧ Post C1) 0 0) C 92 [(0, .ref (ad w 0)), (1, .int i1)] [] := by
  intro C i1 hw
  unfold wp_X0_layJoins_j92 at hw
  refine g_iinc ok 1 (fun z => [(1, .int z), (0, .ref (ad w 0))]) dX0_layJoins_92 rfl (by decide) (fun _ => rfl) (fun x8 ex8 => ?_)
  have hw := hw x8 ex8
  refine g_goto (tgt := 28) ok dX0_layJoins_95 (by decide) ?_
  refine g_sub [1, 0] [(0, .ref (ad w 0)), (1, .int x8)] rfl ?_
  exact hR28 C x8 hw
set_option maxHeartbeats 4000000 in
set_option maxRecDepth 100000 in
theorem gw_X0_layJoins_l62 {w : WD} {x : Cx} (ok : Ok w x cX0_layJoins 3 yX0_layJoins.cls none (rmL 1 0 0)) {Post : CS → Prop} {R28 : CS → Int32 → Prop} (hR28 : ∀ C (i1 : Int32), R28 C i1 → G w x 3 0 0 (QM w x (fun v C1 => v = none ∧ Post C1) 0 0) C 28 [(0, .ref (ad w 0)), (1, .int i1)] []) : ∀ (n : Nat) (C : CS) (i1 : Int32) (i2 : Int32), wp_X0_layJoins_l62 Post R28 n C i1 i2 → G w x 3 0 0 (QM w x (fun v C1 => v = none ∧ Post C1) 0 0) C 62 [(0, .ref (ad w 0)), (1, .int i1), (2, .int i2)] [] := by
  intro n
  induction n with
  | zero => intro C i1 i2 hw; exact hw.elim
  | succ n ih =>
    intro C i1 i2 hw
    unfold wp_X0_layJoins_l62 at hw
    refine g_iload_n ok 2 dX0_layJoins_62 rfl ?_
    refine g_iconst (v := 5) ok dX0_layJoins_63 (by decide) ?_
    refine g_icmp_ge (tgt := 92) ok dX0_layJoins_64 (by decide) (fun c15 => ?_) (fun c15 => ?_)
    · have hw := hw.1 c15
      refine g_sub [0, 1] [(0, .ref (ad w 0)), (1, .int i1)] rfl ?_
      exact gw_X0_layJoins_j92 ok hR28 C i1 hw
    · have hw := hw.2 c15
      refine g_aload_n ok 0 dX0_layJoins_67 rfl ?_
      refine g_get ok 0 rfl rfl in_X0 7 (by decide) q187 rfl dX0_layJoins_68 ?_
      refine g_iconst (v := 5) ok dX0_layJoins_71 (by decide) ?_
      refine g_iload_n ok 2 dX0_layJoins_72 rfl ?_
      refine g_imul ok dX0_layJoins_73 ?_
      refine g_aload_n ok 0 dX0_layJoins_74 rfl ?_
      refine g_get ok 0 rfl rfl in_X0 8 (by decide) q188 rfl dX0_layJoins_75 ?_
      refine g_iload_n ok 2 dX0_layJoins_78 rfl ?_
      obtain ⟨hf16, hw⟩ := hw
      refine g_iald ok 9 rfl hf16 _ rfl dX0_layJoins_79 ?_
      refine g_iadd ok dX0_layJoins_80 ?_
      refine g_dup2 ok dX0_layJoins_81 rfl rfl ?_
      obtain ⟨hf17, hw⟩ := hw
      refine g_iald ok 8 rfl hf17 _ rfl dX0_layJoins_82 ?_
      refine g_iconst (v := 1) ok dX0_layJoins_83 (by decide) ?_
      refine g_iadd ok dX0_layJoins_84 ?_
      refine g_iast ok 8 rfl hf17 _ rfl dX0_layJoins_85 (fun C18 eC18 => ?_)
      have hw := hw C18 eC18
      refine g_iinc ok 2 (fun z => [(2, .int z), (0, .ref (ad w 0)), (1, .int i1)]) dX0_layJoins_86 rfl (by decide) (fun _ => rfl) (fun x19 ex19 => ?_)
      have hw := hw x19 ex19
      refine g_goto (tgt := 62) ok dX0_layJoins_89 (by decide) ?_
      refine g_sub [1, 2, 0] [(0, .ref (ad w 0)), (1, .int i1), (2, .int x19)] rfl ?_
      exact ih C18 i1 x19 hw
set_option maxHeartbeats 4000000 in
set_option maxRecDepth 100000 in
theorem gw_X0_layJoins_l28 {w : WD} {x : Cx} (ok : Ok w x cX0_layJoins 3 yX0_layJoins.cls none (rmL 1 0 0)) {Post : CS → Prop} : ∀ (n : Nat) (C : CS) (i1 : Int32), wp_X0_layJoins_l28 Post  n C i1 → G w x 3 0 0 (QM w x (fun v C1 => v = none ∧ Post C1) 0 0) C 28 [(0, .ref (ad w 0)), (1, .int i1)] [] := by
  intro n
  induction n with
  | zero => intro C i1 hw; exact hw.elim
  | succ n ih =>
    intro C i1 hw
    unfold wp_X0_layJoins_l28 at hw
    refine g_iload_n ok 1 dX0_layJoins_28 rfl ?_
    refine g_sipush (v := 3125) ok dX0_layJoins_29 (by decide) ?_
    refine g_icmp_ge (tgt := 98) ok dX0_layJoins_32 (by decide) (fun c3 => ?_) (fun c3 => ?_)
    · have hw := hw.1 c3
      exact g_vret ok dX0_layJoins_98 ⟨rfl, hw⟩
    · have hw := hw.2 c3
      refine g_aload_n ok 0 dX0_layJoins_35 rfl ?_
      refine g_iload_n ok 1 dX0_layJoins_36 rfl ?_
      obtain ⟨hp4, hw⟩ := hw
      refine g_callV ok [.int i1] cf_X0_isJoin q905 (mc_X0_isJoin ok.wo (xL x) C i1 hp4) (recvF ok 0 rfl rfl) rfl rfl (Nat.le_of_ble_eq_true rfl) ⟨by decide, by decide⟩ ⟨by decide, by decide⟩ dX0_layJoins_37 (resIR fun C5 eC5 => ?_)
      refine g_nmI (fun r6 er6 => ?_)
      have hw := hw r6 er6 C5 eC5
      refine g_if_eq (tgt := 92) ok dX0_layJoins_40 (by decide) (fun c7 => ?_) (fun c7 => ?_)
      · have hw := hw.1 c7
        exact gw_X0_layJoins_j92 ok (fun C i1 hw => ih C i1 hw) C5 i1 hw
      · have hw := hw.2 c7
        refine g_aload_n ok 0 dX0_layJoins_43 rfl ?_
        obtain ⟨g9, g10, hp11, hw⟩ := hw
        refine g_callV ok [] cf_X0_holds q909 (mc_X0_holds ok.wo (xL x) C5 g9 g10 hp11) (recvF ok 0 rfl rfl) rfl rfl (Nat.le_of_ble_eq_true rfl) ⟨by decide, by decide⟩ ⟨by decide, by decide⟩ dX0_layJoins_44 (resI ?_)
        refine g_nmI (fun r12 er12 => ?_)
        have hw := hw r12 er12
        refine g_if_eq (tgt := 92) ok dX0_layJoins_47 (by decide) (fun c13 => ?_) (fun c13 => ?_)
        · have hw := hw.1 c13
          exact gw_X0_layJoins_j92 ok (fun C i1 hw => ih C i1 hw) C5 i1 hw
        · have hw := hw.2 c13
          refine g_aload_n ok 0 dX0_layJoins_50 rfl ?_
          refine g_dup ok dX0_layJoins_51 rfl ?_
          refine g_get ok 0 rfl rfl in_X0 9 (by decide) q189 rfl dX0_layJoins_52 ?_
          refine g_iconst (v := 1) ok dX0_layJoins_55 (by decide) ?_
          refine g_iadd ok dX0_layJoins_56 ?_
          refine g_putI ok 0 rfl rfl in_X0 tyX0 tyX0_ok nmX0 9 (by decide) q189 rfl rfl rfl (putV_x rfl (by decide)) dX0_layJoins_57 (fun C14 eC14 => ?_)
          have hw := hw C14 eC14
          refine g_iconst (v := 0) ok dX0_layJoins_60 (by decide) ?_
          refine g_istore_n0 ok [(2, .int 0), (0, .ref (ad w 0)), (1, .int i1)] dX0_layJoins_61 (by decide) rfl ?_
          refine g_sub [1, 2, 0] [(0, .ref (ad w 0)), (1, .int i1), (2, .int 0)] rfl ?_
          obtain ⟨n20, hw⟩ := hw
          exact gw_X0_layJoins_l62 ok (fun C i1 hw => ih C i1 hw) n20 C14 i1 0 hw
set_option maxHeartbeats 4000000 in
set_option maxRecDepth 100000 in
theorem gw_X0_layJoins_l7 {w : WD} {x : Cx} (ok : Ok w x cX0_layJoins 3 yX0_layJoins.cls none (rmL 1 0 0)) {Post : CS → Prop} : ∀ (n : Nat) (C : CS) (i1 : Int32), wp_X0_layJoins_l7 Post  n C i1 → G w x 3 0 0 (QM w x (fun v C1 => v = none ∧ Post C1) 0 0) C 7 [(0, .ref (ad w 0)), (1, .int i1)] [] := by
  intro n
  induction n with
  | zero => intro C i1 hw; exact hw.elim
  | succ n ih =>
    intro C i1 hw
    unfold wp_X0_layJoins_l7 at hw
    refine g_iload_n ok 1 dX0_layJoins_7 rfl ?_
    refine g_bipush (v := 25) ok dX0_layJoins_8 (by decide) ?_
    refine g_icmp_ge (tgt := 26) ok dX0_layJoins_10 (by decide) (fun c2 => ?_) (fun c2 => ?_)
    · have hw := hw.1 c2
      refine g_iconst (v := 0) ok dX0_layJoins_26 (by decide) ?_
      refine g_istore_n0 ok [(1, .int 0), (0, .ref (ad w 0))] dX0_layJoins_27 (by decide) rfl ?_
      refine g_sub [1, 0] [(0, .ref (ad w 0)), (1, .int 0)] rfl ?_
      obtain ⟨n21, hw⟩ := hw
      exact gw_X0_layJoins_l28 ok n21 C 0 hw
    · have hw := hw.2 c2
      refine g_aload_n ok 0 dX0_layJoins_13 rfl ?_
      refine g_get ok 0 rfl rfl in_X0 7 (by decide) q187 rfl dX0_layJoins_14 ?_
      refine g_iload_n ok 1 dX0_layJoins_17 rfl ?_
      refine g_iconst (v := 0) ok dX0_layJoins_18 (by decide) ?_
      obtain ⟨hf22, hw⟩ := hw
      refine g_iast ok 8 rfl hf22 _ rfl dX0_layJoins_19 (fun C23 eC23 => ?_)
      have hw := hw C23 eC23
      refine g_iinc ok 1 (fun z => [(1, .int z), (0, .ref (ad w 0))]) dX0_layJoins_20 rfl (by decide) (fun _ => rfl) (fun x24 ex24 => ?_)
      have hw := hw x24 ex24
      refine g_goto (tgt := 7) ok dX0_layJoins_23 (by decide) ?_
      refine g_sub [1, 0] [(0, .ref (ad w 0)), (1, .int x24)] rfl ?_
      exact ih C23 x24 hw
set_option maxHeartbeats 4000000 in
set_option maxRecDepth 100000 in
theorem gw_X0_layJoins {w : WD} (wk : wOk w) (l : Launch) (C : CS)  {Post : CS → Prop} (hw : wp_X0_layJoins Post C ) : MC w l yX0_layJoins cX0_layJoins 3 none 1 0 0 [.ref (ad w 0)] C (fun v C1 => v = none ∧ Post C1) := by
  unfold wp_X0_layJoins at hw
  refine MC.of wk (by decide) (Nat.le_of_ble_eq_true rfl) (fun x hx ok => ?_)
  subst hx
  show G w x 3 0 0 (QM w x _ 0 0) C 0 [(0, .ref (ad w 0))] []
  refine g_aload_n ok 0 dX0_layJoins_0 rfl ?_
  refine g_iconst (v := 0) ok dX0_layJoins_1 (by decide) ?_
  refine g_putI ok 0 rfl rfl in_X0 tyX0 tyX0_ok nmX0 9 (by decide) q189 rfl rfl rfl (putV_x rfl (by decide)) dX0_layJoins_2 (fun C1 eC1 => ?_)
  have hw := hw C1 eC1
  refine g_iconst (v := 0) ok dX0_layJoins_5 (by decide) ?_
  refine g_istore_n0 ok [(1, .int 0), (0, .ref (ad w 0))] dX0_layJoins_6 (by decide) rfl ?_
  refine g_sub [1, 0] [(0, .ref (ad w 0)), (1, .int 0)] rfl ?_
  obtain ⟨n25, hw⟩ := hw
  exact gw_X0_layJoins_l7 ok n25 C1 0 hw
theorem frm.wI {J : List Nat} {C C1 : CS} {k : Nat} {v : Int32} (h : frm J (wI C 0 k v) C1) (u : Int32) : frm J (wI C 0 k u) (wI C1 0 k u) := by
  obtain ⟨h1, h2, h3⟩ := h
  refine ⟨?_, h2, h3⟩
  show up2 C1.1 0 k u = up2 C.1 0 k u
  rw [h1]
  show up2 (up2 C.1 0 k v) 0 k u = _
  funext a b
  unfold up2
  by_cases hab : a = 0 ∧ b = k
  · rw [if_pos hab, if_pos hab]
  · rw [if_neg hab, if_neg hab, if_neg hab]
theorem hR_or {r : Nat → Int32} {c : Nat} (h : ¬ orD c 5 = 31) : ∀ k, hR r c k = false := by
  intro k
  have h0 : hR r c 0 = false := by rw [hR]; simp [h]
  have := hR_mono k 0 h0
  rw [Nat.zero_add] at this
  exact this
theorem sp_X0_layJoins (C : CS) (r : Nat → Int32) (hp : p_X0_layJoins C r) : wp_X0_layJoins (fun C1 => q_X0_layJoins C r C1) C := by
  have hp : tbOk C r := hp
  have tb : ∀ {C1 : CS} {v : Int32}, frm [8, 9] (wI C 0 9 v) C1 → tbOk C1 r := fun {C1 v} h => (hp.w0 9 v).frm h (by intro k h1 h2; simp; omega)
  have H2 : ∀ d c, c + d = 3125 → ∀ C1 : CS, frm [8, 9] (wI C 0 9 (nI (jn r c))) C1 → (∀ q, q < 25 → C1.2.1 8 q = nI (jg r q c)) → wp_X0_layJoins_l28 (fun C1 => q_X0_layJoins C r C1) (d + 1) C1 (nI c) := by
    intro d
    induction d with
    | zero =>
      intro c hc C1 hf hq
      have ec : c = 3125 := by omega
      subst ec
      exact ⟨fun _ => ⟨hf, hq⟩, fun c1 => absurd (by decide) c1⟩
    | succ d ih =>
      intro c hc C1 hf hq
      have skip : hR r c (wN1 r) = false → ∀ C5 : CS, frm [9] C1 C5 → wp_X0_layJoins_j92 (fun C1 => q_X0_layJoins C r C1) (fun C2 i1 => wp_X0_layJoins_l28 (fun C1 => q_X0_layJoins C r C1) (d + 1) C2 i1) C5 (nI c) := by
        intro hh C5 h5 x8 e8
        rw [e8, o1, nI_add]
        refine ih (c + 1) (by omega) C5 ?_ (fun q hq1 => ?_)
        · rw [jn, hh]
          exact hf.tr (h5.mono (by decide))
        · rw [jg, hh, h5.2.2 8 (by decide)]
          exact hq q hq1
      refine ⟨fun c1 => ?_, fun _ => ⟨⟨c, by omega, rfl⟩, fun r6 e6 C5 q5 => ?_⟩⟩
      · rw [show (3125 : Int32) = nI 3125 from rfl, nI_leI (by omega) (by omega)] at c1; omega
      obtain ⟨f5, g5⟩ := q5
      unfold v_X0_isJoin at e6
      rw [cl_k (by omega)] at e6 g5
      have hf5 : frm [8, 9] (wI C 0 9 (nI (jn r c))) C5 := hf.tr (f5.mono (by decide))
      refine ⟨fun c6 => skip (hR_or (fun z => ?_) _) C5 f5, fun c6 => ?_⟩
      · rw [if_pos z] at e6; rw [e6] at c6; exact absurd c6 (by decide)
      have ho : orD c 5 = 31 := by
        by_cases z : orD c 5 = 31
        · exact z
        · rw [if_neg z] at e6; exact absurd e6 c6
      refine ⟨r, c, ⟨tb hf5, ho, g5⟩, fun r10 e10 => ⟨fun c10 => skip ?_ C5 f5, fun c10 C12 e12 => ?_⟩⟩
      · cases hz : hR r c (wN1 r) with
        | false => rfl
        | true => unfold v_X0_holds at e10; rw [hz, if_pos rfl] at e10; rw [e10] at c10; exact absurd c10 (by decide)
      have hh : hR r c (wN1 r) = true := by
        cases hz : hR r c (wN1 r) with
        | true => rfl
        | false => unfold v_X0_holds at e10; rw [hz, if_neg (by decide)] at e10; exact absurd e10 c10
      have e9 : C5.1 0 9 = nI (jn r c) := by rw [hf5.1]; exact wIs
      rw [e9, show (1 : Int32) = nI 1 from rfl, nI_add] at e12
      have hf12 : frm [8, 9] (wI C 0 9 (nI (jn r c + 1))) C12 := by rw [e12]; exact hf5.wI _
      have H3 : ∀ k w, w + k = 5 → ∀ C2 : CS, frm [8, 9] (wI C 0 9 (nI (jn r c + 1))) C2 → (∀ l, l < 5 → C2.2.1 9 l = nI (dig c l)) → (∀ q, q < 25 → C2.2.1 8 q = nI (jg r q c + (if q / 5 < w then (if dig c (q / 5) = q % 5 then 1 else 0) else 0))) → wp_X0_layJoins_l62 (fun C1 => q_X0_layJoins C r C1) (fun C2 i1 => wp_X0_layJoins_l28 (fun C1 => q_X0_layJoins C r C1) (d + 1) C2 i1) (k + 1) C2 (nI c) (nI w) := by
        intro k
        induction k with
        | zero =>
          intro w hw C2 hf2 h9 hq2
          have ew : w = 5 := by omega
          subst ew
          refine ⟨fun _ x8 e8 => ?_, fun c1 => absurd (by decide) c1⟩
          rw [e8, o1, nI_add]
          refine ih (c + 1) (by omega) C2 (by rw [jn, if_pos hh]; exact hf2) (fun q hq1 => by rw [jg, if_pos hh, hq2 q hq1, if_pos (show q / 5 < 5 by omega)])
        | succ k ihk =>
          intro w hw C2 hf2 h9 hq2
          have hd := dig_lt c w
          refine ⟨fun c1 => ?_, fun _ => ⟨vp_k (by omega), ?_⟩⟩
          · rw [show (5 : Int32) = nI 5 from rfl, nI_leI (by omega) (by omega)] at c1; omega
          · rw [cl_k (by omega), h9 w (by omega), ix5]
            refine ⟨vp_k (by omega), fun C16 e16 x17 e17 => ?_⟩
            rw [cl_k (by omega)] at e16
            rw [e17, o1, nI_add]
            refine ihk (w + 1) (by omega) C16 (by rw [e16]; exact hf2.w (by decide)) (fun l hl => by rw [e16, wA_n (by omega)]; exact h9 l hl) (fun q hq1 => ?_)
            rw [e16, wA_row, upd]
            by_cases hqe : q = 5 * w + dig c w
            · rw [if_pos hqe, ← hqe, hq2 q hq1, if_neg (show ¬ q / 5 < w by omega), if_pos (show q / 5 < w + 1 by omega), if_pos (show dig c (q / 5) = q % 5 by rw [show q / 5 = w by omega]; omega), show (1 : Int32) = nI 1 from rfl, nI_add]
            · rw [if_neg hqe, hq2 q hq1]
              by_cases hlt : q / 5 < w
              · rw [if_pos hlt, if_pos (show q / 5 < w + 1 by omega)]
              · rw [if_neg hlt]
                by_cases heq : q / 5 < w + 1
                · rw [if_pos heq, if_neg (show ¬ dig c (q / 5) = q % 5 by
                    intro z
                    rw [show q / 5 = w by omega] at z
                    omega)]
                · rw [if_neg heq]
      refine ⟨_, H3 5 0 (by omega) C12 hf12 (fun l hl => by rw [e12]; exact g5 l hl) (fun q hq1 => ?_)⟩
      rw [if_neg (show ¬ q / 5 < 0 by omega), e12]
      show C5.2.1 8 q = _
      rw [f5.2.2 8 (by decide)]
      exact hq q hq1
  have H1 : ∀ d k, k + d = 25 → ∀ C1 : CS, frm [8, 9] (wI C 0 9 (nI (jn r 0))) C1 → (∀ q, q < k → C1.2.1 8 q = 0) → wp_X0_layJoins_l7 (fun C1 => q_X0_layJoins C r C1) (d + 1) C1 (nI k) := by
    intro d
    induction d with
    | zero =>
      intro k hk C1 hf hq
      have ek : k = 25 := by omega
      subst ek
      exact ⟨fun _ => ⟨_, H2 3125 0 (by omega) C1 hf (fun q hq1 => hq q hq1)⟩, fun c1 => absurd (by decide) c1⟩
    | succ d ih =>
      intro k hk C1 hf hq
      refine ⟨fun c1 => ?_, fun _ => ⟨vp_k (by omega), fun C13 e13 x14 e14 => ?_⟩⟩
      · rw [show (25 : Int32) = nI 25 from rfl, nI_leI (by omega) (by omega)] at c1; omega
      · rw [cl_k (by omega)] at e13
        rw [e14, o1, nI_add]
        refine ih (k + 1) (by omega) C13 (by rw [e13]; exact hf.w (by decide)) (fun q hq1 => ?_)
        rw [e13, wA_row, upd]
        by_cases hqk : q = k
        · rw [if_pos hqk]
        · rw [if_neg hqk]; exact hq q (by omega)
  intro C1 e1
  exact ⟨_, H1 25 0 (by omega) C1 (by rw [e1]; exact frm.rf _ _) (fun q hq => by omega)⟩
theorem mc_X0_layJoins {w : WD} (wk : wOk w) (l : Launch) (C : CS)  (r : (Nat → Int32)) (hp : p_X0_layJoins C r) : MC w l yX0_layJoins cX0_layJoins 3 none 1 0 0 [.ref (ad w 0)] C (pVR (q_X0_layJoins C r)) := MC.postVR (gw_X0_layJoins wk l C  (sp_X0_layJoins C r hp))
/-- what the asking of joins leaves: the joins' own arrays and number -/
def jOp (C C1 : CS) : Prop := ∃ v, frm [8, 9] (wI C 0 9 v) C1
theorem jOp.rf (C : CS) : jOp C C := ⟨C.1 0 9, ⟨by
    show C.1 = up2 C.1 0 9 (C.1 0 9)
    funext a b
    unfold up2
    by_cases h : a = 0 ∧ b = 9
    · rw [if_pos h, h.1, h.2]
    · rw [if_neg h], rfl, fun _ _ => rfl⟩⟩
