/-- what a row of digits gives a left word -/
def dig (c w : Nat) : Nat := c / 5 ^ w % 5
theorem dig_lt (c w : Nat) : dig c w < 5 := Nat.mod_lt _ (by decide)
theorem gives_k {c w : Nat} (hc : c < 2 ^ 31) (hw : w < 5) : v_X3_gives (nI c) (nI w) = nI (dig c w) := by
  have h5 : 5 ^ w < 2 ^ 31 := by
    have : ∀ w, w < 5 → 5 ^ w < 2 ^ 31 := by decide
    exact this w hw
  unfold v_X3_gives rem dig
  rw [cl_k (by omega), pk_div hc (Nat.pow_pos (by decide)) h5, show (5 : Int32) = nI 5 from rfl, pk_rem (Nat.lt_of_le_of_lt (Nat.div_le_self _ _) hc) (by decide) (by decide)]
/-- the digits that are met -/
def orD (c : Nat) : Nat → Nat
  | 0 => 0
  | k + 1 => orD c k ||| 2 ^ dig c k
theorem orD_lt (c : Nat) : ∀ k, orD c k < 32 := by
  intro k
  induction k with
  | zero => exact (by decide : 0 < 32)
  | succ k ih =>
    rw [orD]
    have : ∀ a, a < 32 → ∀ d, d < 5 → a ||| 2 ^ d < 32 := by decide
    exact this _ ih _ (dig_lt c k)
theorem or_i : ∀ a, a < 32 → ∀ d, d < 5 → nI a ||| (1 <<< (nI d &&& 31)) = nI (a ||| 2 ^ d) := by decide +kernel
/-- what was worn, as a number -/
def wn (r : Nat → Int32) (k : Nat) : Nat := (r (6 + k)).toNatClampNeg
/-- all digits differ, and what was worn first holds -/
def hR (r : Nat → Int32) (c : Nat) : Nat → Bool
  | 0 => decide (orD c 5 = 31)
  | k + 1 => hR r c k && decide (dig c (wn r k / 10) = wn r k % 10)
theorem hR_mono {r : Nat → Int32} {c : Nat} : ∀ d k, hR r c k = false → hR r c (k + d) = false := by
  intro d
  induction d with
  | zero => intro k h; exact h
  | succ d ih => intro k h; rw [← Nat.add_assoc, hR, ih k h]; rfl
/-- what was worn can be read -/
def wnOk (r : Nat → Int32) : Prop := ∃ W, r 4 = nI W ∧ W ≤ 10 ∧ ∀ k, k < W → r (6 + k) = nI (wn r k) ∧ wn r k / 10 < 5 ∧ wn r k % 10 < 5
def wN1 (r : Nat → Int32) : Nat := (r 4).toNatClampNeg
theorem cf_X3_holdsJoin : CfV yX3_holdsJoin "TwoGuildsModel" cX3_holdsJoin 5 (some .boolean) 1 := ⟨⟨by decide, by decide, by decide⟩, q75, q1698, q1697, qs60⟩
def p_X3_holdsJoin (C : CS) (a0 : Int32) : Prop := wnOk (C.2.1 36) ∧ ∃ c, c < 3125 ∧ a0 = nI c
def v_X3_holdsJoin (C : CS) (a0 : Int32) : Int32 := if hR (C.2.1 36) a0.toNatClampNeg (wN1 (C.2.1 36)) = true then 1 else 0
def wp_X3_holdsJoin_l40 (Post : Int32 → CS → Prop) : Nat → CS → Int32 → Int32 → Int32 → Prop
  | 0, _, _, _, _ => False
  | n + 1, C, i1, i3, i4 => ((C.2.1 36 4) ≤ i4 → 
  (i3 = 0 ∨ i3 = 1) ∧
    (Post i3 C)) ∧
  (¬ (C.2.1 36 4) ≤ i4 → 
  (i3 = 0 → 
    (i3 = 0 ∨ i3 = 1) ∧
      (Post i3 C)) ∧
    (¬ i3 = 0 → 
    vp_in (6 + i4) 1448 ∧
      (p_X3_gives C i1 ((C.2.1 36 (Int32.toNatClampNeg (6 + i4))) / 10) ∧
      (∀ r7 : Int32, r7 = (v_X3_gives i1 ((C.2.1 36 (Int32.toNatClampNeg (6 + i4))) / 10)) → 
      vp_in (6 + i4) 1448 ∧
      (∀ x10 : Int32, x10 = (if r7 = ((C.2.1 36 (Int32.toNatClampNeg (6 + i4))) - (C.2.1 36 (Int32.toNatClampNeg (6 + i4))) / 10 * 10) then (1 : Int32) else 0) → 
      ∀ x11 : Int32, x11 = (i4 + Int32.ofInt 1) → 
      wp_X3_holdsJoin_l40 Post n C i1 x10 x11)))))
def wp_X3_holdsJoin_l4 (Post : Int32 → CS → Prop) : Nat → CS → Int32 → Int32 → Int32 → Prop
  | 0, _, _, _, _ => False
  | n + 1, C, i1, i2, i3 => (5 ≤ i3 → 
  ∀ x4 : Int32, x4 = (if i2 = 31 then (1 : Int32) else 0) → 
    ∃ m40, wp_X3_holdsJoin_l40 Post m40 C i1 x4 0) ∧
  (¬ 5 ≤ i3 → 
  p_X3_gives C i1 i3 ∧
    (∀ r13 : Int32, r13 = (v_X3_gives i1 i3) → 
    ∀ x14 : Int32, x14 = (i2 ||| (1 <<< (r13 &&& 31))) → 
    ∀ x15 : Int32, x15 = (i3 + Int32.ofInt 1) → 
    wp_X3_holdsJoin_l4 Post n C i1 x14 x15))
def wp_X3_holdsJoin (Post : Int32 → CS → Prop) (C : CS) (a0 : Int32) : Prop :=
  ∃ m4, wp_X3_holdsJoin_l4 Post m4 C a0 0 0
set_option maxHeartbeats 4000000 in
set_option maxRecDepth 100000 in
theorem gw_X3_holdsJoin_l40 {w : WD} {x : Cx} (ok : Ok w x cX3_holdsJoin 5 yX3_holdsJoin.cls (some .boolean) (rmL 1 0 0)) {Post : Int32 → CS → Prop} : ∀ (n : Nat) (C : CS) (i1 : Int32) (i3 : Int32) (i4 : Int32), wp_X3_holdsJoin_l40 Post  n C i1 i3 i4 → G w x 5 0 0 (QM w x (fun v C1 => ∃ r : Int32, v = some (.int r) ∧ Post r C1) 0 0) C 40 [(0, .ref (ad w 1)), (1, .int i1), (3, .int i3), (4, .int i4)] [] := by
  intro n
  induction n with
  | zero => intro C i1 i3 i4 hw; exact hw.elim
  | succ n ih =>
    intro C i1 i3 i4 hw
    unfold wp_X3_holdsJoin_l40 at hw
    refine g_iload ok 3 dX3_holdsJoin_40 rfl ?_
    refine g_aload_n ok 0 dX3_holdsJoin_42 rfl ?_
    refine g_get ok 1 rfl rfl in_X3 0 (by decide) q1359 rfl dX3_holdsJoin_43 ?_
    refine g_iconst (v := 4) ok dX3_holdsJoin_46 (by decide) ?_
    refine g_iald ok 36 rfl (by unfold vp_in; decide) 4 (by decide) dX3_holdsJoin_47 ?_
    refine g_icmp_ge (tgt := 100) ok dX3_holdsJoin_48 (by decide) (fun c5 => ?_) (fun c5 => ?_)
    · have hw := hw.1 c5
      refine g_iload_n ok 2 dX3_holdsJoin_100 rfl ?_
      obtain ⟨hg, hw⟩ := hw
      exact g_zret ok dX3_holdsJoin_101 hg ⟨_, rfl, hw⟩
    · have hw := hw.2 c5
      refine g_iload_n ok 2 dX3_holdsJoin_51 rfl ?_
      refine g_if_eq (tgt := 100) ok dX3_holdsJoin_52 (by decide) (fun c6 => ?_) (fun c6 => ?_)
      · have hw := hw.1 c6
        refine g_iload_n ok 2 dX3_holdsJoin_100 rfl ?_
        obtain ⟨hg, hw⟩ := hw
        exact g_zret ok dX3_holdsJoin_101 hg ⟨_, rfl, hw⟩
      · have hw := hw.2 c6
        refine g_iload_n ok 1 dX3_holdsJoin_55 rfl ?_
        refine g_aload_n ok 0 dX3_holdsJoin_56 rfl ?_
        refine g_get ok 1 rfl rfl in_X3 0 (by decide) q1359 rfl dX3_holdsJoin_57 ?_
        refine g_bipush (v := 6) ok dX3_holdsJoin_60 (by decide) ?_
        refine g_iload ok 3 dX3_holdsJoin_62 rfl ?_
        refine g_iadd ok dX3_holdsJoin_64 ?_
        obtain ⟨hg, hw⟩ := hw
        refine g_iald ok 36 rfl hg _ rfl dX3_holdsJoin_65 ?_
        refine g_bipush (v := 10) ok dX3_holdsJoin_66 (by decide) ?_
        refine g_idiv ok dX3_holdsJoin_68 (by decide) ?_
        obtain ⟨hp, hw⟩ := hw
        refine g_callSI ok [.int i1, .int ((C.2.1 36 (Int32.toNatClampNeg (6 + i4))) / 10)] cf_X3_gives q1699 (mc_X3_gives ok.wo (xL x) C i1 ((C.2.1 36 (Int32.toNatClampNeg (6 + i4))) / 10) hp) rfl rfl (Nat.le_of_ble_eq_true rfl) ⟨by decide, by decide⟩ ⟨by decide, by decide⟩ dX3_holdsJoin_69 ?_
        refine g_nmI (fun r7 er7 => ?_)
        have hw := hw r7 er7
        refine g_aload_n ok 0 dX3_holdsJoin_72 rfl ?_
        refine g_get ok 1 rfl rfl in_X3 0 (by decide) q1359 rfl dX3_holdsJoin_73 ?_
        refine g_bipush (v := 6) ok dX3_holdsJoin_76 (by decide) ?_
        refine g_iload ok 3 dX3_holdsJoin_78 rfl ?_
        refine g_iadd ok dX3_holdsJoin_80 ?_
        obtain ⟨hg, hw⟩ := hw
        refine g_iald ok 36 rfl hg _ rfl dX3_holdsJoin_81 ?_
        refine g_bipush (v := 10) ok dX3_holdsJoin_82 (by decide) ?_
        refine g_irem ok dX3_holdsJoin_84 (by decide) ?_
        have kj9 : ∀ x10 : Int32, x10 = (if r7 = ((C.2.1 36 (Int32.toNatClampNeg (6 + i4))) - (C.2.1 36 (Int32.toNatClampNeg (6 + i4))) / 10 * 10) then (1 : Int32) else 0) → G w x 5 0 0 (QM w x (fun v C1 => ∃ r : Int32, v = some (.int r) ∧ Post r C1) 0 0) C 93 [(0, .ref (ad w 1)), (1, .int i1), (4, .int i4)] [.int x10] := by
          intro x10 ex10
          have hw := hw x10 ex10
          refine g_istore_n0 ok [(3, .int x10), (0, .ref (ad w 1)), (1, .int i1), (4, .int i4)] dX3_holdsJoin_93 (by decide) rfl ?_
          refine g_iinc ok 3 (fun z => [(4, .int z), (3, .int x10), (0, .ref (ad w 1)), (1, .int i1)]) dX3_holdsJoin_94 rfl (by decide) (fun _ => rfl) (fun x11 ex11 => ?_)
          have hw := hw x11 ex11
          refine g_goto (tgt := 40) ok dX3_holdsJoin_97 (by decide) ?_
          refine g_sub [2, 3, 1, 0] [(0, .ref (ad w 1)), (1, .int i1), (3, .int x10), (4, .int x11)] rfl ?_
          exact ih C i1 x10 x11 hw
        refine g_icmp_ne (tgt := 92) ok dX3_holdsJoin_85 (by decide) (fun c8 => ?_) (fun c8 => ?_)
        · refine g_iconst (v := 0) ok dX3_holdsJoin_92 (by decide) ?_
          exact g_sub [0, 1, 3] [(0, .ref (ad w 1)), (1, .int i1), (4, .int i4)] rfl (kj9 _ (by simp only [if_neg c8]))
        · refine g_iconst (v := 1) ok dX3_holdsJoin_88 (by decide) ?_
          refine g_goto (tgt := 93) ok dX3_holdsJoin_89 (by decide) ?_
          exact g_sub [0, 1, 3] [(0, .ref (ad w 1)), (1, .int i1), (4, .int i4)] rfl (kj9 _ (by simp only [if_pos c8]))
set_option maxHeartbeats 4000000 in
set_option maxRecDepth 100000 in
theorem gw_X3_holdsJoin_l4 {w : WD} {x : Cx} (ok : Ok w x cX3_holdsJoin 5 yX3_holdsJoin.cls (some .boolean) (rmL 1 0 0)) {Post : Int32 → CS → Prop} : ∀ (n : Nat) (C : CS) (i1 : Int32) (i2 : Int32) (i3 : Int32), wp_X3_holdsJoin_l4 Post  n C i1 i2 i3 → G w x 5 0 0 (QM w x (fun v C1 => ∃ r : Int32, v = some (.int r) ∧ Post r C1) 0 0) C 4 [(0, .ref (ad w 1)), (1, .int i1), (2, .int i2), (3, .int i3)] [] := by
  intro n
  induction n with
  | zero => intro C i1 i2 i3 hw; exact hw.elim
  | succ n ih =>
    intro C i1 i2 i3 hw
    unfold wp_X3_holdsJoin_l4 at hw
    refine g_iload_n ok 3 dX3_holdsJoin_4 rfl ?_
    refine g_iconst (v := 5) ok dX3_holdsJoin_5 (by decide) ?_
    refine g_icmp_ge (tgt := 25) ok dX3_holdsJoin_6 (by decide) (fun c1 => ?_) (fun c1 => ?_)
    · have hw := hw.1 c1
      refine g_iload_n ok 2 dX3_holdsJoin_25 rfl ?_
      refine g_bipush (v := 31) ok dX3_holdsJoin_26 (by decide) ?_
      have kj3 : ∀ x4 : Int32, x4 = (if i2 = 31 then (1 : Int32) else 0) → G w x 5 0 0 (QM w x (fun v C1 => ∃ r : Int32, v = some (.int r) ∧ Post r C1) 0 0) C 36 [(0, .ref (ad w 1)), (1, .int i1)] [.int x4] := by
        intro x4 ex4
        have hw := hw x4 ex4
        refine g_istore_n0 ok [(3, .int x4), (0, .ref (ad w 1)), (1, .int i1)] dX3_holdsJoin_36 (by decide) rfl ?_
        refine g_iconst (v := 0) ok dX3_holdsJoin_37 (by decide) ?_
        refine g_istore0 ok [(4, .int 0), (3, .int x4), (0, .ref (ad w 1)), (1, .int i1)] dX3_holdsJoin_38 (by decide) rfl ?_
        refine g_sub [2, 3, 1, 0] [(0, .ref (ad w 1)), (1, .int i1), (3, .int x4), (4, .int 0)] rfl ?_
        obtain ⟨n12, hw⟩ := hw
        exact gw_X3_holdsJoin_l40 ok n12 C i1 x4 0 hw
      refine g_icmp_ne (tgt := 35) ok dX3_holdsJoin_28 (by decide) (fun c2 => ?_) (fun c2 => ?_)
      · refine g_iconst (v := 0) ok dX3_holdsJoin_35 (by decide) ?_
        exact g_sub [0, 1] [(0, .ref (ad w 1)), (1, .int i1)] rfl (kj3 _ (by simp only [if_neg c2]))
      · refine g_iconst (v := 1) ok dX3_holdsJoin_31 (by decide) ?_
        refine g_goto (tgt := 36) ok dX3_holdsJoin_32 (by decide) ?_
        exact g_sub [0, 1] [(0, .ref (ad w 1)), (1, .int i1)] rfl (kj3 _ (by simp only [if_pos c2]))
    · have hw := hw.2 c1
      refine g_iload_n ok 2 dX3_holdsJoin_9 rfl ?_
      refine g_iconst (v := 1) ok dX3_holdsJoin_10 (by decide) ?_
      refine g_iload_n ok 1 dX3_holdsJoin_11 rfl ?_
      refine g_iload_n ok 3 dX3_holdsJoin_12 rfl ?_
      obtain ⟨hp, hw⟩ := hw
      refine g_callSI ok [.int i1, .int i3] cf_X3_gives q1699 (mc_X3_gives ok.wo (xL x) C i1 i3 hp) rfl rfl (Nat.le_of_ble_eq_true rfl) ⟨by decide, by decide⟩ ⟨by decide, by decide⟩ dX3_holdsJoin_13 ?_
      refine g_nmI (fun r13 er13 => ?_)
      have hw := hw r13 er13
      refine g_ishl ok dX3_holdsJoin_16 ?_
      refine g_ior ok dX3_holdsJoin_17 ?_
      refine g_istore_n ok (fun z => [(2, .int z), (0, .ref (ad w 1)), (1, .int i1), (3, .int i3)]) dX3_holdsJoin_18 (by decide) (fun _ => rfl) (fun x14 ex14 => ?_)
      have hw := hw x14 ex14
      refine g_iinc ok 3 (fun z => [(3, .int z), (2, .int x14), (0, .ref (ad w 1)), (1, .int i1)]) dX3_holdsJoin_19 rfl (by decide) (fun _ => rfl) (fun x15 ex15 => ?_)
      have hw := hw x15 ex15
      refine g_goto (tgt := 4) ok dX3_holdsJoin_22 (by decide) ?_
      refine g_sub [2, 3, 1, 0] [(0, .ref (ad w 1)), (1, .int i1), (2, .int x14), (3, .int x15)] rfl ?_
      exact ih C i1 x14 x15 hw
set_option maxHeartbeats 4000000 in
set_option maxRecDepth 100000 in
theorem gw_X3_holdsJoin {w : WD} (wk : wOk w) (l : Launch) (C : CS) (a0 : Int32) {Post : Int32 → CS → Prop} (hw : wp_X3_holdsJoin Post C a0) : MC w l yX3_holdsJoin cX3_holdsJoin 5 (some .boolean) 1 0 0 [.ref (ad w 1), .int a0] C (fun v C1 => ∃ r : Int32, v = some (.int r) ∧ Post r C1) := by
  unfold wp_X3_holdsJoin at hw
  refine MC.of wk (by decide) (Nat.le_of_ble_eq_true rfl) (fun x hx ok => ?_)
  subst hx
  show G w x 5 0 0 (QM w x _ 0 0) C 0 [(0, .ref (ad w 1)), (1, .int a0)] []
  refine g_iconst (v := 0) ok dX3_holdsJoin_0 (by decide) ?_
  refine g_istore_n0 ok [(2, .int 0), (0, .ref (ad w 1)), (1, .int a0)] dX3_holdsJoin_1 (by decide) rfl ?_
  refine g_iconst (v := 0) ok dX3_holdsJoin_2 (by decide) ?_
  refine g_istore_n0 ok [(3, .int 0), (2, .int 0), (0, .ref (ad w 1)), (1, .int a0)] dX3_holdsJoin_3 (by decide) rfl ?_
  refine g_sub [2, 3, 1, 0] [(0, .ref (ad w 1)), (1, .int a0), (2, .int 0), (3, .int 0)] rfl ?_
  obtain ⟨n16, hw⟩ := hw
  exact gw_X3_holdsJoin_l4 ok n16 C a0 0 0 hw
theorem sp_X3_holdsJoin (C : CS) (a0 : Int32) (hp : p_X3_holdsJoin C a0) : wp_X3_holdsJoin (fun r C1 => r = v_X3_holdsJoin C a0 ∧ C1 = C) C a0 := by
  obtain ⟨⟨W, e, hW, hk⟩, c, hc, rfl⟩ := hp
  have hv : v_X3_holdsJoin C (nI c) = if hR (C.2.1 36) c W = true then 1 else 0 := by unfold v_X3_holdsJoin wN1; rw [cl_k (by omega), e, cl_k (by omega)]
  have H2 : ∀ d k, k + d = W → wp_X3_holdsJoin_l40 (fun r C1 => r = v_X3_holdsJoin C (nI c) ∧ C1 = C) (d + 1) C (nI c) (if hR (C.2.1 36) c k = true then 1 else 0) (nI k) := by
    intro d
    induction d with
    | zero =>
      intro k hk1
      have ek : k = W := by omega
      subst ek
      refine ⟨fun _ => ⟨ib_ite (Or.inr rfl) (Or.inl rfl), hv.symm, rfl⟩, fun c1 => absurd ?_ c1⟩
      rw [e, nI_leI (by omega) (by omega)]; omega
    | succ d ih =>
      intro k hk1
      obtain ⟨w1, w2, w3⟩ := hk k (by omega)
      refine ⟨fun c1 => ?_, fun _ => ⟨fun c1 => ⟨ib_ite (Or.inr rfl) (Or.inl rfl), ?_, rfl⟩, fun c1 => ?_⟩⟩
      · rw [e, nI_leI (by omega) (by omega)] at c1; omega
      · have hf : hR (C.2.1 36) c k = false := by
          cases hh : hR (C.2.1 36) c k with
          | false => rfl
          | true => rw [hh, if_pos rfl] at c1; exact absurd c1 (by decide)
        rw [hv, ← hk1, hR_mono (d + 1) k hf, hf]
      · have ht : hR (C.2.1 36) c k = true := by
          cases hh : hR (C.2.1 36) c k with
          | true => rfl
          | false => rw [hh, if_neg (by decide)] at c1; exact absurd rfl c1
        have i6 : (6 + nI k : Int32) = nI (6 + k) := by rw [show (6 : Int32) = nI 6 from rfl, nI_add]
        have hwn : wn (C.2.1 36) k < 100 := by omega
        have d1 : C.2.1 36 (6 + k) / 10 = nI (wn (C.2.1 36) k / 10) := by rw [w1, show (10 : Int32) = nI 10 from rfl, pk_div (by omega) (by decide) (by decide)]
        have d2 : C.2.1 36 (6 + k) - C.2.1 36 (6 + k) / 10 * 10 = nI (wn (C.2.1 36) k % 10) := by rw [w1, show (10 : Int32) = nI 10 from rfl, pk_rem (by omega) (by decide) (by decide)]
        rw [i6, cl_k (by omega)]
        refine ⟨vp_k (by omega), ⟨_, w2, d1⟩, fun r7 e7 => ⟨vp_k (by omega), fun x10 e10 x11 e11 => ?_⟩⟩
        rw [d1, gives_k (by omega) w2] at e7
        have hz : (nI (dig c (wn (C.2.1 36) k / 10)) = nI (wn (C.2.1 36) k % 10)) ↔ dig c (wn (C.2.1 36) k / 10) = wn (C.2.1 36) k % 10 := nI_eq (by have := dig_lt c (wn (C.2.1 36) k / 10); omega) (by omega)
        rw [d2, e7] at e10
        rw [e11, o1, nI_add]
        have h3 := ih (k + 1) (by omega)
        have e3 : (if hR (C.2.1 36) c (k + 1) = true then (1 : Int32) else 0) = x10 := by
          rw [hR, ht, e10]
          by_cases hd : dig c (wn (C.2.1 36) k / 10) = wn (C.2.1 36) k % 10
          · rw [if_pos (hz.mpr hd)]; simp [hd]
          · rw [if_neg (fun z => hd (hz.mp z))]; simp [hd]
        rw [e3] at h3
        exact h3
  have H1 : ∀ d k, k + d = 5 → wp_X3_holdsJoin_l4 (fun r C1 => r = v_X3_holdsJoin C (nI c) ∧ C1 = C) (d + 1) C (nI c) (nI (orD c k)) (nI k) := by
    intro d
    induction d with
    | zero =>
      intro k hk1
      have ek : k = 5 := by omega
      subst ek
      refine ⟨fun _ x4 e4 => ⟨W + 1, ?_⟩, fun c1 => absurd (by decide) c1⟩
      have h2 := H2 W 0 (by omega)
      have e3 : (if hR (C.2.1 36) c 0 = true then (1 : Int32) else 0) = x4 := by
        have := orD_lt c 5
        have hz : (nI (orD c 5) = 31) ↔ orD c 5 = 31 := by rw [show (31 : Int32) = nI 31 from rfl]; exact nI_eq (by omega) (by omega)
        rw [e4, hR]
        by_cases h : orD c 5 = 31
        · rw [if_pos (hz.mpr h)]; simp [h]
        · rw [if_neg (fun z => h (hz.mp z))]; simp [h]
      rw [e3] at h2
      exact h2
    | succ d ih =>
      intro k hk1
      refine ⟨fun c1 => ?_, fun _ => ⟨⟨k, by omega, rfl⟩, fun r13 e13 x14 e14 x15 e15 => ?_⟩⟩
      · rw [show (5 : Int32) = nI 5 from rfl, nI_leI (by omega) (by omega)] at c1; omega
      · rw [gives_k (by omega) (by omega)] at e13
        rw [e13, or_i _ (orD_lt c k) _ (dig_lt c k)] at e14
        rw [e15, o1, nI_add, e14]
        exact ih (k + 1) (by omega)
  exact ⟨6, H1 5 0 (by omega)⟩
theorem mc_X3_holdsJoin {w : WD} (wk : wOk w) (l : Launch) (C : CS) (a0 : Int32) (hp : p_X3_holdsJoin C a0) : MC w l yX3_holdsJoin cX3_holdsJoin 5 (some .boolean) 1 0 0 [.ref (ad w 1), .int a0] C (pI (v_X3_holdsJoin C a0) C) := MC.postI (gw_X3_holdsJoin wk l C a0 (sp_X3_holdsJoin C a0 hp))
/-- how many joins below c hold -/
def jn (r : Nat → Int32) : Nat → Nat
  | 0 => 0
  | c + 1 => jn r c + (if hR r c (wN1 r) = true then 1 else 0)
/-- how many of them give the word q / 5 the word q % 5 -/
def jg (r : Nat → Int32) (q : Nat) : Nat → Nat
  | 0 => 0
  | c + 1 => jg r q c + (if hR r c (wN1 r) = true then (if dig c (q / 5) = q % 5 then 1 else 0) else 0)
theorem jn_le (r : Nat → Int32) : ∀ c, jn r c ≤ c := by
  intro c
  induction c with
  | zero => exact Nat.le_refl _
  | succ c ih => rw [jn]; split <;> omega
theorem jg_le (r : Nat → Int32) (q : Nat) : ∀ c, jg r q c ≤ jn r c := by
  intro c
  induction c with
  | zero => exact Nat.le_refl _
  | succ c ih =>
    rw [jn, jg]
    split
    · split <;> omega
    · omega
theorem ix5 (a b : Nat) : (5 * nI a + nI b : Int32) = nI (5 * a + b) := by rw [show (5 : Int32) = nI 5 from rfl, pk_mul, nI_add]
theorem cf_X3_findJoins : CfV yX3_findJoins "TwoGuildsModel" cX3_findJoins 4 (some .int) 0 := ⟨⟨by decide, by decide, by decide⟩, q75, q1694, q1693, qs59⟩
def p_X3_findJoins (C : CS) : Prop := wnOk (C.2.1 36)
def v_X3_findJoins (C : CS) : Int32 := nI (jn (C.2.1 36) 3125)
def q_X3_findJoins (C : CS) (C1 : CS) : Prop := frm [42] C C1 ∧ ∀ q, q < 25 → C1.2.1 42 q = nI (jg (C.2.1 36) q 3125)
def wp_X3_findJoins_j74 (Post : Int32 → CS → Prop) (R25 : CS → Int32 → Int32 → Prop) (C : CS) (i1 : Int32) (i2 : Int32) : Prop := ∀ x5 : Int32, x5 = (i2 + Int32.ofInt 1) → 
  R25 C i1 x5
def wp_X3_findJoins_l45 (Post : Int32 → CS → Prop) (R25 : CS → Int32 → Int32 → Prop) : Nat → CS → Int32 → Int32 → Int32 → Prop
  | 0, _, _, _, _ => False
  | n + 1, C, i1, i2, i3 => (5 ≤ i3 → 
  wp_X3_findJoins_j74 Post R25 C i1 i2) ∧
  (¬ 5 ≤ i3 → 
  p_X3_gives C i2 i3 ∧
    (∀ r8 : Int32, r8 = (v_X3_gives i2 i3) → 
    vp_in ((5 * i3) + r8) 25 ∧
    (vp_in ((5 * i3) + r8) 25 ∧
    (∀ C9 : CS, C9 = (wA C 42 (Int32.toNatClampNeg ((5 * i3) + r8)) ((C.2.1 42 (Int32.toNatClampNeg ((5 * i3) + r8))) + 1)) → 
    ∀ x10 : Int32, x10 = (i3 + Int32.ofInt 1) → 
    wp_X3_findJoins_l45 Post R25 n C9 i1 i2 x10))))
def wp_X3_findJoins_l25 (Post : Int32 → CS → Prop) : Nat → CS → Int32 → Int32 → Prop
  | 0, _, _, _ => False
  | n + 1, C, i1, i2 => (3125 ≤ i2 → 
  Post i1 C) ∧
  (¬ 3125 ≤ i2 → 
  p_X3_holdsJoin C i2 ∧
    (∀ r3 : Int32, r3 = (v_X3_holdsJoin C i2) → 
    (r3 = 0 → 
    wp_X3_findJoins_j74 Post (fun C i1 i2 => wp_X3_findJoins_l25 Post n C i1 i2) C i1 i2) ∧
    (¬ r3 = 0 → 
    ∀ x6 : Int32, x6 = (i1 + Int32.ofInt 1) → 
      ∃ m45, wp_X3_findJoins_l45 Post (fun C i1 i2 => wp_X3_findJoins_l25 Post n C i1 i2) m45 C x6 i2 0)))
def wp_X3_findJoins_l2 (Post : Int32 → CS → Prop) : Nat → CS → Int32 → Prop
  | 0, _, _ => False
  | n + 1, C, i1 => (25 ≤ i1 → 
  ∃ m25, wp_X3_findJoins_l25 Post m25 C 0 0) ∧
  (¬ 25 ≤ i1 → 
  vp_in i1 25 ∧
    (∀ C13 : CS, C13 = (wA C 42 (Int32.toNatClampNeg i1) 0) → 
    ∀ x14 : Int32, x14 = (i1 + Int32.ofInt 1) → 
    wp_X3_findJoins_l2 Post n C13 x14))
def wp_X3_findJoins (Post : Int32 → CS → Prop) (C : CS)  : Prop :=
  ∃ m2, wp_X3_findJoins_l2 Post m2 C 0
set_option maxHeartbeats 4000000 in
set_option maxRecDepth 100000 in
theorem gw_X3_findJoins_j74 {w : WD} {x : Cx} (ok : Ok w x cX3_findJoins 4 yX3_findJoins.cls (some .int) (rmL 2 0 0)) {Post : Int32 → CS → Prop} {R25 : CS → Int32 → Int32 → Prop} (hR25 : ∀ C (i1 : Int32) (i2 : Int32), R25 C i1 i2 → G w x 4 0 0 (QM w x (fun v C1 => ∃ r : Int32, v = some (.int r) ∧ Post r C1) 0 0) C 25 [(0, .ref (ad w 1)), (1, .int i1), (2, .int i2)] []) : ∀ (C : CS) (i1 : Int32) (i2 : Int32), wp_X3_findJoins_j74 Post R25 C i1 i2 → G w x 4 0 0 (QM w x (fun v C1 => ∃ r : Int32, v = some (.int r) ∧ Post r C1) 0 0) C 74 [(0, .ref (ad w 1)), (1, .int i1), (2, .int i2)] [] := by
  intro C i1 i2 hw
  unfold wp_X3_findJoins_j74 at hw
  refine g_iinc ok 2 (fun z => [(2, .int z), (0, .ref (ad w 1)), (1, .int i1)]) dX3_findJoins_74 rfl (by decide) (fun _ => rfl) (fun x5 ex5 => ?_)
  have hw := hw x5 ex5
  refine g_goto (tgt := 25) ok dX3_findJoins_77 (by decide) ?_
  refine g_sub [1, 2, 0] [(0, .ref (ad w 1)), (1, .int i1), (2, .int x5)] rfl ?_
  exact hR25 C i1 x5 hw
set_option maxHeartbeats 4000000 in
set_option maxRecDepth 100000 in
theorem gw_X3_findJoins_l45 {w : WD} {x : Cx} (ok : Ok w x cX3_findJoins 4 yX3_findJoins.cls (some .int) (rmL 2 0 0)) {Post : Int32 → CS → Prop} {R25 : CS → Int32 → Int32 → Prop} (hR25 : ∀ C (i1 : Int32) (i2 : Int32), R25 C i1 i2 → G w x 4 0 0 (QM w x (fun v C1 => ∃ r : Int32, v = some (.int r) ∧ Post r C1) 0 0) C 25 [(0, .ref (ad w 1)), (1, .int i1), (2, .int i2)] []) : ∀ (n : Nat) (C : CS) (i1 : Int32) (i2 : Int32) (i3 : Int32), wp_X3_findJoins_l45 Post R25 n C i1 i2 i3 → G w x 4 0 0 (QM w x (fun v C1 => ∃ r : Int32, v = some (.int r) ∧ Post r C1) 0 0) C 45 [(0, .ref (ad w 1)), (1, .int i1), (2, .int i2), (3, .int i3)] [] := by
  intro n
  induction n with
  | zero => intro C i1 i2 i3 hw; exact hw.elim
  | succ n ih =>
    intro C i1 i2 i3 hw
    unfold wp_X3_findJoins_l45 at hw
    refine g_iload_n ok 3 dX3_findJoins_45 rfl ?_
    refine g_iconst (v := 5) ok dX3_findJoins_46 (by decide) ?_
    refine g_icmp_ge (tgt := 74) ok dX3_findJoins_47 (by decide) (fun c7 => ?_) (fun c7 => ?_)
    · have hw := hw.1 c7
      refine g_sub [0, 1, 2] [(0, .ref (ad w 1)), (1, .int i1), (2, .int i2)] rfl ?_
      exact gw_X3_findJoins_j74 ok hR25 C i1 i2 hw
    · have hw := hw.2 c7
      refine g_aload_n ok 0 dX3_findJoins_50 rfl ?_
      refine g_get ok 1 rfl rfl in_X3 7 (by decide) q1366 rfl dX3_findJoins_51 ?_
      refine g_iconst (v := 5) ok dX3_findJoins_54 (by decide) ?_
      refine g_iload_n ok 3 dX3_findJoins_55 rfl ?_
      refine g_imul ok dX3_findJoins_56 ?_
      refine g_iload_n ok 2 dX3_findJoins_57 rfl ?_
      refine g_iload_n ok 3 dX3_findJoins_58 rfl ?_
      obtain ⟨hp, hw⟩ := hw
      refine g_callSI ok [.int i2, .int i3] cf_X3_gives q1699 (mc_X3_gives ok.wo (xL x) C i2 i3 hp) rfl rfl (Nat.le_of_ble_eq_true rfl) ⟨by decide, by decide⟩ ⟨by decide, by decide⟩ dX3_findJoins_59 ?_
      refine g_nmI (fun r8 er8 => ?_)
      have hw := hw r8 er8
      refine g_iadd ok dX3_findJoins_62 ?_
      refine g_dup2 ok dX3_findJoins_63 rfl rfl ?_
      obtain ⟨hg, hw⟩ := hw
      refine g_iald ok 42 rfl hg _ rfl dX3_findJoins_64 ?_
      refine g_iconst (v := 1) ok dX3_findJoins_65 (by decide) ?_
      refine g_iadd ok dX3_findJoins_66 ?_
      obtain ⟨hg, hw⟩ := hw
      refine g_iast ok 42 rfl hg _ rfl dX3_findJoins_67 (fun C9 eC9 => ?_)
      have hw := hw C9 eC9
      refine g_iinc ok 3 (fun z => [(3, .int z), (0, .ref (ad w 1)), (1, .int i1), (2, .int i2)]) dX3_findJoins_68 rfl (by decide) (fun _ => rfl) (fun x10 ex10 => ?_)
      have hw := hw x10 ex10
      refine g_goto (tgt := 45) ok dX3_findJoins_71 (by decide) ?_
      refine g_sub [1, 2, 3, 0] [(0, .ref (ad w 1)), (1, .int i1), (2, .int i2), (3, .int x10)] rfl ?_
      exact ih C9 i1 i2 x10 hw
set_option maxHeartbeats 4000000 in
set_option maxRecDepth 100000 in
theorem gw_X3_findJoins_l25 {w : WD} {x : Cx} (ok : Ok w x cX3_findJoins 4 yX3_findJoins.cls (some .int) (rmL 2 0 0)) {Post : Int32 → CS → Prop} : ∀ (n : Nat) (C : CS) (i1 : Int32) (i2 : Int32), wp_X3_findJoins_l25 Post  n C i1 i2 → G w x 4 0 0 (QM w x (fun v C1 => ∃ r : Int32, v = some (.int r) ∧ Post r C1) 0 0) C 25 [(0, .ref (ad w 1)), (1, .int i1), (2, .int i2)] [] := by
  intro n
  induction n with
  | zero => intro C i1 i2 hw; exact hw.elim
  | succ n ih =>
    intro C i1 i2 hw
    unfold wp_X3_findJoins_l25 at hw
    refine g_iload_n ok 2 dX3_findJoins_25 rfl ?_
    refine g_sipush (v := 3125) ok dX3_findJoins_26 (by decide) ?_
    refine g_icmp_ge (tgt := 80) ok dX3_findJoins_29 (by decide) (fun c2 => ?_) (fun c2 => ?_)
    · have hw := hw.1 c2
      refine g_iload_n ok 1 dX3_findJoins_80 rfl ?_
      exact g_iret ok dX3_findJoins_81 ⟨_, rfl, hw⟩
    · have hw := hw.2 c2
      refine g_aload_n ok 0 dX3_findJoins_32 rfl ?_
      refine g_iload_n ok 2 dX3_findJoins_33 rfl ?_
      obtain ⟨hp, hw⟩ := hw
      refine g_callVI ok [.int i2] cf_X3_holdsJoin q1695 (mc_X3_holdsJoin ok.wo (xL x) C i2 hp) (recvF ok 1 rfl rfl) rfl rfl (Nat.le_of_ble_eq_true rfl) ⟨by decide, by decide⟩ ⟨by decide, by decide⟩ dX3_findJoins_34 ?_
      refine g_nmI (fun r3 er3 => ?_)
      have hw := hw r3 er3
      refine g_if_eq (tgt := 74) ok dX3_findJoins_37 (by decide) (fun c4 => ?_) (fun c4 => ?_)
      · have hw := hw.1 c4
        exact gw_X3_findJoins_j74 ok (fun C i1 i2 hw => ih C i1 i2 hw) C i1 i2 hw
      · have hw := hw.2 c4
        refine g_iinc ok 1 (fun z => [(1, .int z), (0, .ref (ad w 1)), (2, .int i2)]) dX3_findJoins_40 rfl (by decide) (fun _ => rfl) (fun x6 ex6 => ?_)
        have hw := hw x6 ex6
        refine g_iconst (v := 0) ok dX3_findJoins_43 (by decide) ?_
        refine g_istore_n0 ok [(3, .int 0), (1, .int x6), (0, .ref (ad w 1)), (2, .int i2)] dX3_findJoins_44 (by decide) rfl ?_
        refine g_sub [2, 1, 3, 0] [(0, .ref (ad w 1)), (1, .int x6), (2, .int i2), (3, .int 0)] rfl ?_
        obtain ⟨n11, hw⟩ := hw
        exact gw_X3_findJoins_l45 ok (fun C i1 i2 hw => ih C i1 i2 hw) n11 C x6 i2 0 hw
set_option maxHeartbeats 4000000 in
set_option maxRecDepth 100000 in
theorem gw_X3_findJoins_l2 {w : WD} {x : Cx} (ok : Ok w x cX3_findJoins 4 yX3_findJoins.cls (some .int) (rmL 2 0 0)) {Post : Int32 → CS → Prop} : ∀ (n : Nat) (C : CS) (i1 : Int32), wp_X3_findJoins_l2 Post  n C i1 → G w x 4 0 0 (QM w x (fun v C1 => ∃ r : Int32, v = some (.int r) ∧ Post r C1) 0 0) C 2 [(0, .ref (ad w 1)), (1, .int i1)] [] := by
  intro n
  induction n with
  | zero => intro C i1 hw; exact hw.elim
  | succ n ih =>
    intro C i1 hw
    unfold wp_X3_findJoins_l2 at hw
    refine g_iload_n ok 1 dX3_findJoins_2 rfl ?_
    refine g_bipush (v := 25) ok dX3_findJoins_3 (by decide) ?_
    refine g_icmp_ge (tgt := 21) ok dX3_findJoins_5 (by decide) (fun c1 => ?_) (fun c1 => ?_)
    · have hw := hw.1 c1
      refine g_iconst (v := 0) ok dX3_findJoins_21 (by decide) ?_
      refine g_istore_n0 ok [(1, .int 0), (0, .ref (ad w 1))] dX3_findJoins_22 (by decide) rfl ?_
      refine g_iconst (v := 0) ok dX3_findJoins_23 (by decide) ?_
      refine g_istore_n0 ok [(2, .int 0), (1, .int 0), (0, .ref (ad w 1))] dX3_findJoins_24 (by decide) rfl ?_
      refine g_sub [2, 1, 0] [(0, .ref (ad w 1)), (1, .int 0), (2, .int 0)] rfl ?_
      obtain ⟨n12, hw⟩ := hw
      exact gw_X3_findJoins_l25 ok n12 C 0 0 hw
    · have hw := hw.2 c1
      refine g_aload_n ok 0 dX3_findJoins_8 rfl ?_
      refine g_get ok 1 rfl rfl in_X3 7 (by decide) q1366 rfl dX3_findJoins_9 ?_
      refine g_iload_n ok 1 dX3_findJoins_12 rfl ?_
      refine g_iconst (v := 0) ok dX3_findJoins_13 (by decide) ?_
      obtain ⟨hg, hw⟩ := hw
      refine g_iast ok 42 rfl hg _ rfl dX3_findJoins_14 (fun C13 eC13 => ?_)
      have hw := hw C13 eC13
      refine g_iinc ok 1 (fun z => [(1, .int z), (0, .ref (ad w 1))]) dX3_findJoins_15 rfl (by decide) (fun _ => rfl) (fun x14 ex14 => ?_)
      have hw := hw x14 ex14
      refine g_goto (tgt := 2) ok dX3_findJoins_18 (by decide) ?_
      refine g_sub [1, 0] [(0, .ref (ad w 1)), (1, .int x14)] rfl ?_
      exact ih C13 x14 hw
set_option maxHeartbeats 4000000 in
set_option maxRecDepth 100000 in
theorem gw_X3_findJoins {w : WD} (wk : wOk w) (l : Launch) (C : CS)  {Post : Int32 → CS → Prop} (hw : wp_X3_findJoins Post C ) : MC w l yX3_findJoins cX3_findJoins 4 (some .int) 2 0 0 [.ref (ad w 1)] C (fun v C1 => ∃ r : Int32, v = some (.int r) ∧ Post r C1) := by
  unfold wp_X3_findJoins at hw
  refine MC.of wk (by decide) (Nat.le_of_ble_eq_true rfl) (fun x hx ok => ?_)
  subst hx
  show G w x 4 0 0 (QM w x _ 0 0) C 0 [(0, .ref (ad w 1))] []
  refine g_iconst (v := 0) ok dX3_findJoins_0 (by decide) ?_
  refine g_istore_n0 ok [(1, .int 0), (0, .ref (ad w 1))] dX3_findJoins_1 (by decide) rfl ?_
  refine g_sub [1, 0] [(0, .ref (ad w 1)), (1, .int 0)] rfl ?_
  obtain ⟨n15, hw⟩ := hw
  exact gw_X3_findJoins_l2 ok n15 C 0 hw
theorem sp_X3_findJoins (C : CS) (hp : p_X3_findJoins C) : wp_X3_findJoins (fun r C1 => r = v_X3_findJoins C ∧ q_X3_findJoins C C1) C := by
  have hp' : wnOk (C.2.1 36) := hp
  have H2 : ∀ d c, c + d = 3125 → ∀ C1 : CS, frm [42] C C1 → (∀ q, q < 25 → C1.2.1 42 q = nI (jg (C.2.1 36) q c)) → wp_X3_findJoins_l25 (fun r C1 => r = v_X3_findJoins C ∧ q_X3_findJoins C C1) (d + 1) C1 (nI (jn (C.2.1 36) c)) (nI c) := by
    intro d
    induction d with
    | zero =>
      intro c hc C1 hf hq
      have ec : c = 3125 := by omega
      subst ec
      exact ⟨fun _ => ⟨rfl, hf, hq⟩, fun c1 => absurd (by decide) c1⟩
    | succ d ih =>
      intro c hc C1 hf hq
      have h36 : C1.2.1 36 = C.2.1 36 := hf.2.2 36 (by decide)
      refine ⟨fun c1 => ?_, fun _ => ⟨⟨by rw [h36]; exact hp', c, by omega, rfl⟩, fun r3 e3 => ⟨fun c3 x5 e5 => ?_, fun c3 x6 e6 => ?_⟩⟩⟩
      · rw [show (3125 : Int32) = nI 3125 from rfl, nI_leI (by omega) (by omega)] at c1; omega
      all_goals unfold v_X3_holdsJoin at e3
      all_goals rw [h36, cl_k (by omega)] at e3
      · have hh : ¬ hR (C.2.1 36) c (wN1 (C.2.1 36)) = true := by
          intro z
          rw [if_pos z] at e3
          rw [e3] at c3
          exact absurd c3 (by decide)
        rw [e5, o1, nI_add]
        have h3 := ih (c + 1) (by omega) C1 hf (fun q hq1 => by rw [jg, if_neg hh]; exact hq q hq1)
        rw [jn, if_neg hh] at h3
        exact h3
      · have hh : hR (C.2.1 36) c (wN1 (C.2.1 36)) = true := by
          cases hz : hR (C.2.1 36) c (wN1 (C.2.1 36)) with
          | true => rfl
          | false => rw [hz, if_neg (by decide)] at e3; exact absurd e3 c3
        rw [e6, o1, nI_add]
        have H3 : ∀ k w, w + k = 5 → ∀ C2 : CS, frm [42] C C2 → (∀ q, q < 25 → C2.2.1 42 q = nI (jg (C.2.1 36) q c + (if q / 5 < w then (if dig c (q / 5) = q % 5 then 1 else 0) else 0))) → wp_X3_findJoins_l45 (fun r C1 => r = v_X3_findJoins C ∧ q_X3_findJoins C C1) (fun D i1 i2 => wp_X3_findJoins_l25 (fun r C1 => r = v_X3_findJoins C ∧ q_X3_findJoins C C1) (d + 1) D i1 i2) (k + 1) C2 (nI (jn (C.2.1 36) c + 1)) (nI c) (nI w) := by
          intro k
          induction k with
          | zero =>
            intro w hw C2 hf2 hq2
            have ew : w = 5 := by omega
            subst ew
            refine ⟨fun _ x5 e5 => ?_, fun c1 => absurd (by decide) c1⟩
            rw [e5, o1, nI_add]
            have h3 := ih (c + 1) (by omega) C2 hf2 (fun q hq1 => by rw [jg, if_pos hh, hq2 q hq1, if_pos (show q / 5 < 5 by omega)])
            rw [jn, if_pos hh] at h3
            exact h3
          | succ k ihk =>
            intro w hw C2 hf2 hq2
            have hd := dig_lt c w
            refine ⟨fun c1 => ?_, fun _ => ⟨⟨w, by omega, rfl⟩, fun r8 e8 => ?_⟩⟩
            · rw [show (5 : Int32) = nI 5 from rfl, nI_leI (by omega) (by omega)] at c1; omega
            · rw [gives_k (by omega) (by omega)] at e8
              rw [e8, ix5]
              refine ⟨vp_k (by omega), vp_k (by omega), fun C9 e9 x10 e10 => ?_⟩
              rw [cl_k (by omega)] at e9
              rw [e10, o1, nI_add]
              refine ihk (w + 1) (by omega) C9 (by rw [e9]; exact hf2.w (by decide)) (fun q hq1 => ?_)
              rw [e9, wA_row, upd]
              by_cases hqe : q = 5 * w + dig c w
              · rw [if_pos hqe, ← hqe, hq2 q hq1, if_neg (show ¬ q / 5 < w by omega), if_pos (show q / 5 < w + 1 by omega), if_pos (show dig c (q / 5) = q % 5 by rw [show q / 5 = w by omega]; omega), show (1 : Int32) = nI 1 from rfl, nI_add]
              · rw [if_neg hqe, hq2 q hq1]
                by_cases hlt : q / 5 < w
                · rw [if_pos hlt, if_pos (show q / 5 < w + 1 by omega)]
                · rw [if_neg hlt]
                  by_cases heq : q / 5 < w + 1
                  · rw [if_pos heq, if_neg (show ¬ dig c (q / 5) = q % 5 by
                      intro z
                      rw [show q / 5 = w by omega] at z
                      omega)]
                  · rw [if_neg heq]
        exact ⟨_, H3 5 0 (by omega) C1 hf (fun q hq1 => by rw [if_neg (show ¬ q / 5 < 0 by omega)]; exact hq q hq1)⟩
  have H1 : ∀ d k, k + d = 25 → ∀ C1 : CS, frm [42] C C1 → (∀ q, q < k → C1.2.1 42 q = 0) → wp_X3_findJoins_l2 (fun r C1 => r = v_X3_findJoins C ∧ q_X3_findJoins C C1) (d + 1) C1 (nI k) := by
    intro d
    induction d with
    | zero =>
      intro k hk C1 hf hq
      have ek : k = 25 := by omega
      subst ek
      exact ⟨fun _ => ⟨_, H2 3125 0 (by omega) C1 hf (fun q hq1 => hq q hq1)⟩, fun c1 => absurd (by decide) c1⟩
    | succ d ih =>
      intro k hk C1 hf hq
      refine ⟨fun c1 => ?_, fun _ => ⟨vp_k (by omega), fun C13 e13 x14 e14 => ?_⟩⟩
      · rw [show (25 : Int32) = nI 25 from rfl, nI_leI (by omega) (by omega)] at c1; omega
      · rw [cl_k (by omega)] at e13
        rw [e14, o1, nI_add]
        refine ih (k + 1) (by omega) C13 (by rw [e13]; exact hf.w (by decide)) (fun q hq1 => ?_)
        rw [e13, wA_row, upd]
        by_cases hqk : q = k
        · rw [if_pos hqk]
        · rw [if_neg hqk]; exact hq q (by omega)
  exact ⟨_, H1 25 0 (by omega) C (frm.rf _ _) (fun q hq => by omega)⟩
theorem mc_X3_findJoins {w : WD} (wk : wOk w) (l : Launch) (C : CS)  (hp : p_X3_findJoins C ) : MC w l yX3_findJoins cX3_findJoins 4 (some .int) 2 0 0 [.ref (ad w 1)] C (pIR (v_X3_findJoins C ) (q_X3_findJoins C )) := MC.postIR (gw_X3_findJoins wk l C  (sp_X3_findJoins C  hp))
