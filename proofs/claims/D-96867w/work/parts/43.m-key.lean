def keyC : Nat → Int32 := fun k => match k with
  | 0 => 112 | 1 => 97 | 2 => 105 | 3 => 114 | 4 => 119 | 5 => 101 | 6 => 97 | 7 => 114 | 8 => 102 | 9 => 105 | 10 => 110 | 11 => 101 | _ => 0
/-- the reference's constant rows -/
def kOk (C : CS) : Prop := (∀ i, i < 4 → C.2.1 45 i = nI (4 * i)) ∧ ∀ i, i < 12 → C.2.1 44 i = keyC i
/-- the word from q to r is key w, as far as k letters -/
def kyE (tp : Nat → Int32) (q r w : Nat) : Nat → Bool
  | 0 => decide (r = q + 4)
  | k + 1 => kyE tp q r w k && decide (tp (q + k) = keyC (4 * w + k))
theorem kyE_mono {tp : Nat → Int32} {q r w : Nat} : ∀ d k, kyE tp q r w k = false → kyE tp q r w (k + d) = false := by
  intro d
  induction d with
  | zero => intro k h; exact h
  | succ d ih => intro k h; rw [← Nat.add_assoc, kyE, ih k h]; rfl
/-- which key it is -/
def kyL (tp : Nat → Int32) (q r : Nat) : Nat → Nat → Option Nat
  | 0, _ => none
  | d + 1, w => if kyE tp q r w 4 = true then some w else kyL tp q r d (w + 1)
theorem cf_X3_takesKey : CfV yX3_takesKey "TwoGuildsModel" cX3_takesKey 5 (some .boolean) 0 := ⟨⟨by decide, by decide, by decide⟩, q75, q1739, q1738, qs64⟩
def p_X3_takesKey (C : CS) : Prop := kOk C ∧ ∃ L q r, C.1 1 9 = nI L ∧ L ≤ 96 ∧ C.1 1 10 = nI r ∧ C.1 1 11 = nI q ∧ q ≤ r ∧ r ≤ L
def kyC (C : CS) : Option Nat := if C.1 1 12 = 1 then kyL (C.2.1 43) (C.1 1 11).toNatClampNeg (C.1 1 10).toNatClampNeg 3 0 else none
def v_X3_takesKey (C : CS) : Int32 := match kyC C with | some _ => 1 | none => 0
theorem vb_X3_takesKey (C : CS) : v_X3_takesKey C = 0 ∨ v_X3_takesKey C = 1 := by
  unfold v_X3_takesKey
  split
  · exact Or.inr rfl
  · exact Or.inl rfl
def q_X3_takesKey (C : CS) (C1 : CS) : Prop := match kyC C with | some w => q_X3_go (wI C 1 15 (nI w)) C1 | none => C1 = C
def wp_X3_takesKey_j106 (Post : Int32 → CS → Prop) (R12 : CS → Int32 → Prop) (C : CS) (i1 : Int32) (i3 : Int32) : Prop := (i3 = 0 → 
  ∀ x9 : Int32, x9 = (i1 + Int32.ofInt 1) → 
    R12 C x9) ∧
  (¬ i3 = 0 → 
  ∀ C10 : CS, C10 = (wI C 1 15 i1) → 
    p_X3_go C10 ∧
    (∀ C11 : CS, q_X3_go C10 C11 → 
    Post 1 C11))
def wp_X3_takesKey_l55 (Post : Int32 → CS → Prop) (R12 : CS → Int32 → Prop) : Nat → CS → Int32 → Int32 → Int32 → Int32 → Prop
  | 0, _, _, _, _, _ => False
  | n + 1, C, i1, i2, i3, i4 => (i2 ≤ i4 → 
  wp_X3_takesKey_j106 Post R12 C i1 i3) ∧
  (¬ i2 ≤ i4 → 
  (i3 = 0 → 
    wp_X3_takesKey_j106 Post R12 C i1 i3) ∧
    (¬ i3 = 0 → 
    vp_in ((C.1 1 11) + i4) 96 ∧
      (vp_in i1 4 ∧
      (vp_in ((C.2.1 45 (Int32.toNatClampNeg i1)) + i4) 12 ∧
      (∀ x15 : Int32, x15 = (if (C.2.1 43 (Int32.toNatClampNeg ((C.1 1 11) + i4))) = (C.2.1 44 (Int32.toNatClampNeg ((C.2.1 45 (Int32.toNatClampNeg i1)) + i4))) then (1 : Int32) else 0) → 
      ∀ x16 : Int32, x16 = (i4 + Int32.ofInt 1) → 
      wp_X3_takesKey_l55 Post R12 n C i1 i2 x15 x16)))))
def wp_X3_takesKey_l12 (Post : Int32 → CS → Prop) : Nat → CS → Int32 → Prop
  | 0, _, _ => False
  | n + 1, C, i1 => (3 ≤ i1 → 
  Post 0 C) ∧
  (¬ 3 ≤ i1 → 
  vp_in (i1 + 1) 4 ∧
    (vp_in i1 4 ∧
    (∀ x3 : Int32, x3 = ((C.2.1 45 (Int32.toNatClampNeg (i1 + 1))) - (C.2.1 45 (Int32.toNatClampNeg i1))) → 
    ∀ x6 : Int32, x6 = (if x3 = ((C.1 1 10) - (C.1 1 11)) then (1 : Int32) else 0) → 
    ∃ m55, wp_X3_takesKey_l55 Post (fun C i1 => wp_X3_takesKey_l12 Post n C i1) m55 C i1 x3 x6 0)))
def wp_X3_takesKey (Post : Int32 → CS → Prop) (C : CS)  : Prop :=
  ((C.1 1 12) = 1 → 
    ∃ m12, wp_X3_takesKey_l12 Post m12 C 0) ∧
    (¬ (C.1 1 12) = 1 → 
    Post 0 C)
set_option maxHeartbeats 4000000 in
set_option maxRecDepth 100000 in
theorem gw_X3_takesKey_j106 {w : WD} {x : Cx} (ok : Ok w x cX3_takesKey 5 yX3_takesKey.cls (some .boolean) (rmL 2 0 0)) {Post : Int32 → CS → Prop} {R12 : CS → Int32 → Prop} (hR12 : ∀ C (i1 : Int32), R12 C i1 → G w x 5 0 0 (QM w x (fun v C1 => ∃ r : Int32, v = some (.int r) ∧ Post r C1) 0 0) C 12 [(0, .ref (ad w 1)), (1, .int i1)] []) : ∀ (C : CS) (i1 : Int32) (i3 : Int32), wp_X3_takesKey_j106 Post R12 C i1 i3 → G w x 5 0 0 (QM w x (fun v C1 => ∃ r : Int32, v = some (.int r) ∧ Post r C1) 0 0) C 106 [(0, .ref (ad w 1)), (1, .int i1), (3, .int i3)] [] := by
  intro C i1 i3 hw
  unfold wp_X3_takesKey_j106 at hw
  refine g_iload_n ok 2 dX3_takesKey_106 rfl ?_
  refine g_if_eq (tgt := 121) ok dX3_takesKey_107 (by decide) (fun c8 => ?_) (fun c8 => ?_)
  · have hw := hw.1 c8
    refine g_iinc ok 1 (fun z => [(1, .int z), (0, .ref (ad w 1)), (3, .int i3)]) dX3_takesKey_121 rfl (by decide) (fun _ => rfl) (fun x9 ex9 => ?_)
    have hw := hw x9 ex9
    refine g_goto (tgt := 12) ok dX3_takesKey_124 (by decide) ?_
    refine g_sub [1, 0] [(0, .ref (ad w 1)), (1, .int x9)] rfl ?_
    exact hR12 C x9 hw
  · have hw := hw.2 c8
    refine g_aload_n ok 0 dX3_takesKey_110 rfl ?_
    refine g_iload_n ok 1 dX3_takesKey_111 rfl ?_
    refine g_putI ok 1 rfl rfl in_X3 tyX3 tyX3_ok nmX3 15 (by decide) q1374 rfl rfl rfl (putV_m rfl) dX3_takesKey_112 (fun C10 eC10 => ?_)
    have hw := hw C10 eC10
    refine g_aload_n ok 0 dX3_takesKey_115 rfl ?_
    obtain ⟨hp, hw⟩ := hw
    refine g_callVVR ok [] cf_X3_go q1724 (mc_X3_go ok.wo (xL x) C10 hp) (recvF ok 1 rfl rfl) rfl rfl (Nat.le_of_ble_eq_true rfl) ⟨by decide, by decide⟩ ⟨by decide, by decide⟩ dX3_takesKey_116 (fun C11 eC11 => ?_)
    have hw := hw C11 eC11
    refine g_iconst (v := 1) ok dX3_takesKey_119 (by decide) ?_
    exact g_zret ok dX3_takesKey_120 (Or.inr rfl) ⟨_, rfl, hw⟩
set_option maxHeartbeats 4000000 in
set_option maxRecDepth 100000 in
theorem gw_X3_takesKey_l55 {w : WD} {x : Cx} (ok : Ok w x cX3_takesKey 5 yX3_takesKey.cls (some .boolean) (rmL 2 0 0)) {Post : Int32 → CS → Prop} {R12 : CS → Int32 → Prop} (hR12 : ∀ C (i1 : Int32), R12 C i1 → G w x 5 0 0 (QM w x (fun v C1 => ∃ r : Int32, v = some (.int r) ∧ Post r C1) 0 0) C 12 [(0, .ref (ad w 1)), (1, .int i1)] []) : ∀ (n : Nat) (C : CS) (i1 : Int32) (i2 : Int32) (i3 : Int32) (i4 : Int32), wp_X3_takesKey_l55 Post R12 n C i1 i2 i3 i4 → G w x 5 0 0 (QM w x (fun v C1 => ∃ r : Int32, v = some (.int r) ∧ Post r C1) 0 0) C 55 [(0, .ref (ad w 1)), (1, .int i1), (2, .int i2), (3, .int i3), (4, .int i4)] [] := by
  intro n
  induction n with
  | zero => intro C i1 i2 i3 i4 hw; exact hw.elim
  | succ n ih =>
    intro C i1 i2 i3 i4 hw
    unfold wp_X3_takesKey_l55 at hw
    refine g_iload ok 4 dX3_takesKey_55 rfl ?_
    refine g_iload_n ok 2 dX3_takesKey_57 rfl ?_
    refine g_icmp_ge (tgt := 106) ok dX3_takesKey_58 (by decide) (fun c7 => ?_) (fun c7 => ?_)
    · have hw := hw.1 c7
      refine g_sub [0, 1, 3] [(0, .ref (ad w 1)), (1, .int i1), (3, .int i3)] rfl ?_
      exact gw_X3_takesKey_j106 ok hR12 C i1 i3 hw
    · have hw := hw.2 c7
      refine g_iload_n ok 3 dX3_takesKey_61 rfl ?_
      refine g_if_eq (tgt := 106) ok dX3_takesKey_62 (by decide) (fun c12 => ?_) (fun c12 => ?_)
      · have hw := hw.1 c12
        refine g_sub [0, 1, 3] [(0, .ref (ad w 1)), (1, .int i1), (3, .int i3)] rfl ?_
        exact gw_X3_takesKey_j106 ok hR12 C i1 i3 hw
      · have hw := hw.2 c12
        refine g_aload_n ok 0 dX3_takesKey_65 rfl ?_
        refine g_get ok 1 rfl rfl in_X3 8 (by decide) q1367 rfl dX3_takesKey_66 ?_
        refine g_aload_n ok 0 dX3_takesKey_69 rfl ?_
        refine g_get ok 1 rfl rfl in_X3 11 (by decide) q1370 rfl dX3_takesKey_70 ?_
        refine g_iload ok 4 dX3_takesKey_73 rfl ?_
        refine g_iadd ok dX3_takesKey_75 ?_
        obtain ⟨hg, hw⟩ := hw
        refine g_iald ok 43 rfl hg _ rfl dX3_takesKey_76 ?_
        refine g_aload_n ok 0 dX3_takesKey_77 rfl ?_
        refine g_get ok 1 rfl rfl in_X3 16 (by decide) q1375 rfl dX3_takesKey_78 ?_
        refine g_aload_n ok 0 dX3_takesKey_81 rfl ?_
        refine g_get ok 1 rfl rfl in_X3 17 (by decide) q1376 rfl dX3_takesKey_82 ?_
        refine g_iload_n ok 1 dX3_takesKey_85 rfl ?_
        obtain ⟨hg, hw⟩ := hw
        refine g_iald ok 45 rfl hg _ rfl dX3_takesKey_86 ?_
        refine g_iload ok 4 dX3_takesKey_87 rfl ?_
        refine g_iadd ok dX3_takesKey_89 ?_
        obtain ⟨hg, hw⟩ := hw
        refine g_cald ok 44 rfl hg _ rfl dX3_takesKey_90 ?_
        have kj14 : ∀ x15 : Int32, x15 = (if (C.2.1 43 (Int32.toNatClampNeg ((C.1 1 11) + i4))) = (C.2.1 44 (Int32.toNatClampNeg ((C.2.1 45 (Int32.toNatClampNeg i1)) + i4))) then (1 : Int32) else 0) → G w x 5 0 0 (QM w x (fun v C1 => ∃ r : Int32, v = some (.int r) ∧ Post r C1) 0 0) C 99 [(0, .ref (ad w 1)), (1, .int i1), (2, .int i2), (4, .int i4)] [.int x15] := by
          intro x15 ex15
          have hw := hw x15 ex15
          refine g_istore_n0 ok [(3, .int x15), (0, .ref (ad w 1)), (1, .int i1), (2, .int i2), (4, .int i4)] dX3_takesKey_99 (by decide) rfl ?_
          refine g_iinc ok 4 (fun z => [(4, .int z), (3, .int x15), (0, .ref (ad w 1)), (1, .int i1), (2, .int i2)]) dX3_takesKey_100 rfl (by decide) (fun _ => rfl) (fun x16 ex16 => ?_)
          have hw := hw x16 ex16
          refine g_goto (tgt := 55) ok dX3_takesKey_103 (by decide) ?_
          refine g_sub [2, 3, 4, 1, 0] [(0, .ref (ad w 1)), (1, .int i1), (2, .int i2), (3, .int x15), (4, .int x16)] rfl ?_
          exact ih C i1 i2 x15 x16 hw
        refine g_icmp_ne (tgt := 98) ok dX3_takesKey_91 (by decide) (fun c13 => ?_) (fun c13 => ?_)
        · refine g_iconst (v := 0) ok dX3_takesKey_98 (by decide) ?_
          exact g_sub [0, 1, 2, 4] [(0, .ref (ad w 1)), (1, .int i1), (2, .int i2), (4, .int i4)] rfl (kj14 _ (by simp only [if_neg c13]))
        · refine g_iconst (v := 1) ok dX3_takesKey_94 (by decide) ?_
          refine g_goto (tgt := 99) ok dX3_takesKey_95 (by decide) ?_
          exact g_sub [0, 1, 2, 4] [(0, .ref (ad w 1)), (1, .int i1), (2, .int i2), (4, .int i4)] rfl (kj14 _ (by simp only [if_pos c13]))
set_option maxHeartbeats 4000000 in
set_option maxRecDepth 100000 in
theorem gw_X3_takesKey_l12 {w : WD} {x : Cx} (ok : Ok w x cX3_takesKey 5 yX3_takesKey.cls (some .boolean) (rmL 2 0 0)) {Post : Int32 → CS → Prop} : ∀ (n : Nat) (C : CS) (i1 : Int32), wp_X3_takesKey_l12 Post  n C i1 → G w x 5 0 0 (QM w x (fun v C1 => ∃ r : Int32, v = some (.int r) ∧ Post r C1) 0 0) C 12 [(0, .ref (ad w 1)), (1, .int i1)] [] := by
  intro n
  induction n with
  | zero => intro C i1 hw; exact hw.elim
  | succ n ih =>
    intro C i1 hw
    unfold wp_X3_takesKey_l12 at hw
    refine g_iload_n ok 1 dX3_takesKey_12 rfl ?_
    refine g_iconst (v := 3) ok dX3_takesKey_13 (by decide) ?_
    refine g_icmp_ge (tgt := 127) ok dX3_takesKey_14 (by decide) (fun c2 => ?_) (fun c2 => ?_)
    · have hw := hw.1 c2
      refine g_iconst (v := 0) ok dX3_takesKey_127 (by decide) ?_
      exact g_zret ok dX3_takesKey_128 (Or.inl rfl) ⟨_, rfl, hw⟩
    · have hw := hw.2 c2
      refine g_aload_n ok 0 dX3_takesKey_17 rfl ?_
      refine g_get ok 1 rfl rfl in_X3 17 (by decide) q1376 rfl dX3_takesKey_18 ?_
      refine g_iload_n ok 1 dX3_takesKey_21 rfl ?_
      refine g_iconst (v := 1) ok dX3_takesKey_22 (by decide) ?_
      refine g_iadd ok dX3_takesKey_23 ?_
      obtain ⟨hg, hw⟩ := hw
      refine g_iald ok 45 rfl hg _ rfl dX3_takesKey_24 ?_
      refine g_aload_n ok 0 dX3_takesKey_25 rfl ?_
      refine g_get ok 1 rfl rfl in_X3 17 (by decide) q1376 rfl dX3_takesKey_26 ?_
      refine g_iload_n ok 1 dX3_takesKey_29 rfl ?_
      obtain ⟨hg, hw⟩ := hw
      refine g_iald ok 45 rfl hg _ rfl dX3_takesKey_30 ?_
      refine g_isub ok dX3_takesKey_31 ?_
      refine g_istore_n ok (fun z => [(2, .int z), (0, .ref (ad w 1)), (1, .int i1)]) dX3_takesKey_32 (by decide) (fun _ => rfl) (fun x3 ex3 => ?_)
      have hw := hw x3 ex3
      refine g_iload_n ok 0 dX3_takesKey_33 rfl ?_
      refine g_aload_n ok 1 dX3_takesKey_34 rfl ?_
      refine g_get ok 1 rfl rfl in_X3 10 (by decide) q1369 rfl dX3_takesKey_35 ?_
      refine g_aload_n ok 1 dX3_takesKey_38 rfl ?_
      refine g_get ok 1 rfl rfl in_X3 11 (by decide) q1370 rfl dX3_takesKey_39 ?_
      refine g_isub ok dX3_takesKey_42 ?_
      have kj5 : ∀ x6 : Int32, x6 = (if x3 = ((C.1 1 10) - (C.1 1 11)) then (1 : Int32) else 0) → G w x 5 0 0 (QM w x (fun v C1 => ∃ r : Int32, v = some (.int r) ∧ Post r C1) 0 0) C 51 [(0, .ref (ad w 1)), (1, .int i1), (2, .int x3)] [.int x6] := by
        intro x6 ex6
        have hw := hw x6 ex6
        refine g_istore_n0 ok [(3, .int x6), (0, .ref (ad w 1)), (1, .int i1), (2, .int x3)] dX3_takesKey_51 (by decide) rfl ?_
        refine g_iconst (v := 0) ok dX3_takesKey_52 (by decide) ?_
        refine g_istore0 ok [(4, .int 0), (3, .int x6), (0, .ref (ad w 1)), (1, .int i1), (2, .int x3)] dX3_takesKey_53 (by decide) rfl ?_
        refine g_sub [2, 3, 4, 1, 0] [(0, .ref (ad w 1)), (1, .int i1), (2, .int x3), (3, .int x6), (4, .int 0)] rfl ?_
        obtain ⟨n17, hw⟩ := hw
        exact gw_X3_takesKey_l55 ok (fun C i1 hw => ih C i1 hw) n17 C i1 x3 x6 0 hw
      refine g_icmp_ne (tgt := 50) ok dX3_takesKey_43 (by decide) (fun c4 => ?_) (fun c4 => ?_)
      · refine g_iconst (v := 0) ok dX3_takesKey_50 (by decide) ?_
        exact g_sub [1, 2, 0] [(0, .ref (ad w 1)), (1, .int i1), (2, .int x3)] rfl (kj5 _ (by simp only [if_neg c4]))
      · refine g_iconst (v := 1) ok dX3_takesKey_46 (by decide) ?_
        refine g_goto (tgt := 51) ok dX3_takesKey_47 (by decide) ?_
        exact g_sub [1, 2, 0] [(0, .ref (ad w 1)), (1, .int i1), (2, .int x3)] rfl (kj5 _ (by simp only [if_pos c4]))
set_option maxHeartbeats 4000000 in
set_option maxRecDepth 100000 in
theorem gw_X3_takesKey {w : WD} (wk : wOk w) (l : Launch) (C : CS)  {Post : Int32 → CS → Prop} (hw : wp_X3_takesKey Post C ) : MC w l yX3_takesKey cX3_takesKey 5 (some .boolean) 2 0 0 [.ref (ad w 1)] C (fun v C1 => ∃ r : Int32, v = some (.int r) ∧ Post r C1) := by
  unfold wp_X3_takesKey at hw
  refine MC.of wk (by decide) (Nat.le_of_ble_eq_true rfl) (fun x hx ok => ?_)
  subst hx
  show G w x 5 0 0 (QM w x _ 0 0) C 0 [(0, .ref (ad w 1))] []
  refine g_aload_n ok 0 dX3_takesKey_0 rfl ?_
  refine g_get ok 1 rfl rfl in_X3 12 (by decide) q1371 rfl dX3_takesKey_1 ?_
  refine g_iconst (v := 1) ok dX3_takesKey_4 (by decide) ?_
  refine g_icmp_eq (tgt := 10) ok dX3_takesKey_5 (by decide) (fun c1 => ?_) (fun c1 => ?_)
  · have hw := hw.1 c1
    refine g_iconst (v := 0) ok dX3_takesKey_10 (by decide) ?_
    refine g_istore_n0 ok [(1, .int 0), (0, .ref (ad w 1))] dX3_takesKey_11 (by decide) rfl ?_
    refine g_sub [1, 0] [(0, .ref (ad w 1)), (1, .int 0)] rfl ?_
    obtain ⟨n18, hw⟩ := hw
    exact gw_X3_takesKey_l12 ok n18 C 0 hw
  · have hw := hw.2 c1
    refine g_iconst (v := 0) ok dX3_takesKey_8 (by decide) ?_
    exact g_zret ok dX3_takesKey_9 (Or.inl rfl) ⟨_, rfl, hw⟩
theorem sp_X3_takesKey (C : CS) (hp : p_X3_takesKey C) : wp_X3_takesKey (fun r C1 => r = v_X3_takesKey C ∧ q_X3_takesKey C C1) C := by
  obtain ⟨⟨h45, h44⟩, L, q, r, eL, hL, er, eq, hqr, hrL⟩ := hp
  have none_ : kyC C = none → (0 : Int32) = v_X3_takesKey C ∧ q_X3_takesKey C C := by
    intro h
    unfold v_X3_takesKey q_X3_takesKey
    rw [h]
    exact ⟨rfl, rfl⟩
  refine ⟨fun c => ?_, fun c => none_ (by unfold kyC; rw [if_neg c])⟩
  have hk : kyC C = kyL (C.2.1 43) q r 3 0 := by unfold kyC; rw [if_pos c, eq, er, cl_k (by omega), cl_k (by omega)]
  have H : ∀ d w, w + d = 3 → kyC C = kyL (C.2.1 43) q r d w → wp_X3_takesKey_l12 (fun r C1 => r = v_X3_takesKey C ∧ q_X3_takesKey C C1) (d + 1) C (nI w) := by
    intro d
    induction d with
    | zero =>
      intro w hw hkw
      have ew : w = 3 := by omega
      subst ew
      exact ⟨fun _ => none_ hkw, fun c1 => absurd (by decide) c1⟩
    | succ d ih =>
      intro w hw hkw
      rw [kyL] at hkw
      have iw : (nI w + 1 : Int32) = nI (w + 1) := nI_1 w
      refine ⟨fun c1 => ?_, fun _ => ⟨by rw [iw]; exact vp_k (by omega), vp_k (by omega), fun x3 e3 x6 e6 => ?_⟩⟩
      · rw [show (3 : Int32) = nI 3 from rfl, nI_leI (by omega) (by omega)] at c1; omega
      · rw [iw, cl_k (by omega), cl_k (by omega), h45 _ (by omega), h45 _ (by omega), pk_sub (by omega), show 4 * (w + 1) - 4 * w = 4 by omega] at e3
        rw [e3, er, eq, pk_sub hqr] at e6
        have fin : ∀ b : Bool, kyE (C.2.1 43) q r w 4 = b → wp_X3_takesKey_j106 (fun r C1 => r = v_X3_takesKey C ∧ q_X3_takesKey C C1) (fun D i1 => wp_X3_takesKey_l12 (fun r C1 => r = v_X3_takesKey C ∧ q_X3_takesKey C C1) (d + 1) D i1) C (nI w) (if b = true then 1 else 0) := by
          intro b hb
          cases b with
          | false =>
            rw [hb, if_neg (by decide)] at hkw
            refine ⟨fun _ x9 e9 => ?_, fun c2 => absurd rfl c2⟩
            rw [e9, o1, nI_add]
            exact ih (w + 1) (by omega) hkw
          | true =>
            rw [hb, if_pos rfl] at hkw
            refine ⟨fun c2 => absurd c2 (by decide), fun _ C10 e10 => ⟨?_, fun C11 e11 => ?_⟩⟩
            · refine ⟨L, r, ?_, hL, ?_, hrL⟩
              · rw [e10, wI_n _ _ _ _ (by decide)]; exact eL
              · rw [e10, wI_n _ _ _ _ (by decide)]; exact er
            · rw [e10] at e11
              unfold v_X3_takesKey q_X3_takesKey
              rw [hkw]
              exact ⟨rfl, e11⟩
        have H2 : ∀ k j, j + k = 4 → wp_X3_takesKey_l55 (fun r C1 => r = v_X3_takesKey C ∧ q_X3_takesKey C C1) (fun D i1 => wp_X3_takesKey_l12 (fun r C1 => r = v_X3_takesKey C ∧ q_X3_takesKey C C1) (d + 1) D i1) (k + 1) C (nI w) (nI 4) (if kyE (C.2.1 43) q r w j = true then 1 else 0) (nI j) := by
          intro k
          induction k with
          | zero =>
            intro j hj
            have ej : j = 4 := by omega
            subst ej
            exact ⟨fun _ => fin _ rfl, fun c1 => absurd (Int32.le_refl _) c1⟩
          | succ k ihk =>
            intro j hj
            refine ⟨fun c1 => ?_, fun _ => ⟨fun c1 => ?_, fun c1 => ?_⟩⟩
            · rw [nI_leI (by omega) (by omega)] at c1; omega
            · have hf : kyE (C.2.1 43) q r w j = false := by
                cases hh : kyE (C.2.1 43) q r w j with
                | false => rfl
                | true => rw [hh, if_pos rfl] at c1; exact absurd c1 (by decide)
              have h4 := kyE_mono (k + 1) j hf
              rw [hj] at h4
              have := fin false h4
              rw [hf]
              exact this
            · have ht : kyE (C.2.1 43) q r w j = true := by
                cases hh : kyE (C.2.1 43) q r w j with
                | true => rfl
                | false => rw [hh, if_neg (by decide)] at c1; exact absurd rfl c1
              have hr4 : r = q + 4 := by
                have : ∀ j, kyE (C.2.1 43) q r w j = true → kyE (C.2.1 43) q r w 0 = true := by
                  intro j
                  cases hh : kyE (C.2.1 43) q r w 0 with
                  | true => intro _; rfl
                  | false => intro z; rw [← Nat.zero_add j, kyE_mono j 0 hh] at z; cases z
                have := this j ht
                unfold kyE at this
                simpa using this
              rw [eq, nI_add, cl_k (by omega), cl_k (by omega), h45 _ (by omega), nI_add, cl_k (by omega), h44 _ (by omega)]
              refine ⟨vp_k (by omega), vp_k (by omega), vp_k (by omega), fun x15 e15 x16 e16 => ?_⟩
              have h3 := ihk (j + 1) (by omega)
              have e2 : (if kyE (C.2.1 43) q r w (j + 1) = true then (1 : Int32) else 0) = x15 := by
                rw [kyE, ht, e15]
                by_cases hd : C.2.1 43 (q + j) = keyC (4 * w + j)
                · simp [hd]
                · simp [hd]
              rw [e2] at h3
              rw [e16, o1, nI_add]
              exact h3
        have h0 := H2 4 0 (by omega)
        have e0 : (if kyE (C.2.1 43) q r w 0 = true then (1 : Int32) else 0) = x6 := by
          have hz : (nI 4 = nI (r - q)) ↔ r = q + 4 := by rw [nI_eq (by omega) (by omega)]; omega
          rw [e6, kyE]
          by_cases h : r = q + 4
          · rw [if_pos (hz.mpr h)]; simp [h]
          · rw [if_neg (fun z => h (hz.mp z))]; simp [h]
        rw [e0] at h0
        rw [e3]
        exact ⟨_, h0⟩
  exact ⟨_, H 3 0 (by omega) hk⟩
theorem mc_X3_takesKey {w : WD} (wk : wOk w) (l : Launch) (C : CS)  (hp : p_X3_takesKey C ) : MC w l yX3_takesKey cX3_takesKey 5 (some .boolean) 2 0 0 [.ref (ad w 1)] C (pIR (v_X3_takesKey C ) (q_X3_takesKey C )) := MC.postIR (gw_X3_takesKey wk l C  (sp_X3_takesKey C  hp))
