theorem clr_b0 : ∀ g, g < 10 → ∀ s, s < 1024 → clr s 0 / 2 ^ g % 2 = if g = 0 then 0 else s / 2 ^ g % 2 := by decide +kernel
theorem clr_b1 : ∀ g, g < 10 → ∀ s, s < 1024 → clr s 1 / 2 ^ g % 2 = if g = 1 then 0 else s / 2 ^ g % 2 := by decide +kernel
theorem clr_b2 : ∀ g, g < 10 → ∀ s, s < 1024 → clr s 2 / 2 ^ g % 2 = if g = 2 then 0 else s / 2 ^ g % 2 := by decide +kernel
theorem clr_b3 : ∀ g, g < 10 → ∀ s, s < 1024 → clr s 3 / 2 ^ g % 2 = if g = 3 then 0 else s / 2 ^ g % 2 := by decide +kernel
theorem clr_b4 : ∀ g, g < 10 → ∀ s, s < 1024 → clr s 4 / 2 ^ g % 2 = if g = 4 then 0 else s / 2 ^ g % 2 := by decide +kernel
theorem clr_b5 : ∀ g, g < 10 → ∀ s, s < 1024 → clr s 5 / 2 ^ g % 2 = if g = 5 then 0 else s / 2 ^ g % 2 := by decide +kernel
theorem clr_b6 : ∀ g, g < 10 → ∀ s, s < 1024 → clr s 6 / 2 ^ g % 2 = if g = 6 then 0 else s / 2 ^ g % 2 := by decide +kernel
theorem clr_b7 : ∀ g, g < 10 → ∀ s, s < 1024 → clr s 7 / 2 ^ g % 2 = if g = 7 then 0 else s / 2 ^ g % 2 := by decide +kernel
theorem clr_b8 : ∀ g, g < 10 → ∀ s, s < 1024 → clr s 8 / 2 ^ g % 2 = if g = 8 then 0 else s / 2 ^ g % 2 := by decide +kernel
theorem clr_b9 : ∀ g, g < 10 → ∀ s, s < 1024 → clr s 9 / 2 ^ g % 2 = if g = 9 then 0 else s / 2 ^ g % 2 := by decide +kernel
theorem clr_bit (f : Nat) (hf : f < 10) : ∀ g, g < 10 → ∀ s, s < 1024 → clr s f / 2 ^ g % 2 = if g = f then 0 else s / 2 ^ g % 2 := by
  have : f = 0 ∨ f = 1 ∨ f = 2 ∨ f = 3 ∨ f = 4 ∨ f = 5 ∨ f = 6 ∨ f = 7 ∨ f = 8 ∨ f = 9 := by omega
  rcases this with h | h | h | h | h | h | h | h | h | h <;> subst h
  · exact clr_b0
  · exact clr_b1
  · exact clr_b2
  · exact clr_b3
  · exact clr_b4
  · exact clr_b5
  · exact clr_b6
  · exact clr_b7
  · exact clr_b8
  · exact clr_b9
theorem cf_X0_thinks : CfV yX0_thinks "TwoGuilds" cX0_thinks 2 none 1 := ⟨⟨by decide, by decide, by decide⟩, q72, q855, q854, qs14⟩
def p_X0_thinks (C : CS) (a0 : Nat) (r : Nat → Int32) : Prop := isTb a0 ∧ a0 ≠ 3 ∧ TR C a0 r ∧ GD C ∧ XD C
def q_X0_thinks (C : CS) (a0 : Nat) (r : Nat → Int32) (C1 : CS) : Prop := ∃ C3, q_X1_become C 3 a0 r C3 ∧ C1 = wN C3 3
def wp_X0_thinks (Post : CS → Prop) (C : CS) (a0 : Nat) : Prop :=
  ∃ (g1 : (Nat → Int32)), p_X1_become C 3 a0 g1 ∧
    (∀ C3 : CS, q_X1_become C 3 a0 g1 C3 → 
    ∀ C4 : CS, C4 = (wN C3 3) → 
    Post C4)
set_option maxHeartbeats 4000000 in
set_option maxRecDepth 100000 in
theorem gw_X0_thinks {w : WD} (wk : wOk w) (l : Launch) (C : CS) (a0 : Nat) {Post : CS → Prop} (hw : wp_X0_thinks Post C a0) : MC w l yX0_thinks cX0_thinks 2 none 7 11 88 [.ref (ad w 0), .ref (ad w a0)] C (fun v C1 => v = none ∧ Post C1) := by
  unfold wp_X0_thinks at hw
  refine MC.of wk (by decide) (Nat.le_of_ble_eq_true rfl) (fun x hx ok => ?_)
  subst hx
  show G w x 2 0 0 (QM w x _ 11 88) C 0 [(0, .ref (ad w 0)), (1, .ref (ad w a0))] []
  refine g_aload_n ok 0 dX0_thinks_0 rfl ?_
  refine g_get ok 0 rfl rfl in_X0 1 (by decide) q181 rfl dX0_thinks_1 ?_
  refine g_aload_n ok 1 dX0_thinks_4 rfl ?_
  obtain ⟨g1, hp2, hw⟩ := hw
  refine g_callV ok [.ref (ad w a0)] cf_X1_become q856 (mc_X1_become ok.wo (xL x) C 3 a0 g1 hp2) (recvF ok 3 (fObjT (show isTb 3 from Or.inr (Or.inl rfl))) rfl) rfl rfl (Nat.le_of_ble_eq_true rfl) ⟨by decide, by decide⟩ ⟨by show 0 + 11 ≤ 11; omega, by show 0 + 88 ≤ 88; omega⟩ dX0_thinks_5 (resVR fun C3 eC3 => ?_)
  have hw := hw C3 eC3
  refine g_aload_n ok 0 dX0_thinks_8 rfl ?_
  refine g_aload_n ok 0 dX0_thinks_9 rfl ?_
  refine g_get ok 0 rfl rfl in_X0 1 (by decide) q181 rfl dX0_thinks_10 ?_
  refine g_putN ok (show isTb 3 from Or.inr (Or.inl rfl)) q180 dX0_thinks_13 (fun C4 eC4 => ?_)
  have hw := hw C4 eC4
  exact g_vret ok dX0_thinks_16 ⟨rfl, hw⟩
theorem sp_X0_thinks (C : CS) (a0 : Nat) (r : Nat → Int32) (hp : p_X0_thinks C a0 r) : wp_X0_thinks (fun C1 => q_X0_thinks C a0 r C1) C a0 := by
  obtain ⟨h1, h2, h3, h4, h5⟩ := hp
  exact ⟨r, ⟨Or.inr (Or.inl rfl), h1, h2, h3, h4, h5⟩, fun C3 h C4 e => ⟨C3, h, e⟩⟩
theorem mc_X0_thinks {w : WD} (wk : wOk w) (l : Launch) (C : CS) (a0 : Nat) (r : (Nat → Int32)) (hp : p_X0_thinks C a0 r) : MC w l yX0_thinks cX0_thinks 2 none 7 11 88 [.ref (ad w 0), .ref (ad w a0)] C (pVR (q_X0_thinks C a0 r)) := MC.postVR (gw_X0_thinks wk l C a0 (sp_X0_thinks C a0 r hp))
theorem cf_X0_firstPartner : CfV yX0_firstPartner "TwoGuilds" cX0_firstPartner 6 (some .int) 1 := ⟨⟨by decide, by decide, by decide⟩, q72, q782, q781, qs11⟩
def p_X0_firstPartner (C : CS) (a0 : Int32) (r : Nat → Int32) (s : Nat) : Prop := tbOk C r ∧ bO C r ∧ a0 = nI s ∧ 0 < s ∧ s < 2 ^ (r 1).toNatClampNeg
def v_X0_firstPartner (C : CS) (a0 : Int32) (r : Nat → Int32) (s : Nat) : Int32 := wth (vv r) (bestR r) (r 1).toNatClampNeg s
def wp_X0_firstPartner_j85 (Post : Int32 → CS → Prop) (R16 : CS → Int32 → Int32 → Int32 → Int32 → Prop) (C : CS) (i1 : Int32) (i2 : Int32) (i3 : Int32) (i4 : Int32) : Prop := ∀ x9 : Int32, x9 = (i4 + Int32.ofInt 1) → 
  R16 C i1 i2 i3 x9
def wp_X0_firstPartner_l16 (Post : Int32 → CS → Prop) : Nat → CS → Int32 → Int32 → Int32 → Int32 → Prop
  | 0, _, _, _, _, _ => False
  | n + 1, C, i1, i2, i3, i4 => isTb (cN C) ∧
  (((C.1 (cN C) 0) ≤ i4 → 
  Post (-1) C) ∧
  (¬ (C.1 (cN C) 0) ≤ i4 → 
  vp_in ((10 * i2) + i4) 100 ∧
    (∀ x7 : Int32, x7 = (C.2.1 5 (Int32.toNatClampNeg ((10 * i2) + i4))) → 
    (((i3 >>> (i4 &&& 31)) &&& 1) = 1 → 
    (x7 < 0 → 
      wp_X0_firstPartner_j85 Post (fun C i1 i2 i3 i4 => wp_X0_firstPartner_l16 Post n C i1 i2 i3 i4) C i1 i2 i3 i4) ∧
      (¬ x7 < 0 → 
      vp_in (i3 &&& ((1 <<< (i4 &&& 31)) ^^^ (-1))) 1024 ∧
        (vp_in i1 1024 ∧
        (((x7 + (C.2.1 6 (Int32.toNatClampNeg (i3 &&& ((1 <<< (i4 &&& 31)) ^^^ (-1)))))) = (C.2.1 6 (Int32.toNatClampNeg i1)) → 
        Post i4 C) ∧
        (¬ (x7 + (C.2.1 6 (Int32.toNatClampNeg (i3 &&& ((1 <<< (i4 &&& 31)) ^^^ (-1)))))) = (C.2.1 6 (Int32.toNatClampNeg i1)) → 
        wp_X0_firstPartner_j85 Post (fun C i1 i2 i3 i4 => wp_X0_firstPartner_l16 Post n C i1 i2 i3 i4) C i1 i2 i3 i4))))) ∧
    (¬ ((i3 >>> (i4 &&& 31)) &&& 1) = 1 → 
    wp_X0_firstPartner_j85 Post (fun C i1 i2 i3 i4 => wp_X0_firstPartner_l16 Post n C i1 i2 i3 i4) C i1 i2 i3 i4))))
def wp_X0_firstPartner (Post : Int32 → CS → Prop) (C : CS) (a0 : Int32) : Prop :=
  ∀ r1 : Int32, r1 = (v_J6_numberOfTrailingZeros a0) → 
    ∀ x2 : Int32, x2 = (a0 &&& (a0 - 1)) → 
    ∀ x3 : Int32, x3 = (r1 + 1) → 
    ∃ m16, wp_X0_firstPartner_l16 Post m16 C a0 r1 x2 x3
set_option maxHeartbeats 4000000 in
set_option maxRecDepth 100000 in
theorem gw_X0_firstPartner_j85 {w : WD} {x : Cx} (ok : Ok w x cX0_firstPartner 6 yX0_firstPartner.cls (some .int) (rmL 1 0 0)) {Post : Int32 → CS → Prop} {R16 : CS → Int32 → Int32 → Int32 → Int32 → Prop} (hR16 : ∀ C (i1 : Int32) (i2 : Int32) (i3 : Int32) (i4 : Int32), R16 C i1 i2 i3 i4 → G w x 6 0 0 (QM w x (fun v C1 => ∃ r : Int32, v = some (.int r) ∧ Post r C1) 0 0) C 16 [(0, .ref (ad w 0)), (1, .int i1), (2, .int i2), (3, .int i3), (4, .int i4)] []) : ∀ (C : CS) (i1 : Int32) (i2 : Int32) (i3 : Int32) (i4 : Int32), wp_X0_firstPartner_j85 Post R16 C i1 i2 i3 i4 → G w x 6 0 0 (QM w x (fun v C1 => ∃ r : Int32, v = some (.int r) ∧ Post r C1) 0 0) C 85 [(0, .ref (ad w 0)), (1, .int i1), (2, .int i2), (3, .int i3), (4, .int i4)] [] := by
  intro C i1 i2 i3 i4 hw
  unfold wp_X0_firstPartner_j85 at hw
  refine g_iinc ok 4 (fun z => [(4, .int z), (0, .ref (ad w 0)), (1, .int i1), (2, .int i2), (3, .int i3)]) dX0_firstPartner_85 rfl (by decide) (fun _ => rfl) (fun x9 ex9 => ?_)
  have hw := hw x9 ex9
  refine g_goto (tgt := 16) ok dX0_firstPartner_88 (by decide) ?_
  refine g_sub [1, 2, 3, 4, 0] [(0, .ref (ad w 0)), (1, .int i1), (2, .int i2), (3, .int i3), (4, .int x9)] rfl ?_
  exact hR16 C i1 i2 i3 x9 hw
set_option maxHeartbeats 4000000 in
set_option maxRecDepth 100000 in
theorem gw_X0_firstPartner_l16 {w : WD} {x : Cx} (ok : Ok w x cX0_firstPartner 6 yX0_firstPartner.cls (some .int) (rmL 1 0 0)) {Post : Int32 → CS → Prop} : ∀ (n : Nat) (C : CS) (i1 : Int32) (i2 : Int32) (i3 : Int32) (i4 : Int32), wp_X0_firstPartner_l16 Post  n C i1 i2 i3 i4 → G w x 6 0 0 (QM w x (fun v C1 => ∃ r : Int32, v = some (.int r) ∧ Post r C1) 0 0) C 16 [(0, .ref (ad w 0)), (1, .int i1), (2, .int i2), (3, .int i3), (4, .int i4)] [] := by
  intro n
  induction n with
  | zero => intro C i1 i2 i3 i4 hw; exact hw.elim
  | succ n ih =>
    intro C i1 i2 i3 i4 hw
    unfold wp_X0_firstPartner_l16 at hw
    refine g_iload ok 4 dX0_firstPartner_16 rfl ?_
    refine g_aload_n ok 0 dX0_firstPartner_18 rfl ?_
    refine g_get ok 0 rfl rfl in_X0 0 (by decide) q180 rfl dX0_firstPartner_19 ?_
    obtain ⟨hf4, hw⟩ := hw
    refine g_get ok (cN C) (fObjT hf4) rfl in_X1 0 (by decide) q124 rfl dX0_firstPartner_22 ?_
    refine g_icmp_ge (tgt := 91) ok dX0_firstPartner_25 (by decide) (fun c5 => ?_) (fun c5 => ?_)
    · have hw := hw.1 c5
      refine g_iconst (v := -1) ok dX0_firstPartner_91 (by decide) ?_
      exact g_iret ok dX0_firstPartner_92 ⟨_, rfl, hw⟩
    · have hw := hw.2 c5
      refine g_aload_n ok 0 dX0_firstPartner_28 rfl ?_
      refine g_get ok 0 rfl rfl in_X0 4 (by decide) q184 rfl dX0_firstPartner_29 ?_
      refine g_bipush (v := 10) ok dX0_firstPartner_32 (by decide) ?_
      refine g_iload_n ok 2 dX0_firstPartner_34 rfl ?_
      refine g_imul ok dX0_firstPartner_35 ?_
      refine g_iload ok 4 dX0_firstPartner_36 rfl ?_
      refine g_iadd ok dX0_firstPartner_38 ?_
      obtain ⟨hf6, hw⟩ := hw
      refine g_iald ok 5 rfl hf6 _ rfl dX0_firstPartner_39 ?_
      refine g_istore ok (fun z => [(5, .int z), (0, .ref (ad w 0)), (1, .int i1), (2, .int i2), (3, .int i3), (4, .int i4)]) dX0_firstPartner_40 (by decide) (fun _ => rfl) (fun x7 ex7 => ?_)
      have hw := hw x7 ex7
      refine g_iload_n ok 4 dX0_firstPartner_42 rfl ?_
      refine g_iload ok 5 dX0_firstPartner_43 rfl ?_
      refine g_ishr ok dX0_firstPartner_45 ?_
      refine g_iconst (v := 1) ok dX0_firstPartner_46 (by decide) ?_
      refine g_iand ok dX0_firstPartner_47 ?_
      refine g_iconst (v := 1) ok dX0_firstPartner_48 (by decide) ?_
      refine g_icmp_ne (tgt := 85) ok dX0_firstPartner_49 (by decide) (fun c8 => ?_) (fun c8 => ?_)
      · have hw := hw.2 c8
        refine g_sub [1, 2, 3, 4, 5] [(0, .ref (ad w 0)), (1, .int i1), (2, .int i2), (3, .int i3), (4, .int i4)] rfl ?_
        exact gw_X0_firstPartner_j85 ok (fun C i1 i2 i3 i4 hw => ih C i1 i2 i3 i4 hw) C i1 i2 i3 i4 hw
      · have hw := hw.1 c8
        refine g_iload ok 0 dX0_firstPartner_52 rfl ?_
        refine g_if_lt (tgt := 85) ok dX0_firstPartner_54 (by decide) (fun c10 => ?_) (fun c10 => ?_)
        · have hw := hw.1 c10
          refine g_sub [1, 2, 3, 4, 5] [(0, .ref (ad w 0)), (1, .int i1), (2, .int i2), (3, .int i3), (4, .int i4)] rfl ?_
          exact gw_X0_firstPartner_j85 ok (fun C i1 i2 i3 i4 hw => ih C i1 i2 i3 i4 hw) C i1 i2 i3 i4 hw
        · have hw := hw.2 c10
          refine g_iload ok 0 dX0_firstPartner_57 rfl ?_
          refine g_aload_n ok 1 dX0_firstPartner_59 rfl ?_
          refine g_get ok 0 rfl rfl in_X0 5 (by decide) q185 rfl dX0_firstPartner_60 ?_
          refine g_iload_n ok 4 dX0_firstPartner_63 rfl ?_
          refine g_iconst (v := 1) ok dX0_firstPartner_64 (by decide) ?_
          refine g_iload ok 5 dX0_firstPartner_65 rfl ?_
          refine g_ishl ok dX0_firstPartner_67 ?_
          refine g_iconst (v := -1) ok dX0_firstPartner_68 (by decide) ?_
          refine g_ixor ok dX0_firstPartner_69 ?_
          refine g_iand ok dX0_firstPartner_70 ?_
          obtain ⟨hf11, hw⟩ := hw
          refine g_iald ok 6 rfl hf11 _ rfl dX0_firstPartner_71 ?_
          refine g_iadd ok dX0_firstPartner_72 ?_
          refine g_aload_n ok 1 dX0_firstPartner_73 rfl ?_
          refine g_get ok 0 rfl rfl in_X0 5 (by decide) q185 rfl dX0_firstPartner_74 ?_
          refine g_iload_n ok 2 dX0_firstPartner_77 rfl ?_
          obtain ⟨hf12, hw⟩ := hw
          refine g_iald ok 6 rfl hf12 _ rfl dX0_firstPartner_78 ?_
          refine g_icmp_ne (tgt := 85) ok dX0_firstPartner_79 (by decide) (fun c13 => ?_) (fun c13 => ?_)
          · have hw := hw.2 c13
            refine g_sub [1, 2, 3, 4, 5] [(0, .ref (ad w 0)), (1, .int i1), (2, .int i2), (3, .int i3), (4, .int i4)] rfl ?_
            exact gw_X0_firstPartner_j85 ok (fun C i1 i2 i3 i4 hw => ih C i1 i2 i3 i4 hw) C i1 i2 i3 i4 hw
          · have hw := hw.1 c13
            refine g_iload ok 5 dX0_firstPartner_82 rfl ?_
            exact g_iret ok dX0_firstPartner_84 ⟨_, rfl, hw⟩
set_option maxHeartbeats 4000000 in
set_option maxRecDepth 100000 in
theorem gw_X0_firstPartner {w : WD} (wk : wOk w) (l : Launch) (C : CS) (a0 : Int32) {Post : Int32 → CS → Prop} (hw : wp_X0_firstPartner Post C a0) : MC w l yX0_firstPartner cX0_firstPartner 6 (some .int) 1 0 0 [.ref (ad w 0), .int a0] C (fun v C1 => ∃ r : Int32, v = some (.int r) ∧ Post r C1) := by
  unfold wp_X0_firstPartner at hw
  refine MC.of wk (by decide) (Nat.le_of_ble_eq_true rfl) (fun x hx ok => ?_)
  subst hx
  show G w x 6 0 0 (QM w x _ 0 0) C 0 [(0, .ref (ad w 0)), (1, .int a0)] []
  refine g_iload_n ok 1 dX0_firstPartner_0 rfl ?_
  refine g_callS ok [.int a0] cf_J6_numberOfTrailingZeros q771 (mc_J6_numberOfTrailingZeros ok.wo (xL x) C a0) rfl rfl (Nat.le_of_ble_eq_true rfl) ⟨by decide, by decide⟩ ⟨by decide, by decide⟩ dX0_firstPartner_1 (resI ?_)
  refine g_nmI (fun r1 er1 => ?_)
  have hw := hw r1 er1
  refine g_istore_n0 ok [(2, .int r1), (0, .ref (ad w 0)), (1, .int a0)] dX0_firstPartner_4 (by decide) rfl ?_
  refine g_iload_n ok 2 dX0_firstPartner_5 rfl ?_
  refine g_iload_n ok 2 dX0_firstPartner_6 rfl ?_
  refine g_iconst (v := 1) ok dX0_firstPartner_7 (by decide) ?_
  refine g_isub ok dX0_firstPartner_8 ?_
  refine g_iand ok dX0_firstPartner_9 ?_
  refine g_istore_n ok (fun z => [(3, .int z), (2, .int r1), (0, .ref (ad w 0)), (1, .int a0)]) dX0_firstPartner_10 (by decide) (fun _ => rfl) (fun x2 ex2 => ?_)
  have hw := hw x2 ex2
  refine g_iload_n ok 1 dX0_firstPartner_11 rfl ?_
  refine g_iconst (v := 1) ok dX0_firstPartner_12 (by decide) ?_
  refine g_iadd ok dX0_firstPartner_13 ?_
  refine g_istore ok (fun z => [(4, .int z), (3, .int x2), (2, .int r1), (0, .ref (ad w 0)), (1, .int a0)]) dX0_firstPartner_14 (by decide) (fun _ => rfl) (fun x3 ex3 => ?_)
  have hw := hw x3 ex3
  refine g_sub [3, 4, 2, 1, 0] [(0, .ref (ad w 0)), (1, .int a0), (2, .int r1), (3, .int x2), (4, .int x3)] rfl ?_
  obtain ⟨n14, hw⟩ := hw
  exact gw_X0_firstPartner_l16 ok n14 C a0 r1 x2 x3 hw
theorem sp_X0_firstPartner (C : CS) (a0 : Int32) (r : Nat → Int32) (s : Nat) (hp : p_X0_firstPartner C a0 r s) : wp_X0_firstPartner (fun x C1 => x = v_X0_firstPartner C a0 r s ∧ C1 = C) C a0 := by
  obtain ⟨ht, hb, rfl, h0, hs⟩ := hp
  obtain ⟨N, eN, hN, -⟩ := ht.2.g
  have e0 : C.1 (cN C) 0 = nI N := ht.2.n.2.1.trans eN
  have e2 := p2_le hN
  rw [eN, cl_k (by omega)] at hs
  obtain ⟨hv, hq⟩ := hb N eN hN
  have fN := fb_ltN hs hN h0
  have cl := clr_lt (s := s) (by omega) h0
  intro r1 e1 x2 e2' x3 e3
  rw [ntz_k s (by omega) h0] at e1
  rw [low_k s (by omega) h0] at e2'
  unfold v_X0_firstPartner wth
  rw [eN, cl_k (by omega), e3, e1, e2', show (1 : Int32) = nI 1 from rfl, nI_add]
  have H : ∀ d g, g + d = N → fbit s + 1 ≤ g → wA1 (wP (vv r) (bestR r) s) (N - (fbit s + 1)) (fbit s + 1) = wA1 (wP (vv r) (bestR r) s) d g → wp_X0_firstPartner_l16 (fun x C1 => x = wA1 (wP (vv r) (bestR r) s) (N - (fbit s + 1)) (fbit s + 1) ∧ C1 = C) (d + 1) C (nI s) (nI (fbit s)) (nI (clr s (fbit s))) (nI g) := by
    intro d
    induction d with
    | zero =>
      intro g hg hg1 h
      refine ⟨ht.1, fun _ => ⟨?_, rfl⟩, fun c => absurd ?_ c⟩
      · rw [h]; rfl
      · rw [e0, nI_leI (by omega) (by omega)]; omega
    | succ d ih =>
      intro g hg hg1 h
      rw [wA1] at h
      have cg := clr_le (clr s (fbit s)) g
      have vg : C.2.1 5 (10 * fbit s + g) = vv r (fbit s) g := hv _ _ (by omega) (by omega)
      have nx : ¬ wP (vv r) (bestR r) s g = true → wp_X0_firstPartner_j85 (fun x C1 => x = wA1 (wP (vv r) (bestR r) s) (N - (fbit s + 1)) (fbit s + 1) ∧ C1 = C) (fun D i1 i2 i3 i4 => wp_X0_firstPartner_l16 (fun x C1 => x = wA1 (wP (vv r) (bestR r) s) (N - (fbit s + 1)) (fbit s + 1) ∧ C1 = C) (d + 1) D i1 i2 i3 i4) C (nI s) (nI (fbit s)) (nI (clr s (fbit s))) (nI g) := by
        intro hn x9 e9
        rw [e9, o1, nI_add]
        exact ih (g + 1) (by omega) (by omega) (by rw [h, if_neg hn])
      refine ⟨ht.1, fun c => ?_, fun _ => ?_⟩
      · rw [e0, nI_leI (by omega) (by omega)] at c; omega
      rw [ix10, cl_k (by omega), vg]
      refine ⟨vp_k (by omega), fun x7 e7 => ⟨fun c => ?_, fun c => ?_⟩⟩
      · rw [bit_eq (by omega) (by omega)] at c
        rw [e7]
        refine ⟨fun c2 => nx (by unfold wP; simp [c2]), fun c2 => ?_⟩
        rw [clr_i g (by omega) _ (by omega), cl_k (by omega), hq _ (by omega), cl_k (by omega), hq _ (by omega)]
        refine ⟨vp_k (by omega), vp_k (by omega), fun c3 => ⟨?_, rfl⟩, fun c3 => nx (by unfold wP; simp [c3])⟩
        rw [h, if_pos (by unfold wP; simp [c, c2, c3])]
      · rw [bit_eq (by omega) (by omega)] at c
        exact nx (by unfold wP; simp [c])
  exact ⟨N - (fbit s + 1) + 1, H (N - (fbit s + 1)) (fbit s + 1) (by omega) (by omega) rfl⟩
theorem mc_X0_firstPartner {w : WD} (wk : wOk w) (l : Launch) (C : CS) (a0 : Int32) (r : (Nat → Int32)) (s : Nat) (hp : p_X0_firstPartner C a0 r s) : MC w l yX0_firstPartner cX0_firstPartner 6 (some .int) 1 0 0 [.ref (ad w 0), .int a0] C (pI (v_X0_firstPartner C a0 r s) C) := MC.postI (gw_X0_firstPartner wk l C a0 (sp_X0_firstPartner C a0 r s hp))
theorem cf_X0_adds : CfV yX0_adds "TwoGuilds" cX0_adds 2 (some .int) 1 := ⟨⟨by decide, by decide, by decide⟩, q72, q789, q787, q788⟩
def p_X0_adds (C : CS) (a0 : Int32) : Prop := opP C
def v_X0_adds (C : CS) (a0 : Int32) : Int32 := v_X3_adds C a0
def q_X0_adds (C : CS) (a0 : Int32) (C1 : CS) : Prop := frm [5, 6, 10] C C1
def wp_X0_adds (Post : Int32 → CS → Prop) (C : CS) (a0 : Int32) : Prop :=
  p_X0_isGlove C a0 ∧
    (∀ r2 : Int32, r2 = (v_X0_isGlove C a0) → 
    (r2 = 0 → 
    Post (-1000000001) C) ∧
    (¬ r2 = 0 → 
    ∃ (g4 : (Nat → Int32)), p_X0_layBests C g4 ∧
      (∀ C6 : CS, q_X0_layBests C g4 C6 → 
      isTb (cN C6) ∧
      (p_X1_all C6 (cN C6) ∧
      (∀ r9 : Int32, r9 = (v_X1_all C6 (cN C6)) → 
      vp_in r9 1024 ∧
      (∀ r12 : Int32, r12 = (v_X1_all C6 (cN C6)) → 
      vp_in (r12 &&& ((1 <<< (a0 &&& 31)) ^^^ (-1))) 1024 ∧
      (Post ((C6.2.1 6 (Int32.toNatClampNeg r9)) - (C6.2.1 6 (Int32.toNatClampNeg (r12 &&& ((1 <<< (a0 &&& 31)) ^^^ (-1)))))) C6)))))))
set_option maxHeartbeats 4000000 in
set_option maxRecDepth 100000 in
theorem gw_X0_adds {w : WD} (wk : wOk w) (l : Launch) (C : CS) (a0 : Int32) {Post : Int32 → CS → Prop} (hw : wp_X0_adds Post C a0) : MC w l yX0_adds cX0_adds 2 (some .int) 101 0 0 [.ref (ad w 0), .int a0] C (fun v C1 => ∃ r : Int32, v = some (.int r) ∧ Post r C1) := by
  unfold wp_X0_adds at hw
  refine MC.of wk (by decide) (Nat.le_of_ble_eq_true rfl) (fun x hx ok => ?_)
  subst hx
  show G w x 2 0 0 (QM w x _ 0 0) C 0 [(0, .ref (ad w 0)), (1, .int a0)] []
  refine g_aload_n ok 0 dX0_adds_0 rfl ?_
  refine g_iload_n ok 1 dX0_adds_1 rfl ?_
  obtain ⟨hp1, hw⟩ := hw
  refine g_callV ok [.int a0] cf_X0_isGlove q411 (mc_X0_isGlove ok.wo (xL x) C a0 hp1) (recvF ok 0 rfl rfl) rfl rfl (Nat.le_of_ble_eq_true rfl) ⟨by decide, by decide⟩ ⟨by decide, by decide⟩ dX0_adds_2 (resI ?_)
  refine g_nmI (fun r2 er2 => ?_)
  have hw := hw r2 er2
  refine g_if_ne (tgt := 11) ok dX0_adds_5 (by decide) (fun c3 => ?_) (fun c3 => ?_)
  · have hw := hw.2 c3
    refine g_aload_n ok 0 dX0_adds_11 rfl ?_
    obtain ⟨g4, hp5, hw⟩ := hw
    refine g_callV ok [] cf_X0_layBests q763 (mc_X0_layBests ok.wo (xL x) C g4 hp5) (recvF ok 0 rfl rfl) rfl rfl (Nat.le_of_ble_eq_true rfl) ⟨by decide, by decide⟩ ⟨by decide, by decide⟩ dX0_adds_12 (resVR fun C6 eC6 => ?_)
    have hw := hw C6 eC6
    refine g_aload_n ok 0 dX0_adds_15 rfl ?_
    refine g_get ok 0 rfl rfl in_X0 5 (by decide) q185 rfl dX0_adds_16 ?_
    refine g_aload_n ok 0 dX0_adds_19 rfl ?_
    refine g_get ok 0 rfl rfl in_X0 0 (by decide) q180 rfl dX0_adds_20 ?_
    obtain ⟨hf8, hw⟩ := hw
    obtain ⟨hp7, hw⟩ := hw
    refine g_callV ok [] cf_X1_all q759 (mc_X1_all ok.wo (xL x) C6 (cN C6) hp7) (recvF ok (cN C6) (fObjT hf8) rfl) rfl rfl (Nat.le_of_ble_eq_true rfl) ⟨by decide, by decide⟩ ⟨by decide, by decide⟩ dX0_adds_23 (resI ?_)
    refine g_nmI (fun r9 er9 => ?_)
    have hw := hw r9 er9
    obtain ⟨hf10, hw⟩ := hw
    refine g_iald ok 6 rfl hf10 _ rfl dX0_adds_26 ?_
    refine g_aload_n ok 0 dX0_adds_27 rfl ?_
    refine g_get ok 0 rfl rfl in_X0 5 (by decide) q185 rfl dX0_adds_28 ?_
    refine g_aload_n ok 0 dX0_adds_31 rfl ?_
    refine g_get ok 0 rfl rfl in_X0 0 (by decide) q180 rfl dX0_adds_32 ?_
    refine g_callV ok [] cf_X1_all q759 (mc_X1_all ok.wo (xL x) C6 (cN C6) hp7) (recvF ok (cN C6) (fObjT hf8) rfl) rfl rfl (Nat.le_of_ble_eq_true rfl) ⟨by decide, by decide⟩ ⟨by decide, by decide⟩ dX0_adds_35 (resI ?_)
    refine g_nmI (fun r12 er12 => ?_)
    have hw := hw r12 er12
    refine g_iconst (v := 1) ok dX0_adds_38 (by decide) ?_
    refine g_iload_n ok 1 dX0_adds_39 rfl ?_
    refine g_ishl ok dX0_adds_40 ?_
    refine g_iconst (v := -1) ok dX0_adds_41 (by decide) ?_
    refine g_ixor ok dX0_adds_42 ?_
    refine g_iand ok dX0_adds_43 ?_
    obtain ⟨hf13, hw⟩ := hw
    refine g_iald ok 6 rfl hf13 _ rfl dX0_adds_44 ?_
    refine g_isub ok dX0_adds_45 ?_
    exact g_iret ok dX0_adds_46 ⟨_, rfl, hw⟩
  · have hw := hw.1 c3
    refine g_ldc (v := -1000000001) ok q274 dX0_adds_8 ?_
    exact g_iret ok dX0_adds_10 ⟨_, rfl, hw⟩
theorem sp_X0_adds (C : CS) (a0 : Int32) (hp : p_X0_adds C a0) : wp_X0_adds (fun x C1 => x = v_X0_adds C a0 ∧ q_X0_adds C a0 C1) C a0 := by
  have hp : opP C := hp
  unfold v_X0_adds v_X3_adds
  refine ⟨⟨hp.1.1, trivial⟩, fun r2 e2 => ⟨fun c => ?_, fun c => ?_⟩⟩
  all_goals rw [e2, hp.isG] at c
  · rw [if_pos c]; exact ⟨rfl, frm.rf _ C⟩
  rw [if_neg c]
  obtain ⟨N, gN⟩ := hp.N
  obtain ⟨k, hk, rfl⟩ := (isGlove_iff gN).mp c
  obtain ⟨eN, hN⟩ := gN
  have p2 := p2_le hN
  have : 0 < 2 ^ N := Nat.pow_pos (by decide)
  refine ⟨C.2.1 36, hp, fun C5 h5 => ?_⟩
  obtain ⟨f5, b5⟩ := h5
  have t5 := hp.1.frm f5 (by intro k h1 h2; simp; omega)
  have e0 : C5.1 (cN C5) 0 = nI N := t5.2.n.2.1.trans eN
  obtain ⟨-, hq⟩ := b5 N eN hN
  refine ⟨t5.1, ⟨t5.1, trivial⟩, fun r8 e8 => ?_⟩
  rw [all_c e0 hN] at e8
  rw [e8]
  refine ⟨vp_k (by omega), fun r11 e11 => ?_⟩
  rw [all_c e0 hN] at e11
  rw [e11, clr_i k (by omega) _ (by omega)]
  have := clr_le (2 ^ N - 1) k
  refine ⟨vp_k (by omega), ?_, f5⟩
  rw [cl_k (by omega), cl_k (by omega), hq _ (by omega), hq _ (by omega), cl_k (by omega)]
  unfold allN
  rw [eN, cl_k (by omega)]
theorem mc_X0_adds {w : WD} (wk : wOk w) (l : Launch) (C : CS) (a0 : Int32) (hp : p_X0_adds C a0) : MC w l yX0_adds cX0_adds 2 (some .int) 101 0 0 [.ref (ad w 0), .int a0] C (pIR (v_X0_adds C a0) (q_X0_adds C a0)) := MC.postIR (gw_X0_adds wk l C a0 (sp_X0_adds C a0 hp))
theorem parL_gone {v : Nat → Nat → Int32} {tab : Nat → Int32} {N g : Nat} (hN : N ≤ 10) (hg : g < 10) : ∀ k s found, s < 2 ^ N → s / 2 ^ g % 2 = 0 → parL v tab N (nI g) k s found = found := by
  intro k
  induction k with
  | zero => intro s found _ _; rfl
  | succ k ih =>
    intro s found hs hb
    rw [parL]
    by_cases c : s = 0
    · rw [if_pos c]
    · rw [if_neg c]
      have p2 := p2_le hN
      have h0 : 0 < s := by omega
      obtain ⟨f1, f2, f3⟩ := fb_lt s (by omega) h0
      have n1 : ¬ nI (fbit s) = nI g := fun h => by
        have := (nI_eq (by omega) (by omega)).mp h
        rw [this] at f3
        omega
      have bc : clr s (fbit s) / 2 ^ g % 2 = 0 := by
        rw [clr_bit _ f1 g hg s (by omega)]
        split
        · rfl
        · exact hb
      have cl := clr_lt (s := s) (by omega) h0
      have n2 : ¬ wth v tab N s = nI g := fun h => by
        unfold wth at h
        rcases wA1_spec (wP v tab s) (N - (fbit s + 1)) (fbit s + 1) with q | ⟨q, q1, q2, q3, q4⟩
        · rw [q] at h
          exact absurd (show (-1 : Int32) < 0 by decide) (by rw [h]; exact nI_pos (by omega))
        · rw [q3] at h
          have := (nI_eq (by omega) (by omega)).mp h
          subst this
          unfold wP at q4
          simp [bc] at q4
      rw [if_neg n1, if_neg n2]
      have hl := lft_lt (s := s) (by omega) h0 (wth v tab N s)
      refine ih _ _ (by omega) ?_
      unfold lft
      split
      · unfold wth
        rcases wA1_spec (wP v tab s) (N - (fbit s + 1)) (fbit s + 1) with q | ⟨q, q1, q2, q3, q4⟩
        · rename_i hc
          unfold wth at hc
          rw [q] at hc
          exact absurd hc (by decide)
        · rw [q3, cl_k (by omega), clr_bit q (by omega) g hg _ (by omega)]
          split
          · rfl
          · exact bc
      · exact bc
theorem cf_X0_partner : CfV yX0_partner "TwoGuilds" cX0_partner 5 (some .int) 1 := ⟨⟨by decide, by decide, by decide⟩, q72, q778, q776, q777⟩
def p_X0_partner (C : CS) (a0 : Int32) : Prop := opP C
def v_X0_partner (C : CS) (a0 : Int32) : Int32 := v_X3_partner C a0
def q_X0_partner (C : CS) (a0 : Int32) (C1 : CS) : Prop := frm [5, 6, 10] C C1
def wp_X0_partner_l23 (Post : Int32 → CS → Prop) : Nat → CS → Int32 → Int32 → Prop
  | 0, _, _, _ => False
  | n + 1, C, i1, i2 => (i2 = 0 → 
  Post (-1000000005) C) ∧
  (¬ i2 = 0 → 
  ∀ r11 : Int32, r11 = (v_J6_numberOfTrailingZeros i2) → 
    ∃ (g12 : (Nat → Int32)) (g13 : Nat), p_X0_firstPartner C i2 g12 g13 ∧
    (∀ r15 : Int32, r15 = (v_X0_firstPartner C i2 g12 g13) → 
    (r11 = i1 → 
    (r11 = i1 → 
      ∀ r18 : Int32, r18 = (v_X0_orNone r15) → 
        Post r18 C) ∧
      (¬ r11 = i1 → 
      Post r11 C)) ∧
    (¬ r11 = i1 → 
    (r15 = i1 → 
      (r11 = i1 → 
        ∀ r25 : Int32, r25 = (v_X0_orNone r15) → 
          Post r25 C) ∧
        (¬ r11 = i1 → 
        Post r11 C)) ∧
      (¬ r15 = i1 → 
      ∀ x22 : Int32, x22 = (if 0 ≤ r15 then ((1 <<< (r15 &&& 31)) ^^^ (-1)) else (-1)) → 
        ∀ x23 : Int32, x23 = (i2 &&& (((1 <<< (r11 &&& 31)) ^^^ (-1)) &&& x22)) → 
        wp_X0_partner_l23 Post n C i1 x23))))
def wp_X0_partner (Post : Int32 → CS → Prop) (C : CS) (a0 : Int32) : Prop :=
  p_X0_isGlove C a0 ∧
    (∀ r2 : Int32, r2 = (v_X0_isGlove C a0) → 
    (r2 = 0 → 
    Post (-1000000001) C) ∧
    (¬ r2 = 0 → 
    ∃ (g4 : (Nat → Int32)), p_X0_layBests C g4 ∧
      (∀ C6 : CS, q_X0_layBests C g4 C6 → 
      isTb (cN C6) ∧
      (p_X1_all C6 (cN C6) ∧
      (∀ r9 : Int32, r9 = (v_X1_all C6 (cN C6)) → 
      ∃ m23, wp_X0_partner_l23 Post m23 C6 a0 r9)))))
set_option maxHeartbeats 4000000 in
set_option maxRecDepth 100000 in
theorem gw_X0_partner_l23 {w : WD} {x : Cx} (ok : Ok w x cX0_partner 5 yX0_partner.cls (some .int) (rmL 101 0 0)) {Post : Int32 → CS → Prop} : ∀ (n : Nat) (C : CS) (i1 : Int32) (i2 : Int32), wp_X0_partner_l23 Post  n C i1 i2 → G w x 5 0 0 (QM w x (fun v C1 => ∃ r : Int32, v = some (.int r) ∧ Post r C1) 0 0) C 23 [(0, .ref (ad w 0)), (1, .int i1), (2, .int i2)] [] := by
  intro n
  induction n with
  | zero => intro C i1 i2 hw; exact hw.elim
  | succ n ih =>
    intro C i1 i2 hw
    unfold wp_X0_partner_l23 at hw
    refine g_iload_n ok 2 dX0_partner_23 rfl ?_
    refine g_if_eq (tgt := 92) ok dX0_partner_24 (by decide) (fun c10 => ?_) (fun c10 => ?_)
    · have hw := hw.1 c10
      refine g_ldc (v := -1000000005) ok q740 dX0_partner_92 ?_
      exact g_iret ok dX0_partner_94 ⟨_, rfl, hw⟩
    · have hw := hw.2 c10
      refine g_iload_n ok 2 dX0_partner_27 rfl ?_
      refine g_callS ok [.int i2] cf_J6_numberOfTrailingZeros q771 (mc_J6_numberOfTrailingZeros ok.wo (xL x) C i2) rfl rfl (Nat.le_of_ble_eq_true rfl) ⟨by decide, by decide⟩ ⟨by decide, by decide⟩ dX0_partner_28 (resI ?_)
      refine g_nmI (fun r11 er11 => ?_)
      have hw := hw r11 er11
      refine g_istore_n0 ok [(3, .int r11), (0, .ref (ad w 0)), (1, .int i1), (2, .int i2)] dX0_partner_31 (by decide) rfl ?_
      refine g_aload_n ok 1 dX0_partner_32 rfl ?_
      refine g_iload_n ok 3 dX0_partner_33 rfl ?_
      obtain ⟨g12, g13, hp14, hw⟩ := hw
      refine g_callV ok [.int i2] cf_X0_firstPartner q779 (mc_X0_firstPartner ok.wo (xL x) C i2 g12 g13 hp14) (recvF ok 0 rfl rfl) rfl rfl (Nat.le_of_ble_eq_true rfl) ⟨by decide, by decide⟩ ⟨by decide, by decide⟩ dX0_partner_34 (resI ?_)
      refine g_nmI (fun r15 er15 => ?_)
      have hw := hw r15 er15
      refine g_istore0 ok [(4, .int r15), (3, .int r11), (0, .ref (ad w 0)), (1, .int i1), (2, .int i2)] dX0_partner_37 (by decide) rfl ?_
      refine g_iload_n ok 1 dX0_partner_39 rfl ?_
      refine g_iload_n ok 3 dX0_partner_40 rfl ?_
      refine g_icmp_eq (tgt := 50) ok dX0_partner_41 (by decide) (fun c16 => ?_) (fun c16 => ?_)
      · have hw := hw.1 c16
        refine g_iload_n ok 1 dX0_partner_50 rfl ?_
        refine g_iload_n ok 3 dX0_partner_51 rfl ?_
        refine g_icmp_ne (tgt := 63) ok dX0_partner_52 (by decide) (fun c17 => ?_) (fun c17 => ?_)
        · have hw := hw.2 c17
          refine g_iload_n ok 1 dX0_partner_63 rfl ?_
          exact g_iret ok dX0_partner_64 ⟨_, rfl, hw⟩
        · have hw := hw.1 c17
          refine g_iload ok 0 dX0_partner_55 rfl ?_
          refine g_callS ok [.int r15] cf_X0_orNone q783 (mc_X0_orNone ok.wo (xL x) C r15) rfl rfl (Nat.le_of_ble_eq_true rfl) ⟨by decide, by decide⟩ ⟨by decide, by decide⟩ dX0_partner_57 (resI ?_)
          refine g_nmI (fun r18 er18 => ?_)
          have hw := hw r18 er18
          refine g_goto (tgt := 64) ok dX0_partner_60 (by decide) ?_
          exact g_iret ok dX0_partner_64 ⟨_, rfl, hw⟩
      · have hw := hw.2 c16
        refine g_iload ok 0 dX0_partner_44 rfl ?_
        refine g_iload_n ok 3 dX0_partner_46 rfl ?_
        refine g_icmp_ne (tgt := 65) ok dX0_partner_47 (by decide) (fun c19 => ?_) (fun c19 => ?_)
        · have hw := hw.2 c19
          refine g_iload_n ok 4 dX0_partner_65 rfl ?_
          refine g_iconst (v := 1) ok dX0_partner_66 (by decide) ?_
          refine g_iload_n ok 1 dX0_partner_67 rfl ?_
          refine g_ishl ok dX0_partner_68 ?_
          refine g_iconst (v := -1) ok dX0_partner_69 (by decide) ?_
          refine g_ixor ok dX0_partner_70 ?_
          refine g_iload ok 0 dX0_partner_71 rfl ?_
          have kj21 : ∀ x22 : Int32, x22 = (if 0 ≤ r15 then ((1 <<< (r15 &&& 31)) ^^^ (-1)) else (-1)) → G w x 5 0 0 (QM w x (fun v C1 => ∃ r : Int32, v = some (.int r) ∧ Post r C1) 0 0) C 86 [(0, .ref (ad w 0)), (1, .int i1)] [.int x22, .int ((1 <<< (r11 &&& 31)) ^^^ (-1)), .int i2] := by
            intro x22 ex22
            have hw := hw x22 ex22
            refine g_iand ok dX0_partner_86 ?_
            refine g_iand ok dX0_partner_87 ?_
            refine g_istore_n ok (fun z => [(2, .int z), (0, .ref (ad w 0)), (1, .int i1)]) dX0_partner_88 (by decide) (fun _ => rfl) (fun x23 ex23 => ?_)
            have hw := hw x23 ex23
            refine g_goto (tgt := 23) ok dX0_partner_89 (by decide) ?_
            refine g_sub [1, 2, 0] [(0, .ref (ad w 0)), (1, .int i1), (2, .int x23)] rfl ?_
            exact ih C i1 x23 hw
          refine g_if_ge (tgt := 80) ok dX0_partner_73 (by decide) (fun c20 => ?_) (fun c20 => ?_)
          · refine g_iconst (v := 1) ok dX0_partner_80 (by decide) ?_
            refine g_iload ok 0 dX0_partner_81 rfl ?_
            refine g_ishl ok dX0_partner_83 ?_
            refine g_iconst (v := -1) ok dX0_partner_84 (by decide) ?_
            refine g_ixor ok dX0_partner_85 ?_
            exact g_sub [2, 3] [(0, .ref (ad w 0)), (1, .int i1)] rfl (kj21 _ (by simp only [if_pos c20]))
          · refine g_iconst (v := -1) ok dX0_partner_76 (by decide) ?_
            refine g_goto (tgt := 86) ok dX0_partner_77 (by decide) ?_
            exact g_sub [2, 3] [(0, .ref (ad w 0)), (1, .int i1)] rfl (kj21 _ (by simp only [if_neg c20]))
        · have hw := hw.1 c19
          refine g_iload_n ok 1 dX0_partner_50 rfl ?_
          refine g_iload_n ok 3 dX0_partner_51 rfl ?_
          refine g_icmp_ne (tgt := 63) ok dX0_partner_52 (by decide) (fun c24 => ?_) (fun c24 => ?_)
          · have hw := hw.2 c24
            refine g_iload_n ok 1 dX0_partner_63 rfl ?_
            exact g_iret ok dX0_partner_64 ⟨_, rfl, hw⟩
          · have hw := hw.1 c24
            refine g_iload ok 0 dX0_partner_55 rfl ?_
            refine g_callS ok [.int r15] cf_X0_orNone q783 (mc_X0_orNone ok.wo (xL x) C r15) rfl rfl (Nat.le_of_ble_eq_true rfl) ⟨by decide, by decide⟩ ⟨by decide, by decide⟩ dX0_partner_57 (resI ?_)
            refine g_nmI (fun r25 er25 => ?_)
            have hw := hw r25 er25
            refine g_goto (tgt := 64) ok dX0_partner_60 (by decide) ?_
            exact g_iret ok dX0_partner_64 ⟨_, rfl, hw⟩
set_option maxHeartbeats 4000000 in
set_option maxRecDepth 100000 in
theorem gw_X0_partner {w : WD} (wk : wOk w) (l : Launch) (C : CS) (a0 : Int32) {Post : Int32 → CS → Prop} (hw : wp_X0_partner Post C a0) : MC w l yX0_partner cX0_partner 5 (some .int) 101 0 0 [.ref (ad w 0), .int a0] C (fun v C1 => ∃ r : Int32, v = some (.int r) ∧ Post r C1) := by
  unfold wp_X0_partner at hw
  refine MC.of wk (by decide) (Nat.le_of_ble_eq_true rfl) (fun x hx ok => ?_)
  subst hx
  show G w x 5 0 0 (QM w x _ 0 0) C 0 [(0, .ref (ad w 0)), (1, .int a0)] []
  refine g_aload_n ok 0 dX0_partner_0 rfl ?_
  refine g_iload_n ok 1 dX0_partner_1 rfl ?_
  obtain ⟨hp1, hw⟩ := hw
  refine g_callV ok [.int a0] cf_X0_isGlove q411 (mc_X0_isGlove ok.wo (xL x) C a0 hp1) (recvF ok 0 rfl rfl) rfl rfl (Nat.le_of_ble_eq_true rfl) ⟨by decide, by decide⟩ ⟨by decide, by decide⟩ dX0_partner_2 (resI ?_)
  refine g_nmI (fun r2 er2 => ?_)
  have hw := hw r2 er2
  refine g_if_ne (tgt := 11) ok dX0_partner_5 (by decide) (fun c3 => ?_) (fun c3 => ?_)
  · have hw := hw.2 c3
    refine g_aload_n ok 0 dX0_partner_11 rfl ?_
    obtain ⟨g4, hp5, hw⟩ := hw
    refine g_callV ok [] cf_X0_layBests q763 (mc_X0_layBests ok.wo (xL x) C g4 hp5) (recvF ok 0 rfl rfl) rfl rfl (Nat.le_of_ble_eq_true rfl) ⟨by decide, by decide⟩ ⟨by decide, by decide⟩ dX0_partner_12 (resVR fun C6 eC6 => ?_)
    have hw := hw C6 eC6
    refine g_aload_n ok 0 dX0_partner_15 rfl ?_
    refine g_get ok 0 rfl rfl in_X0 0 (by decide) q180 rfl dX0_partner_16 ?_
    obtain ⟨hf8, hw⟩ := hw
    obtain ⟨hp7, hw⟩ := hw
    refine g_callV ok [] cf_X1_all q759 (mc_X1_all ok.wo (xL x) C6 (cN C6) hp7) (recvF ok (cN C6) (fObjT hf8) rfl) rfl rfl (Nat.le_of_ble_eq_true rfl) ⟨by decide, by decide⟩ ⟨by decide, by decide⟩ dX0_partner_19 (resI ?_)
    refine g_nmI (fun r9 er9 => ?_)
    have hw := hw r9 er9
    refine g_istore_n0 ok [(2, .int r9), (0, .ref (ad w 0)), (1, .int a0)] dX0_partner_22 (by decide) rfl ?_
    refine g_sub [1, 2, 0] [(0, .ref (ad w 0)), (1, .int a0), (2, .int r9)] rfl ?_
    obtain ⟨n26, hw⟩ := hw
    exact gw_X0_partner_l23 ok n26 C6 a0 r9 hw
  · have hw := hw.1 c3
    refine g_ldc (v := -1000000001) ok q274 dX0_partner_8 ?_
    exact g_iret ok dX0_partner_10 ⟨_, rfl, hw⟩
theorem sp_X0_partner (C : CS) (a0 : Int32) (hp : p_X0_partner C a0) : wp_X0_partner (fun x C1 => x = v_X0_partner C a0 ∧ q_X0_partner C a0 C1) C a0 := by
  have hp : opP C := hp
  unfold v_X0_partner v_X3_partner
  refine ⟨⟨hp.1.1, trivial⟩, fun r2 e2 => ⟨fun c => ?_, fun c => ?_⟩⟩
  all_goals rw [e2, hp.isG] at c
  · simp only [if_pos c]; exact ⟨trivial, frm.rf _ C⟩
  simp only [if_neg c]
  obtain ⟨N, gN⟩ := hp.N
  obtain ⟨g, hg, rfl⟩ := (isGlove_iff gN).mp c
  obtain ⟨eN, hN⟩ := gN
  have p2 := p2_le hN
  have : 0 < 2 ^ N := Nat.pow_pos (by decide)
  refine ⟨C.2.1 36, hp, fun C5 h5 => ?_⟩
  obtain ⟨f5, b5⟩ := h5
  have t5 := hp.1.frm f5 (by intro k h1 h2; simp; omega)
  have e0 : C5.1 (cN C5) 0 = nI N := t5.2.n.2.1.trans eN
  refine ⟨t5.1, ⟨t5.1, trivial⟩, fun r8 e8 => ?_⟩
  rw [all_c e0 hN] at e8
  rw [e8]
  generalize hr : C.2.1 36 = r at *
  have eAll : allN r = 2 ^ N - 1 := by unfold allN; rw [eN, cl_k (by omega)]
  have eP : parR r (nI g) = parL (vv r) (bestR r) N (nI g) (2 ^ N - 1 + 1) (2 ^ N - 1) (-1) := by unfold parR; rw [eAll, eN, cl_k (by omega)]
  have H : ∀ k s, s < k → s < 2 ^ N → parR r (nI g) = parL (vv r) (bestR r) N (nI g) k s (-1) → wp_X0_partner_l23 (fun x C1 => x = v_X3_told0 (parR r (nI g)) ∧ q_X0_partner C (nI g) C1) k C5 (nI g) (nI s) := by
    intro k
    induction k with
    | zero => intro s h; omega
    | succ k ih =>
      intro s hsk hs h
      rw [parL] at h
      refine ⟨fun c => ⟨?_, f5⟩, fun c => ?_⟩
      · have : s = 0 := (nI_eq (b := 0) (by omega) (by omega)).mp c
        rw [if_pos this] at h
        rw [h]; rfl
      · have h0 : 0 < s := by
          rcases Nat.eq_zero_or_pos s with q | q
          · subst q; exact absurd rfl c
          · exact q
        rw [if_neg (by omega)] at h
        obtain ⟨f1, f2, f3⟩ := fb_lt s (by omega) h0
        have cl := clr_lt (s := s) (by omega) h0
        have hl := lft_lt (s := s) (by omega) h0 (wth (vv r) (bestR r) N s)
        have hw : (r 1).toNatClampNeg = N := by rw [eN, cl_k (by omega)]
        intro r10 e10
        rw [ntz_k s (by omega) h0] at e10
        refine ⟨r, s, ⟨t5, b5, rfl, h0, by rw [hw]; exact hs⟩, fun r12 e12 => ?_⟩
        have e12 : r12 = wth (vv r) (bestR r) N s := by rw [e12]; unfold v_X0_firstPartner; rw [hw]
        have wsp := wA1_spec (wP (vv r) (bestR r) s) (N - (fbit s + 1)) (fbit s + 1)
        have ew : wth (vv r) (bestR r) N s = wA1 (wP (vv r) (bestR r) s) (N - (fbit s + 1)) (fbit s + 1) := rfl
        rw [← ew] at wsp
        have lb : nI (fbit s) = nI g ∨ wth (vv r) (bestR r) N s = nI g → lft s (wth (vv r) (bestR r) N s) / 2 ^ g % 2 = 0 := by
          intro hh
          unfold lft
          rcases wsp with q | ⟨q, q1, q2, q3, q4⟩
          · rw [q, if_neg (by decide)]
            rcases hh with z | z
            · have := (nI_eq (by omega) (by omega)).mp z
              subst this
              rw [clr_bit _ (by omega) _ (by omega) s (by omega), if_pos rfl]
            · rw [q] at z
              exact absurd (show (-1 : Int32) < 0 by decide) (by rw [z]; exact nI_pos (by omega))
          · rw [q3, if_pos (nI_pos' (by omega)), cl_k (by omega), clr_bit q (by omega) g (by omega) _ (by omega)]
            rcases hh with z | z
            · have := (nI_eq (by omega) (by omega)).mp z
              subst this
              split
              · rfl
              · rw [clr_bit _ (by omega) _ (by omega) s (by omega), if_pos rfl]
            · rw [q3] at z
              have := (nI_eq (by omega) (by omega)).mp z
              rw [if_pos this.symm]
        refine ⟨fun c1 => ⟨fun _ r15 e15 => ⟨?_, f5⟩, fun n => absurd c1 n⟩, fun c1 => ⟨fun c2 => ⟨fun n => absurd n c1, fun _ => ⟨?_, f5⟩⟩, fun c2 x19 e19 x20 e20 => ?_⟩⟩
        · rw [e10] at c1
          rw [if_pos c1, parL_gone hN (by omega) _ _ _ (by omega) (lb (Or.inl c1))] at h
          rw [e15, e12, h]; rfl
        · rw [e10] at c1
          rw [e12] at c2
          rw [if_neg c1, if_pos c2, parL_gone hN (by omega) _ _ _ (by omega) (lb (Or.inr c2))] at h
          rw [e10, h]
          unfold v_X3_told0
          rw [if_pos (nI_pos' (by omega))]
        · rw [e10] at c1
          rw [e12] at c2
          rw [if_neg c1, if_neg c2] at h
          have ex : x20 = nI (lft s (wth (vv r) (bestR r) N s)) := by
            rw [e20, e19, e12, e10]
            unfold lft
            rcases wsp with q | ⟨q, q1, q2, q3, q4⟩
            · rw [q, if_neg (by decide), if_neg (by decide), ← clr_i _ f1 s (by omega)]
              rw [Int32.and_neg_one]
            · have cq := clr_le (clr s (fbit s)) q
              rw [q3, if_pos (nI_pos' (by omega)), if_pos (nI_pos' (by omega)), cl_k (by omega), ← clr_i q (by omega) _ (by omega), ← clr_i _ f1 s (by omega), Int32.and_assoc]
          rw [ex]
          exact ih _ (by omega) (by omega) h
  exact ⟨2 ^ N - 1 + 1, H (2 ^ N - 1 + 1) (2 ^ N - 1) (by omega) (by omega) eP⟩
theorem mc_X0_partner {w : WD} (wk : wOk w) (l : Launch) (C : CS) (a0 : Int32) (hp : p_X0_partner C a0) : MC w l yX0_partner cX0_partner 5 (some .int) 101 0 0 [.ref (ad w 0), .int a0] C (pIR (v_X0_partner C a0) (q_X0_partner C a0)) := MC.postIR (gw_X0_partner wk l C a0 (sp_X0_partner C a0 hp))
