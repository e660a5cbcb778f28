theorem cf_X0_keep : CfV yX0_keep "TwoGuilds" cX0_keep 1 (some .int) 0 := ⟨⟨by decide, by decide, by decide⟩, q72, q1344, q1342, q1343⟩
def p_X0_keep (C : CS) : Prop := opP C ∧ XD C ∧ cN C = 2
def v_X0_keep (C : CS) : Int32 := v_X3_keep C
def q_X0_keep (C : CS) (C1 : CS) : Prop := ∃ C3, q_X1_become C 4 2 (C.2.1 36) C3 ∧ C1 = wI C3 0 3 1
def wp_X0_keep (Post : Int32 → CS → Prop) (C : CS)  : Prop :=
  ∃ (g1 : (Nat → Int32)), p_X1_become C 4 (cN C) g1 ∧
    (∀ C3 : CS, q_X1_become C 4 (cN C) g1 C3 → 
    ∀ C4 : CS, C4 = (wI C3 0 3 1) → 
    isTb (cN C4) ∧
    (Post (C4.1 (cN C4) 0) C4))
set_option maxHeartbeats 4000000 in
set_option maxRecDepth 100000 in
theorem gw_X0_keep {w : WD} (wk : wOk w) (l : Launch) (C : CS)  {Post : Int32 → CS → Prop} (hw : wp_X0_keep Post C ) : MC w l yX0_keep cX0_keep 1 (some .int) 7 11 88 [.ref (ad w 0)] C (fun v C1 => ∃ r : Int32, v = some (.int r) ∧ Post r C1) := by
  unfold wp_X0_keep at hw
  refine MC.of wk (by decide) (Nat.le_of_ble_eq_true rfl) (fun x hx ok => ?_)
  subst hx
  show G w x 1 0 0 (QM w x _ 11 88) C 0 [(0, .ref (ad w 0))] []
  refine g_aload_n ok 0 dX0_keep_0 rfl ?_
  refine g_get ok 0 rfl rfl in_X0 2 (by decide) q182 rfl dX0_keep_1 ?_
  refine g_aload_n ok 0 dX0_keep_4 rfl ?_
  refine g_get ok 0 rfl rfl in_X0 0 (by decide) q180 rfl dX0_keep_5 ?_
  obtain ⟨g1, hp2, hw⟩ := hw
  refine g_callV ok [.ref (ad w (cN C))] cf_X1_become q856 (mc_X1_become ok.wo (xL x) C 4 (cN C) g1 hp2) (recvF ok 4 (fObjT (show isTb 4 from Or.inr (Or.inr rfl))) rfl) rfl rfl (Nat.le_of_ble_eq_true rfl) ⟨by decide, by decide⟩ ⟨by show 0 + 11 ≤ 11; omega, by show 0 + 88 ≤ 88; omega⟩ dX0_keep_8 (resVR fun C3 eC3 => ?_)
  have hw := hw C3 eC3
  refine g_aload_n ok 0 dX0_keep_11 rfl ?_
  refine g_iconst (v := 1) ok dX0_keep_12 (by decide) ?_
  refine g_putI ok 0 rfl rfl in_X0 tyX0 tyX0_ok nmX0 3 (by decide) q183 rfl (nb_of (Or.inr rfl)) (fb_of (Or.inr rfl)) (putV_x rfl (by decide)) dX0_keep_13 (fun C4 eC4 => ?_)
  have hw := hw C4 eC4
  refine g_aload_n ok 0 dX0_keep_16 rfl ?_
  refine g_get ok 0 rfl rfl in_X0 0 (by decide) q180 rfl dX0_keep_17 ?_
  obtain ⟨hf5, hw⟩ := hw
  refine g_get ok (cN C4) (fObjT hf5) rfl in_X1 0 (by decide) q124 rfl dX0_keep_20 ?_
  exact g_iret ok dX0_keep_23 ⟨_, rfl, hw⟩
theorem sp_X0_keep (C : CS) (hp : p_X0_keep C) : wp_X0_keep (fun x C1 => x = v_X0_keep C ∧ q_X0_keep C C1) C := by
  obtain ⟨h1, h2, h3⟩ := hp
  have t2 : isTb 2 := Or.inl rfl
  have t4 : isTb 4 := Or.inr (Or.inr rfl)
  have ht : TR C 2 (C.2.1 36) := by have := h1.1.2; rw [h3] at this; exact this
  refine ⟨C.2.1 36, ⟨t4, by rw [h3]; exact t2, by rw [h3]; decide, by rw [h3]; exact ht, h1.2, h2⟩, fun C3 e3 C4 e4 => ?_⟩
  rw [h3] at e3
  have n4 : cN C4 = 2 := by rw [e4]; show cN C3 = 2; rw [e3.2.1.1, h3]
  refine ⟨by rw [n4]; exact t2, ?_, C3, e3, e4⟩
  have tr3 : TR C3 2 (C.2.1 36) := e3.2.1.2.other t4 t2 (by decide) h1.2 ht
  rw [n4, e4]
  show (wI C3 0 3 1).1 2 0 = _
  rw [wIn (by decide), tr3.n.2.1]
  show _ = (wI (n_X3_copyAll_36_37 C) 1 3 1).2.1 36 1
  rfl
theorem mc_X0_keep {w : WD} (wk : wOk w) (l : Launch) (C : CS)  (hp : p_X0_keep C ) : MC w l yX0_keep cX0_keep 1 (some .int) 7 11 88 [.ref (ad w 0)] C (pIR (v_X0_keep C ) (q_X0_keep C )) := MC.postIR (gw_X0_keep wk l C  (sp_X0_keep C  hp))
theorem cf_X0_back : CfV yX0_back "TwoGuilds" cX0_back 1 (some .int) 0 := ⟨⟨by decide, by decide, by decide⟩, q72, q1348, q1346, q1347⟩
def p_X0_back (C : CS) : Prop := opP C ∧ XD C ∧ cN C = 2 ∧ imO C
def v_X0_back (C : CS) : Int32 := v_X3_back C
def q_X0_back (C : CS) (C1 : CS) : Prop := if C.1 0 3 = 0 then C1 = C else q_X1_become C 2 4 (C.2.1 37) C1
def wp_X0_back (Post : Int32 → CS → Prop) (C : CS)  : Prop :=
  ((C.1 0 3) = 0 → 
    Post (-1000000002) C) ∧
    (¬ (C.1 0 3) = 0 → 
    isTb (cN C) ∧
      (∃ (g2 : (Nat → Int32)), p_X1_become C (cN C) 4 g2 ∧
      (∀ C5 : CS, q_X1_become C (cN C) 4 g2 C5 → 
      isTb (cN C5) ∧
      (Post (C5.1 (cN C5) 0) C5))))
set_option maxHeartbeats 4000000 in
set_option maxRecDepth 100000 in
theorem gw_X0_back {w : WD} (wk : wOk w) (l : Launch) (C : CS)  {Post : Int32 → CS → Prop} (hw : wp_X0_back Post C ) : MC w l yX0_back cX0_back 1 (some .int) 7 11 88 [.ref (ad w 0)] C (fun v C1 => ∃ r : Int32, v = some (.int r) ∧ Post r C1) := by
  unfold wp_X0_back at hw
  refine MC.of wk (by decide) (Nat.le_of_ble_eq_true rfl) (fun x hx ok => ?_)
  subst hx
  show G w x 1 0 0 (QM w x _ 11 88) C 0 [(0, .ref (ad w 0))] []
  refine g_aload_n ok 0 dX0_back_0 rfl ?_
  refine g_get ok 0 rfl rfl in_X0 3 (by decide) q183 rfl dX0_back_1 ?_
  refine g_if_ne (tgt := 11) ok dX0_back_4 (by decide) (fun c1 => ?_) (fun c1 => ?_)
  · have hw := hw.2 c1
    refine g_aload_n ok 0 dX0_back_11 rfl ?_
    refine g_get ok 0 rfl rfl in_X0 0 (by decide) q180 rfl dX0_back_12 ?_
    refine g_aload_n ok 0 dX0_back_15 rfl ?_
    refine g_get ok 0 rfl rfl in_X0 2 (by decide) q182 rfl dX0_back_16 ?_
    obtain ⟨hf4, hw⟩ := hw
    obtain ⟨g2, hp3, hw⟩ := hw
    refine g_callV ok [.ref (ad w 4)] cf_X1_become q856 (mc_X1_become ok.wo (xL x) C (cN C) 4 g2 hp3) (recvF ok (cN C) (fObjT hf4) rfl) rfl rfl (Nat.le_of_ble_eq_true rfl) ⟨by decide, by decide⟩ ⟨by show 0 + 11 ≤ 11; omega, by show 0 + 88 ≤ 88; omega⟩ dX0_back_19 (resVR fun C5 eC5 => ?_)
    have hw := hw C5 eC5
    refine g_aload_n ok 0 dX0_back_22 rfl ?_
    refine g_get ok 0 rfl rfl in_X0 0 (by decide) q180 rfl dX0_back_23 ?_
    obtain ⟨hf6, hw⟩ := hw
    refine g_get ok (cN C5) (fObjT hf6) rfl in_X1 0 (by decide) q124 rfl dX0_back_26 ?_
    exact g_iret ok dX0_back_29 ⟨_, rfl, hw⟩
  · have hw := hw.1 c1
    refine g_ldc_w (v := -1000000002) ok q1328 dX0_back_7 ?_
    refine g_widen 11 88 (by omega) (by omega) ?_
    exact g_iret ok dX0_back_10 ⟨_, rfl, hw⟩
theorem sp_X0_back (C : CS) (hp : p_X0_back C) : wp_X0_back (fun x C1 => x = v_X0_back C ∧ q_X0_back C C1) C := by
  obtain ⟨h1, h2, h3, h4, h5⟩ := hp
  have t2 : isTb 2 := Or.inl rfl
  have t4 : isTb 4 := Or.inr (Or.inr rfl)
  unfold q_X0_back
  refine ⟨fun c => ⟨?_, by rw [if_pos c]⟩, fun c => ⟨by rw [h3]; exact t2, C.2.1 37, ⟨by rw [h3]; exact t2, t4, by rw [h3]; decide, (h5 c).1, h1.2, h2⟩, fun C5 e5 => ?_⟩⟩
  · show _ = v_X3_back C
    unfold v_X3_back
    rw [← h4, if_pos c]
  rw [h3] at e5
  have n5 : cN C5 = 2 := by rw [e5.2.1.1, h3]
  refine ⟨by rw [n5]; exact t2, ?_, by rw [if_neg c]; exact e5⟩
  rw [n5, e5.1.n.2.1]
  show _ = v_X3_back C
  unfold v_X3_back
  rw [← h4, if_neg c]
  rfl
theorem mc_X0_back {w : WD} (wk : wOk w) (l : Launch) (C : CS)  (hp : p_X0_back C ) : MC w l yX0_back cX0_back 1 (some .int) 7 11 88 [.ref (ad w 0)] C (pIR (v_X0_back C ) (q_X0_back C )) := MC.postIR (gw_X0_back wk l C  (sp_X0_back C  hp))
/-- a byte, as its number and as Java's byte -/
def sby (m : Nat) : Int32 := (Int8.ofNat m).toInt32
theorem sby_and : ∀ m, m < 256 → sby m &&& 255 = nI m := by decide +kernel
theorem by_of (y : Int32) : ∃ m, m < 256 ∧ y &&& 255 = nI m ∧ y.toInt8.toInt32 = sby m := by
  refine ⟨y.toBitVec.toNat % 256, Nat.mod_lt _ (by decide), ?_, ?_⟩
  · apply Int32.toBitVec_inj.mp
    apply BitVec.eq_of_toNat_eq
    show (y.toBitVec &&& 255#32).toNat = (BitVec.ofNat 32 (y.toBitVec.toNat % 256)).toNat
    rw [BitVec.toNat_and, show (255#32).toNat = 2 ^ 8 - 1 from rfl, Nat.and_two_pow_sub_one_eq_mod]
    exact (Nat.mod_eq_of_lt (Nat.lt_of_lt_of_le (Nat.mod_lt _ (by decide)) (by decide))).symm
  · unfold sby
    congr 1
    apply Int8.toBitVec_inj.mp
    apply BitVec.eq_of_toNat_eq
    show (y.toBitVec.signExtend 8).toNat = (BitVec.ofNat 8 (y.toBitVec.toNat % 256)).toNat
    rw [BitVec.signExtend_eq_setWidth_of_le _ (by decide), BitVec.toNat_setWidth, BitVec.toNat_ofNat]
    omega
/-- the tapes are alike: L bytes -/
def tpO (C : CS) (L : Nat) : Prop := L ≤ 96 ∧ C.1 0 12 = nI L ∧ C.1 1 9 = nI L ∧ ∀ i, i < L → ∃ m, m < 256 ∧ C.2.1 43 i = nI m ∧ C.2.1 11 i = sby m
theorem cf_X0_trim : CfV yX0_trim "TwoGuilds" cX0_trim 2 (some .int) 1 := ⟨⟨by decide, by decide, by decide⟩, q72, q928, q926, q927⟩
def p_X0_trim (C : CS) (a0 : Int32) : Prop := C.1 0 12 = C.1 1 9
def v_X0_trim (C : CS) (a0 : Int32) : Int32 := v_X3_trim C a0
def q_X0_trim (C : CS) (a0 : Int32) (C1 : CS) : Prop := if v_X3_in a0 0 (C.1 1 9) = 0 then C1 = C else C1 = wI C 0 12 a0
def wp_X0_trim (Post : Int32 → CS → Prop) (C : CS) (a0 : Int32) : Prop :=
  ∀ r1 : Int32, r1 = (v_X0_isIn (Int32.toInt64 a0) 0 (Int32.toInt64 (C.1 0 12))) → 
    (r1 = 0 → 
    Post (-1000000001) C) ∧
    (¬ r1 = 0 → 
    ∀ C3 : CS, C3 = (wI C 0 12 a0) → 
      Post a0 C3)
set_option maxHeartbeats 4000000 in
set_option maxRecDepth 100000 in
theorem gw_X0_trim {w : WD} (wk : wOk w) (l : Launch) (C : CS) (a0 : Int32) {Post : Int32 → CS → Prop} (hw : wp_X0_trim Post C a0) : MC w l yX0_trim cX0_trim 2 (some .int) 1 0 0 [.ref (ad w 0), .int a0] C (fun v C1 => ∃ r : Int32, v = some (.int r) ∧ Post r C1) := by
  unfold wp_X0_trim at hw
  refine MC.of wk (by decide) (Nat.le_of_ble_eq_true rfl) (fun x hx ok => ?_)
  subst hx
  show G w x 2 0 0 (QM w x _ 0 0) C 0 [(0, .ref (ad w 0)), (1, .int a0)] []
  refine g_iload_n ok 1 dX0_trim_0 rfl ?_
  refine g_i2l ok dX0_trim_1 ?_
  refine g_lconst (v := 0) ok dX0_trim_2 (by decide) ?_
  refine g_aload_n ok 0 dX0_trim_3 rfl ?_
  refine g_get ok 0 rfl rfl in_X0 12 (by decide) q194 rfl dX0_trim_4 ?_
  refine g_i2l ok dX0_trim_7 ?_
  refine g_callS ok [.long (Int32.toInt64 a0), .long 0, .long (Int32.toInt64 (C.1 0 12))] cf_X0_isIn q269 (mc_X0_isIn ok.wo (xL x) C (Int32.toInt64 a0) 0 (Int32.toInt64 (C.1 0 12))) rfl rfl (Nat.le_of_ble_eq_true rfl) ⟨by decide, by decide⟩ ⟨by decide, by decide⟩ dX0_trim_8 (resI ?_)
  refine g_nmI (fun r1 er1 => ?_)
  have hw := hw r1 er1
  refine g_if_ne (tgt := 17) ok dX0_trim_11 (by decide) (fun c2 => ?_) (fun c2 => ?_)
  · have hw := hw.2 c2
    refine g_aload_n ok 0 dX0_trim_17 rfl ?_
    refine g_iload_n ok 1 dX0_trim_18 rfl ?_
    refine g_putI ok 0 rfl rfl in_X0 tyX0 tyX0_ok nmX0 12 (by decide) q194 rfl rfl rfl (putV_x rfl (by decide)) dX0_trim_19 (fun C3 eC3 => ?_)
    have hw := hw C3 eC3
    refine g_iload_n ok 1 dX0_trim_22 rfl ?_
    exact g_iret ok dX0_trim_23 ⟨_, rfl, hw⟩
  · have hw := hw.1 c2
    refine g_ldc (v := -1000000001) ok q274 dX0_trim_14 ?_
    exact g_iret ok dX0_trim_16 ⟨_, rfl, hw⟩
theorem sp_X0_trim (C : CS) (a0 : Int32) (hp : p_X0_trim C a0) : wp_X0_trim (fun x C1 => x = v_X0_trim C a0 ∧ q_X0_trim C a0 C1) C a0 := by
  have hp : C.1 0 12 = C.1 1 9 := hp
  intro r1 e1
  rw [isIn0 a0 (C.1 0 12) _ rfl, hp] at e1
  unfold q_X0_trim v_X0_trim v_X3_trim
  rw [← e1]
  refine ⟨fun c => ?_, fun c C3 e3 => ?_⟩
  · rw [if_pos c]; exact ⟨rfl, by rw [if_pos c]⟩
  · rw [if_neg c]; exact ⟨rfl, by rw [if_neg c]; exact e3⟩
theorem mc_X0_trim {w : WD} (wk : wOk w) (l : Launch) (C : CS) (a0 : Int32) (hp : p_X0_trim C a0) : MC w l yX0_trim cX0_trim 2 (some .int) 1 0 0 [.ref (ad w 0), .int a0] C (pIR (v_X0_trim C a0) (q_X0_trim C a0)) := MC.postIR (gw_X0_trim wk l C a0 (sp_X0_trim C a0 hp))
def fdS (a b c : Int32) (k : Nat) : Int32 := (Int32.toInt8 ((if (4 : Int32) ≤ nI k then (if (8 : Int32) ≤ nI k then c else b) else a) >>> ((24 - 8 * (nI k - nI k / 4 * 4)) &&& 31))).toInt32
theorem fd_two (a b c : Int32) (k : Nat) : ∃ m, m < 256 ∧ fdB a b c k = nI m ∧ fdS a b c k = sby m := by_of _
theorem cf_X0_feed : CfV yX0_feed "TwoGuilds" cX0_feed 6 (some .int) 3 := ⟨⟨by decide, by decide, by decide⟩, q72, q924, q922, q923⟩
def p_X0_feed (C : CS) (a0 a1 a2 : Int32) : Prop := ∃ t, C.1 0 12 = nI t ∧ t ≤ 96
def v_X0_feed (C : CS) (a0 a1 a2 : Int32) : Int32 := if C.1 0 12 + 12 ≤ 96 then C.1 0 12 + 12 else -1000000003
def q_X0_feed (C : CS) (a0 a1 a2 : Int32) (C1 : CS) : Prop := (C.1 0 12 + 12 ≤ 96 → ∃ D, frm [11] C D ∧ C1 = wI D 0 12 (C.1 0 12 + 12) ∧ ∀ i, D.2.1 11 i = if (C.1 0 12).toNatClampNeg ≤ i ∧ i < (C.1 0 12).toNatClampNeg + 12 then fdS a0 a1 a2 (i - (C.1 0 12).toNatClampNeg) else C.2.1 11 i) ∧ (¬ C.1 0 12 + 12 ≤ 96 → C1 = C)
def wp_X0_feed_l18 (Post : Int32 → CS → Prop) : Nat → CS → Int32 → Int32 → Int32 → Int32 → Prop
  | 0, _, _, _, _, _ => False
  | n + 1, C, i1, i2, i3, i4 => (12 ≤ i4 → 
  ∀ C3 : CS, C3 = (wI C 0 12 ((C.1 0 12) + 12)) → 
    Post (C3.1 0 12) C3) ∧
  (¬ 12 ≤ i4 → 
  ∀ x8 : Int32, x8 = (if 4 ≤ i4 then (if 8 ≤ i4 then i3 else i2) else i1) → 
    vp_in ((C.1 0 12) + i4) 96 ∧
    (∀ C10 : CS, C10 = (wA C 11 (Int32.toNatClampNeg ((C.1 0 12) + i4)) ((Int32.toInt8 (x8 >>> ((24 - (8 * (i4 - i4 / 4 * 4))) &&& 31))).toInt32)) → 
    ∀ x11 : Int32, x11 = (i4 + Int32.ofInt 1) → 
    wp_X0_feed_l18 Post n C10 i1 i2 i3 x11))
def wp_X0_feed (Post : Int32 → CS → Prop) (C : CS) (a0 : Int32) (a1 : Int32) (a2 : Int32) : Prop :=
  (((C.1 0 12) + 12) ≤ 96 → 
    ∃ m18, wp_X0_feed_l18 Post m18 C a0 a1 a2 0) ∧
    (¬ ((C.1 0 12) + 12) ≤ 96 → 
    Post (-1000000003) C)
set_option maxHeartbeats 4000000 in
set_option maxRecDepth 100000 in
theorem gw_X0_feed_l18 {w : WD} {x : Cx} (ok : Ok w x cX0_feed 6 yX0_feed.cls (some .int) (rmL 0 0 0)) {Post : Int32 → CS → Prop} : ∀ (n : Nat) (C : CS) (i1 : Int32) (i2 : Int32) (i3 : Int32) (i4 : Int32), wp_X0_feed_l18 Post  n C i1 i2 i3 i4 → G w x 6 0 0 (QM w x (fun v C1 => ∃ r : Int32, v = some (.int r) ∧ Post r C1) 0 0) C 18 [(0, .ref (ad w 0)), (1, .int i1), (2, .int i2), (3, .int i3), (4, .int i4)] [] := by
  intro n
  induction n with
  | zero => intro C i1 i2 i3 i4 hw; exact hw.elim
  | succ n ih =>
    intro C i1 i2 i3 i4 hw
    unfold wp_X0_feed_l18 at hw
    refine g_iload ok 4 dX0_feed_18 rfl ?_
    refine g_bipush (v := 12) ok dX0_feed_20 (by decide) ?_
    refine g_icmp_ge (tgt := 81) ok dX0_feed_22 (by decide) (fun c2 => ?_) (fun c2 => ?_)
    · have hw := hw.1 c2
      refine g_aload_n ok 0 dX0_feed_81 rfl ?_
      refine g_dup ok dX0_feed_82 rfl ?_
      refine g_get ok 0 rfl rfl in_X0 12 (by decide) q194 rfl dX0_feed_83 ?_
      refine g_bipush (v := 12) ok dX0_feed_86 (by decide) ?_
      refine g_iadd ok dX0_feed_88 ?_
      refine g_putI ok 0 rfl rfl in_X0 tyX0 tyX0_ok nmX0 12 (by decide) q194 rfl rfl rfl (putV_x rfl (by decide)) dX0_feed_89 (fun C3 eC3 => ?_)
      have hw := hw C3 eC3
      refine g_aload_n ok 0 dX0_feed_92 rfl ?_
      refine g_get ok 0 rfl rfl in_X0 12 (by decide) q194 rfl dX0_feed_93 ?_
      exact g_iret ok dX0_feed_96 ⟨_, rfl, hw⟩
    · have hw := hw.2 c2
      refine g_iload ok 4 dX0_feed_25 rfl ?_
      refine g_iconst (v := 4) ok dX0_feed_27 (by decide) ?_
      have kj7 : ∀ x8 : Int32, x8 = (if 4 ≤ i4 then (if 8 ≤ i4 then i3 else i2) else i1) → G w x 6 0 0 (QM w x (fun v C1 => ∃ r : Int32, v = some (.int r) ∧ Post r C1) 0 0) C 47 [(0, .ref (ad w 0)), (1, .int i1), (2, .int i2), (3, .int i3), (4, .int i4)] [.int x8] := by
        intro x8 ex8
        have hw := hw x8 ex8
        refine g_istore0 ok [(5, .int x8), (0, .ref (ad w 0)), (1, .int i1), (2, .int i2), (3, .int i3), (4, .int i4)] dX0_feed_47 (by decide) rfl ?_
        refine g_aload_n ok 1 dX0_feed_49 rfl ?_
        refine g_get ok 0 rfl rfl in_X0 11 (by decide) q193 rfl dX0_feed_50 ?_
        refine g_aload_n ok 1 dX0_feed_53 rfl ?_
        refine g_get ok 0 rfl rfl in_X0 12 (by decide) q194 rfl dX0_feed_54 ?_
        refine g_iload ok 5 dX0_feed_57 rfl ?_
        refine g_iadd ok dX0_feed_59 ?_
        refine g_iload ok 0 dX0_feed_60 rfl ?_
        refine g_bipush (v := 24) ok dX0_feed_62 (by decide) ?_
        refine g_bipush (v := 8) ok dX0_feed_64 (by decide) ?_
        refine g_iload ok 5 dX0_feed_66 rfl ?_
        refine g_iconst (v := 4) ok dX0_feed_68 (by decide) ?_
        refine g_irem ok dX0_feed_69 (by decide) ?_
        refine g_imul ok dX0_feed_70 ?_
        refine g_isub ok dX0_feed_71 ?_
        refine g_ishr ok dX0_feed_72 ?_
        refine g_i2b ok dX0_feed_73 ?_
        obtain ⟨hf9, hw⟩ := hw
        refine g_bast ok 11 rfl hf9 _ rfl (pk_nb _) dX0_feed_74 (fun C10 eC10 => ?_)
        have hw := hw C10 eC10
        refine g_iinc ok 5 (fun z => [(4, .int z), (5, .int x8), (0, .ref (ad w 0)), (1, .int i1), (2, .int i2), (3, .int i3)]) dX0_feed_75 rfl (by decide) (fun _ => rfl) (fun x11 ex11 => ?_)
        have hw := hw x11 ex11
        refine g_goto (tgt := 18) ok dX0_feed_78 (by decide) ?_
        refine g_sub [2, 3, 4, 5, 0] [(0, .ref (ad w 0)), (1, .int i1), (2, .int i2), (3, .int i3), (4, .int x11)] rfl ?_
        exact ih C10 i1 i2 i3 x11 hw
      refine g_icmp_ge (tgt := 35) ok dX0_feed_28 (by decide) (fun c4 => ?_) (fun c4 => ?_)
      · refine g_iload ok 4 dX0_feed_35 rfl ?_
        refine g_bipush (v := 8) ok dX0_feed_37 (by decide) ?_
        have kj6 : G w x 6 0 0 (QM w x (fun v C1 => ∃ r : Int32, v = some (.int r) ∧ Post r C1) 0 0) C 47 [(0, .ref (ad w 0)), (1, .int i1), (2, .int i2), (3, .int i3), (4, .int i4)] [.int (if 8 ≤ i4 then i3 else i2)] := by
          exact (kj7 _ (by simp only [if_pos c4]))
        refine g_icmp_ge (tgt := 46) ok dX0_feed_39 (by decide) (fun c5 => ?_) (fun c5 => ?_)
        · refine g_iload_n ok 3 dX0_feed_46 rfl ?_
          simp only [if_pos c5] at kj6
          exact kj6
        · refine g_iload_n ok 2 dX0_feed_42 rfl ?_
          refine g_goto (tgt := 47) ok dX0_feed_43 (by decide) ?_
          simp only [if_neg c5] at kj6
          exact kj6
      · refine g_iload_n ok 1 dX0_feed_31 rfl ?_
        refine g_goto (tgt := 47) ok dX0_feed_32 (by decide) ?_
        exact (kj7 _ (by simp only [if_neg c4]))
set_option maxHeartbeats 4000000 in
set_option maxRecDepth 100000 in
theorem gw_X0_feed {w : WD} (wk : wOk w) (l : Launch) (C : CS) (a0 : Int32) (a1 : Int32) (a2 : Int32) {Post : Int32 → CS → Prop} (hw : wp_X0_feed Post C a0 a1 a2) : MC w l yX0_feed cX0_feed 6 (some .int) 0 0 0 [.ref (ad w 0), .int a0, .int a1, .int a2] C (fun v C1 => ∃ r : Int32, v = some (.int r) ∧ Post r C1) := by
  unfold wp_X0_feed at hw
  refine MC.of wk (by decide) (Nat.le_of_ble_eq_true rfl) (fun x hx ok => ?_)
  subst hx
  show G w x 6 0 0 (QM w x _ 0 0) C 0 [(0, .ref (ad w 0)), (1, .int a0), (2, .int a1), (3, .int a2)] []
  refine g_aload_n ok 0 dX0_feed_0 rfl ?_
  refine g_get ok 0 rfl rfl in_X0 12 (by decide) q194 rfl dX0_feed_1 ?_
  refine g_bipush (v := 12) ok dX0_feed_4 (by decide) ?_
  refine g_iadd ok dX0_feed_6 ?_
  refine g_bipush (v := 96) ok dX0_feed_7 (by decide) ?_
  refine g_icmp_le (tgt := 15) ok dX0_feed_9 (by decide) (fun c1 => ?_) (fun c1 => ?_)
  · have hw := hw.1 c1
    refine g_iconst (v := 0) ok dX0_feed_15 (by decide) ?_
    refine g_istore0 ok [(4, .int 0), (0, .ref (ad w 0)), (1, .int a0), (2, .int a1), (3, .int a2)] dX0_feed_16 (by decide) rfl ?_
    refine g_sub [1, 2, 3, 4, 0] [(0, .ref (ad w 0)), (1, .int a0), (2, .int a1), (3, .int a2), (4, .int 0)] rfl ?_
    obtain ⟨n12, hw⟩ := hw
    exact gw_X0_feed_l18 ok n12 C a0 a1 a2 0 hw
  · have hw := hw.2 c1
    refine g_ldc (v := -1000000003) ok q275 dX0_feed_12 ?_
    exact g_iret ok dX0_feed_14 ⟨_, rfl, hw⟩
theorem sp_X0_feed (C : CS) (a0 a1 a2 : Int32) (hp : p_X0_feed C a0 a1 a2) : wp_X0_feed (fun r C1 => r = v_X0_feed C a0 a1 a2 ∧ q_X0_feed C a0 a1 a2 C1) C a0 a1 a2 := by
  obtain ⟨t, et, ht⟩ := hp
  refine ⟨fun c => ?_, fun c => ⟨by unfold v_X0_feed; rw [if_neg c], fun z => absurd z c, fun _ => rfl⟩⟩
  have ht2 : t + 12 ≤ 96 := by
    have h := c
    rw [et, show (12 : Int32) = nI 12 from rfl, show (96 : Int32) = nI 96 from rfl, nI_add, nI_leI (by omega) (by omega)] at h
    exact h
  have H : ∀ d k, k + d = 12 → ∀ D : CS, frm [11] C D → (∀ i, D.2.1 11 i = if t ≤ i ∧ i < t + k then fdS a0 a1 a2 (i - t) else C.2.1 11 i) → wp_X0_feed_l18 (fun r C1 => r = v_X0_feed C a0 a1 a2 ∧ q_X0_feed C a0 a1 a2 C1) (d + 1) D a0 a1 a2 (nI k) := by
    intro d
    induction d with
    | zero =>
      intro k hk D hf g
      have ek : k = 12 := by omega
      subst ek
      have h9 : D.1 0 12 = C.1 0 12 := by rw [hf.1]
      refine ⟨fun _ C3 e3 => ⟨?_, fun _ => ⟨D, hf, by rw [e3, h9], ?_⟩, fun z => absurd c z⟩, fun c1 => absurd (by decide) c1⟩
      · unfold v_X0_feed
        rw [if_pos c, e3, h9]
        exact wIs
      · rw [et, cl_k (by omega)]; exact g
    | succ d ih =>
      intro k hk D hf g
      have h9 : D.1 0 12 = nI t := by rw [hf.1]; exact et
      refine ⟨fun c1 => ?_, fun _ x8 e8 => ?_⟩
      · rw [show (12 : Int32) = nI 12 from rfl, nI_leI (by omega) (by omega)] at c1; omega
      · rw [h9, nI_add]
        refine ⟨vp_k (by omega), fun C9 e9 x10 e10 => ?_⟩
        rw [cl_k (by omega), e8] at e9
        rw [e10, o1, nI_add]
        refine ih (k + 1) (by omega) C9 (by rw [e9]; exact hf.w (by decide)) (fun i => ?_)
        rw [e9, wA_row, upd]
        by_cases hi : i = t + k
        · rw [if_pos hi, if_pos (show t ≤ i ∧ i < t + (k + 1) by omega), hi, show t + k - t = k by omega]; rfl
        · rw [if_neg hi, g i]
          by_cases h2 : t ≤ i ∧ i < t + k
          · rw [if_pos h2, if_pos (by omega)]
          · rw [if_neg h2, if_neg (by omega)]
  exact ⟨_, H 12 0 (by omega) C (frm.rf _ _) (fun i => by rw [if_neg (by omega)])⟩
theorem mc_X0_feed {w : WD} (wk : wOk w) (l : Launch) (C : CS) (a0 : Int32) (a1 : Int32) (a2 : Int32) (hp : p_X0_feed C a0 a1 a2) : MC w l yX0_feed cX0_feed 6 (some .int) 0 0 0 [.ref (ad w 0), .int a0, .int a1, .int a2] C (pIR (v_X0_feed C a0 a1 a2) (q_X0_feed C a0 a1 a2)) := MC.postIR (gw_X0_feed wk l C a0 a1 a2 (sp_X0_feed C a0 a1 a2 hp))
