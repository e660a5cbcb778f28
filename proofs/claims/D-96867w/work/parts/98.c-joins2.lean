theorem cf_X0_joins : CfV yX0_joins "TwoGuilds" cX0_joins 1 (some .int) 0 := ⟨⟨by decide, by decide, by decide⟩, q72, q900, q898, q899⟩
def p_X0_joins (C : CS) : Prop := opP C
def v_X0_joins (C : CS) : Int32 := v_X3_joins C
def q_X0_joins (C : CS) (C1 : CS) : Prop := jOp C C1
def wp_X0_joins (Post : Int32 → CS → Prop) (C : CS)  : Prop :=
  ∃ (g1 : (Nat → Int32)), p_X0_layJoins C g1 ∧
    (∀ C3 : CS, q_X0_layJoins C g1 C3 → 
    Post (C3.1 0 9) C3)
set_option maxHeartbeats 4000000 in
set_option maxRecDepth 100000 in
theorem gw_X0_joins {w : WD} (wk : wOk w) (l : Launch) (C : CS)  {Post : Int32 → CS → Prop} (hw : wp_X0_joins Post C ) : MC w l yX0_joins cX0_joins 1 (some .int) 2 0 0 [.ref (ad w 0)] C (fun v C1 => ∃ r : Int32, v = some (.int r) ∧ Post r C1) := by
  unfold wp_X0_joins at hw
  refine MC.of wk (by decide) (Nat.le_of_ble_eq_true rfl) (fun x hx ok => ?_)
  subst hx
  show G w x 1 0 0 (QM w x _ 0 0) C 0 [(0, .ref (ad w 0))] []
  refine g_aload_n ok 0 dX0_joins_0 rfl ?_
  obtain ⟨g1, hp2, hw⟩ := hw
  refine g_callV ok [] cf_X0_layJoins q901 (mc_X0_layJoins ok.wo (xL x) C g1 hp2) (recvF ok 0 rfl rfl) rfl rfl (Nat.le_of_ble_eq_true rfl) ⟨by decide, by decide⟩ ⟨by decide, by decide⟩ dX0_joins_1 (resVR fun C3 eC3 => ?_)
  have hw := hw C3 eC3
  refine g_aload_n ok 0 dX0_joins_4 rfl ?_
  refine g_get ok 0 rfl rfl in_X0 9 (by decide) q189 rfl dX0_joins_5 ?_
  exact g_iret ok dX0_joins_8 ⟨_, rfl, hw⟩
theorem sp_X0_joins (C : CS) (hp : p_X0_joins C) : wp_X0_joins (fun x C1 => x = v_X0_joins C ∧ q_X0_joins C C1) C := by
  have hp : opP C := hp
  refine ⟨C.2.1 36, hp.1, fun C2 e2 => ⟨?_, _, e2.1⟩⟩
  rw [e2.1.1]
  exact wIs
theorem mc_X0_joins {w : WD} (wk : wOk w) (l : Launch) (C : CS)  (hp : p_X0_joins C ) : MC w l yX0_joins cX0_joins 1 (some .int) 2 0 0 [.ref (ad w 0)] C (pIR (v_X0_joins C ) (q_X0_joins C )) := MC.postIR (gw_X0_joins wk l C  (sp_X0_joins C  hp))
theorem jg_two (r : Nat → Int32) {l a b : Nat} (ha : a < 5) (hb : b < 5) (hab : a ≠ b) : ∀ c, jg r (5 * l + a) c + jg r (5 * l + b) c ≤ jn r c := by
  intro c
  induction c with
  | zero => exact Nat.le_refl _
  | succ c ih =>
    rw [jn, jg, jg, show (5 * l + a) / 5 = l by omega, show (5 * l + b) / 5 = l by omega, show (5 * l + a) % 5 = a by omega, show (5 * l + b) % 5 = b by omega]
    by_cases hh : hR r c (wN1 r) = true
    · rw [if_pos hh, if_pos hh, if_pos hh]
      by_cases h1 : dig c l = a
      · rw [if_pos h1, if_neg (show ¬ dig c l = b by omega)]; omega
      · rw [if_neg h1]; split <;> omega
    · rw [if_neg hh, if_neg hh, if_neg hh]; omega
theorem su_keep {r : Nat → Int32} {l k : Nat} (hn : ¬ jn r 3125 = 0) (hk : k < 5) (hj : jg r (5 * l + k) 3125 = jn r 3125) : ∀ d, k + 1 + d ≤ 5 → ∀ z, itr (suS r l) (k + 1 + d) z = nI k := by
  intro d
  induction d with
  | zero => intro _ z; show itr (suS r l) (k + 1) z = nI k; rw [itr, suS, if_pos hj]
  | succ d ih =>
    intro hd z
    rw [show k + 1 + (d + 1) = (k + 1 + d) + 1 by omega, itr, suS, ih (by omega) z, if_neg]
    have := jg_two r (l := l) (a := k) (b := k + 1 + d) hk (by omega) (by omega) 3125
    omega
theorem su_none {r : Nat → Int32} {l : Nat} : ∀ k, (∀ i, i < k → ¬ jg r (5 * l + i) 3125 = jn r 3125) → ∀ z, itr (suS r l) k z = z := by
  intro k
  induction k with
  | zero => intro _ z; rfl
  | succ k ih => intro h z; rw [itr, suS, if_neg (h k (by omega)), ih (fun i hi => h i (by omega)) z]
theorem cf_X0_sure : CfV yX0_sure "TwoGuilds" cX0_sure 3 (some .int) 1 := ⟨⟨by decide, by decide, by decide⟩, q72, q916, q914, q915⟩
def p_X0_sure (C : CS) (a0 : Int32) : Prop := opP C
def v_X0_sure (C : CS) (a0 : Int32) : Int32 := v_X3_sure C a0
def q_X0_sure (C : CS) (a0 : Int32) (C1 : CS) : Prop := jOp C C1
def wp_X0_sure_j52 (Post : Int32 → CS → Prop) (R21 : CS → Int32 → Int32 → Prop) (C : CS) (i1 : Int32) (i2 : Int32) : Prop := ∀ x8 : Int32, x8 = (i2 + Int32.ofInt 1) → 
  R21 C i1 x8
def wp_X0_sure_l21 (Post : Int32 → CS → Prop) : Nat → CS → Int32 → Int32 → Prop
  | 0, _, _, _ => False
  | n + 1, C, i1, i2 => (5 ≤ i2 → 
  Post (-1000000005) C) ∧
  (¬ 5 ≤ i2 → 
  ((C.1 0 9) ≤ 0 → 
    wp_X0_sure_j52 Post (fun C i1 i2 => wp_X0_sure_l21 Post n C i1 i2) C i1 i2) ∧
    (¬ (C.1 0 9) ≤ 0 → 
    vp_in ((5 * i1) + i2) 25 ∧
      (((C.2.1 8 (Int32.toNatClampNeg ((5 * i1) + i2))) = (C.1 0 9) → 
      Post i2 C) ∧
      (¬ (C.2.1 8 (Int32.toNatClampNeg ((5 * i1) + i2))) = (C.1 0 9) → 
      wp_X0_sure_j52 Post (fun C i1 i2 => wp_X0_sure_l21 Post n C i1 i2) C i1 i2))))
def wp_X0_sure (Post : Int32 → CS → Prop) (C : CS) (a0 : Int32) : Prop :=
  ∀ r1 : Int32, r1 = (v_X0_isIn (Int32.toInt64 a0) 0 4) → 
    (r1 = 0 → 
    Post (-1000000001) C) ∧
    (¬ r1 = 0 → 
    ∃ (g3 : (Nat → Int32)), p_X0_layJoins C g3 ∧
      (∀ C5 : CS, q_X0_layJoins C g3 C5 → 
      ∃ m21, wp_X0_sure_l21 Post m21 C5 a0 0))
set_option maxHeartbeats 4000000 in
set_option maxRecDepth 100000 in
theorem gw_X0_sure_j52 {w : WD} {x : Cx} (ok : Ok w x cX0_sure 3 yX0_sure.cls (some .int) (rmL 2 0 0)) {Post : Int32 → CS → Prop} {R21 : CS → Int32 → Int32 → Prop} (hR21 : ∀ C (i1 : Int32) (i2 : Int32), R21 C i1 i2 → G w x 3 0 0 (QM w x (fun v C1 => ∃ r : Int32, v = some (.int r) ∧ Post r C1) 0 0) C 21 [(0, .ref (ad w 0)), (1, .int i1), (2, .int i2)] []) : ∀ (C : CS) (i1 : Int32) (i2 : Int32), wp_X0_sure_j52 Post R21 C i1 i2 → G w x 3 0 0 (QM w x (fun v C1 => ∃ r : Int32, v = some (.int r) ∧ Post r C1) 0 0) C 52 [(0, .ref (ad w 0)), (1, .int i1), (2, .int i2)] [] := by
  intro C i1 i2 hw
  unfold wp_X0_sure_j52 at hw
  refine g_iinc ok 2 (fun z => [(2, .int z), (0, .ref (ad w 0)), (1, .int i1)]) dX0_sure_52 rfl (by decide) (fun _ => rfl) (fun x8 ex8 => ?_)
  have hw := hw x8 ex8
  refine g_goto (tgt := 21) ok dX0_sure_55 (by decide) ?_
  refine g_sub [1, 2, 0] [(0, .ref (ad w 0)), (1, .int i1), (2, .int x8)] rfl ?_
  exact hR21 C i1 x8 hw
set_option maxHeartbeats 4000000 in
set_option maxRecDepth 100000 in
theorem gw_X0_sure_l21 {w : WD} {x : Cx} (ok : Ok w x cX0_sure 3 yX0_sure.cls (some .int) (rmL 2 0 0)) {Post : Int32 → CS → Prop} : ∀ (n : Nat) (C : CS) (i1 : Int32) (i2 : Int32), wp_X0_sure_l21 Post  n C i1 i2 → G w x 3 0 0 (QM w x (fun v C1 => ∃ r : Int32, v = some (.int r) ∧ Post r C1) 0 0) C 21 [(0, .ref (ad w 0)), (1, .int i1), (2, .int i2)] [] := by
  intro n
  induction n with
  | zero => intro C i1 i2 hw; exact hw.elim
  | succ n ih =>
    intro C i1 i2 hw
    unfold wp_X0_sure_l21 at hw
    refine g_iload_n ok 2 dX0_sure_21 rfl ?_
    refine g_iconst (v := 5) ok dX0_sure_22 (by decide) ?_
    refine g_icmp_ge (tgt := 58) ok dX0_sure_23 (by decide) (fun c6 => ?_) (fun c6 => ?_)
    · have hw := hw.1 c6
      refine g_ldc (v := -1000000005) ok q740 dX0_sure_58 ?_
      exact g_iret ok dX0_sure_60 ⟨_, rfl, hw⟩
    · have hw := hw.2 c6
      refine g_aload_n ok 0 dX0_sure_26 rfl ?_
      refine g_get ok 0 rfl rfl in_X0 9 (by decide) q189 rfl dX0_sure_27 ?_
      refine g_if_le (tgt := 52) ok dX0_sure_30 (by decide) (fun c7 => ?_) (fun c7 => ?_)
      · have hw := hw.1 c7
        exact gw_X0_sure_j52 ok (fun C i1 i2 hw => ih C i1 i2 hw) C i1 i2 hw
      · have hw := hw.2 c7
        refine g_aload_n ok 0 dX0_sure_33 rfl ?_
        refine g_get ok 0 rfl rfl in_X0 7 (by decide) q187 rfl dX0_sure_34 ?_
        refine g_iconst (v := 5) ok dX0_sure_37 (by decide) ?_
        refine g_iload_n ok 1 dX0_sure_38 rfl ?_
        refine g_imul ok dX0_sure_39 ?_
        refine g_iload_n ok 2 dX0_sure_40 rfl ?_
        refine g_iadd ok dX0_sure_41 ?_
        obtain ⟨hf9, hw⟩ := hw
        refine g_iald ok 8 rfl hf9 _ rfl dX0_sure_42 ?_
        refine g_aload_n ok 0 dX0_sure_43 rfl ?_
        refine g_get ok 0 rfl rfl in_X0 9 (by decide) q189 rfl dX0_sure_44 ?_
        refine g_icmp_ne (tgt := 52) ok dX0_sure_47 (by decide) (fun c10 => ?_) (fun c10 => ?_)
        · have hw := hw.2 c10
          exact gw_X0_sure_j52 ok (fun C i1 i2 hw => ih C i1 i2 hw) C i1 i2 hw
        · have hw := hw.1 c10
          refine g_iload_n ok 2 dX0_sure_50 rfl ?_
          exact g_iret ok dX0_sure_51 ⟨_, rfl, hw⟩
set_option maxHeartbeats 4000000 in
set_option maxRecDepth 100000 in
theorem gw_X0_sure {w : WD} (wk : wOk w) (l : Launch) (C : CS) (a0 : Int32) {Post : Int32 → CS → Prop} (hw : wp_X0_sure Post C a0) : MC w l yX0_sure cX0_sure 3 (some .int) 2 0 0 [.ref (ad w 0), .int a0] C (fun v C1 => ∃ r : Int32, v = some (.int r) ∧ Post r C1) := by
  unfold wp_X0_sure at hw
  refine MC.of wk (by decide) (Nat.le_of_ble_eq_true rfl) (fun x hx ok => ?_)
  subst hx
  show G w x 3 0 0 (QM w x _ 0 0) C 0 [(0, .ref (ad w 0)), (1, .int a0)] []
  refine g_iload_n ok 1 dX0_sure_0 rfl ?_
  refine g_i2l ok dX0_sure_1 ?_
  refine g_lconst (v := 0) ok dX0_sure_2 (by decide) ?_
  refine g_ldc2 (v := 4) ok q892 dX0_sure_3 ?_
  refine g_callS ok [.long (Int32.toInt64 a0), .long 0, .long 4] cf_X0_isIn q269 (mc_X0_isIn ok.wo (xL x) C (Int32.toInt64 a0) 0 4) rfl rfl (Nat.le_of_ble_eq_true rfl) ⟨by decide, by decide⟩ ⟨by decide, by decide⟩ dX0_sure_6 (resI ?_)
  refine g_nmI (fun r1 er1 => ?_)
  have hw := hw r1 er1
  refine g_if_ne (tgt := 15) ok dX0_sure_9 (by decide) (fun c2 => ?_) (fun c2 => ?_)
  · have hw := hw.2 c2
    refine g_aload_n ok 0 dX0_sure_15 rfl ?_
    obtain ⟨g3, hp4, hw⟩ := hw
    refine g_callV ok [] cf_X0_layJoins q901 (mc_X0_layJoins ok.wo (xL x) C g3 hp4) (recvF ok 0 rfl rfl) rfl rfl (Nat.le_of_ble_eq_true rfl) ⟨by decide, by decide⟩ ⟨by decide, by decide⟩ dX0_sure_16 (resVR fun C5 eC5 => ?_)
    have hw := hw C5 eC5
    refine g_iconst (v := 0) ok dX0_sure_19 (by decide) ?_
    refine g_istore_n0 ok [(2, .int 0), (0, .ref (ad w 0)), (1, .int a0)] dX0_sure_20 (by decide) rfl ?_
    refine g_sub [1, 2, 0] [(0, .ref (ad w 0)), (1, .int a0), (2, .int 0)] rfl ?_
    obtain ⟨n11, hw⟩ := hw
    exact gw_X0_sure_l21 ok n11 C5 a0 0 hw
  · have hw := hw.1 c2
    refine g_ldc (v := -1000000001) ok q274 dX0_sure_12 ?_
    exact g_iret ok dX0_sure_14 ⟨_, rfl, hw⟩
theorem sp_X0_sure (C : CS) (a0 : Int32) (hp : p_X0_sure C a0) : wp_X0_sure (fun x C1 => x = v_X0_sure C a0 ∧ q_X0_sure C a0 C1) C a0 := by
  have hp : opP C := hp
  intro r1 e1
  rw [isIn0 a0 4 4 rfl] at e1
  have e1' : r1 = v_X3_isWord a0 := e1
  refine ⟨fun c => ⟨?_, jOp.rf C⟩, fun c => ⟨C.2.1 36, hp.1, fun C4 e4 => ?_⟩⟩
  · show _ = v_X3_sure C a0
    unfold v_X3_sure
    rw [← e1', if_pos c]
  obtain ⟨f4, h8⟩ := e4
  have c' := c
  rw [e1, in_iff] at c'
  obtain ⟨w, rfl, -, hw⟩ := nI_btw (lo := 0) (hi := 4) c'.1 c'.2 (by decide)
  have hv : v_X0_sure C (nI w) = suR (C.2.1 36) w := by
    show v_X3_sure C (nI w) = _
    unfold v_X3_sure
    rw [← e1', if_neg c, cl_k (by omega)]
  have hn := jn_le (C.2.1 36) 3125
  have e9 : C4.1 0 9 = nI (jn (C.2.1 36) 3125) := by rw [f4.1]; exact wIs
  have H : ∀ d k, k + d = 5 → (¬ jn (C.2.1 36) 3125 = 0 → ∀ i, i < k → ¬ jg (C.2.1 36) (5 * w + i) 3125 = jn (C.2.1 36) 3125) → wp_X0_sure_l21 (fun x C1 => x = v_X0_sure C (nI w) ∧ q_X0_sure C (nI w) C1) (d + 1) C4 (nI w) (nI k) := by
    intro d
    induction d with
    | zero =>
      intro k hk hno
      have ek : k = 5 := by omega
      subst ek
      refine ⟨fun _ => ⟨?_, _, f4⟩, fun c1 => absurd (by decide) c1⟩
      rw [hv, suR]
      split
      · rfl
      · rename_i h0
        rw [su_none 5 (hno h0)]
    | succ d ih =>
      intro k hk hno
      refine ⟨fun c1 => ?_, fun _ => ⟨fun c2 x7 e7 => ?_, fun c2 => ?_⟩⟩
      · rw [show (5 : Int32) = nI 5 from rfl, nI_leI (by omega) (by omega)] at c1; omega
      · rw [e9, show (0 : Int32) = nI 0 from rfl, nI_leI (by omega) (by omega)] at c2
        rw [e7, o1, nI_add]
        exact ih (k + 1) (by omega) (fun h0 => absurd (by omega) h0)
      · rw [e9, show (0 : Int32) = nI 0 from rfl, nI_leI (by omega) (by omega)] at c2
        have h0 : ¬ jn (C.2.1 36) 3125 = 0 := by omega
        have hg := jg_le (C.2.1 36) (5 * w + k) 3125
        have hz : (nI (jg (C.2.1 36) (5 * w + k) 3125) = nI (jn (C.2.1 36) 3125)) ↔ jg (C.2.1 36) (5 * w + k) 3125 = jn (C.2.1 36) 3125 := nI_eq (by omega) (by omega)
        rw [ix5, cl_k (by omega), h8 _ (by omega), e9]
        refine ⟨vp_k (by omega), fun c3 => ⟨?_, _, f4⟩, fun c3 x7 e7 => ?_⟩
        · have hs := su_keep h0 (by omega) (hz.mp c3) (4 - k) (by omega) (-1000000005)
          rw [show k + 1 + (4 - k) = 5 by omega] at hs
          rw [hv, suR, if_neg h0, hs]
        · rw [e7, o1, nI_add]
          refine ih (k + 1) (by omega) (fun h0 i hi => ?_)
          by_cases hik : i = k
          · rw [hik]; exact fun z => c3 (hz.mpr z)
          · exact hno h0 i (by omega)
  exact ⟨_, H 5 0 (by omega) (fun _ i hi => by omega)⟩
theorem mc_X0_sure {w : WD} (wk : wOk w) (l : Launch) (C : CS) (a0 : Int32) (hp : p_X0_sure C a0) : MC w l yX0_sure cX0_sure 3 (some .int) 2 0 0 [.ref (ad w 0), .int a0] C (pIR (v_X0_sure C a0) (q_X0_sure C a0)) := MC.postIR (gw_X0_sure wk l C a0 (sp_X0_sure C a0 hp))
theorem bt_in (A : Nat → Int32) : ∀ k, (itr (btT A) k (-1, 0)).1 = -1 ∨ ∃ g, g < k ∧ (itr (btT A) k (-1, 0)).1 = nI g := by
  intro k
  induction k with
  | zero => exact Or.inl rfl
  | succ k ih =>
    right
    rw [itr, btT]
    dsimp only
    by_cases c1 : (itr (btT A) k (-1, 0)).1 < 0
    · rw [if_pos c1]; exact ⟨k, by omega, rfl⟩
    · rw [if_neg c1]
      by_cases c2 : (itr (btT A) k (-1, 0)).2 ≤ btW A k
      · rw [if_pos c2]
        rcases ih with h | ⟨g, hg, h⟩
        · rw [h] at c1; exact absurd (by decide) c1
        · exact ⟨g, by omega, h⟩
      · rw [if_neg c2]; exact ⟨k, by omega, rfl⟩
theorem cf_X0_better : CfV yX0_better "TwoGuilds" cX0_better 7 (some .int) 1 := ⟨⟨by decide, by decide, by decide⟩, q72, q920, q918, q919⟩
def p_X0_better (C : CS) (a0 : Int32) : Prop := opP C
def v_X0_better (C : CS) (a0 : Int32) : Int32 := v_X3_better C a0
def q_X0_better (C : CS) (a0 : Int32) (C1 : CS) : Prop := jOp C C1
def wp_X0_better_l43 (Post : Int32 → CS → Prop) (R24 : CS → Int32 → Int32 → Int32 → Int32 → Prop) : Nat → CS → Int32 → Int32 → Int32 → Int32 → Int32 → Int32 → Prop
  | 0, _, _, _, _, _, _, _ => False
  | n + 1, C, i1, i2, i3, i4, i5, i6 => (5 ≤ i6 → 
  ∀ x17 : Int32, x17 = (if i2 < 0 then i4 else (if i3 ≤ i5 then i2 else i4)) → 
    ∀ x18 : Int32, x18 = (if i2 < 0 then i5 else (if i3 ≤ i5 then i3 else i5)) → 
    ∀ x19 : Int32, x19 = (i4 + Int32.ofInt 1) → 
    R24 C i1 x17 x18 x19) ∧
  (¬ 5 ≤ i6 → 
  vp_in ((5 * i4) + i6) 25 ∧
    (∀ x21 : Int32, x21 = (v_J5_max i5 (C.2.1 8 (Int32.toNatClampNeg ((5 * i4) + i6)))) → 
    ∀ x22 : Int32, x22 = (i6 + Int32.ofInt 1) → 
    wp_X0_better_l43 Post R24 n C i1 i2 i3 i4 x21 x22))
def wp_X0_better_l24 (Post : Int32 → CS → Prop) : Nat → CS → Int32 → Int32 → Int32 → Int32 → Prop
  | 0, _, _, _, _, _ => False
  | n + 1, C, i1, i2, i3, i4 => (5 ≤ i4 → 
  (0 ≤ i2 → 
    (i1 = 0 → 
      Post i2 C) ∧
      (¬ i1 = 0 → 
      Post i3 C)) ∧
    (¬ 0 ≤ i2 → 
    Post (-1000000005) C)) ∧
  (¬ 5 ≤ i4 → 
  ((C.1 0 9) ≤ 0 → 
    (0 ≤ i2 → 
      (i1 = 0 → 
        Post i2 C) ∧
        (¬ i1 = 0 → 
        Post i3 C)) ∧
      (¬ 0 ≤ i2 → 
      Post (-1000000005) C)) ∧
    (¬ (C.1 0 9) ≤ 0 → 
    ∃ m43, wp_X0_better_l43 Post (fun C i1 i2 i3 i4 => wp_X0_better_l24 Post n C i1 i2 i3 i4) m43 C i1 i2 i3 i4 0 0))
def wp_X0_better (Post : Int32 → CS → Prop) (C : CS) (a0 : Int32) : Prop :=
  ∀ r1 : Int32, r1 = (v_X0_isIn (Int32.toInt64 a0) 0 1) → 
    (r1 = 0 → 
    Post (-1000000001) C) ∧
    (¬ r1 = 0 → 
    ∃ (g3 : (Nat → Int32)), p_X0_layJoins C g3 ∧
      (∀ C5 : CS, q_X0_layJoins C g3 C5 → 
      ∃ m24, wp_X0_better_l24 Post m24 C5 a0 (-1) 0 0))
set_option maxHeartbeats 4000000 in
set_option maxRecDepth 100000 in
theorem gw_X0_better_l43 {w : WD} {x : Cx} (ok : Ok w x cX0_better 7 yX0_better.cls (some .int) (rmL 2 0 0)) {Post : Int32 → CS → Prop} {R24 : CS → Int32 → Int32 → Int32 → Int32 → Prop} (hR24 : ∀ C (i1 : Int32) (i2 : Int32) (i3 : Int32) (i4 : Int32), R24 C i1 i2 i3 i4 → G w x 7 0 0 (QM w x (fun v C1 => ∃ r : Int32, v = some (.int r) ∧ Post r C1) 0 0) C 24 [(0, .ref (ad w 0)), (1, .int i1), (2, .int i2), (3, .int i3), (4, .int i4)] []) : ∀ (n : Nat) (C : CS) (i1 : Int32) (i2 : Int32) (i3 : Int32) (i4 : Int32) (i5 : Int32) (i6 : Int32), wp_X0_better_l43 Post R24 n C i1 i2 i3 i4 i5 i6 → G w x 7 0 0 (QM w x (fun v C1 => ∃ r : Int32, v = some (.int r) ∧ Post r C1) 0 0) C 43 [(0, .ref (ad w 0)), (1, .int i1), (2, .int i2), (3, .int i3), (4, .int i4), (5, .int i5), (6, .int i6)] [] := by
  intro n
  induction n with
  | zero => intro C i1 i2 i3 i4 i5 i6 hw; exact hw.elim
  | succ n ih =>
    intro C i1 i2 i3 i4 i5 i6 hw
    unfold wp_X0_better_l43 at hw
    refine g_iload ok 6 dX0_better_43 rfl ?_
    refine g_iconst (v := 5) ok dX0_better_45 (by decide) ?_
    refine g_icmp_ge (tgt := 74) ok dX0_better_46 (by decide) (fun c12 => ?_) (fun c12 => ?_)
    · have hw := hw.1 c12
      refine g_iload_n ok 2 dX0_better_74 rfl ?_
      have kj16 : ∀ x17 : Int32, x17 = (if i2 < 0 then i4 else (if i3 ≤ i5 then i2 else i4)) → ∀ x18 : Int32, x18 = (if i2 < 0 then i5 else (if i3 ≤ i5 then i3 else i5)) → G w x 7 0 0 (QM w x (fun v C1 => ∃ r : Int32, v = some (.int r) ∧ Post r C1) 0 0) C 90 [(0, .ref (ad w 0)), (1, .int i1), (2, .int x17), (3, .int x18), (4, .int i4)] [] := by
        intro x17 ex17
        have hw := hw x17 ex17
        intro x18 ex18
        have hw := hw x18 ex18
        refine g_iinc ok 4 (fun z => [(4, .int z), (0, .ref (ad w 0)), (1, .int i1), (2, .int x17), (3, .int x18)]) dX0_better_90 rfl (by decide) (fun _ => rfl) (fun x19 ex19 => ?_)
        have hw := hw x19 ex19
        refine g_goto (tgt := 24) ok dX0_better_93 (by decide) ?_
        refine g_sub [1, 2, 3, 4, 0] [(0, .ref (ad w 0)), (1, .int i1), (2, .int x17), (3, .int x18), (4, .int x19)] rfl ?_
        exact hR24 C i1 x17 x18 x19 hw
      refine g_if_lt (tgt := 84) ok dX0_better_75 (by decide) (fun c13 => ?_) (fun c13 => ?_)
      · refine g_iload ok 4 dX0_better_84 rfl ?_
        refine g_istore_n0 ok [(2, .int i4), (0, .ref (ad w 0)), (1, .int i1), (3, .int i3), (4, .int i4), (5, .int i5), (6, .int i6)] dX0_better_86 (by decide) rfl ?_
        refine g_iload ok 5 dX0_better_87 rfl ?_
        refine g_istore_n0 ok [(3, .int i5), (2, .int i4), (0, .ref (ad w 0)), (1, .int i1), (4, .int i4), (5, .int i5), (6, .int i6)] dX0_better_89 (by decide) rfl ?_
        exact g_sub [2, 3, 1, 0, 4] [(0, .ref (ad w 0)), (1, .int i1), (2, .int i4), (3, .int i5), (4, .int i4)] rfl (kj16 _ (by simp only [if_pos c13]) _ (by simp only [if_pos c13]))
      · refine g_iload ok 5 dX0_better_78 rfl ?_
        refine g_iload_n ok 3 dX0_better_80 rfl ?_
        have kj15 : G w x 7 0 0 (QM w x (fun v C1 => ∃ r : Int32, v = some (.int r) ∧ Post r C1) 0 0) C 90 [(0, .ref (ad w 0)), (1, .int i1), (2, .int (if i3 ≤ i5 then i2 else i4)), (3, .int (if i3 ≤ i5 then i3 else i5)), (4, .int i4)] [] := by
          exact (kj16 _ (by simp only [if_neg c13]) _ (by simp only [if_neg c13]))
        refine g_icmp_ge (tgt := 90) ok dX0_better_81 (by decide) (fun c14 => ?_) (fun c14 => ?_)
        · simp only [if_pos c14] at kj15
          exact g_sub [0, 1, 2, 3, 4] [(0, .ref (ad w 0)), (1, .int i1), (2, .int i2), (3, .int i3), (4, .int i4)] rfl kj15
        · refine g_iload ok 4 dX0_better_84 rfl ?_
          refine g_istore_n0 ok [(2, .int i4), (0, .ref (ad w 0)), (1, .int i1), (3, .int i3), (4, .int i4), (5, .int i5), (6, .int i6)] dX0_better_86 (by decide) rfl ?_
          refine g_iload ok 5 dX0_better_87 rfl ?_
          refine g_istore_n0 ok [(3, .int i5), (2, .int i4), (0, .ref (ad w 0)), (1, .int i1), (4, .int i4), (5, .int i5), (6, .int i6)] dX0_better_89 (by decide) rfl ?_
          simp only [if_neg c14] at kj15
          exact g_sub [2, 3, 1, 0, 4] [(0, .ref (ad w 0)), (1, .int i1), (2, .int i4), (3, .int i5), (4, .int i4)] rfl kj15
    · have hw := hw.2 c12
      refine g_iload ok 5 dX0_better_49 rfl ?_
      refine g_aload_n ok 0 dX0_better_51 rfl ?_
      refine g_get ok 0 rfl rfl in_X0 7 (by decide) q187 rfl dX0_better_52 ?_
      refine g_iconst (v := 5) ok dX0_better_55 (by decide) ?_
      refine g_iload ok 4 dX0_better_56 rfl ?_
      refine g_imul ok dX0_better_58 ?_
      refine g_iload ok 6 dX0_better_59 rfl ?_
      refine g_iadd ok dX0_better_61 ?_
      obtain ⟨hf20, hw⟩ := hw
      refine g_iald ok 8 rfl hf20 _ rfl dX0_better_62 ?_
      refine g_mmax ok q691 (Nat.le_of_ble_eq_true rfl) ⟨by decide, by decide⟩ ⟨by decide, by decide⟩ dX0_better_63 ?_
      refine g_istore ok (fun z => [(5, .int z), (0, .ref (ad w 0)), (1, .int i1), (2, .int i2), (3, .int i3), (4, .int i4), (6, .int i6)]) dX0_better_66 (by decide) (fun _ => rfl) (fun x21 ex21 => ?_)
      have hw := hw x21 ex21
      refine g_iinc ok 6 (fun z => [(6, .int z), (5, .int x21), (0, .ref (ad w 0)), (1, .int i1), (2, .int i2), (3, .int i3), (4, .int i4)]) dX0_better_68 rfl (by decide) (fun _ => rfl) (fun x22 ex22 => ?_)
      have hw := hw x22 ex22
      refine g_goto (tgt := 43) ok dX0_better_71 (by decide) ?_
      refine g_sub [2, 3, 4, 5, 6, 1, 0] [(0, .ref (ad w 0)), (1, .int i1), (2, .int i2), (3, .int i3), (4, .int i4), (5, .int x21), (6, .int x22)] rfl ?_
      exact ih C i1 i2 i3 i4 x21 x22 hw
set_option maxHeartbeats 4000000 in
set_option maxRecDepth 100000 in
theorem gw_X0_better_l24 {w : WD} {x : Cx} (ok : Ok w x cX0_better 7 yX0_better.cls (some .int) (rmL 2 0 0)) {Post : Int32 → CS → Prop} : ∀ (n : Nat) (C : CS) (i1 : Int32) (i2 : Int32) (i3 : Int32) (i4 : Int32), wp_X0_better_l24 Post  n C i1 i2 i3 i4 → G w x 7 0 0 (QM w x (fun v C1 => ∃ r : Int32, v = some (.int r) ∧ Post r C1) 0 0) C 24 [(0, .ref (ad w 0)), (1, .int i1), (2, .int i2), (3, .int i3), (4, .int i4)] [] := by
  intro n
  induction n with
  | zero => intro C i1 i2 i3 i4 hw; exact hw.elim
  | succ n ih =>
    intro C i1 i2 i3 i4 hw
    unfold wp_X0_better_l24 at hw
    refine g_iload ok 4 dX0_better_24 rfl ?_
    refine g_iconst (v := 5) ok dX0_better_26 (by decide) ?_
    refine g_icmp_ge (tgt := 96) ok dX0_better_27 (by decide) (fun c6 => ?_) (fun c6 => ?_)
    · have hw := hw.1 c6
      refine g_iload_n ok 2 dX0_better_96 rfl ?_
      refine g_if_ge (tgt := 105) ok dX0_better_97 (by decide) (fun c7 => ?_) (fun c7 => ?_)
      · have hw := hw.1 c7
        refine g_iload_n ok 1 dX0_better_105 rfl ?_
        refine g_if_ne (tgt := 113) ok dX0_better_106 (by decide) (fun c8 => ?_) (fun c8 => ?_)
        · have hw := hw.2 c8
          refine g_iload_n ok 3 dX0_better_113 rfl ?_
          exact g_iret ok dX0_better_114 ⟨_, rfl, hw⟩
        · have hw := hw.1 c8
          refine g_iload_n ok 2 dX0_better_109 rfl ?_
          refine g_goto (tgt := 114) ok dX0_better_110 (by decide) ?_
          exact g_iret ok dX0_better_114 ⟨_, rfl, hw⟩
      · have hw := hw.2 c7
        refine g_ldc (v := -1000000005) ok q740 dX0_better_100 ?_
        refine g_goto (tgt := 114) ok dX0_better_102 (by decide) ?_
        exact g_iret ok dX0_better_114 ⟨_, rfl, hw⟩
    · have hw := hw.2 c6
      refine g_aload_n ok 0 dX0_better_30 rfl ?_
      refine g_get ok 0 rfl rfl in_X0 9 (by decide) q189 rfl dX0_better_31 ?_
      refine g_if_le (tgt := 96) ok dX0_better_34 (by decide) (fun c9 => ?_) (fun c9 => ?_)
      · have hw := hw.1 c9
        refine g_iload_n ok 2 dX0_better_96 rfl ?_
        refine g_if_ge (tgt := 105) ok dX0_better_97 (by decide) (fun c10 => ?_) (fun c10 => ?_)
        · have hw := hw.1 c10
          refine g_iload_n ok 1 dX0_better_105 rfl ?_
          refine g_if_ne (tgt := 113) ok dX0_better_106 (by decide) (fun c11 => ?_) (fun c11 => ?_)
          · have hw := hw.2 c11
            refine g_iload_n ok 3 dX0_better_113 rfl ?_
            exact g_iret ok dX0_better_114 ⟨_, rfl, hw⟩
          · have hw := hw.1 c11
            refine g_iload_n ok 2 dX0_better_109 rfl ?_
            refine g_goto (tgt := 114) ok dX0_better_110 (by decide) ?_
            exact g_iret ok dX0_better_114 ⟨_, rfl, hw⟩
        · have hw := hw.2 c10
          refine g_ldc (v := -1000000005) ok q740 dX0_better_100 ?_
          refine g_goto (tgt := 114) ok dX0_better_102 (by decide) ?_
          exact g_iret ok dX0_better_114 ⟨_, rfl, hw⟩
      · have hw := hw.2 c9
        refine g_iconst (v := 0) ok dX0_better_37 (by decide) ?_
        refine g_istore0 ok [(5, .int 0), (0, .ref (ad w 0)), (1, .int i1), (2, .int i2), (3, .int i3), (4, .int i4)] dX0_better_38 (by decide) rfl ?_
        refine g_iconst (v := 0) ok dX0_better_40 (by decide) ?_
        refine g_istore0 ok [(6, .int 0), (5, .int 0), (0, .ref (ad w 0)), (1, .int i1), (2, .int i2), (3, .int i3), (4, .int i4)] dX0_better_41 (by decide) rfl ?_
        refine g_sub [2, 3, 4, 5, 6, 1, 0] [(0, .ref (ad w 0)), (1, .int i1), (2, .int i2), (3, .int i3), (4, .int i4), (5, .int 0), (6, .int 0)] rfl ?_
        obtain ⟨n23, hw⟩ := hw
        exact gw_X0_better_l43 ok (fun C i1 i2 i3 i4 hw => ih C i1 i2 i3 i4 hw) n23 C i1 i2 i3 i4 0 0 hw
set_option maxHeartbeats 4000000 in
set_option maxRecDepth 100000 in
theorem gw_X0_better {w : WD} (wk : wOk w) (l : Launch) (C : CS) (a0 : Int32) {Post : Int32 → CS → Prop} (hw : wp_X0_better Post C a0) : MC w l yX0_better cX0_better 7 (some .int) 2 0 0 [.ref (ad w 0), .int a0] C (fun v C1 => ∃ r : Int32, v = some (.int r) ∧ Post r C1) := by
  unfold wp_X0_better at hw
  refine MC.of wk (by decide) (Nat.le_of_ble_eq_true rfl) (fun x hx ok => ?_)
  subst hx
  show G w x 7 0 0 (QM w x _ 0 0) C 0 [(0, .ref (ad w 0)), (1, .int a0)] []
  refine g_iload_n ok 1 dX0_better_0 rfl ?_
  refine g_i2l ok dX0_better_1 ?_
  refine g_lconst (v := 0) ok dX0_better_2 (by decide) ?_
  refine g_lconst (v := 1) ok dX0_better_3 (by decide) ?_
  refine g_callS ok [.long (Int32.toInt64 a0), .long 0, .long 1] cf_X0_isIn q269 (mc_X0_isIn ok.wo (xL x) C (Int32.toInt64 a0) 0 1) rfl rfl (Nat.le_of_ble_eq_true rfl) ⟨by decide, by decide⟩ ⟨by decide, by decide⟩ dX0_better_4 (resI ?_)
  refine g_nmI (fun r1 er1 => ?_)
  have hw := hw r1 er1
  refine g_if_ne (tgt := 13) ok dX0_better_7 (by decide) (fun c2 => ?_) (fun c2 => ?_)
  · have hw := hw.2 c2
    refine g_aload_n ok 0 dX0_better_13 rfl ?_
    obtain ⟨g3, hp4, hw⟩ := hw
    refine g_callV ok [] cf_X0_layJoins q901 (mc_X0_layJoins ok.wo (xL x) C g3 hp4) (recvF ok 0 rfl rfl) rfl rfl (Nat.le_of_ble_eq_true rfl) ⟨by decide, by decide⟩ ⟨by decide, by decide⟩ dX0_better_14 (resVR fun C5 eC5 => ?_)
    have hw := hw C5 eC5
    refine g_iconst (v := -1) ok dX0_better_17 (by decide) ?_
    refine g_istore_n0 ok [(2, .int (-1)), (0, .ref (ad w 0)), (1, .int a0)] dX0_better_18 (by decide) rfl ?_
    refine g_iconst (v := 0) ok dX0_better_19 (by decide) ?_
    refine g_istore_n0 ok [(3, .int 0), (2, .int (-1)), (0, .ref (ad w 0)), (1, .int a0)] dX0_better_20 (by decide) rfl ?_
    refine g_iconst (v := 0) ok dX0_better_21 (by decide) ?_
    refine g_istore0 ok [(4, .int 0), (3, .int 0), (2, .int (-1)), (0, .ref (ad w 0)), (1, .int a0)] dX0_better_22 (by decide) rfl ?_
    refine g_sub [3, 4, 2, 1, 0] [(0, .ref (ad w 0)), (1, .int a0), (2, .int (-1)), (3, .int 0), (4, .int 0)] rfl ?_
    obtain ⟨n24, hw⟩ := hw
    exact gw_X0_better_l24 ok n24 C5 a0 (-1) 0 0 hw
  · have hw := hw.1 c2
    refine g_ldc (v := -1000000001) ok q274 dX0_better_10 ?_
    exact g_iret ok dX0_better_12 ⟨_, rfl, hw⟩
theorem bt_first (A : Nat → Int32) : ¬ (itr (btT A) 5 (-1, 0)).1 < 0 := by
  have h : ∀ k, ¬ (itr (btT A) (k + 1) (-1, 0)).1 < 0 ∨ k > 100 := by
    intro k
    by_cases hk : k > 100
    · exact Or.inr hk
    · left
      have n0 : ∀ g, g ≤ 100 → ¬ nI g < 0 := by decide
      rw [itr, btT]
      dsimp only
      by_cases c1 : (itr (btT A) k (-1, 0)).1 < 0
      · rw [if_pos c1]; exact n0 k (by omega)
      · rw [if_neg c1]
        by_cases c2 : (itr (btT A) k (-1, 0)).2 ≤ btW A k
        · rw [if_pos c2]; exact c1
        · rw [if_neg c2]; exact n0 k (by omega)
  rcases h 4 with h | h
  · exact h
  · omega
theorem sp_X0_better (C : CS) (a0 : Int32) (hp : p_X0_better C a0) : wp_X0_better (fun x C1 => x = v_X0_better C a0 ∧ q_X0_better C a0 C1) C a0 := by
  have hp : opP C := hp
  intro r1 e1
  rw [isIn0 a0 1 1 rfl] at e1
  refine ⟨fun c => ⟨?_, jOp.rf C⟩, fun c => ⟨C.2.1 36, hp.1, fun C4 e4 => ?_⟩⟩
  · show _ = v_X3_better C a0
    unfold v_X3_better
    rw [← e1, if_pos c]
  obtain ⟨f4, h8⟩ := e4
  have hv : v_X0_better C a0 = btR (C.2.1 36) a0 := by
    show v_X3_better C a0 = _
    unfold v_X3_better
    rw [← e1, if_neg c]
  have hn := jn_le (C.2.1 36) 3125
  have e9 : C4.1 0 9 = nI (jn (C.2.1 36) 3125) := by rw [f4.1]; exact wIs
  have hA : ∀ q, q < 25 → C4.2.1 8 q = jA (C.2.1 36) q := h8
  by_cases h0 : jn (C.2.1 36) 3125 = 0
  · refine ⟨1, fun c1 => absurd c1 (by decide), fun _ => ⟨fun _ => ⟨fun c2 => absurd c2 (by decide), fun _ => ⟨?_, _, f4⟩⟩, fun c2 => absurd ?_ c2⟩⟩
    · rw [hv, btR, if_pos h0]
    · rw [e9, h0]; decide
  · have H : ∀ d w, w + d = 5 → wp_X0_better_l24 (fun x C1 => x = v_X0_better C a0 ∧ q_X0_better C a0 C1) (d + 1) C4 a0 (itr (btT (jA (C.2.1 36))) w (-1, 0)).1 (itr (btT (jA (C.2.1 36))) w (-1, 0)).2 (nI w) := by
      intro d
      induction d with
      | zero =>
        intro w hw
        have ew : w = 5 := by omega
        subst ew
        refine ⟨fun _ => ⟨fun _ => ⟨fun c5 => ⟨?_, _, f4⟩, fun c5 => ⟨?_, _, f4⟩⟩, fun c2 => absurd (Int32.not_lt.mp (bt_first _)) c2⟩, fun c1 => absurd (by decide) c1⟩
        · rw [hv, btR, if_neg h0, if_pos c5]
        · rw [hv, btR, if_neg h0, if_neg c5]
      | succ d ih =>
        intro w hw
        refine ⟨fun c1 => ?_, fun _ => ⟨fun c2 => ?_, fun c2 => ?_⟩⟩
        · rw [show (5 : Int32) = nI 5 from rfl, nI_leI (by omega) (by omega)] at c1; omega
        · rw [e9, show (0 : Int32) = nI 0 from rfl, nI_leI (by omega) (by omega)] at c2; omega
        · have H2 : ∀ k j, j + k = 5 → wp_X0_better_l43 (fun x C1 => x = v_X0_better C a0 ∧ q_X0_better C a0 C1) (fun D i1 i2 i3 i4 => wp_X0_better_l24 (fun x C1 => x = v_X0_better C a0 ∧ q_X0_better C a0 C1) (d + 1) D i1 i2 i3 i4) (k + 1) C4 a0 (itr (btT (jA (C.2.1 36))) w (-1, 0)).1 (itr (btT (jA (C.2.1 36))) w (-1, 0)).2 (nI w) (itr (btS (jA (C.2.1 36)) w) j 0) (nI j) := by
            intro k
            induction k with
            | zero =>
              intro j hj
              have ej : j = 5 := by omega
              subst ej
              refine ⟨fun _ x16 e16 x17 e17 x18 e18 => ?_, fun c1 => absurd (by decide) c1⟩
              have e2 : itr (btT (jA (C.2.1 36))) (w + 1) (-1, 0) = (x16, x17) := by
                have hb : itr (btS (jA (C.2.1 36)) w) 5 0 = btW (jA (C.2.1 36)) w := rfl
                rw [hb] at e16 e17
                rw [itr, btT, e16, e17]
                by_cases q1 : (itr (btT (jA (C.2.1 36))) w (-1, 0)).1 < 0
                · rw [if_pos q1, if_pos q1, if_pos rfl]
                · rw [if_neg q1, if_neg q1]
                  by_cases q2 : (itr (btT (jA (C.2.1 36))) w (-1, 0)).2 ≤ btW (jA (C.2.1 36)) w
                  · rw [if_pos q2, if_pos q2, if_neg]
                    rcases bt_in (jA (C.2.1 36)) w with h | ⟨g, hg, h⟩
                    · rw [h] at q1; exact absurd (by decide) q1
                    · rw [h, nI_eq (by omega) (by omega)]; omega
                  · rw [if_neg q2, if_neg q2, if_pos rfl]
              have h3 := ih (w + 1) (by omega)
              rw [e2] at h3
              rw [e18, o1, nI_add]
              exact h3
            | succ k ihk =>
              intro j hj
              refine ⟨fun c1 => ?_, fun _ => ⟨by rw [ix5]; exact vp_k (by omega), fun x20 e20 x21 e21 => ?_⟩⟩
              · rw [show (5 : Int32) = nI 5 from rfl, nI_leI (by omega) (by omega)] at c1; omega
              · rw [ix5, cl_k (by omega), hA _ (by omega), mx_eq] at e20
                have h3 := ihk (j + 1) (by omega)
                rw [itr, btS, ← e20] at h3
                rw [e21, o1, nI_add]
                exact h3
          exact ⟨_, H2 5 0 (by omega)⟩
    exact ⟨_, H 5 0 (by omega)⟩
theorem mc_X0_better {w : WD} (wk : wOk w) (l : Launch) (C : CS) (a0 : Int32) (hp : p_X0_better C a0) : MC w l yX0_better cX0_better 7 (some .int) 2 0 0 [.ref (ad w 0), .int a0] C (pIR (v_X0_better C a0) (q_X0_better C a0)) := MC.postIR (gw_X0_better wk l C a0 (sp_X0_better C a0 hp))
