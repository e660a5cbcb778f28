theorem rowD_frm {J : List Nat} {C C1 : CS} (hf : frm J C C1) (hJ : 36 ∉ J) (h : rowD (C.2.1 36)) : rowD (C1.2.1 36) := by rw [hf.2.2 36 hJ]; exact h
theorem all_v {C : CS} {N : Nat} (h : gOk C N) : v_X3_all C = nI (2 ^ N - 1) := by
  obtain ⟨e, hN⟩ := h
  unfold v_X3_all
  have : 0 < 2 ^ N := Nat.pow_pos (by decide)
  rw [e, shl_i N (by omega), show (1 : Int32) = nI 1 from rfl, pk_sub (by omega)]
theorem isGlove_iff {C : CS} {N : Nat} (h : gOk C N) {a : Int32} : ¬ v_X3_isGlove C a = 0 ↔ ∃ g, g < N ∧ a = nI g := by
  obtain ⟨e, hN⟩ := h
  unfold v_X3_isGlove
  rw [in_iff, e]
  constructor
  · intro ⟨h1, h2⟩
    by_cases h0 : N = 0
    · subst h0
      have : ¬ (0 : Int32) ≤ nI 0 - 1 := by decide
      exact absurd (Int32.le_trans h1 h2) this
    · rw [show (1 : Int32) = nI 1 from rfl, pk_sub (by omega)] at h2
      obtain ⟨n, e2, -, h3⟩ := nI_btw (lo := 0) h1 h2 (by omega)
      exact ⟨n, by omega, e2⟩
  · intro ⟨g, h1, h2⟩
    subst h2
    refine ⟨nI_pos' (by omega), ?_⟩
    rw [show (1 : Int32) = nI 1 from rfl, pk_sub (by omega), nI_leI (by omega) (by omega)]
    omega
/-- VALUE of the best pairing of a set of a row -/
def bestR (r : Nat → Int32) (s : Nat) : Int32 := bT (vv r) (r 1).toNatClampNeg s
def allN (r : Nat → Int32) : Nat := 2 ^ (r 1).toNatClampNeg - 1
theorem cf_X3_best : CfV yX3_best "TwoGuildsModel" cX3_best 2 (some .int) 1 := ⟨⟨by decide, by decide, by decide⟩, q75, q1577, q1575, q1576⟩
def p_X3_best (C : CS) (a0 : Int32) : Prop := rowD (C.2.1 36)
def v_X3_best (C : CS) (a0 : Int32) : Int32 := if v_X3_in a0 0 (v_X3_all C) = 0 then -1000000001 else bestR (C.2.1 36) a0.toNatClampNeg
def q_X3_best (C : CS) (a0 : Int32) (C1 : CS) : Prop := frm [39, 40, 49, 50] C C1
def wp_X3_best (Post : Int32 → CS → Prop) (C : CS) (a0 : Int32) : Prop :=
  ∀ r1 : Int32, r1 = (v_X3_all C) → 
    ∀ r2 : Int32, r2 = (v_X3_in a0 0 r1) → 
    (r2 = 0 → 
    Post (-1000000001) C) ∧
    (¬ r2 = 0 → 
    p_X3_findBests C ∧
      (∀ C4 : CS, q_X3_findBests C C4 → 
      vp_in a0 1024 ∧
      (Post (C4.2.1 40 (Int32.toNatClampNeg a0)) C4)))
set_option maxHeartbeats 4000000 in
set_option maxRecDepth 100000 in
theorem gw_X3_best {w : WD} (wk : wOk w) (l : Launch) (C : CS) (a0 : Int32) {Post : Int32 → CS → Prop} (hw : wp_X3_best Post C a0) : MC w l yX3_best cX3_best 2 (some .int) 4 0 0 [.ref (ad w 1), .int a0] C (fun v C1 => ∃ r : Int32, v = some (.int r) ∧ Post r C1) := by
  unfold wp_X3_best at hw
  refine MC.of wk (by decide) (Nat.le_of_ble_eq_true rfl) (fun x hx ok => ?_)
  subst hx
  show G w x 2 0 0 (QM w x _ 0 0) C 0 [(0, .ref (ad w 1)), (1, .int a0)] []
  refine g_iload_n ok 1 dX3_best_0 rfl ?_
  refine g_iconst (v := 0) ok dX3_best_1 (by decide) ?_
  refine g_aload_n ok 0 dX3_best_2 rfl ?_
  refine g_callVI ok [] cf_X3_all q1578 (mc_X3_all ok.wo (xL x) C) (recvF ok 1 rfl rfl) rfl rfl (Nat.le_of_ble_eq_true rfl) ⟨by decide, by decide⟩ ⟨by decide, by decide⟩ dX3_best_3 ?_
  refine g_nmI (fun r1 er1 => ?_)
  have hw := hw r1 er1
  refine g_callSI ok [.int a0, .int 0, .int r1] cf_X3_in q1474 (mc_X3_in ok.wo (xL x) C a0 0 r1) rfl rfl (Nat.le_of_ble_eq_true rfl) ⟨by decide, by decide⟩ ⟨by decide, by decide⟩ dX3_best_6 ?_
  refine g_nmI (fun r2 er2 => ?_)
  have hw := hw r2 er2
  refine g_if_ne (tgt := 15) ok dX3_best_9 (by decide) (fun c3 => ?_) (fun c3 => ?_)
  · have hw := hw.2 c3
    refine g_aload_n ok 0 dX3_best_15 rfl ?_
    obtain ⟨hp, hw⟩ := hw
    refine g_callVVR ok [] cf_X3_findBests q1582 (mc_X3_findBests ok.wo (xL x) C hp) (recvF ok 1 rfl rfl) rfl rfl (Nat.le_of_ble_eq_true rfl) ⟨by decide, by decide⟩ ⟨by decide, by decide⟩ dX3_best_16 (fun C4 eC4 => ?_)
    have hw := hw C4 eC4
    refine g_aload_n ok 0 dX3_best_19 rfl ?_
    refine g_get ok 1 rfl rfl in_X3 5 (by decide) q1364 rfl dX3_best_20 ?_
    refine g_iload_n ok 1 dX3_best_23 rfl ?_
    obtain ⟨hg, hw⟩ := hw
    refine g_iald ok 40 rfl hg _ rfl dX3_best_24 ?_
    exact g_iret ok dX3_best_25 ⟨_, rfl, hw⟩
  · have hw := hw.1 c3
    refine g_ldc (v := -1000000001) ok q1477 dX3_best_12 ?_
    exact g_iret ok dX3_best_14 ⟨_, rfl, hw⟩
theorem sp_X3_best (C : CS) (a0 : Int32) (hp : p_X3_best C a0) : wp_X3_best (fun r C1 => r = v_X3_best C a0 ∧ q_X3_best C a0 C1) C a0 := by
  intro r1 e1 r2 e2
  rw [e1] at e2
  refine ⟨fun c => ⟨by unfold v_X3_best; rw [← e2, if_pos c], frm.rf _ _⟩, fun c => ⟨hp, fun C4 e4 => ?_⟩⟩
  obtain ⟨⟨N, e, hN⟩, ht⟩ := hp
  have pw : 2 ^ N ≤ 1024 := (Nat.pow_le_pow_right (by decide) hN : 2 ^ N ≤ 2 ^ 10)
  have pp : 0 < 2 ^ N := Nat.pow_pos (by decide)
  have c' := c
  rw [e2, in_iff, all_v ⟨e, hN⟩] at c'
  obtain ⟨s, rfl, -, hs⟩ := nI_btw (lo := 0) c'.1 c'.2 (by omega)
  refine ⟨vp_k (by omega), ?_, e4.1⟩
  unfold v_X3_best bestR
  rw [← e2, if_neg c, cl_k (by omega), e, cl_k (by omega)]
  have := e4.2.2 s
  rw [e, cl_k (by omega)] at this
  exact this (by omega)
theorem mc_X3_best {w : WD} (wk : wOk w) (l : Launch) (C : CS) (a0 : Int32) (hp : p_X3_best C a0) : MC w l yX3_best cX3_best 2 (some .int) 4 0 0 [.ref (ad w 1), .int a0] C (pIR (v_X3_best C a0) (q_X3_best C a0)) := MC.postIR (gw_X3_best wk l C a0 (sp_X3_best C a0 hp))
theorem cf_X3_bestOfAll : CfV yX3_bestOfAll "TwoGuildsModel" cX3_bestOfAll 1 (some .int) 0 := ⟨⟨by decide, by decide, by decide⟩, q75, q1655, q1654, qs55⟩
def p_X3_bestOfAll (C : CS) : Prop := rowD (C.2.1 36)
def v_X3_bestOfAll (C : CS) : Int32 := bestR (C.2.1 36) (allN (C.2.1 36))
def q_X3_bestOfAll (C : CS) (C1 : CS) : Prop := frm [39, 40, 49, 50] C C1
def wp_X3_bestOfAll (Post : Int32 → CS → Prop) (C : CS)  : Prop :=
  p_X3_findBests C ∧
    (∀ C1 : CS, q_X3_findBests C C1 → 
    ∀ r2 : Int32, r2 = (v_X3_all C1) → 
    vp_in r2 1024 ∧
    (Post (C1.2.1 40 (Int32.toNatClampNeg r2)) C1))
set_option maxHeartbeats 4000000 in
set_option maxRecDepth 100000 in
theorem gw_X3_bestOfAll {w : WD} (wk : wOk w) (l : Launch) (C : CS)  {Post : Int32 → CS → Prop} (hw : wp_X3_bestOfAll Post C ) : MC w l yX3_bestOfAll cX3_bestOfAll 1 (some .int) 4 0 0 [.ref (ad w 1)] C (fun v C1 => ∃ r : Int32, v = some (.int r) ∧ Post r C1) := by
  unfold wp_X3_bestOfAll at hw
  refine MC.of wk (by decide) (Nat.le_of_ble_eq_true rfl) (fun x hx ok => ?_)
  subst hx
  show G w x 1 0 0 (QM w x _ 0 0) C 0 [(0, .ref (ad w 1))] []
  refine g_aload_n ok 0 dX3_bestOfAll_0 rfl ?_
  obtain ⟨hp, hw⟩ := hw
  refine g_callVVR ok [] cf_X3_findBests q1582 (mc_X3_findBests ok.wo (xL x) C hp) (recvF ok 1 rfl rfl) rfl rfl (Nat.le_of_ble_eq_true rfl) ⟨by decide, by decide⟩ ⟨by decide, by decide⟩ dX3_bestOfAll_1 (fun C1 eC1 => ?_)
  have hw := hw C1 eC1
  refine g_aload_n ok 0 dX3_bestOfAll_4 rfl ?_
  refine g_get ok 1 rfl rfl in_X3 5 (by decide) q1364 rfl dX3_bestOfAll_5 ?_
  refine g_aload_n ok 0 dX3_bestOfAll_8 rfl ?_
  refine g_callVI ok [] cf_X3_all q1578 (mc_X3_all ok.wo (xL x) C1) (recvF ok 1 rfl rfl) rfl rfl (Nat.le_of_ble_eq_true rfl) ⟨by decide, by decide⟩ ⟨by decide, by decide⟩ dX3_bestOfAll_9 ?_
  refine g_nmI (fun r2 er2 => ?_)
  have hw := hw r2 er2
  obtain ⟨hg, hw⟩ := hw
  refine g_iald ok 40 rfl hg _ rfl dX3_bestOfAll_12 ?_
  exact g_iret ok dX3_bestOfAll_13 ⟨_, rfl, hw⟩
theorem sp_X3_bestOfAll (C : CS) (hp : p_X3_bestOfAll C) : wp_X3_bestOfAll (fun r C1 => r = v_X3_bestOfAll C ∧ q_X3_bestOfAll C C1) C := by
  refine ⟨hp, fun C1 e4 r2 e2 => ?_⟩
  obtain ⟨⟨N, e, hN⟩, ht⟩ := hp
  have pw : 2 ^ N ≤ 1024 := (Nat.pow_le_pow_right (by decide) hN : 2 ^ N ≤ 2 ^ 10)
  have pp : 0 < 2 ^ N := Nat.pow_pos (by decide)
  rw [all_v (N := N) ⟨by rw [e4.1.2.2 36 (by decide)]; exact e, hN⟩] at e2
  refine ⟨by rw [e2]; exact vp_k (by omega), ?_, e4.1⟩
  unfold v_X3_bestOfAll bestR allN
  rw [e2, cl_k (by omega), e, cl_k (by omega)]
  have := e4.2.2 (2 ^ N - 1)
  rw [e, cl_k (by omega)] at this
  exact this (by omega)
theorem mc_X3_bestOfAll {w : WD} (wk : wOk w) (l : Launch) (C : CS)  (hp : p_X3_bestOfAll C ) : MC w l yX3_bestOfAll cX3_bestOfAll 1 (some .int) 4 0 0 [.ref (ad w 1)] C (pIR (v_X3_bestOfAll C ) (q_X3_bestOfAll C )) := MC.postIR (gw_X3_bestOfAll wk l C  (sp_X3_bestOfAll C  hp))
theorem cf_X3_adds : CfV yX3_adds "TwoGuildsModel" cX3_adds 2 (some .int) 1 := ⟨⟨by decide, by decide, by decide⟩, q75, q1603, q1601, q1602⟩
def p_X3_adds (C : CS) (a0 : Int32) : Prop := rowD (C.2.1 36)
def v_X3_adds (C : CS) (a0 : Int32) : Int32 := if v_X3_isGlove C a0 = 0 then -1000000001 else bestR (C.2.1 36) (allN (C.2.1 36)) - bestR (C.2.1 36) (clr (allN (C.2.1 36)) a0.toNatClampNeg)
def q_X3_adds (C : CS) (a0 : Int32) (C1 : CS) : Prop := frm [39, 40, 49, 50] C C1
def wp_X3_adds (Post : Int32 → CS → Prop) (C : CS) (a0 : Int32) : Prop :=
  ∀ r1 : Int32, r1 = (v_X3_isGlove C a0) → 
    (r1 = 0 → 
    Post (-1000000001) C) ∧
    (¬ r1 = 0 → 
    p_X3_findBests C ∧
      (∀ C3 : CS, q_X3_findBests C C3 → 
      ∀ r4 : Int32, r4 = (v_X3_all C3) → 
      vp_in r4 1024 ∧
      (∀ r5 : Int32, r5 = (v_X3_all C3) → 
      vp_in (r5 &&& ((1 <<< (a0 &&& 31)) ^^^ (-1))) 1024 ∧
      (Post ((C3.2.1 40 (Int32.toNatClampNeg r4)) - (C3.2.1 40 (Int32.toNatClampNeg (r5 &&& ((1 <<< (a0 &&& 31)) ^^^ (-1)))))) C3))))
set_option maxHeartbeats 4000000 in
set_option maxRecDepth 100000 in
theorem gw_X3_adds {w : WD} (wk : wOk w) (l : Launch) (C : CS) (a0 : Int32) {Post : Int32 → CS → Prop} (hw : wp_X3_adds Post C a0) : MC w l yX3_adds cX3_adds 2 (some .int) 4 0 0 [.ref (ad w 1), .int a0] C (fun v C1 => ∃ r : Int32, v = some (.int r) ∧ Post r C1) := by
  unfold wp_X3_adds at hw
  refine MC.of wk (by decide) (Nat.le_of_ble_eq_true rfl) (fun x hx ok => ?_)
  subst hx
  show G w x 2 0 0 (QM w x _ 0 0) C 0 [(0, .ref (ad w 1)), (1, .int a0)] []
  refine g_aload_n ok 0 dX3_adds_0 rfl ?_
  refine g_iload_n ok 1 dX3_adds_1 rfl ?_
  refine g_callVI ok [.int a0] cf_X3_isGlove q1491 (mc_X3_isGlove ok.wo (xL x) C a0) (recvF ok 1 rfl rfl) rfl rfl (Nat.le_of_ble_eq_true rfl) ⟨by decide, by decide⟩ ⟨by decide, by decide⟩ dX3_adds_2 ?_
  refine g_nmI (fun r1 er1 => ?_)
  have hw := hw r1 er1
  refine g_if_ne (tgt := 11) ok dX3_adds_5 (by decide) (fun c2 => ?_) (fun c2 => ?_)
  · have hw := hw.2 c2
    refine g_aload_n ok 0 dX3_adds_11 rfl ?_
    obtain ⟨hp, hw⟩ := hw
    refine g_callVVR ok [] cf_X3_findBests q1582 (mc_X3_findBests ok.wo (xL x) C hp) (recvF ok 1 rfl rfl) rfl rfl (Nat.le_of_ble_eq_true rfl) ⟨by decide, by decide⟩ ⟨by decide, by decide⟩ dX3_adds_12 (fun C3 eC3 => ?_)
    have hw := hw C3 eC3
    refine g_aload_n ok 0 dX3_adds_15 rfl ?_
    refine g_get ok 1 rfl rfl in_X3 5 (by decide) q1364 rfl dX3_adds_16 ?_
    refine g_aload_n ok 0 dX3_adds_19 rfl ?_
    refine g_callVI ok [] cf_X3_all q1578 (mc_X3_all ok.wo (xL x) C3) (recvF ok 1 rfl rfl) rfl rfl (Nat.le_of_ble_eq_true rfl) ⟨by decide, by decide⟩ ⟨by decide, by decide⟩ dX3_adds_20 ?_
    refine g_nmI (fun r4 er4 => ?_)
    have hw := hw r4 er4
    obtain ⟨hg, hw⟩ := hw
    refine g_iald ok 40 rfl hg _ rfl dX3_adds_23 ?_
    refine g_aload_n ok 0 dX3_adds_24 rfl ?_
    refine g_get ok 1 rfl rfl in_X3 5 (by decide) q1364 rfl dX3_adds_25 ?_
    refine g_aload_n ok 0 dX3_adds_28 rfl ?_
    refine g_callVI ok [] cf_X3_all q1578 (mc_X3_all ok.wo (xL x) C3) (recvF ok 1 rfl rfl) rfl rfl (Nat.le_of_ble_eq_true rfl) ⟨by decide, by decide⟩ ⟨by decide, by decide⟩ dX3_adds_29 ?_
    refine g_nmI (fun r5 er5 => ?_)
    have hw := hw r5 er5
    refine g_iconst (v := 1) ok dX3_adds_32 (by decide) ?_
    refine g_iload_n ok 1 dX3_adds_33 rfl ?_
    refine g_ishl ok dX3_adds_34 ?_
    refine g_iconst (v := -1) ok dX3_adds_35 (by decide) ?_
    refine g_ixor ok dX3_adds_36 ?_
    refine g_iand ok dX3_adds_37 ?_
    obtain ⟨hg, hw⟩ := hw
    refine g_iald ok 40 rfl hg _ rfl dX3_adds_38 ?_
    refine g_isub ok dX3_adds_39 ?_
    exact g_iret ok dX3_adds_40 ⟨_, rfl, hw⟩
  · have hw := hw.1 c2
    refine g_ldc (v := -1000000001) ok q1477 dX3_adds_8 ?_
    exact g_iret ok dX3_adds_10 ⟨_, rfl, hw⟩
theorem sp_X3_adds (C : CS) (a0 : Int32) (hp : p_X3_adds C a0) : wp_X3_adds (fun r C1 => r = v_X3_adds C a0 ∧ q_X3_adds C a0 C1) C a0 := by
  intro r1 e1
  refine ⟨fun c => ⟨by unfold v_X3_adds; rw [← e1, if_pos c], frm.rf _ _⟩, fun c => ⟨hp, fun C3 e3 r4 e4 => ?_⟩⟩
  obtain ⟨⟨N, e, hN⟩, ht⟩ := hp
  have pw : 2 ^ N ≤ 1024 := (Nat.pow_le_pow_right (by decide) hN : 2 ^ N ≤ 2 ^ 10)
  have pp : 0 < 2 ^ N := Nat.pow_pos (by decide)
  have c' := c
  rw [e1, isGlove_iff ⟨e, hN⟩] at c'
  obtain ⟨g, hg, rfl⟩ := c'
  have ha := all_v (C := C3) (N := N) ⟨by rw [e3.1.2.2 36 (by decide)]; exact e, hN⟩
  rw [ha] at e4
  have hc := clr_le (2 ^ N - 1) g
  refine ⟨by rw [e4]; exact vp_k (by omega), fun r5 e5 => ?_⟩
  rw [ha] at e5
  rw [e5, clr_i g (by omega) _ (by omega)]
  refine ⟨vp_k (by omega), ?_, e3.1⟩
  have h1 := e3.2.2 (2 ^ N - 1)
  have h2 := e3.2.2 (clr (2 ^ N - 1) g)
  rw [e, cl_k (by omega)] at h1 h2
  unfold v_X3_adds bestR allN
  rw [← e1, if_neg c, e4, cl_k (by omega), cl_k (by omega), cl_k (by omega), e, cl_k (by omega), h1 (by omega), h2 (by omega)]
theorem mc_X3_adds {w : WD} (wk : wOk w) (l : Launch) (C : CS) (a0 : Int32) (hp : p_X3_adds C a0) : MC w l yX3_adds cX3_adds 2 (some .int) 4 0 0 [.ref (ad w 1), .int a0] C (pIR (v_X3_adds C a0) (q_X3_adds C a0)) := MC.postIR (gw_X3_adds wk l C a0 (sp_X3_adds C a0 hp))
theorem cf_X3_value : CfV yX3_value "TwoGuildsModel" cX3_value 3 (some .int) 2 := ⟨⟨by decide, by decide, by decide⟩, q75, q1537, q1535, q1536⟩
def p_X3_value (C : CS) (a0 a1 : Int32) : Prop := rowD (C.2.1 36)
def v_X3_value (C : CS) (a0 a1 : Int32) : Int32 := if v_X3_isGlove C a0 = 0 then -1000000001 else if v_X3_isGlove C a1 = 0 then -1000000001 else if a0 = a1 then -1000000001 else if v_X3_isPair C a0 a1 = 0 then -1000000005 else v_X3_valueOf C a0 a1
def q_X3_value (C : CS) (a0 a1 : Int32) (C1 : CS) : Prop := frm [49, 50] C C1
def wp_X3_value (Post : Int32 → CS → Prop) (C : CS) (a0 : Int32) (a1 : Int32) : Prop :=
  ∀ r1 : Int32, r1 = (v_X3_isGlove C a0) → 
    (r1 = 0 → 
    Post (-1000000001) C) ∧
    (¬ r1 = 0 → 
    ∀ r3 : Int32, r3 = (v_X3_isGlove C a1) → 
      (r3 = 0 → 
      Post (-1000000001) C) ∧
      (¬ r3 = 0 → 
      (a0 = a1 → 
        Post (-1000000001) C) ∧
        (¬ a0 = a1 → 
        p_X3_isPair C a0 a1 ∧
          (∀ r6 : Int32, r6 = (v_X3_isPair C a0 a1) → 
          (r6 = 0 → 
          Post (-1000000005) C) ∧
          (¬ r6 = 0 → 
          p_X3_valueOf C a0 a1 ∧
            (∀ r9 : Int32, r9 = (v_X3_valueOf C a0 a1) → 
            ∀ C8 : CS, q_X3_valueOf C a0 a1 C8 → 
            Post r9 C8))))))
set_option maxHeartbeats 4000000 in
set_option maxRecDepth 100000 in
theorem gw_X3_value {w : WD} (wk : wOk w) (l : Launch) (C : CS) (a0 : Int32) (a1 : Int32) {Post : Int32 → CS → Prop} (hw : wp_X3_value Post C a0 a1) : MC w l yX3_value cX3_value 3 (some .int) 3 0 0 [.ref (ad w 1), .int a0, .int a1] C (fun v C1 => ∃ r : Int32, v = some (.int r) ∧ Post r C1) := by
  unfold wp_X3_value at hw
  refine MC.of wk (by decide) (Nat.le_of_ble_eq_true rfl) (fun x hx ok => ?_)
  subst hx
  show G w x 3 0 0 (QM w x _ 0 0) C 0 [(0, .ref (ad w 1)), (1, .int a0), (2, .int a1)] []
  refine g_aload_n ok 0 dX3_value_0 rfl ?_
  refine g_iload_n ok 1 dX3_value_1 rfl ?_
  refine g_callVI ok [.int a0] cf_X3_isGlove q1491 (mc_X3_isGlove ok.wo (xL x) C a0) (recvF ok 1 rfl rfl) rfl rfl (Nat.le_of_ble_eq_true rfl) ⟨by decide, by decide⟩ ⟨by decide, by decide⟩ dX3_value_2 ?_
  refine g_nmI (fun r1 er1 => ?_)
  have hw := hw r1 er1
  refine g_if_eq (tgt := 21) ok dX3_value_5 (by decide) (fun c2 => ?_) (fun c2 => ?_)
  · have hw := hw.1 c2
    refine g_ldc (v := -1000000001) ok q1477 dX3_value_21 ?_
    exact g_iret ok dX3_value_23 ⟨_, rfl, hw⟩
  · have hw := hw.2 c2
    refine g_aload_n ok 0 dX3_value_8 rfl ?_
    refine g_iload_n ok 2 dX3_value_9 rfl ?_
    refine g_callVI ok [.int a1] cf_X3_isGlove q1491 (mc_X3_isGlove ok.wo (xL x) C a1) (recvF ok 1 rfl rfl) rfl rfl (Nat.le_of_ble_eq_true rfl) ⟨by decide, by decide⟩ ⟨by decide, by decide⟩ dX3_value_10 ?_
    refine g_nmI (fun r3 er3 => ?_)
    have hw := hw r3 er3
    refine g_if_eq (tgt := 21) ok dX3_value_13 (by decide) (fun c4 => ?_) (fun c4 => ?_)
    · have hw := hw.1 c4
      refine g_ldc (v := -1000000001) ok q1477 dX3_value_21 ?_
      exact g_iret ok dX3_value_23 ⟨_, rfl, hw⟩
    · have hw := hw.2 c4
      refine g_iload_n ok 1 dX3_value_16 rfl ?_
      refine g_iload_n ok 2 dX3_value_17 rfl ?_
      refine g_icmp_ne (tgt := 24) ok dX3_value_18 (by decide) (fun c5 => ?_) (fun c5 => ?_)
      · have hw := hw.2 c5
        refine g_aload_n ok 0 dX3_value_24 rfl ?_
        refine g_iload_n ok 1 dX3_value_25 rfl ?_
        refine g_iload_n ok 2 dX3_value_26 rfl ?_
        obtain ⟨hp, hw⟩ := hw
        refine g_callVI ok [.int a0, .int a1] cf_X3_isPair q1538 (mc_X3_isPair ok.wo (xL x) C a0 a1 hp) (recvF ok 1 rfl rfl) rfl rfl (Nat.le_of_ble_eq_true rfl) ⟨by decide, by decide⟩ ⟨by decide, by decide⟩ dX3_value_27 ?_
        refine g_nmI (fun r6 er6 => ?_)
        have hw := hw r6 er6
        refine g_if_eq (tgt := 42) ok dX3_value_30 (by decide) (fun c7 => ?_) (fun c7 => ?_)
        · have hw := hw.1 c7
          refine g_ldc (v := -1000000005) ok q1560 dX3_value_42 ?_
          exact g_iret ok dX3_value_44 ⟨_, rfl, hw⟩
        · have hw := hw.2 c7
          refine g_aload_n ok 0 dX3_value_33 rfl ?_
          refine g_iload_n ok 1 dX3_value_34 rfl ?_
          refine g_iload_n ok 2 dX3_value_35 rfl ?_
          obtain ⟨hp, hw⟩ := hw
          refine g_callVIR ok [.int a0, .int a1] cf_X3_valueOf q1542 (mc_X3_valueOf ok.wo (xL x) C a0 a1 hp) (recvF ok 1 rfl rfl) rfl rfl (Nat.le_of_ble_eq_true rfl) ⟨by decide, by decide⟩ ⟨by decide, by decide⟩ dX3_value_36 (fun C8 eC8 => ?_)
          refine g_nmI (fun r9 er9 => ?_)
          have hw := hw r9 er9 C8 eC8
          refine g_goto (tgt := 44) ok dX3_value_39 (by decide) ?_
          exact g_iret ok dX3_value_44 ⟨_, rfl, hw⟩
      · have hw := hw.1 c5
        refine g_ldc (v := -1000000001) ok q1477 dX3_value_21 ?_
        exact g_iret ok dX3_value_23 ⟨_, rfl, hw⟩
theorem sp_X3_value (C : CS) (a0 a1 : Int32) (hp : p_X3_value C a0 a1) : wp_X3_value (fun r C1 => r = v_X3_value C a0 a1 ∧ q_X3_value C a0 a1 C1) C a0 a1 := by
  intro r1 e1
  refine ⟨fun c => ⟨by unfold v_X3_value; rw [← e1, if_pos c], frm.rf _ _⟩, fun c r3 e3 => ⟨fun c3 => ⟨by unfold v_X3_value; rw [← e1, if_neg c, ← e3, if_pos c3], frm.rf _ _⟩, fun c3 => ⟨fun c4 => ⟨by unfold v_X3_value; rw [← e1, if_neg c, ← e3, if_neg c3, if_pos c4], frm.rf _ _⟩, fun c4 => ?_⟩⟩⟩
  obtain ⟨⟨N, e, hN⟩, ht⟩ := hp
  have ca := c
  have cb := c3
  rw [e1, isGlove_iff ⟨e, hN⟩] at ca
  rw [e3, isGlove_iff ⟨e, hN⟩] at cb
  obtain ⟨a, ha, rfl⟩ := ca
  obtain ⟨b, hb, rfl⟩ := cb
  refine ⟨pisPair C (by omega) (by omega), fun r6 e6 => ⟨fun c6 => ⟨by unfold v_X3_value; rw [← e1, if_neg c, ← e3, if_neg c3, if_neg c4, ← e6, if_pos c6], frm.rf _ _⟩, fun c6 => ⟨⟨a, b, rfl, rfl, by omega, by omega, ht⟩, fun r9 e9 C8 e8 => ⟨by unfold v_X3_value; rw [← e1, if_neg c, ← e3, if_neg c3, if_neg c4, ← e6, if_neg c6, e9], e8⟩⟩⟩⟩
theorem mc_X3_value {w : WD} (wk : wOk w) (l : Launch) (C : CS) (a0 : Int32) (a1 : Int32) (hp : p_X3_value C a0 a1) : MC w l yX3_value cX3_value 3 (some .int) 3 0 0 [.ref (ad w 1), .int a0, .int a1] C (pIR (v_X3_value C a0 a1) (q_X3_value C a0 a1)) := MC.postIR (gw_X3_value wk l C a0 a1 (sp_X3_value C a0 a1 hp))
theorem cf_X3_fine : CfV yX3_fine "TwoGuildsModel" cX3_fine 2 (some .int) 0 := ⟨⟨by decide, by decide, by decide⟩, q75, q1675, q1673, q1674⟩
def p_X3_fine (C : CS) : Prop := rowD (C.2.1 36)
def v_X3_fine (C : CS) : Int32 := rulR (C.2.1 36) 2 (fct2 (C.2.1 36 2) (v_X3_lostMany C)) (v_X3_lostMany C)
def q_X3_fine (C : CS) (C1 : CS) : Prop := frm [49, 50] C C1
def wp_X3_fine (Post : Int32 → CS → Prop) (C : CS)  : Prop :=
  p_X3_counts C 2 ∧
    (∀ r1 : Int32, r1 = (v_X3_counts C 2) → 
    ∀ C2 : CS, C2 = (wA C 50 0 (C.2.1 36 2)) → 
    p_X3_lostMany C2 ∧
    (∀ r3 : Int32, r3 = (v_X3_lostMany C2) → 
    ∀ C4 : CS, C4 = (wA C2 50 1 r3) → 
    (0 ≤ r1 → 
    p_X3_worksOut C4 r1 ∧
      (∀ r7 : Int32, r7 = (v_X3_worksOut C4 r1) → 
      ∀ C6 : CS, q_X3_worksOut C4 r1 C6 → 
      Post r7 C6)) ∧
    (¬ 0 ≤ r1 → 
    p_X3_lostMany C4 ∧
      (∀ r8 : Int32, r8 = (v_X3_lostMany C4) → 
      Post r8 C4))))
set_option maxHeartbeats 4000000 in
set_option maxRecDepth 100000 in
theorem gw_X3_fine {w : WD} (wk : wOk w) (l : Launch) (C : CS)  {Post : Int32 → CS → Prop} (hw : wp_X3_fine Post C ) : MC w l yX3_fine cX3_fine 2 (some .int) 2 0 0 [.ref (ad w 1)] C (fun v C1 => ∃ r : Int32, v = some (.int r) ∧ Post r C1) := by
  unfold wp_X3_fine at hw
  refine MC.of wk (by decide) (Nat.le_of_ble_eq_true rfl) (fun x hx ok => ?_)
  subst hx
  show G w x 2 0 0 (QM w x _ 0 0) C 0 [(0, .ref (ad w 1))] []
  refine g_aload_n ok 0 dX3_fine_0 rfl ?_
  refine g_iconst (v := 2) ok dX3_fine_1 (by decide) ?_
  obtain ⟨hp, hw⟩ := hw
  refine g_callVI ok [.int 2] cf_X3_counts q1546 (mc_X3_counts ok.wo (xL x) C 2 hp) (recvF ok 1 rfl rfl) rfl rfl (Nat.le_of_ble_eq_true rfl) ⟨by decide, by decide⟩ ⟨by decide, by decide⟩ dX3_fine_2 ?_
  refine g_nmI (fun r1 er1 => ?_)
  have hw := hw r1 er1
  refine g_istore_n0 ok [(1, .int r1), (0, .ref (ad w 1))] dX3_fine_5 (by decide) rfl ?_
  refine g_aload_n ok 1 dX3_fine_6 rfl ?_
  refine g_get ok 1 rfl rfl in_X3 25 (by decide) q1384 rfl dX3_fine_7 ?_
  refine g_iconst (v := 0) ok dX3_fine_10 (by decide) ?_
  refine g_aload_n ok 1 dX3_fine_11 rfl ?_
  refine g_get ok 1 rfl rfl in_X3 0 (by decide) q1359 rfl dX3_fine_12 ?_
  refine g_iconst (v := 2) ok dX3_fine_15 (by decide) ?_
  refine g_iald ok 36 rfl (by unfold vp_in; decide) 2 (by decide) dX3_fine_16 ?_
  refine g_iast ok 50 rfl (by unfold vp_in; decide) 0 (by decide) dX3_fine_17 (fun C2 eC2 => ?_)
  have hw := hw C2 eC2
  refine g_aload_n ok 1 dX3_fine_18 rfl ?_
  refine g_get ok 1 rfl rfl in_X3 25 (by decide) q1384 rfl dX3_fine_19 ?_
  refine g_iconst (v := 1) ok dX3_fine_22 (by decide) ?_
  refine g_aload_n ok 1 dX3_fine_23 rfl ?_
  obtain ⟨hp, hw⟩ := hw
  refine g_callVI ok [] cf_X3_lostMany q1656 (mc_X3_lostMany ok.wo (xL x) C2 hp) (recvF ok 1 rfl rfl) rfl rfl (Nat.le_of_ble_eq_true rfl) ⟨by decide, by decide⟩ ⟨by decide, by decide⟩ dX3_fine_24 ?_
  refine g_nmI (fun r3 er3 => ?_)
  have hw := hw r3 er3
  refine g_iast ok 50 rfl (by unfold vp_in; decide) 1 (by decide) dX3_fine_27 (fun C4 eC4 => ?_)
  have hw := hw C4 eC4
  refine g_iload_n ok 0 dX3_fine_28 rfl ?_
  refine g_if_ge (tgt := 39) ok dX3_fine_29 (by decide) (fun c5 => ?_) (fun c5 => ?_)
  · have hw := hw.1 c5
    refine g_aload_n ok 1 dX3_fine_39 rfl ?_
    refine g_iload_n ok 0 dX3_fine_40 rfl ?_
    obtain ⟨hp, hw⟩ := hw
    refine g_callVIR ok [.int r1] cf_X3_worksOut q1553 (mc_X3_worksOut ok.wo (xL x) C4 r1 hp) (recvF ok 1 rfl rfl) rfl rfl (Nat.le_of_ble_eq_true rfl) ⟨by decide, by decide⟩ ⟨by decide, by decide⟩ dX3_fine_41 (fun C6 eC6 => ?_)
    refine g_nmI (fun r7 er7 => ?_)
    have hw := hw r7 er7 C6 eC6
    exact g_iret ok dX3_fine_44 ⟨_, rfl, hw⟩
  · have hw := hw.2 c5
    refine g_aload_n ok 1 dX3_fine_32 rfl ?_
    obtain ⟨hp, hw⟩ := hw
    refine g_callVI ok [] cf_X3_lostMany q1656 (mc_X3_lostMany ok.wo (xL x) C4 hp) (recvF ok 1 rfl rfl) rfl rfl (Nat.le_of_ble_eq_true rfl) ⟨by decide, by decide⟩ ⟨by decide, by decide⟩ dX3_fine_33 ?_
    refine g_nmI (fun r8 er8 => ?_)
    have hw := hw r8 er8
    refine g_goto (tgt := 44) ok dX3_fine_36 (by decide) ?_
    exact g_iret ok dX3_fine_44 ⟨_, rfl, hw⟩
theorem sp_X3_fine (C : CS) (hp : p_X3_fine C) : wp_X3_fine (fun r C1 => r = v_X3_fine C ∧ q_X3_fine C C1) C := by
  obtain ⟨⟨N, e, hN⟩, ht⟩ := hp
  refine ⟨ht.tOk, fun r1 e1 C2 e2 => ?_⟩
  have e1 : r1 = cntR (C.2.1 36) 2 := e1
  have hf2 : frm [49, 50] C C2 := by rw [e2]; exact (frm.rf _ C).w (by decide)
  refine ⟨⟨N, by rw [hf2.2.2 36 (by decide)]; exact e, hN⟩, fun r3 e3 C4 e4 => ?_⟩
  have hf : frm [49, 50] C C4 := by rw [e4]; exact hf2.w (by decide)
  have h36 : C4.2.1 36 = C.2.1 36 := hf.2.2 36 (by decide)
  have e3 : r3 = v_X3_lostMany C := by rw [e3]; unfold v_X3_lostMany; rw [hf2.2.2 36 (by decide)]
  refine ⟨fun c => ?_, fun c => ⟨⟨N, by rw [h36]; exact e, hN⟩, fun r8 e8 => ⟨?_, hf⟩⟩⟩
  · rcases cntR_spec ht 2 with h1 | ⟨t, h1, h2, h3⟩
    · rw [e1, h1] at c; exact absurd c nn1
    · have h3 : txOk 2 (C.2.1 36) t := h3
      rw [e1, h2]
      refine ⟨⟨t, rfl, h1, by rw [h36]; exact txOk_mono (by decide) h3⟩, fun r7 e7 C6 e6 => ⟨?_, hf.tr (e6.mono (by decide))⟩⟩
      unfold v_X3_fine rulR
      rw [h2, if_pos (nI_pos' (by omega)), e7]
      unfold v_X3_worksOut
      rw [h36, cl_k (by omega)]
      refine evR_congr h3 (fun i hi => ?_)
      rw [e4, e2, e3]
      match i, hi with
      | 0, _ => simp [wA, up2, fct2]
      | 1, _ => simp [wA, up2, fct2]
  · unfold v_X3_fine rulR
    rw [← e1, if_neg c, e8]
    unfold v_X3_lostMany
    rw [h36]
theorem mc_X3_fine {w : WD} (wk : wOk w) (l : Launch) (C : CS)  (hp : p_X3_fine C ) : MC w l yX3_fine cX3_fine 2 (some .int) 2 0 0 [.ref (ad w 1)] C (pIR (v_X3_fine C ) (q_X3_fine C )) := MC.postIR (gw_X3_fine wk l C  (sp_X3_fine C  hp))
