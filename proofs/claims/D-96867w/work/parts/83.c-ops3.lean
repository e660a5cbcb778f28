theorem tE.frm {j : Nat} {C C1 : CS} (h : frm [10] C C1) : tE j C C1 := (((dE.rf j C).fr h)).tE
/-- nothing but the names has changed -/
def nOp (C C1 : CS) : Prop := frm [10] C C1
theorem nOp.t {C C1 : CS} (h : nOp C C1) (hp : opP C) : tOp C C1 (C.2.1 36) := ⟨hp.1.2.frm hp.1.1 h (by intro k h1 h2; simp; omega), tE.frm h, ((dE.rf (cN C) C).fr h).gd hp.2⟩
theorem cfG_X4_pairs : ∀ cn ∈ glN, CfO yX4_pairs yX4_pairs cn cX4_pairs 2 (some .boolean) 1 := by
  intro cn h
  simp only [glN, List.mem_cons, List.not_mem_nil, or_false] at h
  rcases h with h | h | h | h | h | h <;> subst h
  · exact ⟨⟨by decide, by decide, by decide⟩, q76, q643, q635, q636, q637, q635, _, _, _, q643⟩
  · exact ⟨⟨by decide, by decide, by decide⟩, q76, q643, q635, q640, q637, q635, _, _, _, q643⟩
  · exact ⟨⟨by decide, by decide, by decide⟩, q76, q643, q635, q641, q637, q635, _, _, _, q643⟩
  · exact ⟨⟨by decide, by decide, by decide⟩, q76, q643, q635, q639, q637, q635, _, _, _, q643⟩
  · exact ⟨⟨by decide, by decide, by decide⟩, q76, q643, q635, q638, q637, q635, _, _, _, q643⟩
  · exact ⟨⟨by decide, by decide, by decide⟩, q76, q643, q635, q642, q637, q635, _, _, _, q643⟩
theorem pairs_p {C : CS} {a b : Nat} (ha : isGl C a) (hb : isGl C b) : p_X4_pairs C a b := by
  have hl : p_GL_isLike C a a b := ⟨ha, by unfold p_X17_isLike p_GL_fits; simp [ha, hb]⟩
  unfold p_X4_pairs p_GL_turns
  simp [ha, hb, hl]
theorem cf_X0_value : CfV yX0_value "TwoGuilds" cX0_value 5 (some .int) 2 := ⟨⟨by decide, by decide, by decide⟩, q72, q633, q631, q632⟩
def p_X0_value (C : CS) (a0 a1 : Int32) : Prop := opP C
def v_X0_value (C : CS) (a0 a1 : Int32) : Int32 := v_X3_value C a0 a1
def q_X0_value (C : CS) (a0 a1 : Int32) (C1 : CS) : Prop := nOp C C1
def wp_X0_value (Post : Int32 → CS → Prop) (C : CS) (a0 : Int32) (a1 : Int32) : Prop :=
  p_X0_areTwo C a0 a1 ∧
    (∀ r2 : Int32, r2 = (v_X0_areTwo C a0 a1) → 
    (r2 = 0 → 
    Post (-1000000001) C) ∧
    (¬ r2 = 0 → 
    isTb (cN C) ∧
      (vp_in a0 10 ∧
      (∃ d6 : Nat, (cG C (17 + 4 * ((cN C) - 2)) (Int32.toNatClampNeg a0)) = some d6 ∧
      (vp_in a1 10 ∧
      (∃ d8 : Nat, (cG C (17 + 4 * ((cN C) - 2)) (Int32.toNatClampNeg a1)) = some d8 ∧
      (isGl C d6 ∧
      (p_X4_pairs C d6 d8 ∧
      (∀ r11 : Int32, r11 = (v_X4_pairs C d6 d8) → 
      (r11 = 0 → 
      Post (-1000000005) C) ∧
      (¬ r11 = 0 → 
      ∃ (g13 : (Nat → Int32)) (g14 : Nat) (g15 : Nat), p_X0_valueOf C d6 d8 g13 g14 g15 ∧
        (∀ r18 : Int32, r18 = (v_X0_valueOf C d6 d8 g13 g14 g15) → 
        ∀ C17 : CS, q_X0_valueOf C d6 d8 g13 g14 g15 C17 → 
        Post r18 C17)))))))))))
set_option maxHeartbeats 4000000 in
set_option maxRecDepth 100000 in
theorem gw_X0_value {w : WD} (wk : wOk w) (l : Launch) (C : CS) (a0 : Int32) (a1 : Int32) {Post : Int32 → CS → Prop} (hw : wp_X0_value Post C a0 a1) : MC w l yX0_value cX0_value 5 (some .int) 99 0 0 [.ref (ad w 0), .int a0, .int a1] C (fun v C1 => ∃ r : Int32, v = some (.int r) ∧ Post r C1) := by
  unfold wp_X0_value at hw
  refine MC.of wk (by decide) (Nat.le_of_ble_eq_true rfl) (fun x hx ok => ?_)
  subst hx
  show G w x 5 0 0 (QM w x _ 0 0) C 0 [(0, .ref (ad w 0)), (1, .int a0), (2, .int a1)] []
  refine g_aload_n ok 0 dX0_value_0 rfl ?_
  refine g_iload_n ok 1 dX0_value_1 rfl ?_
  refine g_iload_n ok 2 dX0_value_2 rfl ?_
  obtain ⟨hp1, hw⟩ := hw
  refine g_callV ok [.int a0, .int a1] cf_X0_areTwo q585 (mc_X0_areTwo ok.wo (xL x) C a0 a1 hp1) (recvF ok 0 rfl rfl) rfl rfl (Nat.le_of_ble_eq_true rfl) ⟨by decide, by decide⟩ ⟨by decide, by decide⟩ dX0_value_3 (resI ?_)
  refine g_nmI (fun r2 er2 => ?_)
  have hw := hw r2 er2
  refine g_if_ne (tgt := 12) ok dX0_value_6 (by decide) (fun c3 => ?_) (fun c3 => ?_)
  · have hw := hw.2 c3
    refine g_aload_n ok 0 dX0_value_12 rfl ?_
    refine g_get ok 0 rfl rfl in_X0 0 (by decide) q180 rfl dX0_value_13 ?_
    obtain ⟨hf4, hw⟩ := hw
    refine g_get ok (cN C) (fObjT hf4) rfl in_X1 8 (by decide) q140 rfl dX0_value_16 ?_
    refine g_iload_n ok 1 dX0_value_19 rfl ?_
    obtain ⟨hf5, hw⟩ := hw
    obtain ⟨d6, ed6, hw⟩ := hw
    refine g_rald (v := .ref d6) ok _ (fRefG hf4) (Or.inl rfl) hf5 (congrArg va_rf ed6) dX0_value_20 ?_
    refine g_astore_n ok [(3, .ref d6), (0, .ref (ad w 0)), (1, .int a0), (2, .int a1)] dX0_value_21 (by decide) rfl ?_
    refine g_aload_n ok 1 dX0_value_22 rfl ?_
    refine g_get ok 0 rfl rfl in_X0 0 (by decide) q180 rfl dX0_value_23 ?_
    refine g_get ok (cN C) (fObjT hf4) rfl in_X1 8 (by decide) q140 rfl dX0_value_26 ?_
    refine g_iload_n ok 3 dX0_value_29 rfl ?_
    obtain ⟨hf7, hw⟩ := hw
    obtain ⟨d8, ed8, hw⟩ := hw
    refine g_rald (v := .ref d8) ok _ (fRefG hf4) (Or.inl rfl) hf7 (congrArg va_rf ed8) dX0_value_30 ?_
    refine g_astore ok [(4, .ref d8), (3, .ref d6), (0, .ref (ad w 0)), (1, .int a0), (2, .int a1)] dX0_value_31 (by decide) rfl ?_
    refine g_aload_n ok 1 dX0_value_33 rfl ?_
    refine g_aload ok 0 dX0_value_34 rfl ?_
    obtain ⟨hf10, hw⟩ := hw
    obtain ⟨hp9, hw⟩ := hw
    refine g_callG ok [.ref d8] cfG_X4_pairs q634 (mc_X4_pairs ok.wo (xL x) C d6 d8 hp9) hf10 rfl rfl (Nat.le_of_ble_eq_true rfl) ⟨by decide, by decide⟩ ⟨by decide, by decide⟩ dX0_value_36 (resI ?_)
    refine g_nmI (fun r11 er11 => ?_)
    have hw := hw r11 er11
    refine g_if_eq (tgt := 52) ok dX0_value_39 (by decide) (fun c12 => ?_) (fun c12 => ?_)
    · have hw := hw.1 c12
      refine g_ldc (v := -1000000005) ok q740 dX0_value_52 ?_
      exact g_iret ok dX0_value_54 ⟨_, rfl, hw⟩
    · have hw := hw.2 c12
      refine g_aload_n ok 2 dX0_value_42 rfl ?_
      refine g_aload_n ok 1 dX0_value_43 rfl ?_
      refine g_aload ok 0 dX0_value_44 rfl ?_
      obtain ⟨g13, g14, g15, hp16, hw⟩ := hw
      refine g_callV ok [.ref d6, .ref d8] cf_X0_valueOf q684 (mc_X0_valueOf ok.wo (xL x) C d6 d8 g13 g14 g15 hp16) (recvF ok 0 rfl rfl) rfl rfl (Nat.le_of_ble_eq_true rfl) ⟨by decide, by decide⟩ ⟨by decide, by decide⟩ dX0_value_46 (resIR fun C17 eC17 => ?_)
      refine g_nmI (fun r18 er18 => ?_)
      have hw := hw r18 er18 C17 eC17
      refine g_goto (tgt := 54) ok dX0_value_49 (by decide) ?_
      exact g_iret ok dX0_value_54 ⟨_, rfl, hw⟩
  · have hw := hw.1 c3
    refine g_ldc (v := -1000000001) ok q274 dX0_value_9 ?_
    exact g_iret ok dX0_value_11 ⟨_, rfl, hw⟩
theorem glD {C : CS} (hp : opP C) {k k2 b b2 : Nat} (hk : k < 10) (hk2 : k2 < 10) (hb : cG C (17 + 4 * (cN C - 2)) k = some b) (hb2 : cG C (17 + 4 * (cN C - 2)) k2 = some b2) : b2 = b ↔ k = k2 := by
  constructor
  · intro h
    subst h
    exact (hp.2.2 _ _ _ _ _ hp.1.1 hp.1.1 hk hk2 hb hb2).2
  · intro h
    subst h
    rw [hb] at hb2
    cases hb2
    rfl
theorem sp_X0_value (C : CS) (a0 a1 : Int32) (hp : p_X0_value C a0 a1) : wp_X0_value (fun x C1 => x = v_X0_value C a0 a1 ∧ q_X0_value C a0 a1 C1) C a0 a1 := by
  have hp : opP C := hp
  unfold v_X0_value v_X3_value
  refine ⟨two_p hp a0 a1, fun r2 e2 => ?_⟩
  rw [two_v hp] at e2
  by_cases c1 : v_X3_isGlove C a0 = 0
  · rw [if_pos c1] at e2 ⊢
    exact ⟨fun _ => ⟨rfl, frm.rf _ C⟩, fun c => absurd e2 c⟩
  rw [if_neg c1] at e2 ⊢
  by_cases c2 : v_X3_isGlove C a1 = 0
  · rw [if_pos c2] at e2 ⊢
    exact ⟨fun _ => ⟨rfl, frm.rf _ C⟩, fun c => absurd e2 c⟩
  rw [if_neg c2] at e2 ⊢
  by_cases c3 : a0 = a1
  · rw [if_pos c3] at e2 ⊢
    exact ⟨fun _ => ⟨rfl, frm.rf _ C⟩, fun c => absurd e2 c⟩
  rw [if_neg c3] at e2 ⊢
  obtain ⟨k, b, hk, e, hb, hg⟩ := hp.gl c1
  obtain ⟨k2, b2, hk2, e', hb2, hg2⟩ := hp.gl c2
  subst e; subst e'
  have hpe := pairs_eq hg hg2 hk hk2 (glD hp hk hk2 hb hb2)
  have hpe : v_X4_pairs C b b2 = v_X3_isPair C (nI k) (nI k2) := hpe
  refine ⟨fun c => absurd (e2.symm.trans c) (by decide), fun _ => ⟨hp.1.1, vp_k hk, b, by rw [cl_k (by omega)]; exact hb, vp_k hk2, b2, by rw [cl_k (by omega)]; exact hb2, hg.1, pairs_p hg.1 hg2.1, fun r11 e11 => ⟨fun c => ?_, fun c => ?_⟩⟩⟩
  all_goals rw [e11, hpe] at c
  · rw [if_pos c]; exact ⟨rfl, frm.rf _ C⟩
  · rw [if_neg c]
    refine ⟨C.2.1 36, k, k2, ⟨hp.1, hg, hg2⟩, fun r18 e18 C17 h17 => ⟨?_, h17⟩⟩
    rw [e18]
    unfold v_X0_valueOf v_X3_valueOf
    rw [cl_k (by omega), cl_k (by omega)]
theorem mc_X0_value {w : WD} (wk : wOk w) (l : Launch) (C : CS) (a0 : Int32) (a1 : Int32) (hp : p_X0_value C a0 a1) : MC w l yX0_value cX0_value 5 (some .int) 99 0 0 [.ref (ad w 0), .int a0, .int a1] C (pIR (v_X0_value C a0 a1) (q_X0_value C a0 a1)) := MC.postIR (gw_X0_value wk l C a0 a1 (sp_X0_value C a0 a1 hp))
/-- a number of the table becomes v, one of the row does -/
theorem TR.num {C : CS} {j f i : Nat} {r : Nat → Int32} (h : TR C j r) (v : Int32) (hfi : f = 5 ∧ i = 0 ∨ f = 3 ∧ i = 2 ∨ f = 4 ∧ i = 3) : TR (wI C j f v) j (upd r i v) := by
  have o : ∀ m, m ≠ f → (wI C j f v).1 j m = C.1 j m := fun m hm => u2n (fun h => hm h.2)
  have s : (wI C j f v).1 j f = v := u2s
  obtain ⟨t0, t1, t2, t3, t4, t5⟩ := h.n
  refine ⟨?_, ?_, h.w.keep (upd_n (by omega)) (fun i _ _ => upd_n (by omega)) (fun _ _ => rfl) (fun _ _ => rfl), h.t.keep (upd_n (by omega)) (fun i _ => upd_n (by omega)) (fun _ _ => rfl) (keepX.of rfl)⟩
  · rcases hfi with ⟨rfl, rfl⟩ | ⟨rfl, rfl⟩ | ⟨rfl, rfl⟩
    · exact ⟨by rw [s, upd_s], by rw [o _ (by decide), upd_n (by decide)]; exact t1, by rw [o _ (by decide), upd_n (by decide)]; exact t2, by rw [o _ (by decide), upd_n (by decide)]; exact t3, by rw [o _ (by decide), upd_n (by decide)]; exact t4, by rw [o _ (by decide), upd_n (by decide)]; exact t5⟩
    · exact ⟨by rw [o _ (by decide), upd_n (by decide)]; exact t0, by rw [o _ (by decide), upd_n (by decide)]; exact t1, by rw [s, upd_s], by rw [o _ (by decide), upd_n (by decide)]; exact t3, by rw [o _ (by decide), upd_n (by decide)]; exact t4, by rw [o _ (by decide), upd_n (by decide)]; exact t5⟩
    · exact ⟨by rw [o _ (by decide), upd_n (by decide)]; exact t0, by rw [o _ (by decide), upd_n (by decide)]; exact t1, by rw [o _ (by decide), upd_n (by decide)]; exact t2, by rw [s, upd_s], by rw [o _ (by decide), upd_n (by decide)]; exact t4, by rw [o _ (by decide), upd_n (by decide)]; exact t5⟩
  · obtain ⟨N, e, hN, hg⟩ := h.g
    refine ⟨N, by rw [upd_n (by omega)]; exact e, hN, fun k hk => ?_⟩
    obtain ⟨a, q1, q2⟩ := hg k hk
    exact ⟨a, q1, (q2.keep (keepG.of rfl a)).row (fun i _ _ => upd_n (by omega))⟩
theorem upd_w {C : CS} {i : Nat} {v : Int32} : (wA C 36 i v).2.1 36 = upd (C.2.1 36) i v := by
  funext k
  show up2 _ _ _ _ _ _ = _
  unfold up2 upd
  by_cases c : k = i
  · rw [if_pos ⟨rfl, c⟩, if_pos c]
  · rw [if_neg (fun h => c h.2), if_neg c]
theorem cf_X0_seed : CfV yX0_seed "TwoGuilds" cX0_seed 3 (some .int) 1 := ⟨⟨by decide, by decide, by decide⟩, q72, q754, q752, q753⟩
def p_X0_seed (C : CS) (a0 : Int32) : Prop := opP C
def v_X0_seed (C : CS) (a0 : Int32) : Int32 := v_X3_seed C a0
def q_X0_seed (C : CS) (a0 : Int32) (C1 : CS) : Prop := tOp C C1 ((n_X3_seed C a0).2.1 36)
def wp_X0_seed (Post : Int32 → CS → Prop) (C : CS) (a0 : Int32) : Prop :=
  isTb (cN C) ∧
    (∀ x2 : Int32, x2 = (C.1 (cN C) 5) → 
    ∀ C3 : CS, C3 = (wI C (cN C) 5 a0) → 
    Post x2 C3)
set_option maxHeartbeats 4000000 in
set_option maxRecDepth 100000 in
theorem gw_X0_seed {w : WD} (wk : wOk w) (l : Launch) (C : CS) (a0 : Int32) {Post : Int32 → CS → Prop} (hw : wp_X0_seed Post C a0) : MC w l yX0_seed cX0_seed 3 (some .int) 6 0 0 [.ref (ad w 0), .int a0] C (fun v C1 => ∃ r : Int32, v = some (.int r) ∧ Post r C1) := by
  unfold wp_X0_seed at hw
  refine MC.of wk (by decide) (Nat.le_of_ble_eq_true rfl) (fun x hx ok => ?_)
  subst hx
  show G w x 3 0 0 (QM w x _ 0 0) C 0 [(0, .ref (ad w 0)), (1, .int a0)] []
  refine g_aload_n ok 0 dX0_seed_0 rfl ?_
  refine g_get ok 0 rfl rfl in_X0 0 (by decide) q180 rfl dX0_seed_1 ?_
  obtain ⟨hf1, hw⟩ := hw
  refine g_get ok (cN C) (fObjT hf1) rfl in_X1 5 (by decide) q134 rfl dX0_seed_4 ?_
  refine g_istore_n ok (fun z => [(2, .int z), (0, .ref (ad w 0)), (1, .int a0)]) dX0_seed_7 (by decide) (fun _ => rfl) (fun x2 ex2 => ?_)
  have hw := hw x2 ex2
  refine g_aload_n ok 1 dX0_seed_8 rfl ?_
  refine g_get ok 0 rfl rfl in_X0 0 (by decide) q180 rfl dX0_seed_9 ?_
  refine g_iload_n ok 2 dX0_seed_12 rfl ?_
  refine g_putI ok (cN C) (fObjT hf1) rfl in_X1 tyX1 tyX1_ok nmX1 5 (by decide) q134 rfl rfl rfl (putT hf1 rfl) dX0_seed_13 (fun C3 eC3 => ?_)
  have hw := hw C3 eC3
  refine g_iload_n ok 0 dX0_seed_16 rfl ?_
  exact g_iret ok dX0_seed_17 ⟨_, rfl, hw⟩
theorem sp_X0_seed (C : CS) (a0 : Int32) (hp : p_X0_seed C a0) : wp_X0_seed (fun x C1 => x = v_X0_seed C a0 ∧ q_X0_seed C a0 C1) C a0 := by
  have hp : opP C := hp
  refine ⟨hp.1.1, fun x2 e2 C3 e3 => ⟨?_, ?_⟩⟩
  · rw [e2, hp.1.2.n.1]; rfl
  · have d : dE (cN C) C C3 := by rw [e3]; exact (dE.rf _ C).wI 5 _
    refine ⟨?_, d.tE, d.gd hp.2⟩
    rw [e3]
    unfold n_X3_seed n_X3_becomes
    rw [upd_w]
    exact hp.1.2.num a0 (Or.inl ⟨rfl, rfl⟩)
theorem mc_X0_seed {w : WD} (wk : wOk w) (l : Launch) (C : CS) (a0 : Int32) (hp : p_X0_seed C a0) : MC w l yX0_seed cX0_seed 3 (some .int) 6 0 0 [.ref (ad w 0), .int a0] C (pIR (v_X0_seed C a0) (q_X0_seed C a0)) := MC.postIR (gw_X0_seed wk l C a0 (sp_X0_seed C a0 hp))
theorem cf_X0_loss : CfV yX0_loss "TwoGuilds" cX0_loss 3 (some .int) 1 := ⟨⟨by decide, by decide, by decide⟩, q72, q818, q816, q817⟩
def p_X0_loss (C : CS) (a0 : Int32) : Prop := opP C
def v_X0_loss (C : CS) (a0 : Int32) : Int32 := v_X3_loss C a0
def q_X0_loss (C : CS) (a0 : Int32) (C1 : CS) : Prop := tOp C C1 ((n_X3_loss C a0).2.1 36)
def wp_X0_loss (Post : Int32 → CS → Prop) (C : CS) (a0 : Int32) : Prop :=
  ∀ r1 : Int32, r1 = (v_X0_isIn (Int32.toInt64 a0) 0 100) → 
    (r1 = 0 → 
    Post (-1000000001) C) ∧
    (¬ r1 = 0 → 
    isTb (cN C) ∧
      (∀ x4 : Int32, x4 = (C.1 (cN C) 4) → 
      ∀ C5 : CS, C5 = (wI C (cN C) 4 a0) → 
      Post x4 C5))
set_option maxHeartbeats 4000000 in
set_option maxRecDepth 100000 in
theorem gw_X0_loss {w : WD} (wk : wOk w) (l : Launch) (C : CS) (a0 : Int32) {Post : Int32 → CS → Prop} (hw : wp_X0_loss Post C a0) : MC w l yX0_loss cX0_loss 3 (some .int) 6 0 0 [.ref (ad w 0), .int a0] C (fun v C1 => ∃ r : Int32, v = some (.int r) ∧ Post r C1) := by
  unfold wp_X0_loss at hw
  refine MC.of wk (by decide) (Nat.le_of_ble_eq_true rfl) (fun x hx ok => ?_)
  subst hx
  show G w x 3 0 0 (QM w x _ 0 0) C 0 [(0, .ref (ad w 0)), (1, .int a0)] []
  refine g_iload_n ok 1 dX0_loss_0 rfl ?_
  refine g_i2l ok dX0_loss_1 ?_
  refine g_lconst (v := 0) ok dX0_loss_2 (by decide) ?_
  refine g_ldc2 (v := 100) ok q819 dX0_loss_3 ?_
  refine g_callS ok [.long (Int32.toInt64 a0), .long 0, .long 100] cf_X0_isIn q269 (mc_X0_isIn ok.wo (xL x) C (Int32.toInt64 a0) 0 100) rfl rfl (Nat.le_of_ble_eq_true rfl) ⟨by decide, by decide⟩ ⟨by decide, by decide⟩ dX0_loss_6 (resI ?_)
  refine g_nmI (fun r1 er1 => ?_)
  have hw := hw r1 er1
  refine g_if_ne (tgt := 15) ok dX0_loss_9 (by decide) (fun c2 => ?_) (fun c2 => ?_)
  · have hw := hw.2 c2
    refine g_aload_n ok 0 dX0_loss_15 rfl ?_
    refine g_get ok 0 rfl rfl in_X0 0 (by decide) q180 rfl dX0_loss_16 ?_
    obtain ⟨hf3, hw⟩ := hw
    refine g_get ok (cN C) (fObjT hf3) rfl in_X1 4 (by decide) q132 rfl dX0_loss_19 ?_
    refine g_istore_n ok (fun z => [(2, .int z), (0, .ref (ad w 0)), (1, .int a0)]) dX0_loss_22 (by decide) (fun _ => rfl) (fun x4 ex4 => ?_)
    have hw := hw x4 ex4
    refine g_aload_n ok 1 dX0_loss_23 rfl ?_
    refine g_get ok 0 rfl rfl in_X0 0 (by decide) q180 rfl dX0_loss_24 ?_
    refine g_iload_n ok 2 dX0_loss_27 rfl ?_
    refine g_putI ok (cN C) (fObjT hf3) rfl in_X1 tyX1 tyX1_ok nmX1 4 (by decide) q132 rfl rfl rfl (putT hf3 rfl) dX0_loss_28 (fun C5 eC5 => ?_)
    have hw := hw C5 eC5
    refine g_iload_n ok 0 dX0_loss_31 rfl ?_
    exact g_iret ok dX0_loss_32 ⟨_, rfl, hw⟩
  · have hw := hw.1 c2
    refine g_ldc (v := -1000000001) ok q274 dX0_loss_12 ?_
    exact g_iret ok dX0_loss_14 ⟨_, rfl, hw⟩
theorem sp_X0_loss (C : CS) (a0 : Int32) (hp : p_X0_loss C a0) : wp_X0_loss (fun x C1 => x = v_X0_loss C a0 ∧ q_X0_loss C a0 C1) C a0 := by
  have hp : opP C := hp
  unfold v_X0_loss v_X3_loss q_X0_loss n_X3_loss
  refine fun r1 e1 => ⟨fun c1 => ?_, fun c1 => ?_⟩
  all_goals rw [e1, isIn0 _ 100 100 rfl] at c1
  · rw [if_pos c1, if_pos c1]; exact ⟨rfl, tOp.rf hp⟩
  rw [if_neg c1, if_neg c1]
  refine ⟨hp.1.1, fun x2 e2 C3 e3 => ⟨?_, ?_⟩⟩
  · rw [e2, hp.1.2.n.2.2.2.1]; rfl
  · have d : dE (cN C) C C3 := by rw [e3]; exact (dE.rf _ C).wI 4 _
    refine ⟨?_, d.tE, d.gd hp.2⟩
    rw [e3]
    unfold n_X3_becomes
    rw [upd_w]
    exact hp.1.2.num a0 (Or.inr (Or.inr ⟨rfl, rfl⟩))
theorem mc_X0_loss {w : WD} (wk : wOk w) (l : Launch) (C : CS) (a0 : Int32) (hp : p_X0_loss C a0) : MC w l yX0_loss cX0_loss 3 (some .int) 6 0 0 [.ref (ad w 0), .int a0] C (pIR (v_X0_loss C a0) (q_X0_loss C a0)) := MC.postIR (gw_X0_loss wk l C a0 (sp_X0_loss C a0 hp))
theorem cf_X0_textTold : CfV yX0_textTold "TwoGuilds" cX0_textTold 3 (some .int) 2 := ⟨⟨by decide, by decide, by decide⟩, q72, q1137, q1135, q1136⟩
def p_X0_textTold (C : CS) (a0 a1 : Int32) : Prop := opP C
def v_X0_textTold (C : CS) (a0 a1 : Int32) : Int32 := v_X3_textTold C a0 a1
def wp_X0_textTold (Post : Int32 → CS → Prop) (C : CS) (a0 : Int32) (a1 : Int32) : Prop :=
  isTb (cN C) ∧
    (∀ r2 : Int32, r2 = (v_X0_isIn (Int32.toInt64 a0) 0 (Int32.toInt64 ((C.1 (cN C) 1) - 1))) → 
    (r2 = 0 → 
    Post (-1000000001) C) ∧
    (¬ r2 = 0 → 
    ∀ r4 : Int32, r4 = (v_X0_isIn (Int32.toInt64 a1) 0 1) → 
      (r4 = 0 → 
      Post (-1000000001) C) ∧
      (¬ r4 = 0 → 
      (a1 = 0 → 
        vp_in a0 14 ∧
          (∃ d11 : Nat, (cG C (18 + 4 * ((cN C) - 2)) (Int32.toNatClampNeg a0)) = some d11 ∧
          (isDy C 14 d11 ∧
          (Post (cDI C 140 d11) C)))) ∧
        (¬ a1 = 0 → 
        vp_in a0 14 ∧
          (∃ d8 : Nat, (cG C (18 + 4 * ((cN C) - 2)) (Int32.toNatClampNeg a0)) = some d8 ∧
          (isDy C 14 d8 ∧
          (Post (cDI C 141 d8) C)))))))
set_option maxHeartbeats 4000000 in
set_option maxRecDepth 100000 in
theorem gw_X0_textTold {w : WD} (wk : wOk w) (l : Launch) (C : CS) (a0 : Int32) (a1 : Int32) {Post : Int32 → CS → Prop} (hw : wp_X0_textTold Post C a0 a1) : MC w l yX0_textTold cX0_textTold 3 (some .int) 6 0 0 [.ref (ad w 0), .int a0, .int a1] C (fun v C1 => ∃ r : Int32, v = some (.int r) ∧ Post r C1) := by
  unfold wp_X0_textTold at hw
  refine MC.of wk (by decide) (Nat.le_of_ble_eq_true rfl) (fun x hx ok => ?_)
  subst hx
  show G w x 3 0 0 (QM w x _ 0 0) C 0 [(0, .ref (ad w 0)), (1, .int a0), (2, .int a1)] []
  refine g_iload_n ok 1 dX0_textTold_0 rfl ?_
  refine g_i2l ok dX0_textTold_1 ?_
  refine g_lconst (v := 0) ok dX0_textTold_2 (by decide) ?_
  refine g_aload_n ok 0 dX0_textTold_3 rfl ?_
  refine g_get ok 0 rfl rfl in_X0 0 (by decide) q180 rfl dX0_textTold_4 ?_
  obtain ⟨hf1, hw⟩ := hw
  refine g_get ok (cN C) (fObjT hf1) rfl in_X1 1 (by decide) q126 rfl dX0_textTold_7 ?_
  refine g_iconst (v := 1) ok dX0_textTold_10 (by decide) ?_
  refine g_isub ok dX0_textTold_11 ?_
  refine g_i2l ok dX0_textTold_12 ?_
  refine g_callS ok [.long (Int32.toInt64 a0), .long 0, .long (Int32.toInt64 ((C.1 (cN C) 1) - 1))] cf_X0_isIn q269 (mc_X0_isIn ok.wo (xL x) C (Int32.toInt64 a0) 0 (Int32.toInt64 ((C.1 (cN C) 1) - 1))) rfl rfl (Nat.le_of_ble_eq_true rfl) ⟨by decide, by decide⟩ ⟨by decide, by decide⟩ dX0_textTold_13 (resI ?_)
  refine g_nmI (fun r2 er2 => ?_)
  have hw := hw r2 er2
  refine g_if_eq (tgt := 29) ok dX0_textTold_16 (by decide) (fun c3 => ?_) (fun c3 => ?_)
  · have hw := hw.1 c3
    refine g_ldc (v := -1000000001) ok q274 dX0_textTold_29 ?_
    exact g_iret ok dX0_textTold_31 ⟨_, rfl, hw⟩
  · have hw := hw.2 c3
    refine g_iload_n ok 2 dX0_textTold_19 rfl ?_
    refine g_i2l ok dX0_textTold_20 ?_
    refine g_lconst (v := 0) ok dX0_textTold_21 (by decide) ?_
    refine g_lconst (v := 1) ok dX0_textTold_22 (by decide) ?_
    refine g_callS ok [.long (Int32.toInt64 a1), .long 0, .long 1] cf_X0_isIn q269 (mc_X0_isIn ok.wo (xL x) C (Int32.toInt64 a1) 0 1) rfl rfl (Nat.le_of_ble_eq_true rfl) ⟨by decide, by decide⟩ ⟨by decide, by decide⟩ dX0_textTold_23 (resI ?_)
    refine g_nmI (fun r4 er4 => ?_)
    have hw := hw r4 er4
    refine g_if_ne (tgt := 32) ok dX0_textTold_26 (by decide) (fun c5 => ?_) (fun c5 => ?_)
    · have hw := hw.2 c5
      refine g_iload_n ok 2 dX0_textTold_32 rfl ?_
      refine g_if_ne (tgt := 51) ok dX0_textTold_33 (by decide) (fun c6 => ?_) (fun c6 => ?_)
      · have hw := hw.2 c6
        refine g_aload_n ok 0 dX0_textTold_51 rfl ?_
        refine g_get ok 0 rfl rfl in_X0 0 (by decide) q180 rfl dX0_textTold_52 ?_
        refine g_get ok (cN C) (fObjT hf1) rfl in_X1 9 (by decide) q142 rfl dX0_textTold_55 ?_
        refine g_iload_n ok 1 dX0_textTold_58 rfl ?_
        obtain ⟨hf7, hw⟩ := hw
        obtain ⟨d8, ed8, hw⟩ := hw
        refine g_rald (v := .ref d8) ok _ (fRefX hf1) (Or.inr rfl) hf7 (congrArg va_rf ed8) dX0_textTold_59 ?_
        obtain ⟨hf9, hw⟩ := hw
        refine g_dgetE ok hf9 (by decide) rfl in_X15 1 (by decide) q1124 rfl dX0_textTold_60 ?_
        exact g_iret ok dX0_textTold_63 ⟨_, rfl, hw⟩
      · have hw := hw.1 c6
        refine g_aload_n ok 0 dX0_textTold_36 rfl ?_
        refine g_get ok 0 rfl rfl in_X0 0 (by decide) q180 rfl dX0_textTold_37 ?_
        refine g_get ok (cN C) (fObjT hf1) rfl in_X1 9 (by decide) q142 rfl dX0_textTold_40 ?_
        refine g_iload_n ok 1 dX0_textTold_43 rfl ?_
        obtain ⟨hf10, hw⟩ := hw
        obtain ⟨d11, ed11, hw⟩ := hw
        refine g_rald (v := .ref d11) ok _ (fRefX hf1) (Or.inr rfl) hf10 (congrArg va_rf ed11) dX0_textTold_44 ?_
        obtain ⟨hf12, hw⟩ := hw
        refine g_dgetE ok hf12 (by decide) rfl in_X15 0 (by decide) q1122 rfl dX0_textTold_45 ?_
        refine g_goto (tgt := 63) ok dX0_textTold_48 (by decide) ?_
        exact g_iret ok dX0_textTold_63 ⟨_, rfl, hw⟩
    · have hw := hw.1 c5
      refine g_ldc (v := -1000000001) ok q274 dX0_textTold_29 ?_
      exact g_iret ok dX0_textTold_31 ⟨_, rfl, hw⟩
theorem t2k (k : Nat) (h : k < 14) : (76 + 2 * nI k : Int32) = nI (76 + 2 * k) := by
  have : ∀ k, k < 14 → (76 + 2 * nI k : Int32) = nI (76 + 2 * k) := by decide
  exact this k h
theorem sp_X0_textTold (C : CS) (a0 a1 : Int32) (hp : p_X0_textTold C a0 a1) : wp_X0_textTold (fun x C1 => x = v_X0_textTold C a0 a1 ∧ C1 = C) C a0 a1 := by
  have hp : opP C := hp
  unfold v_X0_textTold v_X3_textTold
  refine ⟨hp.1.1, fun r2 e2 => ?_⟩
  rw [hp.1.2.n.2.2.2.2.2, isIn0 _ (C.2.1 36 5 - 1) _ rfl] at e2
  refine ⟨fun c => ?_, fun c => ?_⟩
  all_goals rw [e2] at c
  · rw [if_pos c]; exact ⟨rfl, rfl⟩
  rw [if_neg c]
  refine fun r4 e4 => ⟨fun c4 => ?_, fun c4 => ?_⟩
  all_goals rw [e4, isIn0 _ 1 1 rfl] at c4
  · rw [if_pos c4]; exact ⟨rfl, rfl⟩
  rw [if_neg c4]
  obtain ⟨T, e5, hT, ht⟩ := hp.1.2.t
  have : ∃ k, k < T ∧ a0 = nI k := by
    rw [e5, in_iff] at c
    obtain ⟨h1, h2⟩ := c
    rcases Nat.eq_zero_or_pos T with h | h
    · subst h
      exact absurd (Int32.le_trans h1 h2) (by decide)
    · rw [show (1 : Int32) = nI 1 from rfl, pk_sub h] at h2
      obtain ⟨k, q1, q2⟩ := nI_of2 (M := nI (T - 1)) (n := T - 1) (nI_toInt (by omega)) (Int32.not_lt.mpr h1) h2
      exact ⟨k, by omega, q2⟩
  obtain ⟨k, hk, rfl⟩ := this
  obtain ⟨a, q1, q2, q3, q4, -⟩ := ht k hk
  refine ⟨fun c5 => ⟨vp_k (by omega), a, by rw [cl_k (by omega)]; exact q1, q2, ?_, rfl⟩, fun c5 => ⟨vp_k (by omega), a, by rw [cl_k (by omega)]; exact q1, q2, ?_, rfl⟩⟩
  · rw [if_pos c5, t2k k (by omega), cl_k (by omega), q3]
  · rw [if_neg c5, t2k k (by omega), show (1 : Int32) = nI 1 from rfl, nI_add, cl_k (by omega), q4]
theorem mc_X0_textTold {w : WD} (wk : wOk w) (l : Launch) (C : CS) (a0 : Int32) (a1 : Int32) (hp : p_X0_textTold C a0 a1) : MC w l yX0_textTold cX0_textTold 3 (some .int) 6 0 0 [.ref (ad w 0), .int a0, .int a1] C (pI (v_X0_textTold C a0 a1) C) := MC.postI (gw_X0_textTold wk l C a0 a1 (sp_X0_textTold C a0 a1 hp))
theorem cf_X0_why : CfV yX0_why "TwoGuilds" cX0_why 2 (some .int) 1 := ⟨⟨by decide, by decide, by decide⟩, q72, q1141, q1139, q1140⟩
def p_X0_why (C : CS) (a0 : Int32) : Prop := opP C
def v_X0_why (C : CS) (a0 : Int32) : Int32 := v_X3_why C a0
def wp_X0_why (Post : Int32 → CS → Prop) (C : CS) (a0 : Int32) : Prop :=
  ∀ r1 : Int32, r1 = (v_X0_isIn (Int32.toInt64 a0) 0 2) → 
    (r1 = 0 → 
    Post (-1000000001) C) ∧
    (¬ r1 = 0 → 
    ∃ (g3 : (Nat → Int32)), p_X0_counts C a0 g3 ∧
      (∀ r5 : Int32, r5 = (v_X0_counts C a0 g3) → 
      ∀ r6 : Int32, r6 = (v_X0_orNone r5) → 
      Post r6 C))
set_option maxHeartbeats 4000000 in
set_option maxRecDepth 100000 in
theorem gw_X0_why {w : WD} (wk : wOk w) (l : Launch) (C : CS) (a0 : Int32) {Post : Int32 → CS → Prop} (hw : wp_X0_why Post C a0) : MC w l yX0_why cX0_why 2 (some .int) 6 0 0 [.ref (ad w 0), .int a0] C (fun v C1 => ∃ r : Int32, v = some (.int r) ∧ Post r C1) := by
  unfold wp_X0_why at hw
  refine MC.of wk (by decide) (Nat.le_of_ble_eq_true rfl) (fun x hx ok => ?_)
  subst hx
  show G w x 2 0 0 (QM w x _ 0 0) C 0 [(0, .ref (ad w 0)), (1, .int a0)] []
  refine g_iload_n ok 1 dX0_why_0 rfl ?_
  refine g_i2l ok dX0_why_1 ?_
  refine g_lconst (v := 0) ok dX0_why_2 (by decide) ?_
  refine g_ldc2 (v := 2) ok q851 dX0_why_3 ?_
  refine g_callS ok [.long (Int32.toInt64 a0), .long 0, .long 2] cf_X0_isIn q269 (mc_X0_isIn ok.wo (xL x) C (Int32.toInt64 a0) 0 2) rfl rfl (Nat.le_of_ble_eq_true rfl) ⟨by decide, by decide⟩ ⟨by decide, by decide⟩ dX0_why_6 (resI ?_)
  refine g_nmI (fun r1 er1 => ?_)
  have hw := hw r1 er1
  refine g_if_eq (tgt := 23) ok dX0_why_9 (by decide) (fun c2 => ?_) (fun c2 => ?_)
  · have hw := hw.1 c2
    refine g_ldc (v := -1000000001) ok q274 dX0_why_23 ?_
    exact g_iret ok dX0_why_25 ⟨_, rfl, hw⟩
  · have hw := hw.2 c2
    refine g_aload_n ok 0 dX0_why_12 rfl ?_
    refine g_iload_n ok 1 dX0_why_13 rfl ?_
    obtain ⟨g3, hp4, hw⟩ := hw
    refine g_callV ok [.int a0] cf_X0_counts q698 (mc_X0_counts ok.wo (xL x) C a0 g3 hp4) (recvF ok 0 rfl rfl) rfl rfl (Nat.le_of_ble_eq_true rfl) ⟨by decide, by decide⟩ ⟨by decide, by decide⟩ dX0_why_14 (resI ?_)
    refine g_nmI (fun r5 er5 => ?_)
    have hw := hw r5 er5
    refine g_callS ok [.int r5] cf_X0_orNone q783 (mc_X0_orNone ok.wo (xL x) C r5) rfl rfl (Nat.le_of_ble_eq_true rfl) ⟨by decide, by decide⟩ ⟨by decide, by decide⟩ dX0_why_17 (resI ?_)
    refine g_nmI (fun r6 er6 => ?_)
    have hw := hw r6 er6
    refine g_goto (tgt := 25) ok dX0_why_20 (by decide) ?_
    exact g_iret ok dX0_why_25 ⟨_, rfl, hw⟩
theorem sp_X0_why (C : CS) (a0 : Int32) (hp : p_X0_why C a0) : wp_X0_why (fun x C1 => x = v_X0_why C a0 ∧ C1 = C) C a0 := by
  have hp : opP C := hp
  unfold v_X0_why v_X3_why
  refine fun r1 e1 => ⟨fun c1 => ?_, fun c1 => ?_⟩
  all_goals rw [e1, isIn0 _ 2 2 rfl] at c1
  · rw [if_pos c1]; exact ⟨rfl, rfl⟩
  rw [if_neg c1]
  refine ⟨C.2.1 36, hp.1, fun r5 e5 r6 e6 => ⟨?_, rfl⟩⟩
  rw [e6, e5]
  rfl
theorem mc_X0_why {w : WD} (wk : wOk w) (l : Launch) (C : CS) (a0 : Int32) (hp : p_X0_why C a0) : MC w l yX0_why cX0_why 2 (some .int) 6 0 0 [.ref (ad w 0), .int a0] C (pI (v_X0_why C a0) C) := MC.postI (gw_X0_why wk l C a0 (sp_X0_why C a0 hp))
