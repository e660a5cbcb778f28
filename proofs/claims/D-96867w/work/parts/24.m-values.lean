theorem cStep_congr {f g : Nat → Int32} {nf : Nat} {s : List Int32} {x : Int32} (hx : ¬ x < 0 → 10000 ≤ x → vp_in (x - 10000) nf) (e : ∀ i, i < nf → f i = g i) : cStep f s x = cStep g s x := by
  unfold cStep
  by_cases h : x < 0
  · rw [if_pos h, if_pos h]
  · rw [if_neg h, if_neg h]
    by_cases h2 : 10000 ≤ x
    · rw [if_pos h2, if_pos h2, e _ (vp_lt (hx h h2))]
    · rw [if_neg h2, if_neg h2]
theorem cRun_congr {f g c : Nat → Int32} {nf n : Nat} (h : cOk nf c n) (e : ∀ i, i < nf → f i = g i) : ∀ k, k ≤ n → cRun f c k = cRun g c k := by
  intro k
  induction k with
  | zero => intro _; rfl
  | succ k ih =>
    intro hk
    rw [cRun, cRun, ih (by omega)]
    exact cStep_congr (h k (by omega)).2 e
theorem evR_congr {r f g : Nat → Int32} {nf t : Nat} (h : txOk nf r t) (e : ∀ i, i < nf → f i = g i) : evR r f t = evR r g t := by
  unfold evR
  rw [cRun_congr h.2.2.1 e _ (Nat.le_refl _)]
theorem vp_in_mono {i : Int32} {a b : Nat} (h : vp_in i a) (hab : a ≤ b) : vp_in i b := fun q => h (q.imp id (fun z => Nat.le_trans hab z))
theorem txOk_mono {a b : Nat} {r : Nat → Int32} {t : Nat} (hab : a ≤ b) (h : txOk a r t) : txOk b r t :=
  ⟨h.1, h.2.1, fun k hk => ⟨(h.2.2.1 k hk).1, fun c1 c2 => vp_in_mono ((h.2.2.1 k hk).2 c1 c2) hab⟩, h.2.2.2⟩
/-- how many names a key has -/
def nfK (key : Int32) : Nat := if key = 0 then 3 else 2
/-- all texts of the row can be worked out -/
def txsOk (r : Nat → Int32) : Prop := ∃ T, r 5 = nI T ∧ T ≤ 14 ∧ ∀ t, t < T → txOk (nfK (r (76 + 2 * t) / 1000)) r t
theorem cnt_spec (r : Nat → Int32) (key : Int32) : ∀ T, cntT r key T = -1 ∨ ∃ t, t < T ∧ cntT r key T = nI t ∧ r (76 + 2 * t) / 1000 = key := by
  intro T
  induction T with
  | zero => exact Or.inl rfl
  | succ T ih =>
    rw [cntT]
    by_cases h : r (76 + 2 * T) / 1000 = key
    · rw [if_pos h]; exact Or.inr ⟨T, by omega, rfl, h⟩
    · rw [if_neg h]
      rcases ih with h1 | ⟨t, h1, h2, h3⟩
      · exact Or.inl h1
      · exact Or.inr ⟨t, by omega, h2, h3⟩
/-- the text that counts for a key in the row -/
def cntR (r : Nat → Int32) (key : Int32) : Int32 := cntT r key (r 5).toNatClampNeg
theorem cntR_spec {r : Nat → Int32} (h : txsOk r) (key : Int32) : cntR r key = -1 ∨ ∃ t, t < 14 ∧ cntR r key = nI t ∧ txOk (nfK key) r t := by
  obtain ⟨T, e, hT, ht⟩ := h
  unfold cntR
  rw [e, cl_k (by omega)]
  rcases cnt_spec r key T with h1 | ⟨t, h1, h2, h3⟩
  · exact Or.inl h1
  · exact Or.inr ⟨t, by omega, h2, by have := ht t h1; rw [h3] at this; exact this⟩
theorem txsOk.tOk {C : CS} (h : txsOk (C.2.1 36)) : ∃ T, tOk C T := by
  obtain ⟨T, e, hT, -⟩ := h
  exact ⟨T, e, hT⟩
def fct3 (a b c : Int32) : Nat → Int32 := fun i => if i = 0 then a else if i = 1 then b else if i = 2 then c else 0
def fct2 (a b : Int32) : Nat → Int32 := fun i => if i = 0 then a else if i = 1 then b else 0
/-- what a key's law gives on a row, its names being f; without one d -/
def rulR (r : Nat → Int32) (key : Int32) (f : Nat → Int32) (d : Int32) : Int32 := if 0 ≤ cntR r key then evR r f (cntR r key).toNatClampNeg else d
/-- VALUE of two gloves -/
def pvR (r : Nat → Int32) (a b : Nat) : Int32 :=
  v_X3_within (rulR r 0 (fct3 (if r (16 + 6 * b + 3) ≤ r (16 + 6 * a + 3) then r (16 + 6 * b + 3) else r (16 + 6 * a + 3)) (if r (16 + 6 * b + 3) ≤ r (16 + 6 * a + 3) then r (16 + 6 * a + 3) else r (16 + 6 * b + 3)) (r (16 + 6 * a + 4) + r (16 + 6 * b + 4))) (r (16 + 6 * a + 3) + r (16 + 6 * b + 3) - (r (16 + 6 * a + 4) + r (16 + 6 * b + 4)) / 10)) 0 999
/-- by how much a glove wears -/
def wvR (r : Nat → Int32) (g : Nat) (x : Int32) : Int32 := if 0 ≤ cntR r 1 then v_X3_within (evR r (fct2 x (r (16 + 6 * g + 3))) (cntR r 1).toNatClampNeg) 0 20 else x / 4
theorem ofn (C : CS) {g : Nat} (h : g < 10) : v_X3_of C (nI g) 0 = C.2.1 36 (16 + 6 * g) ∧ v_X3_of C (nI g) 1 = C.2.1 36 (16 + 6 * g + 1) ∧ v_X3_of C (nI g) 2 = C.2.1 36 (16 + 6 * g + 2) ∧ v_X3_of C (nI g) 3 = C.2.1 36 (16 + 6 * g + 3) ∧ v_X3_of C (nI g) 4 = C.2.1 36 (16 + 6 * g + 4) ∧ v_X3_of C (nI g) 5 = C.2.1 36 (16 + 6 * g + 5) :=
  ⟨of_k C 0 (by omega) (by omega), of_k C 1 (by omega) (by omega), of_k C 2 (by omega) (by omega), of_k C 3 (by omega) (by omega), of_k C 4 (by omega) (by omega), of_k C 5 (by omega) (by omega)⟩
theorem pofn (C : CS) {g : Nat} (h : g < 10) : p_X3_of C (nI g) 0 ∧ p_X3_of C (nI g) 1 ∧ p_X3_of C (nI g) 2 ∧ p_X3_of C (nI g) 3 ∧ p_X3_of C (nI g) 4 ∧ p_X3_of C (nI g) 5 :=
  ⟨pof_k C 0 (by omega), pof_k C 1 (by omega), pof_k C 2 (by omega), pof_k C 3 (by omega), pof_k C 4 (by omega), pof_k C 5 (by omega)⟩
theorem nn1 : ¬ (0 : Int32) ≤ -1 := by decide
theorem cf_X3_valueOf : CfV yX3_valueOf "TwoGuildsModel" cX3_valueOf 7 (some .int) 2 := ⟨⟨by decide, by decide, by decide⟩, q75, q1545, q1544, qs41⟩
def p_X3_valueOf (C : CS) (a0 a1 : Int32) : Prop := ∃ a b, a0 = nI a ∧ a1 = nI b ∧ a < 10 ∧ b < 10 ∧ txsOk (C.2.1 36)
def v_X3_valueOf (C : CS) (a0 a1 : Int32) : Int32 := pvR (C.2.1 36) a0.toNatClampNeg a1.toNatClampNeg
def q_X3_valueOf (C : CS) (a0 a1 : Int32) (C1 : CS) : Prop := frm [49, 50] C C1
def wp_X3_valueOf (Post : Int32 → CS → Prop) (C : CS) (a0 : Int32) (a1 : Int32) : Prop :=
  p_X3_of C a0 3 ∧
    (∀ r1 : Int32, r1 = (v_X3_of C a0 3) → 
    p_X3_of C a1 3 ∧
    (∀ r2 : Int32, r2 = (v_X3_of C a1 3) → 
    p_X3_of C a0 4 ∧
    (∀ r3 : Int32, r3 = (v_X3_of C a0 4) → 
    p_X3_of C a1 4 ∧
    (∀ r4 : Int32, r4 = (v_X3_of C a1 4) → 
    ∀ x5 : Int32, x5 = (r3 + r4) → 
    p_X3_counts C 0 ∧
    (∀ r6 : Int32, r6 = (v_X3_counts C 0) → 
    ∀ x9 : Int32, x9 = (if r2 ≤ r1 then r2 else r1) → 
    ∀ C10 : CS, C10 = (wA C 50 0 x9) → 
    ∀ x13 : Int32, x13 = (if r2 ≤ r1 then r1 else r2) → 
    ∀ C14 : CS, C14 = (wA C10 50 1 x13) → 
    ∀ C15 : CS, C15 = (wA C14 50 2 x5) → 
    (0 ≤ r6 → 
    p_X3_worksOut C15 r6 ∧
      (∀ r18 : Int32, r18 = (v_X3_worksOut C15 r6) → 
      ∀ C17 : CS, q_X3_worksOut C15 r6 C17 → 
      ∀ r19 : Int32, r19 = (v_X3_within r18 0 999) → 
      Post r19 C17)) ∧
    (¬ 0 ≤ r6 → 
    ∀ r20 : Int32, r20 = (v_X3_within ((r1 + r2) - (x5 / 10)) 0 999) → 
      Post r20 C15))))))
set_option maxHeartbeats 4000000 in
set_option maxRecDepth 100000 in
theorem gw_X3_valueOf {w : WD} (wk : wOk w) (l : Launch) (C : CS) (a0 : Int32) (a1 : Int32) {Post : Int32 → CS → Prop} (hw : wp_X3_valueOf Post C a0 a1) : MC w l yX3_valueOf cX3_valueOf 7 (some .int) 2 0 0 [.ref (ad w 1), .int a0, .int a1] C (fun v C1 => ∃ r : Int32, v = some (.int r) ∧ Post r C1) := by
  unfold wp_X3_valueOf at hw
  refine MC.of wk (by decide) (Nat.le_of_ble_eq_true rfl) (fun x hx ok => ?_)
  subst hx
  show G w x 7 0 0 (QM w x _ 0 0) C 0 [(0, .ref (ad w 1)), (1, .int a0), (2, .int a1)] []
  refine g_aload_n ok 0 dX3_valueOf_0 rfl ?_
  refine g_iload_n ok 1 dX3_valueOf_1 rfl ?_
  refine g_iconst (v := 3) ok dX3_valueOf_2 (by decide) ?_
  obtain ⟨hp, hw⟩ := hw
  refine g_callVI ok [.int a0, .int 3] cf_X3_of q1495 (mc_X3_of ok.wo (xL x) C a0 3 hp) (recvF ok 1 rfl rfl) rfl rfl (Nat.le_of_ble_eq_true rfl) ⟨by decide, by decide⟩ ⟨by decide, by decide⟩ dX3_valueOf_3 ?_
  refine g_nmI (fun r1 er1 => ?_)
  have hw := hw r1 er1
  refine g_istore_n0 ok [(3, .int r1), (0, .ref (ad w 1)), (1, .int a0), (2, .int a1)] dX3_valueOf_6 (by decide) rfl ?_
  refine g_aload_n ok 1 dX3_valueOf_7 rfl ?_
  refine g_iload_n ok 3 dX3_valueOf_8 rfl ?_
  refine g_iconst (v := 3) ok dX3_valueOf_9 (by decide) ?_
  obtain ⟨hp, hw⟩ := hw
  refine g_callVI ok [.int a1, .int 3] cf_X3_of q1495 (mc_X3_of ok.wo (xL x) C a1 3 hp) (recvF ok 1 rfl rfl) rfl rfl (Nat.le_of_ble_eq_true rfl) ⟨by decide, by decide⟩ ⟨by decide, by decide⟩ dX3_valueOf_10 ?_
  refine g_nmI (fun r2 er2 => ?_)
  have hw := hw r2 er2
  refine g_istore0 ok [(4, .int r2), (3, .int r1), (0, .ref (ad w 1)), (1, .int a0), (2, .int a1)] dX3_valueOf_13 (by decide) rfl ?_
  refine g_aload_n ok 2 dX3_valueOf_15 rfl ?_
  refine g_iload_n ok 3 dX3_valueOf_16 rfl ?_
  refine g_iconst (v := 4) ok dX3_valueOf_17 (by decide) ?_
  obtain ⟨hp, hw⟩ := hw
  refine g_callVI ok [.int a0, .int 4] cf_X3_of q1495 (mc_X3_of ok.wo (xL x) C a0 4 hp) (recvF ok 1 rfl rfl) rfl rfl (Nat.le_of_ble_eq_true rfl) ⟨by decide, by decide⟩ ⟨by decide, by decide⟩ dX3_valueOf_18 ?_
  refine g_nmI (fun r3 er3 => ?_)
  have hw := hw r3 er3
  refine g_aload_n ok 2 dX3_valueOf_21 rfl ?_
  refine g_iload_n ok 4 dX3_valueOf_22 rfl ?_
  refine g_iconst (v := 4) ok dX3_valueOf_23 (by decide) ?_
  obtain ⟨hp, hw⟩ := hw
  refine g_callVI ok [.int a1, .int 4] cf_X3_of q1495 (mc_X3_of ok.wo (xL x) C a1 4 hp) (recvF ok 1 rfl rfl) rfl rfl (Nat.le_of_ble_eq_true rfl) ⟨by decide, by decide⟩ ⟨by decide, by decide⟩ dX3_valueOf_24 ?_
  refine g_nmI (fun r4 er4 => ?_)
  have hw := hw r4 er4
  refine g_iadd ok dX3_valueOf_27 ?_
  refine g_istore ok (fun z => [(5, .int z), (4, .int r2), (3, .int r1), (0, .ref (ad w 1)), (1, .int a0), (2, .int a1)]) dX3_valueOf_28 (by decide) (fun _ => rfl) (fun x5 ex5 => ?_)
  have hw := hw x5 ex5
  refine g_aload_n ok 3 dX3_valueOf_30 rfl ?_
  refine g_iconst (v := 0) ok dX3_valueOf_31 (by decide) ?_
  obtain ⟨hp, hw⟩ := hw
  refine g_callVI ok [.int 0] cf_X3_counts q1546 (mc_X3_counts ok.wo (xL x) C 0 hp) (recvF ok 1 rfl rfl) rfl rfl (Nat.le_of_ble_eq_true rfl) ⟨by decide, by decide⟩ ⟨by decide, by decide⟩ dX3_valueOf_32 ?_
  refine g_nmI (fun r6 er6 => ?_)
  have hw := hw r6 er6
  refine g_istore0 ok [(6, .int r6), (5, .int x5), (4, .int r2), (3, .int r1), (0, .ref (ad w 1)), (1, .int a0), (2, .int a1)] dX3_valueOf_35 (by decide) rfl ?_
  refine g_aload_n ok 4 dX3_valueOf_37 rfl ?_
  refine g_get ok 1 rfl rfl in_X3 25 (by decide) q1384 rfl dX3_valueOf_38 ?_
  refine g_iconst (v := 0) ok dX3_valueOf_41 (by decide) ?_
  refine g_iload_n ok 3 dX3_valueOf_42 rfl ?_
  refine g_iload ok 2 dX3_valueOf_43 rfl ?_
  have kj8 : ∀ x9 : Int32, x9 = (if r2 ≤ r1 then r2 else r1) → G w x 7 0 0 (QM w x (fun v C1 => ∃ r : Int32, v = some (.int r) ∧ Post r C1) 0 0) C 54 [(0, .ref (ad w 1)), (3, .int r1), (4, .int r2), (5, .int x5), (6, .int r6)] [.int x9, .int 0, .ref (ad w 50)] := by
    intro x9 ex9
    have hw := hw x9 ex9
    refine g_iast ok 50 rfl (by unfold vp_in; decide) 0 (by decide) dX3_valueOf_54 (fun C10 eC10 => ?_)
    have hw := hw C10 eC10
    refine g_aload_n ok 0 dX3_valueOf_55 rfl ?_
    refine g_get ok 1 rfl rfl in_X3 25 (by decide) q1384 rfl dX3_valueOf_56 ?_
    refine g_iconst (v := 1) ok dX3_valueOf_59 (by decide) ?_
    refine g_iload_n ok 1 dX3_valueOf_60 rfl ?_
    refine g_iload ok 2 dX3_valueOf_61 rfl ?_
    have kj12 : ∀ x13 : Int32, x13 = (if r2 ≤ r1 then r1 else r2) → G w x 7 0 0 (QM w x (fun v C1 => ∃ r : Int32, v = some (.int r) ∧ Post r C1) 0 0) C10 72 [(0, .ref (ad w 1)), (3, .int r1), (4, .int r2), (5, .int x5), (6, .int r6)] [.int x13, .int 1, .ref (ad w 50)] := by
      intro x13 ex13
      have hw := hw x13 ex13
      refine g_iast ok 50 rfl (by unfold vp_in; decide) 1 (by decide) dX3_valueOf_72 (fun C14 eC14 => ?_)
      have hw := hw C14 eC14
      refine g_aload_n ok 0 dX3_valueOf_73 rfl ?_
      refine g_get ok 1 rfl rfl in_X3 25 (by decide) q1384 rfl dX3_valueOf_74 ?_
      refine g_iconst (v := 2) ok dX3_valueOf_77 (by decide) ?_
      refine g_iload ok 3 dX3_valueOf_78 rfl ?_
      refine g_iast ok 50 rfl (by unfold vp_in; decide) 2 (by decide) dX3_valueOf_80 (fun C15 eC15 => ?_)
      have hw := hw C15 eC15
      refine g_iload ok 4 dX3_valueOf_81 rfl ?_
      refine g_if_ge (tgt := 106) ok dX3_valueOf_83 (by decide) (fun c16 => ?_) (fun c16 => ?_)
      · have hw := hw.1 c16
        refine g_aload_n ok 0 dX3_valueOf_106 rfl ?_
        refine g_iload ok 4 dX3_valueOf_107 rfl ?_
        obtain ⟨hp, hw⟩ := hw
        refine g_callVIR ok [.int r6] cf_X3_worksOut q1553 (mc_X3_worksOut ok.wo (xL x) C15 r6 hp) (recvF ok 1 rfl rfl) rfl rfl (Nat.le_of_ble_eq_true rfl) ⟨by decide, by decide⟩ ⟨by decide, by decide⟩ dX3_valueOf_109 (fun C17 eC17 => ?_)
        refine g_nmI (fun r18 er18 => ?_)
        have hw := hw r18 er18 C17 eC17
        refine g_iconst (v := 0) ok dX3_valueOf_112 (by decide) ?_
        refine g_sipush (v := 999) ok dX3_valueOf_113 (by decide) ?_
        refine g_callSI ok [.int r18, .int 0, .int 999] cf_X3_within q1550 (mc_X3_within ok.wo (xL x) C17 r18 0 999) rfl rfl (Nat.le_of_ble_eq_true rfl) ⟨by decide, by decide⟩ ⟨by decide, by decide⟩ dX3_valueOf_116 ?_
        refine g_nmI (fun r19 er19 => ?_)
        have hw := hw r19 er19
        exact g_iret ok dX3_valueOf_119 ⟨_, rfl, hw⟩
      · have hw := hw.2 c16
        refine g_iload_n ok 1 dX3_valueOf_86 rfl ?_
        refine g_iload ok 2 dX3_valueOf_87 rfl ?_
        refine g_iadd ok dX3_valueOf_89 ?_
        refine g_iload ok 3 dX3_valueOf_90 rfl ?_
        refine g_bipush (v := 10) ok dX3_valueOf_92 (by decide) ?_
        refine g_idiv ok dX3_valueOf_94 (by decide) ?_
        refine g_isub ok dX3_valueOf_95 ?_
        refine g_iconst (v := 0) ok dX3_valueOf_96 (by decide) ?_
        refine g_sipush (v := 999) ok dX3_valueOf_97 (by decide) ?_
        refine g_callSI ok [.int ((r1 + r2) - (x5 / 10)), .int 0, .int 999] cf_X3_within q1550 (mc_X3_within ok.wo (xL x) C15 ((r1 + r2) - (x5 / 10)) 0 999) rfl rfl (Nat.le_of_ble_eq_true rfl) ⟨by decide, by decide⟩ ⟨by decide, by decide⟩ dX3_valueOf_100 ?_
        refine g_nmI (fun r20 er20 => ?_)
        have hw := hw r20 er20
        refine g_goto (tgt := 119) ok dX3_valueOf_103 (by decide) ?_
        exact g_iret ok dX3_valueOf_119 ⟨_, rfl, hw⟩
    refine g_icmp_ge (tgt := 71) ok dX3_valueOf_63 (by decide) (fun c11 => ?_) (fun c11 => ?_)
    · refine g_iload_n ok 1 dX3_valueOf_71 rfl ?_
      exact (kj12 _ (by simp only [if_pos c11]))
    · refine g_iload ok 2 dX3_valueOf_66 rfl ?_
      refine g_goto (tgt := 72) ok dX3_valueOf_68 (by decide) ?_
      exact (kj12 _ (by simp only [if_neg c11]))
  refine g_icmp_ge (tgt := 52) ok dX3_valueOf_45 (by decide) (fun c7 => ?_) (fun c7 => ?_)
  · refine g_iload ok 2 dX3_valueOf_52 rfl ?_
    exact g_sub [4, 3, 2, 1, 0] [(0, .ref (ad w 1)), (3, .int r1), (4, .int r2), (5, .int x5), (6, .int r6)] rfl (kj8 _ (by simp only [if_pos c7]))
  · refine g_iload_n ok 3 dX3_valueOf_48 rfl ?_
    refine g_goto (tgt := 54) ok dX3_valueOf_49 (by decide) ?_
    exact g_sub [4, 3, 2, 1, 0] [(0, .ref (ad w 1)), (3, .int r1), (4, .int r2), (5, .int x5), (6, .int r6)] rfl (kj8 _ (by simp only [if_neg c7]))
theorem sp_X3_valueOf (C : CS) (a0 a1 : Int32) (hp : p_X3_valueOf C a0 a1) : wp_X3_valueOf (fun r C1 => r = v_X3_valueOf C a0 a1 ∧ q_X3_valueOf C a0 a1 C1) C a0 a1 := by
  obtain ⟨a, b, rfl, rfl, ha, hb, ht⟩ := hp
  obtain ⟨-, -, -, a3, a4, -⟩ := ofn C ha
  obtain ⟨-, -, -, b3, b4, -⟩ := ofn C hb
  obtain ⟨-, -, -, pa3, pa4, -⟩ := pofn C ha
  obtain ⟨-, -, -, pb3, pb4, -⟩ := pofn C hb
  refine ⟨pa3, fun r1 e1 => ⟨pb3, fun r3 e3 => ⟨pa4, fun r5 e5 => ⟨pb4, fun r6 e6 x7 e7 => ⟨ht.tOk, fun r8 e8 x12 e12 C13 e13 x16 e16 C17 e17 C18 e18 => ?_⟩⟩⟩⟩⟩
  rw [a3] at e1
  rw [b3] at e3
  rw [a4] at e5
  rw [b4] at e6
  have e8 : r8 = cntR (C.2.1 36) 0 := e8
  have hf : frm [49, 50] C C18 := by rw [e18, e17, e13]; exact (((frm.rf _ C).w (by decide)).w (by decide)).w (by decide)
  have h36 : C18.2.1 36 = C.2.1 36 := hf.2.2 36 (by decide)
  have hv : v_X3_valueOf C (nI a) (nI b) = pvR (C.2.1 36) a b := by unfold v_X3_valueOf; rw [cl_k (by omega), cl_k (by omega)]
  refine ⟨fun c => ?_, fun c r23 e23 => ⟨?_, hf⟩⟩
  · rcases cntR_spec ht 0 with h1 | ⟨t, h1, h2, h3⟩
    · rw [e8, h1] at c; exact absurd c nn1
    · have h3 : txOk 3 (C.2.1 36) t := h3
      rw [e8, h2]
      refine ⟨⟨t, rfl, h1, by rw [h36]; exact txOk_mono (by decide) h3⟩, fun r20 e20 C21 e21 r22 e22 => ⟨?_, hf.tr (e21.mono (by decide))⟩⟩
      rw [hv, pvR, rulR, h2, if_pos (nI_pos' (by omega)), e22, e20]
      unfold v_X3_worksOut
      rw [h36, cl_k (by omega)]
      congr 1
      refine evR_congr h3 (fun i hi => ?_)
      rw [e18, e17, e13]
      rw [e12, e16, e7, e1, e3, e5, e6]
      match i, hi with
      | 0, _ => simp [wA, up2, fct3]
      | 1, _ => simp [wA, up2, fct3]
      | 2, _ => simp [wA, up2, fct3]
  · rw [hv, pvR, rulR, ← e8, if_neg c, e23, e7, e1, e3, e5, e6]
theorem mc_X3_valueOf {w : WD} (wk : wOk w) (l : Launch) (C : CS) (a0 : Int32) (a1 : Int32) (hp : p_X3_valueOf C a0 a1) : MC w l yX3_valueOf cX3_valueOf 7 (some .int) 2 0 0 [.ref (ad w 1), .int a0, .int a1] C (pIR (v_X3_valueOf C a0 a1) (q_X3_valueOf C a0 a1)) := MC.postIR (gw_X3_valueOf wk l C a0 a1 (sp_X3_valueOf C a0 a1 hp))
theorem cf_X3_wearsBy : CfV yX3_wearsBy "TwoGuildsModel" cX3_wearsBy 4 (some .int) 2 := ⟨⟨by decide, by decide, by decide⟩, q75, q1643, q1642, qs53⟩
def p_X3_wearsBy (C : CS) (a0 a1 : Int32) : Prop := ∃ a, a0 = nI a ∧ a < 10 ∧ txsOk (C.2.1 36)
def v_X3_wearsBy (C : CS) (a0 a1 : Int32) : Int32 := wvR (C.2.1 36) a0.toNatClampNeg a1
def q_X3_wearsBy (C : CS) (a0 a1 : Int32) (C1 : CS) : Prop := frm [49, 50] C C1
def wp_X3_wearsBy (Post : Int32 → CS → Prop) (C : CS) (a0 : Int32) (a1 : Int32) : Prop :=
  p_X3_counts C 1 ∧
    (∀ r1 : Int32, r1 = (v_X3_counts C 1) → 
    ∀ C2 : CS, C2 = (wA C 50 0 a1) → 
    p_X3_of C2 a0 3 ∧
    (∀ r3 : Int32, r3 = (v_X3_of C2 a0 3) → 
    ∀ C4 : CS, C4 = (wA C2 50 1 r3) → 
    (0 ≤ r1 → 
    p_X3_worksOut C4 r1 ∧
      (∀ r7 : Int32, r7 = (v_X3_worksOut C4 r1) → 
      ∀ C6 : CS, q_X3_worksOut C4 r1 C6 → 
      ∀ r8 : Int32, r8 = (v_X3_within r7 0 20) → 
      Post r8 C6)) ∧
    (¬ 0 ≤ r1 → 
    Post (a1 / 4) C4)))
set_option maxHeartbeats 4000000 in
set_option maxRecDepth 100000 in
theorem gw_X3_wearsBy {w : WD} (wk : wOk w) (l : Launch) (C : CS) (a0 : Int32) (a1 : Int32) {Post : Int32 → CS → Prop} (hw : wp_X3_wearsBy Post C a0 a1) : MC w l yX3_wearsBy cX3_wearsBy 4 (some .int) 2 0 0 [.ref (ad w 1), .int a0, .int a1] C (fun v C1 => ∃ r : Int32, v = some (.int r) ∧ Post r C1) := by
  unfold wp_X3_wearsBy at hw
  refine MC.of wk (by decide) (Nat.le_of_ble_eq_true rfl) (fun x hx ok => ?_)
  subst hx
  show G w x 4 0 0 (QM w x _ 0 0) C 0 [(0, .ref (ad w 1)), (1, .int a0), (2, .int a1)] []
  refine g_aload_n ok 0 dX3_wearsBy_0 rfl ?_
  refine g_iconst (v := 1) ok dX3_wearsBy_1 (by decide) ?_
  obtain ⟨hp, hw⟩ := hw
  refine g_callVI ok [.int 1] cf_X3_counts q1546 (mc_X3_counts ok.wo (xL x) C 1 hp) (recvF ok 1 rfl rfl) rfl rfl (Nat.le_of_ble_eq_true rfl) ⟨by decide, by decide⟩ ⟨by decide, by decide⟩ dX3_wearsBy_2 ?_
  refine g_nmI (fun r1 er1 => ?_)
  have hw := hw r1 er1
  refine g_istore_n0 ok [(3, .int r1), (0, .ref (ad w 1)), (1, .int a0), (2, .int a1)] dX3_wearsBy_5 (by decide) rfl ?_
  refine g_aload_n ok 1 dX3_wearsBy_6 rfl ?_
  refine g_get ok 1 rfl rfl in_X3 25 (by decide) q1384 rfl dX3_wearsBy_7 ?_
  refine g_iconst (v := 0) ok dX3_wearsBy_10 (by decide) ?_
  refine g_iload_n ok 3 dX3_wearsBy_11 rfl ?_
  refine g_iast ok 50 rfl (by unfold vp_in; decide) 0 (by decide) dX3_wearsBy_12 (fun C2 eC2 => ?_)
  have hw := hw C2 eC2
  refine g_aload_n ok 1 dX3_wearsBy_13 rfl ?_
  refine g_get ok 1 rfl rfl in_X3 25 (by decide) q1384 rfl dX3_wearsBy_14 ?_
  refine g_iconst (v := 1) ok dX3_wearsBy_17 (by decide) ?_
  refine g_aload_n ok 1 dX3_wearsBy_18 rfl ?_
  refine g_iload_n ok 2 dX3_wearsBy_19 rfl ?_
  refine g_iconst (v := 3) ok dX3_wearsBy_20 (by decide) ?_
  obtain ⟨hp, hw⟩ := hw
  refine g_callVI ok [.int a0, .int 3] cf_X3_of q1495 (mc_X3_of ok.wo (xL x) C2 a0 3 hp) (recvF ok 1 rfl rfl) rfl rfl (Nat.le_of_ble_eq_true rfl) ⟨by decide, by decide⟩ ⟨by decide, by decide⟩ dX3_wearsBy_21 ?_
  refine g_nmI (fun r3 er3 => ?_)
  have hw := hw r3 er3
  refine g_iast ok 50 rfl (by unfold vp_in; decide) 1 (by decide) dX3_wearsBy_24 (fun C4 eC4 => ?_)
  have hw := hw C4 eC4
  refine g_iload_n ok 0 dX3_wearsBy_25 rfl ?_
  refine g_if_ge (tgt := 35) ok dX3_wearsBy_26 (by decide) (fun c5 => ?_) (fun c5 => ?_)
  · have hw := hw.1 c5
    refine g_aload_n ok 1 dX3_wearsBy_35 rfl ?_
    refine g_iload_n ok 0 dX3_wearsBy_36 rfl ?_
    obtain ⟨hp, hw⟩ := hw
    refine g_callVIR ok [.int r1] cf_X3_worksOut q1553 (mc_X3_worksOut ok.wo (xL x) C4 r1 hp) (recvF ok 1 rfl rfl) rfl rfl (Nat.le_of_ble_eq_true rfl) ⟨by decide, by decide⟩ ⟨by decide, by decide⟩ dX3_wearsBy_37 (fun C6 eC6 => ?_)
    refine g_nmI (fun r7 er7 => ?_)
    have hw := hw r7 er7 C6 eC6
    refine g_iconst (v := 0) ok dX3_wearsBy_40 (by decide) ?_
    refine g_bipush (v := 20) ok dX3_wearsBy_41 (by decide) ?_
    refine g_callSI ok [.int r7, .int 0, .int 20] cf_X3_within q1550 (mc_X3_within ok.wo (xL x) C6 r7 0 20) rfl rfl (Nat.le_of_ble_eq_true rfl) ⟨by decide, by decide⟩ ⟨by decide, by decide⟩ dX3_wearsBy_43 ?_
    refine g_nmI (fun r8 er8 => ?_)
    have hw := hw r8 er8
    exact g_iret ok dX3_wearsBy_46 ⟨_, rfl, hw⟩
  · have hw := hw.2 c5
    refine g_iload_n ok 3 dX3_wearsBy_29 rfl ?_
    refine g_iconst (v := 4) ok dX3_wearsBy_30 (by decide) ?_
    refine g_idiv ok dX3_wearsBy_31 (by decide) ?_
    refine g_goto (tgt := 46) ok dX3_wearsBy_32 (by decide) ?_
    exact g_iret ok dX3_wearsBy_46 ⟨_, rfl, hw⟩
theorem sp_X3_wearsBy (C : CS) (a0 a1 : Int32) (hp : p_X3_wearsBy C a0 a1) : wp_X3_wearsBy (fun r C1 => r = v_X3_wearsBy C a0 a1 ∧ q_X3_wearsBy C a0 a1 C1) C a0 a1 := by
  obtain ⟨a, rfl, ha, ht⟩ := hp
  refine ⟨ht.tOk, fun r1 e1 C3 e3 => ⟨(pofn C3 ha).2.2.2.1, fun r4 e4 C5 e5 => ?_⟩⟩
  rw [(ofn C3 ha).2.2.2.1] at e4
  have e1 : r1 = cntR (C.2.1 36) 1 := e1
  have hf3 : frm [49, 50] C C3 := by rw [e3]; exact (frm.rf _ C).w (by decide)
  have hf : frm [49, 50] C C5 := by rw [e5]; exact hf3.w (by decide)
  have h36 : C5.2.1 36 = C.2.1 36 := hf.2.2 36 (by decide)
  rw [hf3.2.2 36 (by decide)] at e4
  have hv : v_X3_wearsBy C (nI a) a1 = wvR (C.2.1 36) a a1 := by unfold v_X3_wearsBy; rw [cl_k (by omega)]
  refine ⟨fun c => ?_, fun c => ⟨?_, hf⟩⟩
  · rcases cntR_spec ht 1 with h1 | ⟨t, h1, h2, h3⟩
    · rw [e1, h1] at c; exact absurd c nn1
    · have h3 : txOk 2 (C.2.1 36) t := h3
      rw [e1, h2]
      refine ⟨⟨t, rfl, h1, by rw [h36]; exact txOk_mono (by decide) h3⟩, fun r7 e7 C8 e8 r9 e9 => ⟨?_, hf.tr (e8.mono (by decide))⟩⟩
      rw [hv, wvR, h2, if_pos (nI_pos' (by omega)), e9, e7]
      unfold v_X3_worksOut
      rw [h36, cl_k (by omega)]
      congr 1
      refine evR_congr h3 (fun i hi => ?_)
      rw [e5, e3, e4]
      match i, hi with
      | 0, _ => simp [wA, up2, fct2]
      | 1, _ => simp [wA, up2, fct2]
  · rw [hv, wvR, ← e1, if_neg c]
theorem mc_X3_wearsBy {w : WD} (wk : wOk w) (l : Launch) (C : CS) (a0 : Int32) (a1 : Int32) (hp : p_X3_wearsBy C a0 a1) : MC w l yX3_wearsBy cX3_wearsBy 4 (some .int) 2 0 0 [.ref (ad w 1), .int a0, .int a1] C (pIR (v_X3_wearsBy C a0 a1) (q_X3_wearsBy C a0 a1)) := MC.postIR (gw_X3_wearsBy wk l C a0 a1 (sp_X3_wearsBy C a0 a1 hp))
