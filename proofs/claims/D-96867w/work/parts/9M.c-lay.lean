/-! lay -/
theorem thing_eq {C C1 : CS} {k : Nat} (h : slR C k) (hT : ∀ a tg, cT C a = some tg → cT C1 a = some tg) : p_X0_thingOf C1 (cH C (31 + k)) ∧ v_X0_thingOf C1 (cH C (31 + k)) = C.2.1 54 k := by
  have key : ∀ o : Option Nat, tgO C o ≠ 0 → tgO C1 o = tgO C o := by
    intro o ho
    obtain ⟨a, rfl, e⟩ := tgO.get rfl ho
    exact (tgO.of (hT a _ e)).1
  have th := h.th
  unfold p_X0_thingOf v_X0_thingOf
  rcases h with ⟨h1, h2⟩ | ⟨a, h1, h2, h3, h4, h5⟩ | ⟨h1, h2, h3⟩ | ⟨h1, h2, h3⟩
  · rw [if_pos h1, h2]; exact ⟨Or.inl h1, rfl⟩
  · obtain ⟨⟨g, hg6, tg, kd⟩, -⟩ := h2.tg
    have e : tgO C1 (some a) = g + 4 := by rw [key (some a) (by rw [tg]; omega)]; exact tg
    rw [h1, if_neg (fun z => by cases z), e, if_pos (by omega), h3]
    refine ⟨Or.inr ?_, rfl⟩
    rw [e, ← tg]
    rw [h1] at th
    rcases th with z | z
    · cases z
    · exact z
  · have hne : tgO C (cH C (31 + k)) ≠ 0 := by rcases h3.r with z | z <;> rw [z] <;> decide
    rw [if_neg (tg_some hne), key _ hne, h1]
    refine ⟨Or.inr ?_, ?_⟩
    · rw [key _ hne]
      rcases h3.r with z | z <;> rw [z] <;> decide
    · rcases h3.r with z | z <;> rw [z] <;> rfl
  · have hne : tgO C (cH C (31 + k)) ≠ 0 := by rw [h1]; decide
    rw [if_neg (tg_some hne), key _ hne, h1, h2]
    refine ⟨Or.inr ?_, rfl⟩
    rw [key _ hne, h1]
    decide
theorem isSl_eq (a : Int32) : v_X0_isSlot a = v_X3_isSlot a := by
  unfold v_X0_isSlot v_X3_isSlot
  exact isIn0 _ 4 4 rfl
theorem in03 {a : Int32} (h : ¬ v_X3_in a 0 3 = 0) : a = 0 ∨ a = 1 ∨ a = 2 ∨ a = 3 := by
  obtain ⟨k, hk, rfl⟩ := in_nI (m := 3) (by decide) h
  have : k = 0 ∨ k = 1 ∨ k = 2 ∨ k = 3 := by omega
  rcases this with rfl | rfl | rfl | rfl
  · exact Or.inl rfl
  · exact Or.inr (Or.inl rfl)
  · exact Or.inr (Or.inr (Or.inl rfl))
  · exact Or.inr (Or.inr (Or.inr rfl))
theorem cf_X0_lay : CfV yX0_lay "TwoGuilds" cX0_lay 6 (some .int) 3 := ⟨⟨by decide, by decide, by decide⟩, q72, q1252, q1250, q1251⟩
def p_X0_lay (C : CS) (a0 a1 a2 : Int32) : Prop := opP C ∧ shO C ∧ slO C
def v_X0_lay (C : CS) (a0 a1 a2 : Int32) : Int32 := v_X3_lay C a0 a1 a2
def q_X0_lay (C : CS) (a0 a1 a2 : Int32) (C1 : CS) : Prop :=
  (laG C a0 a1 a2 → (a1 = 0 ∧ C1 = wH C (31 + a0.toNatClampNeg) none) ∨ (a1 = 1 ∧ ∃ b d C2, cG C (17 + 4 * (cN C - 2)) a2.toNatClampNeg = some b ∧ nwE d b C C2 ∧ C1 = wH C2 (31 + a0.toNatClampNeg) (some d)) ∨ (a1 = 2 ∧ ∃ d, cT C d = none ∧ C1 = wH (agW C (cH C (27 + a2.toNatClampNeg)) d) (31 + a0.toNatClampNeg) (some d)) ∨ (a1 = 3 ∧ ∃ d, cT C d = none ∧ C1 = wH (wDI (nwC C d 15) 150 d a2) (31 + a0.toNatClampNeg) (some d))) ∧
  (¬ laG C a0 a1 a2 → C1 = C)
def wp_X0_lay_j76 (Post : Int32 → CS → Prop) (C : CS) (i1 : Int32) (i2 : Int32) (i3 : Int32) : Prop := vp_in i1 5 ∧
  ((i2 = 0 → 
  ∀ C25 : CS, C25 = (wH C (31 + Int32.toNatClampNeg i1) none) → 
    p_X0_thingOf C25 (cH C (31 + Int32.toNatClampNeg i1)) ∧
    (∀ r27 : Int32, r27 = (v_X0_thingOf C25 (cH C (31 + Int32.toNatClampNeg i1))) → 
    Post r27 C25)) ∧
  (¬ i2 = 0 → 
  (i2 = 1 → 
    isTb (cN C) ∧
      (vp_in i3 10 ∧
      (∃ d31 : Nat, (cG C (17 + 4 * ((cN C) - 2)) (Int32.toNatClampNeg i3)) = some d31 ∧
      (p_X0_anew C d31 ∧
      (∀ d33 : Nat, 
      ∀ C34 : CS, q_X0_anew C d31 d33 C34 → 
      ∀ C35 : CS, C35 = (wH C34 (31 + Int32.toNatClampNeg i1) (some d33)) → 
      p_X0_thingOf C35 (cH C (31 + Int32.toNatClampNeg i1)) ∧
      (∀ r37 : Int32, r37 = (v_X0_thingOf C35 (cH C (31 + Int32.toNatClampNeg i1))) → 
      Post r37 C35)))))) ∧
    (¬ i2 = 1 → 
    (i2 = 2 → 
      vp_in i3 4 ∧
        (p_X0_again C (cH C (27 + Int32.toNatClampNeg i3)) ∧
        (∀ d41 : Nat, 
        ∀ C42 : CS, q_X0_again C (cH C (27 + Int32.toNatClampNeg i3)) d41 C42 → 
        ∀ C43 : CS, C43 = (wH C42 (31 + Int32.toNatClampNeg i1) (some d41)) → 
        p_X0_thingOf C43 (cH C (31 + Int32.toNatClampNeg i1)) ∧
        (∀ r45 : Int32, r45 = (v_X0_thingOf C43 (cH C (31 + Int32.toNatClampNeg i1))) → 
        Post r45 C43)))) ∧
      (¬ i2 = 2 → 
      ∀ d46 : Nat, 
        cT C d46 = none → 
        ∀ C47 : CS, C47 = (nwC C d46 15) → 
        p_X16_init C47 d46 i3 ∧
        (∀ C49 : CS, C49 = (n_X16_init C47 d46 i3) → 
        ∀ C50 : CS, C50 = (wH C49 (31 + Int32.toNatClampNeg i1) (some d46)) → 
        p_X0_thingOf C50 (cH C (31 + Int32.toNatClampNeg i1)) ∧
        (∀ r52 : Int32, r52 = (v_X0_thingOf C50 (cH C (31 + Int32.toNatClampNeg i1))) → 
        Post r52 C50))))))
def wp_X0_lay (Post : Int32 → CS → Prop) (C : CS) (a0 : Int32) (a1 : Int32) (a2 : Int32) : Prop :=
  ((a1 = 0 → 
      True) ∧
      (¬ a1 = 0 → 
      ((a1 = 3 → 
          True) ∧
          (¬ a1 = 3 → 
          ((a1 = 1 → 
              p_X0_isGlove C a2 ∧
                (True)) ∧
              (¬ a1 = 1 → 
              True)) ∧
            (True))) ∧
        (True))) ∧
    (∀ x18 : Int32, x18 = (if a1 = 0 then (1 : Int32) else (if a1 = 3 then (1 : Int32) else (if a1 = 1 then (if (v_X0_isGlove C a2) = 0 then (if a1 = 2 then (if (v_X0_isSheet a2) = 0 then (0 : Int32) else 1) else 0) else 1) else (if a1 = 2 then (if (v_X0_isSheet a2) = 0 then (0 : Int32) else 1) else 0)))) → 
    ∀ r19 : Int32, r19 = (v_X0_isSlot a0) → 
    (r19 = 0 → 
    Post (-1000000001) C) ∧
    (¬ r19 = 0 → 
    (x18 = 0 → 
      Post (-1000000001) C) ∧
      (¬ x18 = 0 → 
      (a1 = 2 → 
        vp_in a2 4 ∧
          (((cH C (27 + Int32.toNatClampNeg a2)) = none → 
          Post (-1000000011) C) ∧
          (¬ (cH C (27 + Int32.toNatClampNeg a2)) = none → 
          wp_X0_lay_j76 Post C a0 a1 a2))) ∧
        (¬ a1 = 2 → 
        wp_X0_lay_j76 Post C a0 a1 a2))))
set_option maxHeartbeats 4000000 in
set_option maxRecDepth 100000 in
theorem gw_X0_lay_j76 {w : WD} {x : Cx} (ok : Ok w x cX0_lay 6 yX0_lay.cls (some .int) (rmL 262 1 24)) {Post : Int32 → CS → Prop} : ∀ (C : CS) (i1 : Int32) (i2 : Int32) (i3 : Int32), wp_X0_lay_j76 Post  C i1 i2 i3 → G w x 6 0 0 (QM w x (fun v C1 => ∃ r : Int32, v = some (.int r) ∧ Post r C1) 1 24) C 76 [(0, .ref (ad w 0)), (1, .int i1), (2, .int i2), (3, .int i3)] [] := by
  intro C i1 i2 i3 hw
  unfold wp_X0_lay_j76 at hw
  refine g_aload_n ok 0 dX0_lay_76 rfl ?_
  refine g_get ok 0 rfl rfl in_X0 22 (by decide) q204 rfl dX0_lay_77 ?_
  refine g_iload_n ok 1 dX0_lay_80 rfl ?_
  obtain ⟨hf23, hw⟩ := hw
  refine g_hald13 ok hf23 dX0_lay_81 ?_
  refine g_get ok (31 + Int32.toNatClampNeg i1) (fObjH (by have := vp_lt hf23; omega) (by have := vp_lt hf23; omega)) rfl in_X2 0 (by decide) q175 rfl dX0_lay_82 ?_
  refine g_ostore ok [(5, va_rf (cH C (31 + Int32.toNatClampNeg i1))), (0, .ref (ad w 0)), (1, .int i1), (2, .int i2), (3, .int i3)] dX0_lay_85 (by decide) rfl ?_
  refine g_iload_n ok 3 dX0_lay_87 rfl ?_
  by_cases c24 : i2 = 0
  · have hw := hw.1 c24
    refine g_swIn (tgt := 116) ok (0) dX0_lay_88 (c24.trans (by decide)) (by decide) rfl (by decide) ?_
    refine g_aload_n ok 1 dX0_lay_116 rfl ?_
    refine g_get ok 0 rfl rfl in_X0 22 (by decide) q204 rfl dX0_lay_117 ?_
    refine g_iload_n ok 2 dX0_lay_120 rfl ?_
    refine g_hald13 ok hf23 dX0_lay_121 ?_
    refine g_null ok dX0_lay_122 ?_
    refine g_putH (o := none) ok (by have := vp_lt hf23; omega) (by have := vp_lt hf23; omega) q175 dX0_lay_123 (fun C25 eC25 => ?_)
    have hw := hw C25 eC25
    refine g_goto (tgt := 195) ok dX0_lay_126 (by decide) ?_
    refine g_oload ok 0 dX0_lay_195 rfl ?_
    obtain ⟨hp26, hw⟩ := hw
    refine g_callS ok [va_rf (cH C (31 + Int32.toNatClampNeg i1))] cf_X0_thingOf q1271 (mc_X0_thingOf ok.wo (xL x) C25 (cH C (31 + Int32.toNatClampNeg i1)) hp26) rfl rfl (Nat.le_of_ble_eq_true rfl) ⟨by decide, by decide⟩ ⟨by decide, by decide⟩ dX0_lay_197 (resI ?_)
    refine g_nmI (fun r27 er27 => ?_)
    have hw := hw r27 er27
    refine g_widen 1 24 (by omega) (by omega) ?_
    exact g_iret ok dX0_lay_200 ⟨_, rfl, hw⟩
  · have hw := hw.2 c24
    by_cases c28 : i2 = 1
    · have hw := hw.1 c28
      refine g_swIn (tgt := 129) ok (1) dX0_lay_88 (c28.trans (by decide)) (by decide) rfl (by decide) ?_
      refine g_aload_n ok 1 dX0_lay_129 rfl ?_
      refine g_get ok 0 rfl rfl in_X0 22 (by decide) q204 rfl dX0_lay_130 ?_
      refine g_iload_n ok 2 dX0_lay_133 rfl ?_
      refine g_hald13 ok hf23 dX0_lay_134 ?_
      refine g_aload_n ok 1 dX0_lay_135 rfl ?_
      refine g_aload_n ok 1 dX0_lay_136 rfl ?_
      refine g_get ok 0 rfl rfl in_X0 0 (by decide) q180 rfl dX0_lay_137 ?_
      obtain ⟨hf29, hw⟩ := hw
      refine g_get ok (cN C) (fObjT hf29) rfl in_X1 8 (by decide) q140 rfl dX0_lay_140 ?_
      refine g_iload_n ok 4 dX0_lay_143 rfl ?_
      obtain ⟨hf30, hw⟩ := hw
      obtain ⟨d31, ed31, hw⟩ := hw
      refine g_rald (v := .ref d31) ok _ (fRefG hf29) (Or.inl rfl) hf30 (congrArg va_rf ed31) dX0_lay_144 ?_
      obtain ⟨hp32, hw⟩ := hw
      refine g_callV ok [.ref d31] cf_X0_anew q1256 (mc_X0_anew ok.wo (xL x) C d31 hp32) (recvF ok 0 rfl rfl) rfl rfl (Nat.le_of_ble_eq_true rfl) ⟨by decide, by decide⟩ ⟨by show 0 + 1 ≤ 1; omega, by show 0 + 8 ≤ 24; omega⟩ dX0_lay_145 (resRR fun d33 C34 eC34 => ?_)
      have hw := hw d33 C34 eC34
      refine g_putH (o := (some d33)) ok (by have := vp_lt hf23; omega) (by have := vp_lt hf23; omega) q175 dX0_lay_148 (fun C35 eC35 => ?_)
      have hw := hw C35 eC35
      refine g_goto (tgt := 195) ok dX0_lay_151 (by decide) ?_
      refine g_oload ok 0 dX0_lay_195 rfl ?_
      obtain ⟨hp36, hw⟩ := hw
      refine g_callS ok [va_rf (cH C (31 + Int32.toNatClampNeg i1))] cf_X0_thingOf q1271 (mc_X0_thingOf ok.wo (xL x) C35 (cH C (31 + Int32.toNatClampNeg i1)) hp36) rfl rfl (Nat.le_of_ble_eq_true rfl) ⟨by decide, by decide⟩ ⟨by decide, by decide⟩ dX0_lay_197 (resI ?_)
      refine g_nmI (fun r37 er37 => ?_)
      have hw := hw r37 er37
      refine g_widen 1 24 (by omega) (by omega) ?_
      exact g_iret ok dX0_lay_200 ⟨_, rfl, hw⟩
    · have hw := hw.2 c28
      by_cases c38 : i2 = 2
      · have hw := hw.1 c38
        refine g_swIn (tgt := 154) ok (2) dX0_lay_88 (c38.trans (by decide)) (by decide) rfl (by decide) ?_
        refine g_aload_n ok 1 dX0_lay_154 rfl ?_
        refine g_get ok 0 rfl rfl in_X0 22 (by decide) q204 rfl dX0_lay_155 ?_
        refine g_iload_n ok 2 dX0_lay_158 rfl ?_
        refine g_hald13 ok hf23 dX0_lay_159 ?_
        refine g_aload_n ok 1 dX0_lay_160 rfl ?_
        refine g_get ok 0 rfl rfl in_X0 21 (by decide) q203 rfl dX0_lay_161 ?_
        refine g_iload_n ok 4 dX0_lay_164 rfl ?_
        obtain ⟨hf39, hw⟩ := hw
        refine g_hald12 ok hf39 dX0_lay_165 ?_
        refine g_get ok (27 + Int32.toNatClampNeg i3) (fObjH (by have := vp_lt hf39; omega) (by have := vp_lt hf39; omega)) rfl in_X2 0 (by decide) q175 rfl dX0_lay_166 ?_
        obtain ⟨hp40, hw⟩ := hw
        refine g_callS ok [va_rf (cH C (27 + Int32.toNatClampNeg i3))] cf_X0_again q1257 (mc_X0_again ok.wo (xL x) C (cH C (27 + Int32.toNatClampNeg i3)) hp40) rfl rfl (Nat.le_of_ble_eq_true rfl) ⟨by decide, by decide⟩ ⟨by show 0 + 1 ≤ 1; omega, by show 0 + 24 ≤ 24; omega⟩ dX0_lay_169 (resRR fun d41 C42 eC42 => ?_)
        have hw := hw d41 C42 eC42
        refine g_putH (o := (some d41)) ok (by have := vp_lt hf23; omega) (by have := vp_lt hf23; omega) q175 dX0_lay_172 (fun C43 eC43 => ?_)
        have hw := hw C43 eC43
        refine g_goto (tgt := 195) ok dX0_lay_175 (by decide) ?_
        refine g_oload ok 0 dX0_lay_195 rfl ?_
        obtain ⟨hp44, hw⟩ := hw
        refine g_callS ok [va_rf (cH C (31 + Int32.toNatClampNeg i1))] cf_X0_thingOf q1271 (mc_X0_thingOf ok.wo (xL x) C43 (cH C (31 + Int32.toNatClampNeg i1)) hp44) rfl rfl (Nat.le_of_ble_eq_true rfl) ⟨by decide, by decide⟩ ⟨by decide, by decide⟩ dX0_lay_197 (resI ?_)
        refine g_nmI (fun r45 er45 => ?_)
        have hw := hw r45 er45
        exact g_iret ok dX0_lay_200 ⟨_, rfl, hw⟩
      · have hw := hw.2 c38
        refine g_swOut (tgt := 178) ok dX0_lay_88 (fun k k1 k2 => ?_) (by decide) ?_
        · rcases (show k = 0 ∨ k = 1 ∨ k = 2 by omega) with rfl | rfl | rfl
          · exact fun h => c24 (h.trans (by decide))
          · exact fun h => c28 (h.trans (by decide))
          · exact fun h => c38 (h.trans (by decide))
        · refine g_aload_n ok 1 dX0_lay_178 rfl ?_
          refine g_get ok 0 rfl rfl in_X0 22 (by decide) q204 rfl dX0_lay_179 ?_
          refine g_iload_n ok 2 dX0_lay_182 rfl ?_
          refine g_hald13 ok hf23 dX0_lay_183 ?_
          refine g_newD ok 15 (by decide) rfl in_X16 tyX16 tyX16_ok nv_15 q1260 q1261 q103 ⟨by show 0 + 1 ≤ 1; omega, by show 0 + 1 ≤ 24; omega⟩ dX0_lay_184 (fun d46 hd46 => ?_)
          refine g_nmC (fun C47 eC47 => ?_)
          have hw := hw d46 hd46 C47 eC47
          refine g_dup ok dX0_lay_187 rfl ?_
          refine g_iload_n ok 4 dX0_lay_188 rfl ?_
          obtain ⟨hp48, hw⟩ := hw
          refine g_callI ok [.int i3] cfI_X16_init q1262 (mc_X16_init ok.wo (xL x) C47 d46 i3 hp48) rfl rfl (Nat.le_of_ble_eq_true rfl) ⟨by decide, by decide⟩ ⟨by decide, by decide⟩ dX0_lay_189 (resV ?_)
          refine g_nmC (fun C49 eC49 => ?_)
          have hw := hw C49 eC49
          refine g_putH (o := (some d46)) ok (by have := vp_lt hf23; omega) (by have := vp_lt hf23; omega) q175 dX0_lay_192 (fun C50 eC50 => ?_)
          have hw := hw C50 eC50
          refine g_oload ok 0 dX0_lay_195 rfl ?_
          obtain ⟨hp51, hw⟩ := hw
          refine g_callS ok [va_rf (cH C (31 + Int32.toNatClampNeg i1))] cf_X0_thingOf q1271 (mc_X0_thingOf ok.wo (xL x) C50 (cH C (31 + Int32.toNatClampNeg i1)) hp51) rfl rfl (Nat.le_of_ble_eq_true rfl) ⟨by decide, by decide⟩ ⟨by decide, by decide⟩ dX0_lay_197 (resI ?_)
          refine g_nmI (fun r52 er52 => ?_)
          have hw := hw r52 er52
          refine g_widen 1 24 (by omega) (by omega) ?_
          exact g_iret ok dX0_lay_200 ⟨_, rfl, hw⟩
set_option maxHeartbeats 4000000 in
set_option maxRecDepth 100000 in
theorem gw_X0_lay {w : WD} (wk : wOk w) (l : Launch) (C : CS) (a0 : Int32) (a1 : Int32) (a2 : Int32) {Post : Int32 → CS → Prop} (hw : wp_X0_lay Post C a0 a1 a2) : MC w l yX0_lay cX0_lay 6 (some .int) 262 1 24 [.ref (ad w 0), .int a0, .int a1, .int a2] C (fun v C1 => ∃ r : Int32, v = some (.int r) ∧ Post r C1) := by
  unfold wp_X0_lay at hw
  refine MC.of wk (by decide) (Nat.le_of_ble_eq_true rfl) (fun x hx ok => ?_)
  subst hx
  show G w x 6 0 0 (QM w x _ 1 24) C 0 [(0, .ref (ad w 0)), (1, .int a0), (2, .int a1), (3, .int a2)] []
  refine g_iload_n ok 2 dX0_lay_0 rfl ?_
  obtain ⟨hr, hw⟩ := hw
  have kj17 : ∀ x18 : Int32, x18 = (if a1 = 0 then (1 : Int32) else (if a1 = 3 then (1 : Int32) else (if a1 = 1 then (if (v_X0_isGlove C a2) = 0 then (if a1 = 2 then (if (v_X0_isSheet a2) = 0 then (0 : Int32) else 1) else 0) else 1) else (if a1 = 2 then (if (v_X0_isSheet a2) = 0 then (0 : Int32) else 1) else 0)))) → G w x 6 0 0 (QM w x (fun v C1 => ∃ r : Int32, v = some (.int r) ∧ Post r C1) 1 24) C 39 [(0, .ref (ad w 0)), (1, .int a0), (2, .int a1), (3, .int a2)] [.int x18] := by
    intro x18 ex18
    have hw := hw x18 ex18
    refine g_istore0 ok [(4, .int x18), (0, .ref (ad w 0)), (1, .int a0), (2, .int a1), (3, .int a2)] dX0_lay_39 (by decide) rfl ?_
    refine g_iload_n ok 2 dX0_lay_41 rfl ?_
    refine g_callS ok [.int a0] cf_X0_isSlot q1253 (mc_X0_isSlot ok.wo (xL x) C a0) rfl rfl (Nat.le_of_ble_eq_true rfl) ⟨by decide, by decide⟩ ⟨by decide, by decide⟩ dX0_lay_42 (resI ?_)
    refine g_nmI (fun r19 er19 => ?_)
    have hw := hw r19 er19
    refine g_if_eq (tgt := 53) ok dX0_lay_45 (by decide) (fun c20 => ?_) (fun c20 => ?_)
    · have hw := hw.1 c20
      refine g_ldc (v := -1000000001) ok q274 dX0_lay_53 ?_
      refine g_widen 1 24 (by omega) (by omega) ?_
      exact g_iret ok dX0_lay_55 ⟨_, rfl, hw⟩
    · have hw := hw.2 c20
      refine g_iload ok 0 dX0_lay_48 rfl ?_
      refine g_if_ne (tgt := 56) ok dX0_lay_50 (by decide) (fun c21 => ?_) (fun c21 => ?_)
      · have hw := hw.2 c21
        refine g_iload_n ok 3 dX0_lay_56 rfl ?_
        refine g_iconst (v := 2) ok dX0_lay_57 (by decide) ?_
        refine g_icmp_ne (tgt := 76) ok dX0_lay_58 (by decide) (fun c22 => ?_) (fun c22 => ?_)
        · have hw := hw.2 c22
          refine g_sub [1, 2, 3, 4] [(0, .ref (ad w 0)), (1, .int a0), (2, .int a1), (3, .int a2)] rfl ?_
          exact gw_X0_lay_j76 ok C a0 a1 a2 hw
        · have hw := hw.1 c22
          refine g_aload_n ok 1 dX0_lay_61 rfl ?_
          refine g_get ok 0 rfl rfl in_X0 21 (by decide) q203 rfl dX0_lay_62 ?_
          refine g_iload_n ok 4 dX0_lay_65 rfl ?_
          obtain ⟨hf53, hw⟩ := hw
          refine g_hald12 ok hf53 dX0_lay_66 ?_
          refine g_get ok (27 + Int32.toNatClampNeg a2) (fObjH (by have := vp_lt hf53; omega) (by have := vp_lt hf53; omega)) rfl in_X2 0 (by decide) q175 rfl dX0_lay_67 ?_
          refine g_ifnonnull (tgt := 76) ok dX0_lay_70 (by decide) (fun c54 => ?_) (fun c54 => ?_)
          · have hw := hw.2 c54
            refine g_sub [1, 2, 3, 4] [(0, .ref (ad w 0)), (1, .int a0), (2, .int a1), (3, .int a2)] rfl ?_
            exact gw_X0_lay_j76 ok C a0 a1 a2 hw
          · have hw := hw.1 c54
            refine g_ldc (v := -1000000011) ok q798 dX0_lay_73 ?_
            refine g_widen 1 24 (by omega) (by omega) ?_
            exact g_iret ok dX0_lay_75 ⟨_, rfl, hw⟩
      · have hw := hw.1 c21
        refine g_ldc (v := -1000000001) ok q274 dX0_lay_53 ?_
        refine g_widen 1 24 (by omega) (by omega) ?_
        exact g_iret ok dX0_lay_55 ⟨_, rfl, hw⟩
  have hw := hr
  refine g_if_eq (tgt := 34) ok dX0_lay_1 (by decide) (fun c1 => ?_) (fun c1 => ?_)
  · have hw := hw.1 c1
    refine g_iconst (v := 1) ok dX0_lay_34 (by decide) ?_
    refine g_goto (tgt := 39) ok dX0_lay_35 (by decide) ?_
    exact (kj17 _ (by simp only [if_pos c1]))
  · have hw := hw.2 c1
    refine g_iload_n ok 2 dX0_lay_4 rfl ?_
    refine g_iconst (v := 3) ok dX0_lay_5 (by decide) ?_
    obtain ⟨hr, hw⟩ := hw
    have kj16 : G w x 6 0 0 (QM w x (fun v C1 => ∃ r : Int32, v = some (.int r) ∧ Post r C1) 1 24) C 39 [(0, .ref (ad w 0)), (1, .int a0), (2, .int a1), (3, .int a2)] [.int (if a1 = 3 then (1 : Int32) else (if a1 = 1 then (if (v_X0_isGlove C a2) = 0 then (if a1 = 2 then (if (v_X0_isSheet a2) = 0 then (0 : Int32) else 1) else 0) else 1) else (if a1 = 2 then (if (v_X0_isSheet a2) = 0 then (0 : Int32) else 1) else 0)))] := by
      exact (kj17 _ (by simp only [if_neg c1]))
    have hw := hr
    refine g_icmp_eq (tgt := 34) ok dX0_lay_6 (by decide) (fun c2 => ?_) (fun c2 => ?_)
    · have hw := hw.1 c2
      refine g_iconst (v := 1) ok dX0_lay_34 (by decide) ?_
      refine g_goto (tgt := 39) ok dX0_lay_35 (by decide) ?_
      simp only [if_pos c2] at kj16
      exact kj16
    · have hw := hw.2 c2
      refine g_iload_n ok 2 dX0_lay_9 rfl ?_
      refine g_iconst (v := 1) ok dX0_lay_10 (by decide) ?_
      obtain ⟨hr, hw⟩ := hw
      have kj15 : G w x 6 0 0 (QM w x (fun v C1 => ∃ r : Int32, v = some (.int r) ∧ Post r C1) 1 24) C 39 [(0, .ref (ad w 0)), (1, .int a0), (2, .int a1), (3, .int a2)] [.int (if a1 = 1 then (if (v_X0_isGlove C a2) = 0 then (if a1 = 2 then (if (v_X0_isSheet a2) = 0 then (0 : Int32) else 1) else 0) else 1) else (if a1 = 2 then (if (v_X0_isSheet a2) = 0 then (0 : Int32) else 1) else 0))] := by
        simp only [if_neg c2] at kj16
        exact kj16
      have hw := hr
      refine g_icmp_ne (tgt := 22) ok dX0_lay_11 (by decide) (fun c3 => ?_) (fun c3 => ?_)
      · have hw := hw.2 c3
        refine g_iload_n ok 2 dX0_lay_22 rfl ?_
        refine g_iconst (v := 2) ok dX0_lay_23 (by decide) ?_
        have kj7 : G w x 6 0 0 (QM w x (fun v C1 => ∃ r : Int32, v = some (.int r) ∧ Post r C1) 1 24) C 39 [(0, .ref (ad w 0)), (1, .int a0), (2, .int a1), (3, .int a2)] [.int (if a1 = 2 then (if (v_X0_isSheet a2) = 0 then (0 : Int32) else 1) else 0)] := by
          simp only [if_neg c3] at kj15
          exact kj15
        refine g_icmp_ne (tgt := 38) ok dX0_lay_24 (by decide) (fun c4 => ?_) (fun c4 => ?_)
        · refine g_iconst (v := 0) ok dX0_lay_38 (by decide) ?_
          simp only [if_neg c4] at kj7
          exact kj7
        · refine g_iload_n ok 3 dX0_lay_27 rfl ?_
          refine g_callS ok [.int a2] cf_X0_isSheet q794 (mc_X0_isSheet ok.wo (xL x) C a2) rfl rfl (Nat.le_of_ble_eq_true rfl) ⟨by decide, by decide⟩ ⟨by decide, by decide⟩ dX0_lay_28 (resI ?_)
          have kj6 : G w x 6 0 0 (QM w x (fun v C1 => ∃ r : Int32, v = some (.int r) ∧ Post r C1) 1 24) C 39 [(0, .ref (ad w 0)), (1, .int a0), (2, .int a1), (3, .int a2)] [.int (if (v_X0_isSheet a2) = 0 then (0 : Int32) else 1)] := by
            simp only [if_pos c4] at kj7
            exact kj7
          refine g_if_eq (tgt := 38) ok dX0_lay_31 (by decide) (fun c5 => ?_) (fun c5 => ?_)
          · refine g_iconst (v := 0) ok dX0_lay_38 (by decide) ?_
            simp only [if_pos c5] at kj6
            exact kj6
          · refine g_iconst (v := 1) ok dX0_lay_34 (by decide) ?_
            refine g_goto (tgt := 39) ok dX0_lay_35 (by decide) ?_
            simp only [if_neg c5] at kj6
            exact kj6
      · have hw := hw.1 c3
        refine g_aload_n ok 0 dX0_lay_14 rfl ?_
        refine g_iload_n ok 3 dX0_lay_15 rfl ?_
        obtain ⟨hp8, hw⟩ := hw
        refine g_callV ok [.int a2] cf_X0_isGlove q411 (mc_X0_isGlove ok.wo (xL x) C a2 hp8) (recvF ok 0 rfl rfl) rfl rfl (Nat.le_of_ble_eq_true rfl) ⟨by decide, by decide⟩ ⟨by decide, by decide⟩ dX0_lay_16 (resI ?_)
        have kj14 : G w x 6 0 0 (QM w x (fun v C1 => ∃ r : Int32, v = some (.int r) ∧ Post r C1) 1 24) C 39 [(0, .ref (ad w 0)), (1, .int a0), (2, .int a1), (3, .int a2)] [.int (if (v_X0_isGlove C a2) = 0 then (if a1 = 2 then (if (v_X0_isSheet a2) = 0 then (0 : Int32) else 1) else 0) else 1)] := by
          simp only [if_pos c3] at kj15
          exact kj15
        refine g_if_ne (tgt := 34) ok dX0_lay_19 (by decide) (fun c9 => ?_) (fun c9 => ?_)
        · refine g_iconst (v := 1) ok dX0_lay_34 (by decide) ?_
          refine g_goto (tgt := 39) ok dX0_lay_35 (by decide) ?_
          simp only [if_neg c9] at kj14
          exact kj14
        · refine g_iload_n ok 2 dX0_lay_22 rfl ?_
          refine g_iconst (v := 2) ok dX0_lay_23 (by decide) ?_
          have kj13 : G w x 6 0 0 (QM w x (fun v C1 => ∃ r : Int32, v = some (.int r) ∧ Post r C1) 1 24) C 39 [(0, .ref (ad w 0)), (1, .int a0), (2, .int a1), (3, .int a2)] [.int (if a1 = 2 then (if (v_X0_isSheet a2) = 0 then (0 : Int32) else 1) else 0)] := by
            simp only [if_pos c9] at kj14
            exact kj14
          refine g_icmp_ne (tgt := 38) ok dX0_lay_24 (by decide) (fun c10 => ?_) (fun c10 => ?_)
          · refine g_iconst (v := 0) ok dX0_lay_38 (by decide) ?_
            simp only [if_neg c10] at kj13
            exact kj13
          · refine g_iload_n ok 3 dX0_lay_27 rfl ?_
            refine g_callS ok [.int a2] cf_X0_isSheet q794 (mc_X0_isSheet ok.wo (xL x) C a2) rfl rfl (Nat.le_of_ble_eq_true rfl) ⟨by decide, by decide⟩ ⟨by decide, by decide⟩ dX0_lay_28 (resI ?_)
            have kj12 : G w x 6 0 0 (QM w x (fun v C1 => ∃ r : Int32, v = some (.int r) ∧ Post r C1) 1 24) C 39 [(0, .ref (ad w 0)), (1, .int a0), (2, .int a1), (3, .int a2)] [.int (if (v_X0_isSheet a2) = 0 then (0 : Int32) else 1)] := by
              simp only [if_pos c10] at kj13
              exact kj13
            refine g_if_eq (tgt := 38) ok dX0_lay_31 (by decide) (fun c11 => ?_) (fun c11 => ?_)
            · refine g_iconst (v := 0) ok dX0_lay_38 (by decide) ?_
              simp only [if_pos c11] at kj12
              exact kj12
            · refine g_iconst (v := 1) ok dX0_lay_34 (by decide) ?_
              refine g_goto (tgt := 39) ok dX0_lay_35 (by decide) ?_
              simp only [if_neg c11] at kj12
              exact kj12
theorem nwE_T {d b : Nat} {C C1 : CS} (h : nwE d b C C1) {a : Nat} {tg : Nat × Nat} (ht : cT C a = some tg) : cT C1 a = some tg := by
  have hne : a ≠ d := fun z => by rw [z, h.1] at ht; cases ht
  exact ((h.2.2.2.2.2.2.2.1 a hne).1).trans ht
theorem agW_T {C : CS} {o : Option Nat} {d : Nat} (hd : cT C d = none) {a : Nat} {tg : Nat × Nat} (h : cT C a = some tg) : cT (agW C o d) a = some tg := by
  have hne : a ≠ d := fun z => by rw [z, hd] at h; cases h
  have e : ∀ D : CS, ∀ o2 s e n, cT (cyO D o o2 s e n) a = cT D a := by
    intro D o2 s e n
    cases o with
    | none => rfl
    | some x =>
      cases o2 with
      | none => rfl
      | some y =>
        show cT (if _ then _ else _) a = _
        by_cases c : tgO D (some y) = 104
        · rw [if_pos c]; rfl
        · rw [if_neg c]; rfl
  unfold agW
  rw [e]
  by_cases c : tgO C o = 104
  · rw [if_pos c]; exact (nwS_T hne).trans h
  · rw [if_neg c]; exact (nwF_T hne).trans h
theorem sp_X0_lay (C : CS) (a0 a1 a2 : Int32) (hp : p_X0_lay C a0 a1 a2) : wp_X0_lay (fun x C1 => x = v_X0_lay C a0 a1 a2 ∧ q_X0_lay C a0 a1 a2 C1) C a0 a1 a2 := by
  obtain ⟨hp, hs, hl⟩ := hp
  unfold v_X0_lay v_X3_lay q_X0_lay
  refine ⟨⟨fun _ => trivial, fun _ => ⟨⟨fun _ => trivial, fun _ => ⟨⟨fun _ => ⟨⟨hp.1.1, trivial⟩, trivial⟩, fun _ => trivial⟩, trivial⟩⟩, trivial⟩⟩, fun x18 e18 r19 e19 => ?_⟩
  rw [hp.isG, isSh_eq] at e18
  rw [isSl_eq] at e19
  -- whether it is good
  have good : x18 = 0 ↔ (v_X3_in a1 0 3 = 0 ∨ (a1 = 1 ∧ v_X3_isGlove C a2 = 0) ∨ (a1 = 2 ∧ v_X3_isSheet a2 = 0)) := by
    rw [e18]
    by_cases c : v_X3_in a1 0 3 = 0
    · have n0 : ¬ a1 = 0 := fun z => by rw [z] at c; exact absurd c (by decide)
      have n1 : ¬ a1 = 1 := fun z => by rw [z] at c; exact absurd c (by decide)
      have n2 : ¬ a1 = 2 := fun z => by rw [z] at c; exact absurd c (by decide)
      have n3 : ¬ a1 = 3 := fun z => by rw [z] at c; exact absurd c (by decide)
      simp [n0, n1, n2, n3, c]
    · rcases in03 c with h | h | h | h <;> subst h
      · simp [c]
      · by_cases g : v_X3_isGlove C a2 = 0 <;> simp [c, g]
      · by_cases g : v_X3_isSheet a2 = 0 <;> simp [c, g]
      · simp [c]
  have bad : ∀ C1, C1 = C → (v_X3_isSlot a0 = 0 ∨ x18 = 0) → (-1000000001 : Int32) = (if v_X3_isSlot a0 = 0 then -1000000001 else if v_X3_in a1 0 3 = 0 then -1000000001 else if a1 = 1 ∧ v_X3_isGlove C a2 = 0 then -1000000001 else if a1 = 2 ∧ v_X3_isSheet a2 = 0 then -1000000001 else if a1 = 2 ∧ ¬ 0 ≤ C.2.1 51 a2.toNatClampNeg then -1000000011 else C.2.1 54 a0.toNatClampNeg) ∧ ¬ laG C a0 a1 a2 := by
    intro C1 _ h
    rcases h with h | h
    · exact ⟨by rw [if_pos h], fun z => z.1 h⟩
    · rcases good.mp h with h | h | h
      · exact ⟨by rw [if_pos h]; split <;> rfl, fun z => z.2.1 h⟩
      · refine ⟨?_, fun z => z.2.2.1 h.1 h.2⟩
        rw [if_pos h]
        split
        · rfl
        · split <;> rfl
      · refine ⟨?_, fun z => (z.2.2.2 h.1).1 h.2⟩
        rw [if_pos h]
        split
        · rfl
        · split
          · rfl
          · split <;> rfl
  refine ⟨fun c => ?_, fun c => ⟨fun c2 => ?_, fun c2 => ?_⟩⟩
  · obtain ⟨b1, b2⟩ := bad C rfl (Or.inl (by rw [← e19]; exact c))
    exact ⟨b1, fun z => absurd z b2, fun _ => rfl⟩
  · obtain ⟨b1, b2⟩ := bad C rfl (Or.inr c2)
    exact ⟨b1, fun z => absurd z b2, fun _ => rfl⟩
  rw [e19] at c
  have ng : ¬ (v_X3_in a1 0 3 = 0 ∨ (a1 = 1 ∧ v_X3_isGlove C a2 = 0) ∨ (a1 = 2 ∧ v_X3_isSheet a2 = 0)) := fun z => c2 (good.mpr z)
  have g1 : ¬ v_X3_in a1 0 3 = 0 := fun z => ng (Or.inl z)
  have g2 : ¬ (a1 = 1 ∧ v_X3_isGlove C a2 = 0) := fun z => ng (Or.inr (Or.inl z))
  have g3 : ¬ (a1 = 2 ∧ v_X3_isSheet a2 = 0) := fun z => ng (Or.inr (Or.inr z))
  rw [if_neg c, if_neg g1, if_neg g2, if_neg g3]
  obtain ⟨k, hk, rfl⟩ := in_nI (m := 4) (by decide) c
  have hk5 : k < 5 := by omega
  have hsl := hl k hk5
  have tail : (a1 = 2 → 0 ≤ C.2.1 51 a2.toNatClampNeg) → wp_X0_lay_j76 (fun x C1 => (x = if a1 = 2 ∧ ¬ 0 ≤ C.2.1 51 a2.toNatClampNeg then -1000000011 else C.2.1 54 (nI k).toNatClampNeg) ∧ ((laG C (nI k) a1 a2 → (a1 = 0 ∧ C1 = wH C (31 + (nI k).toNatClampNeg) none) ∨ (a1 = 1 ∧ ∃ b d C2, cG C (17 + 4 * (cN C - 2)) a2.toNatClampNeg = some b ∧ nwE d b C C2 ∧ C1 = wH C2 (31 + (nI k).toNatClampNeg) (some d)) ∨ (a1 = 2 ∧ ∃ d, cT C d = none ∧ C1 = wH (agW C (cH C (27 + a2.toNatClampNeg)) d) (31 + (nI k).toNatClampNeg) (some d)) ∨ (a1 = 3 ∧ ∃ d, cT C d = none ∧ C1 = wH (wDI (nwC C d 15) 150 d a2) (31 + (nI k).toNatClampNeg) (some d))) ∧ (¬ laG C (nI k) a1 a2 → C1 = C))) C (nI k) a1 a2 := by
    intro h51
    have hla : laG C (nI k) a1 a2 := ⟨c, g1, fun z y => g2 ⟨z, y⟩, fun z => ⟨fun y => g3 ⟨z, y⟩, h51 z⟩⟩
    unfold wp_X0_lay_j76
    rw [if_neg (fun z => z.2 (h51 z.1)), cl_k (by omega)]
    refine ⟨vp_k hk5, fun z C25 e25 => ?_, fun z0 => ⟨fun z => ?_, fun z1 => ⟨fun z => ?_, fun z2 d hd C47 e47 => ?_⟩⟩⟩
    · obtain ⟨t1, t2⟩ := thing_eq (C1 := C25) hsl (fun a tg h => by rw [e25]; exact h)
      exact ⟨t1, fun r e => ⟨by rw [e, t2], fun _ => Or.inl ⟨z, e25⟩, fun y => absurd hla y⟩⟩
    · obtain ⟨i, b, hi, e, hb, hg⟩ := hp.gl (fun y => g2 ⟨z, y⟩)
      subst e
      rw [cl_k (by omega)]
      refine ⟨hp.1.1, vp_k hi, b, hb, ⟨hg.1, hg.b5⟩, fun d C34 h34 C35 e35 => ?_⟩
      obtain ⟨t1, t2⟩ := thing_eq (C1 := C35) hsl (fun a tg h => by rw [e35]; exact nwE_T h34 h)
      exact ⟨t1, fun r e => ⟨by rw [e, t2], fun _ => Or.inr (Or.inl ⟨z, b, d, C34, hb, h34, e35⟩), fun y => absurd hla y⟩⟩
    · obtain ⟨j, hj, rfl⟩ := sh_k (fun y => g3 ⟨z, y⟩)
      have h51 := h51 z
      rw [cl_k (by omega)] at h51 ⊢
      have hsh := hs j hj
      obtain ⟨x1, x2, x3⟩ := hsh.yes (fun y => hsh.no.mp y h51)
      refine ⟨vp_k hj, ⟨_, x1⟩, fun d C42 h42 C43 e43 => ?_⟩
      obtain ⟨hd, e42⟩ := h42
      obtain ⟨t1, t2⟩ := thing_eq (C1 := C43) hsl (fun a tg h => by rw [e43, e42]; exact agW_T hd h)
      exact ⟨t1, fun r e => ⟨by rw [e, t2], fun _ => Or.inr (Or.inr (Or.inl ⟨z, d, hd, by rw [e43, e42]⟩)), fun y => absurd hla y⟩⟩
    · have z3 : a1 = 3 := by
        rcases in03 g1 with h | h | h | h
        · exact absurd h z0
        · exact absurd h z1
        · exact absurd h z2
        · exact h
      refine ⟨⟨0, by rw [e47]; exact nwC_T C d 15⟩, fun C49 e49 C50 e50 => ?_⟩
      obtain ⟨t1, t2⟩ := thing_eq (C1 := C50) hsl (fun a tg h => by
        have hne : a ≠ d := fun y => by rw [y, hd] at h; cases h
        rw [e50, e49, e47]
        exact (nwC_Tn hne).trans h)
      exact ⟨t1, fun r e => ⟨by rw [e, t2], fun _ => Or.inr (Or.inr (Or.inr ⟨z3, d, hd, by rw [e50, e49, e47]; rfl⟩)), fun y => absurd hla y⟩⟩
  refine ⟨fun c5 => ?_, fun c5 => tail (fun z => absurd z c5)⟩
  obtain ⟨j, hj, e⟩ := sh_k (fun y => g3 ⟨c5, y⟩)
  have hsh := hs j hj
  refine ⟨by rw [e]; exact vp_k hj, fun hn => ?_, fun hn => tail (fun _ => ?_)⟩
  · have h0 : ¬ (0 : Int32) ≤ C.2.1 51 a2.toNatClampNeg := by
      rw [e, cl_k (by omega)] at hn ⊢
      exact hsh.no.mp hn
    exact ⟨by rw [if_pos ⟨c5, h0⟩], fun z => absurd (z.2.2.2 c5).2 h0, fun _ => rfl⟩
  · rw [e, cl_k (by omega)] at hn ⊢
    exact Classical.byContradiction fun z => hn (hsh.no.mpr z)
theorem mc_X0_lay {w : WD} (wk : wOk w) (l : Launch) (C : CS) (a0 : Int32) (a1 : Int32) (a2 : Int32) (hp : p_X0_lay C a0 a1 a2) : MC w l yX0_lay cX0_lay 6 (some .int) 262 1 24 [.ref (ad w 0), .int a0, .int a1, .int a2] C (pIR (v_X0_lay C a0 a1 a2) (q_X0_lay C a0 a1 a2)) := MC.postIR (gw_X0_lay wk l C a0 a1 a2 (sp_X0_lay C a0 a1 a2 hp))
