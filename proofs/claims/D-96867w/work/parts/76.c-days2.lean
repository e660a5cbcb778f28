theorem cf_X1_goesOn : CfV yX1_goesOn "TwoGuilds$Table" cX1_goesOn 4 none 1 := ⟨⟨by decide, by decide, by decide⟩, q73, q832, q830, q831⟩
def p_X1_goesOn (C : CS) (j : Nat) (a0 : Int32) (r : Nat → Int32) : Prop := j = cN C ∧ tbOk C r ∧ GD C
def q_X1_goesOn (C : CS) (j : Nat) (a0 : Int32) (r : Nat → Int32) (C1 : CS) : Prop := TR C1 j (dayR r a0).1 ∧ dE j C C1
def wp_X1_goesOn_j80 (Post : CS → Prop) (R2 : CS → Nat → Int32 → Int32 → Prop) (C : CS) (t0 : Nat) (i1 : Int32) (i2 : Int32) : Prop := ∀ x8 : Int32, x8 = (i2 + Int32.ofInt 1) → 
  R2 C t0 i1 x8
def wp_X1_goesOn_l2 (Post : CS → Prop) : Nat → CS → Nat → Int32 → Int32 → Prop
  | 0, _, _, _, _ => False
  | n + 1, C, t0, i1, i2 => isTb t0 ∧
  (((C.1 t0 0) ≤ i2 → 
  ∀ C3 : CS, C3 = (wI C t0 3 ((C.1 t0 3) + 1)) → 
    Post C3) ∧
  (¬ (C.1 t0 0) ≤ i2 → 
  vp_in i2 10 ∧
    (∃ d5 : Nat, (cG C (17 + 4 * (t0 - 2)) (Int32.toNatClampNeg i2)) = some d5 ∧
    (isGl C d5 ∧
    (((cDI C 44 d5) = 0 → 
    (i2 = i1 → 
      wp_X1_goesOn_j80 Post (fun C t0 i1 i2 => wp_X1_goesOn_l2 Post n C t0 i1 i2) C t0 i1 i2) ∧
      (¬ i2 = i1 → 
      p_X1_drawn C t0 ∧
        (∀ r11 : Int32, r11 = (v_X1_drawn C t0) → 
        ∀ C12 : CS, C12 = (n_X1_drawn C t0) → 
        isGl C12 d5 ∧
        (∃ (g13 : (Nat → Int32)) (g14 : Nat), p_X4_wears C12 d5 (r11 - r11 / 10 * 10) g13 g14 ∧
        (∀ r18 : Int32, r18 = (v_X4_wears C12 d5 (r11 - r11 / 10 * 10) g13 g14) → 
        ∀ C17 : CS, q_X4_wears C12 d5 (r11 - r11 / 10 * 10) g13 g14 C17 → 
        isGl C17 d5 ∧
        (∀ C20 : CS, C20 = (wDI C17 43 d5 (v_J5_min 99 ((cDI C 43 d5) + r18))) → 
        p_X1_drawn C20 t0 ∧
        (∀ r22 : Int32, r22 = (v_X1_drawn C20 t0) → 
        ∀ C23 : CS, C23 = (n_X1_drawn C20 t0) → 
        ∀ x26 : Int32, x26 = (if (C23.1 t0 4) ≤ (r22 - r22 / 100 * 100) then (0 : Int32) else 1) → 
        isGl C23 d5 ∧
        (∀ C28 : CS, C28 = (wDI C23 44 d5 x26) → 
        wp_X1_goesOn_j80 Post (fun C t0 i1 i2 => wp_X1_goesOn_l2 Post n C t0 i1 i2) C28 t0 i1 i2)))))))) ∧
    (¬ (cDI C 44 d5) = 0 → 
    wp_X1_goesOn_j80 Post (fun C t0 i1 i2 => wp_X1_goesOn_l2 Post n C t0 i1 i2) C t0 i1 i2))))))
def wp_X1_goesOn (Post : CS → Prop) (C : CS) (j : Nat) (a0 : Int32) : Prop :=
  ∃ m2, wp_X1_goesOn_l2 Post m2 C j a0 0
set_option maxHeartbeats 4000000 in
set_option maxRecDepth 100000 in
theorem gw_X1_goesOn_j80 {w : WD} {x : Cx} (ok : Ok w x cX1_goesOn 4 yX1_goesOn.cls none (rmL 99 0 0)) {Post : CS → Prop} {R2 : CS → Nat → Int32 → Int32 → Prop} (hR2 : ∀ C (t0 : Nat) (i1 : Int32) (i2 : Int32), R2 C t0 i1 i2 → G w x 4 0 0 (QM w x (fun v C1 => v = none ∧ Post C1) 0 0) C 2 [(0, .ref (ad w t0)), (1, .int i1), (2, .int i2)] []) : ∀ (C : CS) (t0 : Nat) (i1 : Int32) (i2 : Int32), wp_X1_goesOn_j80 Post R2 C t0 i1 i2 → G w x 4 0 0 (QM w x (fun v C1 => v = none ∧ Post C1) 0 0) C 80 [(0, .ref (ad w t0)), (1, .int i1), (2, .int i2)] [] := by
  intro C t0 i1 i2 hw
  unfold wp_X1_goesOn_j80 at hw
  refine g_iinc ok 2 (fun z => [(2, .int z), (0, .ref (ad w t0)), (1, .int i1)]) dX1_goesOn_80 rfl (by decide) (fun _ => rfl) (fun x8 ex8 => ?_)
  have hw := hw x8 ex8
  refine g_goto (tgt := 2) ok dX1_goesOn_83 (by decide) ?_
  refine g_sub [1, 2, 0] [(0, .ref (ad w t0)), (1, .int i1), (2, .int x8)] rfl ?_
  exact hR2 C t0 i1 x8 hw
set_option maxHeartbeats 4000000 in
set_option maxRecDepth 100000 in
theorem gw_X1_goesOn_l2 {w : WD} {x : Cx} (ok : Ok w x cX1_goesOn 4 yX1_goesOn.cls none (rmL 99 0 0)) {Post : CS → Prop} : ∀ (n : Nat) (C : CS) (t0 : Nat) (i1 : Int32) (i2 : Int32), wp_X1_goesOn_l2 Post  n C t0 i1 i2 → G w x 4 0 0 (QM w x (fun v C1 => v = none ∧ Post C1) 0 0) C 2 [(0, .ref (ad w t0)), (1, .int i1), (2, .int i2)] [] := by
  intro n
  induction n with
  | zero => intro C t0 i1 i2 hw; exact hw.elim
  | succ n ih =>
    intro C t0 i1 i2 hw
    unfold wp_X1_goesOn_l2 at hw
    refine g_iload_n ok 2 dX1_goesOn_2 rfl ?_
    refine g_aload_n ok 0 dX1_goesOn_3 rfl ?_
    obtain ⟨hf1, hw⟩ := hw
    refine g_get ok t0 (fObjT hf1) rfl in_X1 0 (by decide) q123 rfl dX1_goesOn_4 ?_
    refine g_icmp_ge (tgt := 86) ok dX1_goesOn_7 (by decide) (fun c2 => ?_) (fun c2 => ?_)
    · have hw := hw.1 c2
      refine g_aload_n ok 0 dX1_goesOn_86 rfl ?_
      refine g_dup ok dX1_goesOn_87 rfl ?_
      refine g_get ok t0 (fObjT hf1) rfl in_X1 3 (by decide) q129 rfl dX1_goesOn_88 ?_
      refine g_iconst (v := 1) ok dX1_goesOn_91 (by decide) ?_
      refine g_iadd ok dX1_goesOn_92 ?_
      refine g_putI ok t0 (fObjT hf1) rfl in_X1 tyX1 tyX1_ok nmX1 3 (by decide) q129 rfl rfl rfl (putT hf1 rfl) dX1_goesOn_93 (fun C3 eC3 => ?_)
      have hw := hw C3 eC3
      exact g_vret ok dX1_goesOn_96 ⟨rfl, hw⟩
    · have hw := hw.2 c2
      refine g_aload_n ok 0 dX1_goesOn_10 rfl ?_
      refine g_get ok t0 (fObjT hf1) rfl in_X1 8 (by decide) q139 rfl dX1_goesOn_11 ?_
      refine g_iload_n ok 2 dX1_goesOn_14 rfl ?_
      obtain ⟨hf4, hw⟩ := hw
      obtain ⟨d5, ed5, hw⟩ := hw
      refine g_rald (v := .ref d5) ok _ (fRefG hf1) (Or.inl rfl) hf4 (congrArg va_rf ed5) dX1_goesOn_15 ?_
      refine g_astore_n ok [(3, .ref d5), (0, .ref (ad w t0)), (1, .int i1), (2, .int i2)] dX1_goesOn_16 (by decide) rfl ?_
      refine g_aload_n ok 0 dX1_goesOn_17 rfl ?_
      obtain ⟨hf6, hw⟩ := hw
      refine g_gget ok hf6 4 (by decide) q309 (Or.inl rfl) dX1_goesOn_18 ?_
      refine g_if_ne (tgt := 80) ok dX1_goesOn_21 (by decide) (fun c7 => ?_) (fun c7 => ?_)
      · have hw := hw.2 c7
        refine g_sub [1, 2, 3] [(0, .ref (ad w t0)), (1, .int i1), (2, .int i2)] rfl ?_
        exact gw_X1_goesOn_j80 ok (fun C t0 i1 i2 hw => ih C t0 i1 i2 hw) C t0 i1 i2 hw
      · have hw := hw.1 c7
        refine g_iload_n ok 3 dX1_goesOn_24 rfl ?_
        refine g_iload_n ok 2 dX1_goesOn_25 rfl ?_
        refine g_icmp_ne (tgt := 32) ok dX1_goesOn_26 (by decide) (fun c9 => ?_) (fun c9 => ?_)
        · have hw := hw.2 c9
          refine g_aload_n ok 0 dX1_goesOn_32 rfl ?_
          refine g_bipush (v := 99) ok dX1_goesOn_33 (by decide) ?_
          refine g_aload_n ok 0 dX1_goesOn_35 rfl ?_
          refine g_gget ok hf6 3 (by decide) q306 (Or.inl rfl) dX1_goesOn_36 ?_
          refine g_aload_n ok 0 dX1_goesOn_39 rfl ?_
          refine g_aload_n ok 1 dX1_goesOn_40 rfl ?_
          obtain ⟨hp10, hw⟩ := hw
          refine g_callV ok [] cf_X1_drawn q833 (mc_X1_drawn ok.wo (xL x) C t0 hp10) (recvF ok t0 (fObjT hf1) rfl) rfl rfl (Nat.le_of_ble_eq_true rfl) ⟨by decide, by decide⟩ ⟨by decide, by decide⟩ dX1_goesOn_41 (resI ?_)
          refine g_nmI (fun r11 er11 => ?_)
          have hw := hw r11 er11
          refine g_nmC (fun C12 eC12 => ?_)
          have hw := hw C12 eC12
          refine g_bipush (v := 10) ok dX1_goesOn_44 (by decide) ?_
          refine g_irem ok dX1_goesOn_46 (by decide) ?_
          obtain ⟨hf16, hw⟩ := hw
          obtain ⟨g13, g14, hp15, hw⟩ := hw
          refine g_callG ok [.int (r11 - r11 / 10 * 10)] cfG_X4_wears q834 (mc_X4_wears ok.wo (xL x) C12 d5 (r11 - r11 / 10 * 10) g13 g14 hp15) hf16 rfl rfl (Nat.le_of_ble_eq_true rfl) ⟨by decide, by decide⟩ ⟨by decide, by decide⟩ dX1_goesOn_47 (resIR fun C17 eC17 => ?_)
          refine g_nmI (fun r18 er18 => ?_)
          have hw := hw r18 er18 C17 eC17
          refine g_iadd ok dX1_goesOn_50 ?_
          refine g_mmin ok q846 (Nat.le_of_ble_eq_true rfl) ⟨by decide, by decide⟩ ⟨by decide, by decide⟩ dX1_goesOn_51 ?_
          obtain ⟨hf19, hw⟩ := hw
          refine g_gput ok hf19 3 (by decide) q306 rfl rfl dX1_goesOn_54 (fun C20 eC20 => ?_)
          have hw := hw C20 eC20
          refine g_aload_n ok 0 dX1_goesOn_57 rfl ?_
          refine g_aload_n ok 1 dX1_goesOn_58 rfl ?_
          obtain ⟨hp21, hw⟩ := hw
          refine g_callV ok [] cf_X1_drawn q833 (mc_X1_drawn ok.wo (xL x) C20 t0 hp21) (recvF ok t0 (fObjT hf1) rfl) rfl rfl (Nat.le_of_ble_eq_true rfl) ⟨by decide, by decide⟩ ⟨by decide, by decide⟩ dX1_goesOn_59 (resI ?_)
          refine g_nmI (fun r22 er22 => ?_)
          have hw := hw r22 er22
          refine g_nmC (fun C23 eC23 => ?_)
          have hw := hw C23 eC23
          refine g_bipush (v := 100) ok dX1_goesOn_62 (by decide) ?_
          refine g_irem ok dX1_goesOn_64 (by decide) ?_
          refine g_aload_n ok 1 dX1_goesOn_65 rfl ?_
          refine g_get ok t0 (fObjT hf1) rfl in_X1 4 (by decide) q131 rfl dX1_goesOn_66 ?_
          have kj25 : ∀ x26 : Int32, x26 = (if (C23.1 t0 4) ≤ (r22 - r22 / 100 * 100) then (0 : Int32) else 1) → G w x 4 0 0 (QM w x (fun v C1 => v = none ∧ Post C1) 0 0) C23 77 [(0, .ref (ad w t0)), (1, .int i1), (2, .int i2)] [.int x26, .ref d5] := by
            intro x26 ex26
            have hw := hw x26 ex26
            obtain ⟨hf27, hw⟩ := hw
            refine g_gput ok hf27 4 (by decide) q309 (nb_of (by rw [ex26]; exact (ib_ite (Or.inl rfl) (Or.inr rfl)))) (fb_of (by rw [ex26]; exact (ib_ite (Or.inl rfl) (Or.inr rfl)))) dX1_goesOn_77 (fun C28 eC28 => ?_)
            have hw := hw C28 eC28
            exact gw_X1_goesOn_j80 ok (fun C t0 i1 i2 hw => ih C t0 i1 i2 hw) C28 t0 i1 i2 hw
          refine g_icmp_ge (tgt := 76) ok dX1_goesOn_69 (by decide) (fun c24 => ?_) (fun c24 => ?_)
          · refine g_iconst (v := 0) ok dX1_goesOn_76 (by decide) ?_
            exact g_sub [1, 2, 3] [(0, .ref (ad w t0)), (1, .int i1), (2, .int i2)] rfl (kj25 _ (by simp only [if_pos c24]))
          · refine g_iconst (v := 1) ok dX1_goesOn_72 (by decide) ?_
            refine g_goto (tgt := 77) ok dX1_goesOn_73 (by decide) ?_
            exact g_sub [1, 2, 3] [(0, .ref (ad w t0)), (1, .int i1), (2, .int i2)] rfl (kj25 _ (by simp only [if_neg c24]))
        · have hw := hw.1 c9
          refine g_goto (tgt := 80) ok dX1_goesOn_29 (by decide) ?_
          refine g_sub [1, 2, 3] [(0, .ref (ad w t0)), (1, .int i1), (2, .int i2)] rfl ?_
          exact gw_X1_goesOn_j80 ok (fun C t0 i1 i2 hw => ih C t0 i1 i2 hw) C t0 i1 i2 hw
set_option maxHeartbeats 4000000 in
set_option maxRecDepth 100000 in
theorem gw_X1_goesOn {w : WD} (wk : wOk w) (l : Launch) (C : CS) (j : Nat) (a0 : Int32) {Post : CS → Prop} (hw : wp_X1_goesOn Post C j a0) : MC w l yX1_goesOn cX1_goesOn 4 none 99 0 0 [.ref (ad w j), .int a0] C (fun v C1 => v = none ∧ Post C1) := by
  unfold wp_X1_goesOn at hw
  refine MC.of wk (by decide) (Nat.le_of_ble_eq_true rfl) (fun x hx ok => ?_)
  subst hx
  show G w x 4 0 0 (QM w x _ 0 0) C 0 [(0, .ref (ad w j)), (1, .int a0)] []
  refine g_iconst (v := 0) ok dX1_goesOn_0 (by decide) ?_
  refine g_istore_n0 ok [(2, .int 0), (0, .ref (ad w j)), (1, .int a0)] dX1_goesOn_1 (by decide) rfl ?_
  refine g_sub [1, 2, 0] [(0, .ref (ad w j)), (1, .int a0), (2, .int 0)] rfl ?_
  obtain ⟨n29, hw⟩ := hw
  exact gw_X1_goesOn_l2 ok n29 C j a0 0 hw
theorem wDI_s (C : CS) (k a : Nat) (v : Int32) : cDI (wDI C k a v) k a = v := if_pos ⟨rfl, rfl⟩
theorem wDI_n {C : CS} {k a k2 a2 : Nat} {v : Int32} (h : ¬ (k2 = k ∧ a2 = a)) : cDI (wDI C k a v) k2 a2 = cDI C k2 a2 := if_neg h
theorem upd_s {f : Nat → Int32} {k : Nat} {v : Int32} : upd f k v k = v := if_pos rfl
theorem upd_n {f : Nat → Int32} {k i : Nat} {v : Int32} (h : i ≠ k) : upd f k v i = f i := if_neg h
theorem mnW {w q : Nat} (hw : w ≤ 99) (hq : q ≤ 20) : v_J5_min 99 (nI w + nI q) = v_X3_within (nI w + nI q) 0 99 ∧ ∃ s, s ≤ 99 ∧ v_X3_within (nI w + nI q) 0 99 = nI s := by
  rw [nI_add, mn_eq]
  unfold v_X3_within
  rw [if_pos (nI_pos' (by omega))]
  refine ⟨rfl, ?_⟩
  by_cases c : nI (w + q) ≤ 99
  · rw [if_pos c]
    have : w + q ≤ 99 := (nI_leI (by omega) (by decide)).mp (show nI (w + q) ≤ nI 99 from c)
    exact ⟨_, this, rfl⟩
  · rw [if_neg c]; exact ⟨99, by decide, rfl⟩
/-- one glove's day -/
theorem dayG {C C12 C17 C20 C23 C28 : CS} {j k a N : Nat} {rk : Nat → Int32} {a0 r11 r18 r22 x26 : Int32} (hj : isTb j) (hn : j = cN C) (ht : TR C j rk) (hg : GD C) (eN : rk 1 = nI N) (hN : N ≤ 10) (hk : k < N) (ha : cG C (17 + 4 * (j - 2)) k = some a) (hgl : glR C a rk k) (hl : rk (16 + 6 * k + 5) = 0) (c : ¬ nI k = a0)
    (e11 : r11 = v_X1_drawn C j) (e12 : C12 = n_X1_drawn C j) (e18 : r18 = wvR (upd rk 0 (drw (rk 0))) k (rem r11 10)) (f17 : frm [10] C12 C17) (e20 : C20 = wDI C17 43 a (v_J5_min 99 (cDI C 43 a + r18))) (e22 : r22 = v_X1_drawn C20 j) (e23 : C23 = n_X1_drawn C20 j) (e26 : x26 = if C23.1 j 4 ≤ rem r22 100 then 0 else 1) (e28 : C28 = wDI C23 44 a x26) (q : Int32) :
    TR C28 j (dayS a0 k (rk, q)).1 ∧ dE j C C28 := by
  have hk10 : k < 10 := by omega
  have d12 : dE j C C12 := by rw [e12]; exact (dE.rf j C).wI 5 _
  have d17 : dE j C C17 := d12.fr f17
  have d20 : dE j C C20 := by rw [e20]; exact d17.wDI hk10 ha _ _
  have d23 : dE j C C23 := by rw [e23]; exact d20.wI 5 _
  have d28 : dE j C C28 := by rw [e28]; exact d23.wDI hk10 ha _ _
  refine ⟨?_, d28⟩
  obtain ⟨g1, g2, g3, g4, g5, g6, g7, i1, i2, i3, ⟨wv, hwv, ewv⟩, -⟩ := hgl
  have ez : C.1 j 5 = rk 0 := ht.1.1
  have r11e : r11 = shz (drw (rk 0)) := by rw [e11, drawn_v, ez]
  obtain ⟨m, hm, em⟩ := rem_in (drw (rk 0)) (d := 10) (by decide) (by decide)
  have em : rem (shz (drw (rk 0))) 10 = nI m := em
  obtain ⟨qq, hqq, eqq⟩ := wv_in (r := upd rk 0 (drw (rk 0))) (i := k) (m := m) (by omega)
  have r18e : r18 = nI qq := by rw [e18, r11e, em, eqq]
  obtain ⟨w1, s, hs, es⟩ := mnW hwv hqq
  -- the numbers of the table
  have n17 : C17.1 = C12.1 := f17.1
  have z20 : C20.1 j 5 = drw (rk 0) := by
    rw [e20]
    show C17.1 j 5 = _
    rw [n17, e12]
    show up2 _ _ _ _ _ _ = _
    unfold up2
    rw [if_pos ⟨rfl, rfl⟩, ez]; rfl
  have o20 : ∀ m, m ≠ 5 → C20.1 j m = C.1 j m := by
    intro m hm
    rw [e20]
    show C17.1 j m = _
    rw [n17, e12]
    show up2 _ _ _ _ _ _ = _
    unfold up2
    rw [if_neg (fun h => hm h.2)]
  have z28 : C28.1 j 5 = drw (drw (rk 0)) := by
    rw [e28]
    show C23.1 j 5 = _
    rw [e23]
    show up2 _ _ _ _ _ _ = _
    unfold up2
    rw [if_pos ⟨rfl, rfl⟩, z20]; rfl
  have o23 : ∀ m, m ≠ 5 → C23.1 j m = C.1 j m := by
    intro m hm
    rw [e23]
    show up2 _ _ _ _ _ _ = _
    unfold up2
    rw [if_neg (fun h => hm h.2)]
    exact o20 m hm
  have o28 : ∀ m, m ≠ 5 → C28.1 j m = C.1 j m := by
    intro m hm
    rw [e28]
    exact o23 m hm
  -- the row
  have e22 : r22 = shz (drw (drw (rk 0))) := by rw [e22, drawn_v, z20]
  have hrow : (dayS a0 k (rk, q)).1 = upd (upd (upd (upd rk 0 (drw (rk 0))) (16 + 6 * k + 4) (nI s)) 0 (drw (drw (rk 0)))) (16 + 6 * k + 5) x26 := by
    unfold dayS
    rw [if_neg c, if_pos hl]
    have y1 : upd rk 0 (drw (rk 0)) (16 + 6 * k + 4) = nI wv := by rw [upd_n (by omega), ewv]
    have y2 : wvR (upd rk 0 (drw (rk 0))) k (rem (shz (drw (rk 0))) 10) = nI qq := by rw [em, eqq]
    simp only [y1, y2, es]
    have y3 : upd (upd rk 0 (drw (rk 0))) (16 + 6 * k + 4) (nI s) 0 = drw (rk 0) := by rw [upd_n (by omega), upd_s]
    rw [y3]
    have y4 : upd (upd (upd rk 0 (drw (rk 0))) (16 + 6 * k + 4) (nI s)) 0 (drw (drw (rk 0))) 3 = C23.1 j 4 := by
      rw [upd_n (by omega), upd_n (by omega), upd_n (by omega), o23 4 (by decide), ht.1.2.2.2.1]
    rw [y4, e26, e22]
  rw [hrow]
  have x01 : ∃ l, l ≤ 1 ∧ x26 = nI l := by
    rw [e26]
    split
    · exact ⟨0, by decide, rfl⟩
    · exact ⟨1, by decide, rfl⟩
  obtain ⟨t0, t1, t2, t3, t4, t5⟩ := ht.1
  have ro : ∀ i, i ≠ 0 → i ≠ 16 + 6 * k + 4 → i ≠ 16 + 6 * k + 5 → upd (upd (upd (upd rk 0 (drw (rk 0))) (16 + 6 * k + 4) (nI s)) 0 (drw (drw (rk 0)))) (16 + 6 * k + 5) x26 i = rk i := by
    intro i h1 h2 h3
    rw [upd_n h3, upd_n h1, upd_n h2, upd_n h1]
  have cd : C28.2.2.2.2.2.1 = C.2.2.2.2.2.1 := d28.2.2.2.2.2.1
  refine ht.mk ⟨?_, by rw [ro 1 (by omega) (by omega) (by omega), o28 0 (by decide)]; exact t1, by rw [ro 2 (by omega) (by omega) (by omega), o28 3 (by decide)]; exact t2, by rw [ro 3 (by omega) (by omega) (by omega), o28 4 (by decide)]; exact t3, by rw [ro 4 (by omega) (by omega) (by omega), o28 2 (by decide)]; exact t4, by rw [ro 5 (by omega) (by omega) (by omega), o28 1 (by decide)]; exact t5⟩ (ro 1 (by omega) (by omega) (by omega)) (ro 4 (by omega) (by omega) (by omega)) (ro 5 (by omega) (by omega) (by omega)) (fun i h1 h2 => ro i (by omega) (by omega) (by omega)) (fun i h1 => ro i (by omega) (by omega) (by omega))
    (fun i _ => by rw [d28.2.1 _ (by omega)]) (fun i _ => by rw [d28.2.1 _ (by omega)]) (fun i _ => by show C28.2.2.1 _ _ = _; rw [d28.2.2.1]) (d28.keepX hj hg) ?_
  · rw [z28, upd_n (by omega), upd_s]
  · intro N2 k2 eN2 hN2 hk2
    obtain ⟨N3, w1', -, w3, w4⟩ := ht.gl
    have : N2 = N3 := (nI_eq (by omega) (by omega)).mp (eN2.symm.trans w1')
    subst this
    obtain ⟨b, hb, hbg⟩ := w4 k2 hk2
    refine ⟨b, by show C28.2.2.1 _ _ = _; rw [d28.2.2.1]; exact hb, ?_⟩
    by_cases ck : k2 = k
    · subst ck
      have : b = a := by rw [ha] at hb; cases hb; rfl
      subst this
      have f28 : ∀ q, q ≠ 43 → q ≠ 44 → cDI C28 q b = cDI C q b := by
        intro q h1 h2
        rw [e28, wDI_n (fun h => h2 h.1), e23, show cDI (n_X1_drawn C20 j) q b = cDI C20 q b from rfl, e20, wDI_n (fun h => h1 h.1)]
        show C17.2.2.2.2.2.2.1 q b = _
        rw [f17.2.1, e12]
        rfl
      have f43 : cDI C28 43 b = nI s := by
        rw [e28, wDI_n (fun h => absurd h.1 (by decide)), e23, show cDI (n_X1_drawn C20 j) 43 b = cDI C20 43 b from rfl, e20, wDI_s, g6, ewv, r18e, w1, es]
      have f44 : cDI C28 44 b = x26 := by
        rw [e28, wDI_s]
      refine ⟨g1.keep (by show C28.2.2.2.2.2.1 b = _; rw [cd]), ?_, ?_, ?_, ?_, ?_, ?_, ?_⟩
      · rw [kdG.keep (by show C28.2.2.2.2.2.1 b = _; rw [cd]), ro _ (by omega) (by omega) (by omega)]; exact g2
      · rw [f28 40 (by decide) (by decide), ro _ (by omega) (by omega) (by omega)]; exact g3
      · rw [f28 41 (by decide) (by decide), ro _ (by omega) (by omega) (by omega)]; exact g4
      · rw [f28 42 (by decide) (by decide), ro _ (by omega) (by omega) (by omega)]; exact g5
      · rw [f43, upd_n (by omega), upd_n (by omega), upd_s]
      · rw [f44, upd_s]
      · refine ⟨?_, ?_, ?_, ?_, ?_⟩
        · rw [ro _ (by omega) (by omega) (by omega)]; exact i1
        · rw [ro _ (by omega) (by omega) (by omega)]; exact i2
        · rw [ro _ (by omega) (by omega) (by omega)]; exact i3
        · rw [upd_n (by omega), upd_n (by omega), upd_s]; exact ⟨s, hs, rfl⟩
        · rw [upd_s]; exact x01
    · have hba : b ≠ a := fun h => ck (hg.2 j k2 j k b hj hj (by omega) hk10 hb (by rw [h]; exact ha)).2
      have kg : keepG C C28 b := by
        refine ⟨by show C28.2.2.2.2.2.1 b = _; rw [cd], fun q _ => ?_⟩
        rw [e28, wDI_n (fun h => hba h.2), e23, show cDI (n_X1_drawn C20 j) (40 + q) b = cDI C20 (40 + q) b from rfl, e20, wDI_n (fun h => hba h.2)]
        show C17.2.2.2.2.2.2.1 _ b = _
        rw [f17.2.1, e12]
        rfl
      obtain ⟨y1, y2, y3, y4, y5, y6, y7, v1, v2, v3, v4, v5⟩ := hbg.keep kg
      refine ⟨y1, by rw [ro _ (by omega) (by omega) (by omega)]; exact y2, by rw [ro _ (by omega) (by omega) (by omega)]; exact y3, by rw [ro _ (by omega) (by omega) (by omega)]; exact y4, by rw [ro _ (by omega) (by omega) (by omega)]; exact y5, by rw [ro _ (by omega) (by omega) (by omega)]; exact y6, by rw [ro _ (by omega) (by omega) (by omega)]; exact y7, ?_, ?_, ?_, ?_, ?_⟩
      · rw [ro _ (by omega) (by omega) (by omega)]; exact v1
      · rw [ro _ (by omega) (by omega) (by omega)]; exact v2
      · rw [ro _ (by omega) (by omega) (by omega)]; exact v3
      · rw [ro _ (by omega) (by omega) (by omega)]; exact v4
      · rw [ro _ (by omega) (by omega) (by omega)]; exact v5
/-- a draw alone -/
theorem TR.drawn {C : CS} {j : Nat} {r : Nat → Int32} (h : TR C j r) (hj : isTb j) : TR (n_X1_drawn C j) j (upd r 0 (drw (r 0))) := by
  have hh := h
  obtain ⟨t0, t1, t2, t3, t4, t5⟩ := hh.1
  have o : ∀ m, m ≠ 5 → (n_X1_drawn C j).1 j m = C.1 j m := by
    intro m hm
    show up2 _ _ _ _ _ _ = _
    unfold up2
    rw [if_neg (fun h => hm h.2)]
  refine h.mk ⟨?_, by rw [o 0 (by decide), upd_n (by decide)]; exact t1, by rw [o 3 (by decide), upd_n (by decide)]; exact t2, by rw [o 4 (by decide), upd_n (by decide)]; exact t3, by rw [o 2 (by decide), upd_n (by decide)]; exact t4, by rw [o 1 (by decide), upd_n (by decide)]; exact t5⟩ (upd_n (by decide)) (upd_n (by decide)) (upd_n (by decide)) (fun i h1 h2 => upd_n (by omega)) (fun i h1 => upd_n (by omega)) (fun _ _ => rfl) (fun _ _ => rfl) (fun _ _ => rfl) (keepX.of rfl) ?_
  · rw [upd_s]
    show up2 _ _ _ _ _ _ = _
    unfold up2
    rw [if_pos ⟨rfl, rfl⟩, t0]; rfl
  · intro N2 k2 eN2 hN2 hk2
    obtain ⟨N3, w1, -, w3, w4⟩ := hh.gl
    have : N2 = N3 := (nI_eq (by omega) (by omega)).mp (eN2.symm.trans w1)
    subst this
    obtain ⟨b, hb, hbg⟩ := w4 k2 hk2
    refine ⟨b, hb, ?_⟩
    obtain ⟨y1, y2, y3, y4, y5, y6, y7, v1, v2, v3, v4, v5⟩ := hbg
    have ro : ∀ i, i ≠ 0 → upd r 0 (drw (r 0)) i = r i := fun i h => upd_n h
    refine ⟨y1, by rw [ro _ (by omega)]; exact y2, by rw [ro _ (by omega)]; exact y3, by rw [ro _ (by omega)]; exact y4, by rw [ro _ (by omega)]; exact y5, by rw [ro _ (by omega)]; exact y6, by rw [ro _ (by omega)]; exact y7, ?_, ?_, ?_, ?_, ?_⟩
    · rw [ro _ (by omega)]; exact v1
    · rw [ro _ (by omega)]; exact v2
    · rw [ro _ (by omega)]; exact v3
    · rw [ro _ (by omega)]; exact v4
    · rw [ro _ (by omega)]; exact v5
theorem sp_X1_goesOn (C : CS) (j : Nat) (a0 : Int32) (r : Nat → Int32) (hp : p_X1_goesOn C j a0 r) : wp_X1_goesOn (fun C1 => q_X1_goesOn C j a0 r C1) C j a0 := by
  obtain ⟨hn, ⟨hj, ht⟩, hg⟩ := hp
  rw [← hn] at hj ht
  obtain ⟨N, e, -, hN, -⟩ := ht.gl
  have H : ∀ d k, k + d = N → ∀ C1 : CS, TR C1 j (itr (dayS a0) k (r, 0)).1 → dE j C C1 → wp_X1_goesOn_l2 (fun C1 => q_X1_goesOn C j a0 r C1) (d + 1) C1 j a0 (nI k) := by
    intro d
    induction d with
    | zero =>
      intro k hk C1 ht1 hd1
      have h1 : C1.1 j 0 = nI N := by rw [ht1.1.2.1, dayI_same _ _ _ (by omega) _ (by omega)]; exact e
      have ek : k = N := by omega
      subst ek
      refine ⟨hj, fun _ C3 e3 => ⟨?_, ?_⟩, fun c => absurd ?_ c⟩
      · unfold dayR
        rw [e, cl_k (by omega)]
        show TR C3 j (upd (itr (dayS a0) k (r, 0)).1 2 ((itr (dayS a0) k (r, 0)).1 2 + 1))
        have o : ∀ m, m ≠ 3 → C3.1 j m = C1.1 j m := by
          intro m hm
          rw [e3]
          show up2 _ _ _ _ _ _ = _
          unfold up2
          rw [if_neg (fun h => hm h.2)]
        obtain ⟨t0, t1, t2, t3, t4, t5⟩ := ht1.1
        have ro : ∀ i, i ≠ 2 → upd (itr (dayS a0) k (r, 0)).1 2 ((itr (dayS a0) k (r, 0)).1 2 + 1) i = (itr (dayS a0) k (r, 0)).1 i := fun i h => upd_n h
        refine ht1.mk ⟨by rw [o 5 (by decide), ro 0 (by decide)]; exact t0, by rw [o 0 (by decide), ro 1 (by decide)]; exact t1, ?_, by rw [o 4 (by decide), ro 3 (by decide)]; exact t3, by rw [o 2 (by decide), ro 4 (by decide)]; exact t4, by rw [o 1 (by decide), ro 5 (by decide)]; exact t5⟩ (ro _ (by decide)) (ro _ (by decide)) (ro _ (by decide)) (fun i h1 h2 => ro _ (by omega)) (fun i h1 => ro _ (by omega)) (fun i _ => by rw [e3]; rfl) (fun i _ => by rw [e3]; rfl) (fun i _ => by rw [e3]; rfl) (keepX.of (by rw [e3]; rfl)) ?_
        · rw [upd_s, e3, ← t2]
          show up2 _ _ _ _ _ _ = _
          unfold up2
          rw [if_pos ⟨rfl, rfl⟩]
        · intro N2 k2 eN2 hN2 hk2
          obtain ⟨N3, w1, -, w3, w4⟩ := ht1.gl
          have : N2 = N3 := (nI_eq (by omega) (by omega)).mp (eN2.symm.trans w1)
          subst this
          obtain ⟨b, hb, hbg⟩ := w4 k2 hk2
          refine ⟨b, by rw [e3]; exact hb, ?_⟩
          obtain ⟨y1, y2, y3, y4, y5, y6, y7, v1, v2, v3, v4, v5⟩ := hbg.keep (keepG.of (C1 := C3) (by rw [e3]; rfl) b)
          refine ⟨y1, by rw [ro _ (by omega)]; exact y2, by rw [ro _ (by omega)]; exact y3, by rw [ro _ (by omega)]; exact y4, by rw [ro _ (by omega)]; exact y5, by rw [ro _ (by omega)]; exact y6, by rw [ro _ (by omega)]; exact y7, ?_, ?_, ?_, ?_, ?_⟩
          · rw [ro _ (by omega)]; exact v1
          · rw [ro _ (by omega)]; exact v2
          · rw [ro _ (by omega)]; exact v3
          · rw [ro _ (by omega)]; exact v4
          · rw [ro _ (by omega)]; exact v5
      · rw [e3]; exact hd1.wI 3 _
      · rw [h1, nI_leI (by omega) (by omega)]; omega
    | succ d ih =>
      intro k hk C1 ht1 hd1
      have h1 : C1.1 j 0 = nI N := by rw [ht1.1.2.1, dayI_same _ _ _ (by omega) _ (by omega)]; exact e
      have eN : (itr (dayS a0) k (r, 0)).1 1 = nI N := by rw [dayI_same _ _ _ (by omega) _ (by omega)]; exact e
      obtain ⟨N3, w1, -, w3, w4⟩ := ht1.gl
      have : N3 = N := (nI_eq (by omega) (by omega)).mp (w1.symm.trans eN)
      subst this
      obtain ⟨a, ha, hgl⟩ := w4 k (by omega)
      have hN1 : cN C1 = j := by show C1.2.2.2.2.1 = _; rw [hd1.2.2.2.2.1]; exact hn.symm
      refine ⟨hj, fun c => ?_, fun _ => ⟨vp_k (by omega), a, by rw [cl_k (by omega)]; exact ha, hgl.1, fun c1 => ⟨fun c2 => ?_, fun c2 => ?_⟩, fun c1 => ?_⟩⟩
      · rw [h1, nI_leI (by omega) (by omega)] at c; omega
      · intro x8 e8
        have e2 : itr (dayS a0) (k + 1) (r, 0) = itr (dayS a0) k (r, 0) := by rw [itr, dayS, if_pos c2]
        rw [e8, o1, nI_add]
        exact ih (k + 1) (by omega) C1 (by rw [e2]; exact ht1) hd1
      · have hl : (itr (dayS a0) k (r, 0)).1 (16 + 6 * k + 5) = 0 := by rw [← hgl.2.2.2.2.2.2.1]; exact c1
        refine ⟨⟨hj, trivial⟩, fun r11 e11 C12 e12 => ?_⟩
        have g12 : isGl C12 a := by rw [e12]; exact hgl.1
        have hz : C1.1 j 5 = (itr (dayS a0) k (r, 0)).1 0 := ht1.1.1
        have r11e : r11 = shz (drw ((itr (dayS a0) k (r, 0)).1 0)) := by rw [e11, drawn_v, hz]
        have t12 : TR C12 j (upd (itr (dayS a0) k (r, 0)).1 0 (drw ((itr (dayS a0) k (r, 0)).1 0))) := by rw [e12]; exact ht1.drawn hj
        obtain ⟨N4, u1, -, u3, u4⟩ := t12.gl
        have : N4 = N3 := (nI_eq (by omega) (by omega)).mp (u1.symm.trans (by rw [upd_n (by decide)]; exact eN))
        subst this
        obtain ⟨a2, ha2, hg2⟩ := u4 k (by omega)
        have ea : a2 = a := by
          have : cG C12 (17 + 4 * (j - 2)) k = some a := by rw [e12]; exact ha
          rw [this] at ha2
          cases ha2
          rfl
        rw [ea] at hg2
        have n12 : cN C12 = j := by rw [e12]; exact hN1
        obtain ⟨m, hm, em⟩ := rem_in (drw ((itr (dayS a0) k (r, 0)).1 0)) (d := 10) (by decide) (by decide)
        refine ⟨g12, upd (itr (dayS a0) k (r, 0)).1 0 (drw ((itr (dayS a0) k (r, 0)).1 0)), k, ⟨⟨by rw [n12]; exact hj, by rw [n12]; exact t12⟩, hg2, m, by omega, by rw [r11e]; exact em⟩, fun r18 e18 C17 f17 => ?_⟩
        have cT17 : ∀ D : CS, D.2.2.2.2.2.1 = C12.2.2.2.2.2.1 → isGl D a := fun D h => g12.keep (by show D.2.2.2.2.2.1 a = _; rw [h])
        have q17 : C17.2.2.2.2.2.1 = C12.2.2.2.2.2.1 := by rw [f17.2.1]
        refine ⟨cT17 C17 q17, fun C20 e20 => ⟨⟨hj, trivial⟩, fun r22 e22 C23 e23 x26 e26 => ⟨cT17 C23 (by rw [e23, e20]; exact q17), fun C28 e28 x8 e8 => ?_⟩⟩⟩
        obtain ⟨z1, z2⟩ := dayG (q := (itr (dayS a0) k (r, 0)).2) hj hN1.symm ht1 (hd1.gd hg) eN (by omega) (by omega) ha hgl hl c2 e11 e12 e18 f17 e20 e22 e23 e26 e28
        rw [e8, o1, nI_add]
        exact ih (k + 1) (by omega) C28 z1 (hd1.tr z2)
      · intro x8 e8
        have hl : ¬ (itr (dayS a0) k (r, 0)).1 (16 + 6 * k + 5) = 0 := by rw [← hgl.2.2.2.2.2.2.1]; exact c1
        have e2 : itr (dayS a0) (k + 1) (r, 0) = itr (dayS a0) k (r, 0) := by
          rw [itr, dayS, if_neg hl]
          split <;> rfl
        rw [e8, o1, nI_add]
        exact ih (k + 1) (by omega) C1 (by rw [e2]; exact ht1) hd1
  exact ⟨N + 1, H N 0 (by omega) C ht (dE.rf j C)⟩
theorem mc_X1_goesOn {w : WD} (wk : wOk w) (l : Launch) (C : CS) (j : Nat) (a0 : Int32) (r : (Nat → Int32)) (hp : p_X1_goesOn C j a0 r) : MC w l yX1_goesOn cX1_goesOn 4 none 99 0 0 [.ref (ad w j), .int a0] C (pVR (q_X1_goesOn C j a0 r)) := MC.postVR (gw_X1_goesOn wk l C j a0 (sp_X1_goesOn C j a0 r hp))
