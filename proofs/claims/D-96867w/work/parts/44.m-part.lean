/-- the sign of a number or a name here, none: it is neither -/
def ptS (C : CS) : Option Int32 := if C.1 1 12 = 2 then some (C.1 1 13) else if C.1 1 12 = 1 ∧ C.1 1 10 - C.1 1 11 = 1 ∧ ¬ v_X3_nameOf C (C.1 1 13) < 0 then some (10000 + v_X3_nameOf C (C.1 1 13)) else none
/-- one more sign is written, one more number or name counted -/
def ptC (C : CS) (x : Int32) : CS := wI (wI (wA C 46 (C.1 1 19).toNatClampNeg x) 1 19 (C.1 1 19 + 1)) 1 20 (C.1 1 20 + 1)
theorem ptC_st {C : CS} {S O : List Int32} {x : Int32} (h : stOk C S O) (hb : S.length + O.length < 96) : stOk (ptC C x) S (x :: O) := by
  obtain ⟨h1, h2, h3, h4⟩ := h
  unfold ptC
  rw [h3, cl_k (by omega)]
  refine ⟨?_, ?_, ?_, ?_⟩
  · rw [wI_n _ _ _ _ (by decide), wI_n _ _ _ _ (by decide)]; exact h1
  · rw [wI_2, wI_2, wA_ne _ _ _ (by decide)]; exact h2
  · rw [wI_n _ _ _ _ (by decide), wI_s, show (1 : Int32) = nI 1 from rfl, nI_add]; rfl
  · rw [wI_2, wI_2, wA_row]
    refine ⟨by unfold upd; rw [if_pos rfl], stk_up h4 (fun i hi => ?_)⟩
    unfold upd; rw [if_neg (by omega)]
theorem ptC_n (C : CS) (x : Int32) (k : Nat) (h1 : k ≠ 19) (h2 : k ≠ 20) : (ptC C x).1 1 k = C.1 1 k := by
  unfold ptC
  rw [wI_n _ _ _ _ h2, wI_n _ _ _ _ h1]; rfl
theorem cf_X3_takesPart : CfV yX3_takesPart "TwoGuildsModel" cX3_takesPart 2 (some .boolean) 0 := ⟨⟨by decide, by decide, by decide⟩, q75, q1747, q1746, qs66⟩
def p_X3_takesPart (C : CS) : Prop := (∃ S O, stOk C S O ∧ S.length + O.length < 96) ∧ p_X3_go C
def v_X3_takesPart (C : CS) : Int32 := match ptS C with | some _ => 1 | none => 0
theorem vb_X3_takesPart (C : CS) : v_X3_takesPart C = 0 ∨ v_X3_takesPart C = 1 := by
  unfold v_X3_takesPart
  split
  · exact Or.inr rfl
  · exact Or.inl rfl
def q_X3_takesPart (C : CS) (C1 : CS) : Prop := match ptS C with | some x => ∃ D, q_X3_settle (ptC C x) 6 D ∧ q_X3_go D C1 | none => C1 = C
def wp_X3_takesPart_j52 (Post : Int32 → CS → Prop) (C : CS)  : Prop := ∀ x11 : Int32, x11 = (if (C.1 1 12) = 2 then (C.1 1 13) else (10000 + (v_X3_nameOf C (C.1 1 13)))) → 
  vp_in (C.1 1 19) 96 ∧
  (∀ C12 : CS, C12 = (wA C 46 (Int32.toNatClampNeg (C.1 1 19)) x11) → 
  ∀ C13 : CS, C13 = (wI C12 1 19 ((C12.1 1 19) + 1)) → 
  ∀ C14 : CS, C14 = (wI C13 1 20 ((C13.1 1 20) + 1)) → 
  p_X3_settle C14 6 ∧
  (∀ C15 : CS, q_X3_settle C14 6 C15 → 
  p_X3_go C15 ∧
  (∀ C16 : CS, q_X3_go C15 C16 → 
  Post 1 C16)))
def wp_X3_takesPart (Post : Int32 → CS → Prop) (C : CS)  : Prop :=
  ∀ x7 : Int32, x7 = (if (C.1 1 12) = 1 then (if ((C.1 1 10) - (C.1 1 11)) = 1 then (if (v_X3_nameOf C (C.1 1 13)) < 0 then (0 : Int32) else 1) else 0) else 0) → 
    ((C.1 1 12) = 2 → 
    wp_X3_takesPart_j52 Post C ) ∧
    (¬ (C.1 1 12) = 2 → 
    (x7 = 0 → 
      Post 0 C) ∧
      (¬ x7 = 0 → 
      wp_X3_takesPart_j52 Post C ))
set_option maxHeartbeats 4000000 in
set_option maxRecDepth 100000 in
theorem gw_X3_takesPart_j52 {w : WD} {x : Cx} (ok : Ok w x cX3_takesPart 2 yX3_takesPart.cls (some .boolean) (rmL 2 0 0)) {Post : Int32 → CS → Prop} : ∀ (C : CS) , wp_X3_takesPart_j52 Post  C  → G w x 2 0 0 (QM w x (fun v C1 => ∃ r : Int32, v = some (.int r) ∧ Post r C1) 0 0) C 52 [(0, .ref (ad w 1))] [] := by
  intro C  hw
  unfold wp_X3_takesPart_j52 at hw
  refine g_aload_n ok 0 dX3_takesPart_52 rfl ?_
  refine g_get ok 1 rfl rfl in_X3 18 (by decide) q1377 rfl dX3_takesPart_53 ?_
  refine g_aload_n ok 0 dX3_takesPart_56 rfl ?_
  refine g_get ok 1 rfl rfl in_X3 19 (by decide) q1378 rfl dX3_takesPart_57 ?_
  refine g_aload_n ok 0 dX3_takesPart_60 rfl ?_
  refine g_get ok 1 rfl rfl in_X3 12 (by decide) q1371 rfl dX3_takesPart_61 ?_
  refine g_iconst (v := 2) ok dX3_takesPart_64 (by decide) ?_
  have kj10 : ∀ x11 : Int32, x11 = (if (C.1 1 12) = 2 then (C.1 1 13) else (10000 + (v_X3_nameOf C (C.1 1 13)))) → G w x 2 0 0 (QM w x (fun v C1 => ∃ r : Int32, v = some (.int r) ∧ Post r C1) 0 0) C 87 [(0, .ref (ad w 1))] [.int x11, .int (C.1 1 19), .ref (ad w 46)] := by
    intro x11 ex11
    have hw := hw x11 ex11
    obtain ⟨hg, hw⟩ := hw
    refine g_iast ok 46 rfl hg _ rfl dX3_takesPart_87 (fun C12 eC12 => ?_)
    have hw := hw C12 eC12
    refine g_aload_n ok 0 dX3_takesPart_88 rfl ?_
    refine g_dup ok dX3_takesPart_89 rfl ?_
    refine g_get ok 1 rfl rfl in_X3 19 (by decide) q1378 rfl dX3_takesPart_90 ?_
    refine g_iconst (v := 1) ok dX3_takesPart_93 (by decide) ?_
    refine g_iadd ok dX3_takesPart_94 ?_
    refine g_putI ok 1 rfl rfl in_X3 tyX3 tyX3_ok nmX3 19 (by decide) q1378 rfl rfl rfl (putV_m rfl) dX3_takesPart_95 (fun C13 eC13 => ?_)
    have hw := hw C13 eC13
    refine g_aload_n ok 0 dX3_takesPart_98 rfl ?_
    refine g_dup ok dX3_takesPart_99 rfl ?_
    refine g_get ok 1 rfl rfl in_X3 20 (by decide) q1379 rfl dX3_takesPart_100 ?_
    refine g_iconst (v := 1) ok dX3_takesPart_103 (by decide) ?_
    refine g_iadd ok dX3_takesPart_104 ?_
    refine g_putI ok 1 rfl rfl in_X3 tyX3 tyX3_ok nmX3 20 (by decide) q1379 rfl rfl rfl (putV_m rfl) dX3_takesPart_105 (fun C14 eC14 => ?_)
    have hw := hw C14 eC14
    refine g_aload_n ok 0 dX3_takesPart_108 rfl ?_
    refine g_bipush (v := 6) ok dX3_takesPart_109 (by decide) ?_
    obtain ⟨hp, hw⟩ := hw
    refine g_callVVR ok [.int 6] cf_X3_settle q1752 (mc_X3_settle ok.wo (xL x) C14 6 hp) (recvF ok 1 rfl rfl) rfl rfl (Nat.le_of_ble_eq_true rfl) ⟨by decide, by decide⟩ ⟨by decide, by decide⟩ dX3_takesPart_111 (fun C15 eC15 => ?_)
    have hw := hw C15 eC15
    refine g_aload_n ok 0 dX3_takesPart_114 rfl ?_
    obtain ⟨hp, hw⟩ := hw
    refine g_callVVR ok [] cf_X3_go q1724 (mc_X3_go ok.wo (xL x) C15 hp) (recvF ok 1 rfl rfl) rfl rfl (Nat.le_of_ble_eq_true rfl) ⟨by decide, by decide⟩ ⟨by decide, by decide⟩ dX3_takesPart_115 (fun C16 eC16 => ?_)
    have hw := hw C16 eC16
    refine g_iconst (v := 1) ok dX3_takesPart_118 (by decide) ?_
    exact g_zret ok dX3_takesPart_119 (Or.inr rfl) ⟨_, rfl, hw⟩
  refine g_icmp_ne (tgt := 75) ok dX3_takesPart_65 (by decide) (fun c9 => ?_) (fun c9 => ?_)
  · refine g_sipush (v := 10000) ok dX3_takesPart_75 (by decide) ?_
    refine g_aload_n ok 0 dX3_takesPart_78 rfl ?_
    refine g_aload_n ok 0 dX3_takesPart_79 rfl ?_
    refine g_get ok 1 rfl rfl in_X3 13 (by decide) q1372 rfl dX3_takesPart_80 ?_
    refine g_callVI ok [.int (C.1 1 13)] cf_X3_nameOf q1748 (mc_X3_nameOf ok.wo (xL x) C (C.1 1 13)) (recvF ok 1 rfl rfl) rfl rfl (Nat.le_of_ble_eq_true rfl) ⟨by decide, by decide⟩ ⟨by decide, by decide⟩ dX3_takesPart_83 ?_
    refine g_iadd ok dX3_takesPart_86 ?_
    exact (kj10 _ (by simp only [if_neg c9]))
  · refine g_aload_n ok 0 dX3_takesPart_68 rfl ?_
    refine g_get ok 1 rfl rfl in_X3 13 (by decide) q1372 rfl dX3_takesPart_69 ?_
    refine g_goto (tgt := 87) ok dX3_takesPart_72 (by decide) ?_
    exact (kj10 _ (by simp only [if_pos c9]))
set_option maxHeartbeats 4000000 in
set_option maxRecDepth 100000 in
theorem gw_X3_takesPart {w : WD} (wk : wOk w) (l : Launch) (C : CS)  {Post : Int32 → CS → Prop} (hw : wp_X3_takesPart Post C ) : MC w l yX3_takesPart cX3_takesPart 2 (some .boolean) 2 0 0 [.ref (ad w 1)] C (fun v C1 => ∃ r : Int32, v = some (.int r) ∧ Post r C1) := by
  unfold wp_X3_takesPart at hw
  refine MC.of wk (by decide) (Nat.le_of_ble_eq_true rfl) (fun x hx ok => ?_)
  subst hx
  show G w x 2 0 0 (QM w x _ 0 0) C 0 [(0, .ref (ad w 1))] []
  refine g_aload_n ok 0 dX3_takesPart_0 rfl ?_
  refine g_get ok 1 rfl rfl in_X3 12 (by decide) q1371 rfl dX3_takesPart_1 ?_
  refine g_iconst (v := 1) ok dX3_takesPart_4 (by decide) ?_
  have kj6 : ∀ x7 : Int32, x7 = (if (C.1 1 12) = 1 then (if ((C.1 1 10) - (C.1 1 11)) = 1 then (if (v_X3_nameOf C (C.1 1 13)) < 0 then (0 : Int32) else 1) else 0) else 0) → G w x 2 0 0 (QM w x (fun v C1 => ∃ r : Int32, v = some (.int r) ∧ Post r C1) 0 0) C 37 [(0, .ref (ad w 1))] [.int x7] := by
    intro x7 ex7
    have hw := hw x7 ex7
    refine g_istore_n0 ok [(1, .int x7), (0, .ref (ad w 1))] dX3_takesPart_37 (by decide) rfl ?_
    refine g_aload_n ok 1 dX3_takesPart_38 rfl ?_
    refine g_get ok 1 rfl rfl in_X3 12 (by decide) q1371 rfl dX3_takesPart_39 ?_
    refine g_iconst (v := 2) ok dX3_takesPart_42 (by decide) ?_
    refine g_icmp_eq (tgt := 52) ok dX3_takesPart_43 (by decide) (fun c8 => ?_) (fun c8 => ?_)
    · have hw := hw.1 c8
      refine g_sub [1] [(0, .ref (ad w 1))] rfl ?_
      exact gw_X3_takesPart_j52 ok C  hw
    · have hw := hw.2 c8
      refine g_iload_n ok 0 dX3_takesPart_46 rfl ?_
      refine g_if_ne (tgt := 52) ok dX3_takesPart_47 (by decide) (fun c17 => ?_) (fun c17 => ?_)
      · have hw := hw.2 c17
        refine g_sub [1] [(0, .ref (ad w 1))] rfl ?_
        exact gw_X3_takesPart_j52 ok C  hw
      · have hw := hw.1 c17
        refine g_iconst (v := 0) ok dX3_takesPart_50 (by decide) ?_
        exact g_zret ok dX3_takesPart_51 (Or.inl rfl) ⟨_, rfl, hw⟩
  refine g_icmp_ne (tgt := 36) ok dX3_takesPart_5 (by decide) (fun c1 => ?_) (fun c1 => ?_)
  · refine g_iconst (v := 0) ok dX3_takesPart_36 (by decide) ?_
    exact (kj6 _ (by simp only [if_neg c1]))
  · refine g_aload_n ok 0 dX3_takesPart_8 rfl ?_
    refine g_get ok 1 rfl rfl in_X3 10 (by decide) q1369 rfl dX3_takesPart_9 ?_
    refine g_aload_n ok 0 dX3_takesPart_12 rfl ?_
    refine g_get ok 1 rfl rfl in_X3 11 (by decide) q1370 rfl dX3_takesPart_13 ?_
    refine g_isub ok dX3_takesPart_16 ?_
    refine g_iconst (v := 1) ok dX3_takesPart_17 (by decide) ?_
    have kj5 : G w x 2 0 0 (QM w x (fun v C1 => ∃ r : Int32, v = some (.int r) ∧ Post r C1) 0 0) C 37 [(0, .ref (ad w 1))] [.int (if ((C.1 1 10) - (C.1 1 11)) = 1 then (if (v_X3_nameOf C (C.1 1 13)) < 0 then (0 : Int32) else 1) else 0)] := by
      exact (kj6 _ (by simp only [if_pos c1]))
    refine g_icmp_ne (tgt := 36) ok dX3_takesPart_18 (by decide) (fun c2 => ?_) (fun c2 => ?_)
    · refine g_iconst (v := 0) ok dX3_takesPart_36 (by decide) ?_
      simp only [if_neg c2] at kj5
      exact kj5
    · refine g_aload_n ok 0 dX3_takesPart_21 rfl ?_
      refine g_aload_n ok 0 dX3_takesPart_22 rfl ?_
      refine g_get ok 1 rfl rfl in_X3 13 (by decide) q1372 rfl dX3_takesPart_23 ?_
      refine g_callVI ok [.int (C.1 1 13)] cf_X3_nameOf q1748 (mc_X3_nameOf ok.wo (xL x) C (C.1 1 13)) (recvF ok 1 rfl rfl) rfl rfl (Nat.le_of_ble_eq_true rfl) ⟨by decide, by decide⟩ ⟨by decide, by decide⟩ dX3_takesPart_26 ?_
      have kj4 : G w x 2 0 0 (QM w x (fun v C1 => ∃ r : Int32, v = some (.int r) ∧ Post r C1) 0 0) C 37 [(0, .ref (ad w 1))] [.int (if (v_X3_nameOf C (C.1 1 13)) < 0 then (0 : Int32) else 1)] := by
        simp only [if_pos c2] at kj5
        exact kj5
      refine g_if_lt (tgt := 36) ok dX3_takesPart_29 (by decide) (fun c3 => ?_) (fun c3 => ?_)
      · refine g_iconst (v := 0) ok dX3_takesPart_36 (by decide) ?_
        simp only [if_pos c3] at kj4
        exact kj4
      · refine g_iconst (v := 1) ok dX3_takesPart_32 (by decide) ?_
        refine g_goto (tgt := 37) ok dX3_takesPart_33 (by decide) ?_
        simp only [if_neg c3] at kj4
        exact kj4
theorem sp_X3_takesPart (C : CS) (hp : p_X3_takesPart C) : wp_X3_takesPart (fun r C1 => r = v_X3_takesPart C ∧ q_X3_takesPart C C1) C := by
  obtain ⟨⟨S, O, hS, hb⟩, L, p, eL, hL, ep, hpL⟩ := hp
  intro x7 e7
  have J : ∀ x, ptS C = some x → x = (if C.1 1 12 = 2 then C.1 1 13 else 10000 + v_X3_nameOf C (C.1 1 13)) → wp_X3_takesPart_j52 (fun r C1 => r = v_X3_takesPart C ∧ q_X3_takesPart C C1) C := by
    intro x hx ex x11 e11
    rw [← ex] at e11
    refine ⟨by rw [hS.2.2.1]; exact vp_k (by omega), fun C12 e12 C13 e13 C14 e14 => ?_⟩
    have e14' : C14 = ptC C x := by
      rw [e14, e13, e12, e11]
      unfold ptC
      congr 1
    have st := ptC_st (x := x) hS hb
    rw [← e14'] at st
    refine ⟨⟨S, x :: O, st, by simp; omega⟩, fun C15 e15 => ⟨⟨L, p, ?_, hL, ?_, hpL⟩, fun C16 e16 => ?_⟩⟩
    · rw [e15.1.2.1 1 9 (by omega), e14', ptC_n _ _ _ (by decide) (by decide)]; exact eL
    · rw [e15.1.2.1 1 10 (by omega), e14', ptC_n _ _ _ (by decide) (by decide)]; exact ep
    · unfold v_X3_takesPart q_X3_takesPart
      rw [hx]
      exact ⟨rfl, C15, by rw [← e14']; exact e15, e16⟩
  refine ⟨fun c => J _ (by unfold ptS; rw [if_pos c]) (by rw [if_pos c]), fun c => ⟨fun c7 => ?_, fun c7 => ?_⟩⟩
  · have hn : ptS C = none := by
      unfold ptS
      rw [if_neg c, if_neg]
      intro z
      rw [e7, if_pos z.1, if_pos z.2.1, if_neg z.2.2] at c7
      exact absurd c7 (by decide)
    unfold v_X3_takesPart q_X3_takesPart
    rw [hn]
    exact ⟨rfl, rfl⟩
  · have hy : C.1 1 12 = 1 ∧ C.1 1 10 - C.1 1 11 = 1 ∧ ¬ v_X3_nameOf C (C.1 1 13) < 0 := by
      by_cases h1 : C.1 1 12 = 1
      · by_cases h2 : C.1 1 10 - C.1 1 11 = 1
        · by_cases h3 : v_X3_nameOf C (C.1 1 13) < 0
          · rw [if_pos h1, if_pos h2, if_pos h3] at e7; exact absurd e7 c7
          · exact ⟨h1, h2, h3⟩
        · rw [if_pos h1, if_neg h2] at e7; exact absurd e7 c7
      · rw [if_neg h1] at e7; exact absurd e7 c7
    exact J _ (by unfold ptS; rw [if_neg c, if_pos hy]) (by rw [if_neg c])
theorem mc_X3_takesPart {w : WD} (wk : wOk w) (l : Launch) (C : CS)  (hp : p_X3_takesPart C ) : MC w l yX3_takesPart cX3_takesPart 2 (some .boolean) 2 0 0 [.ref (ad w 1)] C (pIR (v_X3_takesPart C ) (q_X3_takesPart C )) := MC.postIR (gw_X3_takesPart wk l C  (sp_X3_takesPart C  hp))
