/-! the component's reader: tokens -/
theorem cf_X0_byteAt : CfV yX0_byteAt "TwoGuilds" cX0_byteAt 2 (some .int) 1 := ⟨⟨by decide, by decide, by decide⟩, q72, q945, q944, qs21⟩
def v_X0_byteAt (C : CS) (a0 : Int32) : Int32 :=
  if (C.1 0 12) ≤ a0 then
    ((-1))
    else
    (((C.2.1 11 (Int32.toNatClampNeg a0)) &&& 255))
def p_X0_byteAt (C : CS) (a0 : Int32) : Prop :=
  ((C.1 0 12) ≤ a0 → 
    True) ∧
    (¬ (C.1 0 12) ≤ a0 → 
    vp_in a0 96 ∧
      (True))
set_option maxHeartbeats 4000000 in
set_option maxRecDepth 100000 in
theorem mc_X0_byteAt {w : WD} (wk : wOk w) (l : Launch) (C : CS) (a0 : Int32) (hw : p_X0_byteAt C a0) : MC w l yX0_byteAt cX0_byteAt 2 (some .int) 1 0 0 [.ref (ad w 0), .int a0] C (pI (v_X0_byteAt C a0) C) := by
  unfold p_X0_byteAt at hw
  refine MC.of wk (by decide) (Nat.le_of_ble_eq_true rfl) (fun x hx ok => ?_)
  subst hx
  show G w x 2 0 0 (QM w x _ 0 0) C 0 [(0, .ref (ad w 0)), (1, .int a0)] []
  refine g_iload_n ok 1 dX0_byteAt_0 rfl ?_
  refine g_aload_n ok 0 dX0_byteAt_1 rfl ?_
  refine g_get ok 0 rfl rfl in_X0 12 (by decide) q194 rfl dX0_byteAt_2 ?_
  refine g_icmp_ge (tgt := 21) ok dX0_byteAt_5 (by decide) (fun c1 => ?_) (fun c1 => ?_)
  · have hw := hw.1 c1
    refine g_iconst (v := -1) ok dX0_byteAt_21 (by decide) ?_
    exact g_iret ok dX0_byteAt_22 ⟨by first | (simp only [v_X0_byteAt, if_pos c1]; done) | contradiction, rfl⟩
  · have hw := hw.2 c1
    refine g_aload_n ok 0 dX0_byteAt_8 rfl ?_
    refine g_get ok 0 rfl rfl in_X0 11 (by decide) q193 rfl dX0_byteAt_9 ?_
    refine g_iload_n ok 1 dX0_byteAt_12 rfl ?_
    obtain ⟨hf2, hw⟩ := hw
    refine g_bald ok 11 rfl hf2 _ rfl dX0_byteAt_13 ?_
    refine g_sipush (v := 255) ok dX0_byteAt_14 (by decide) ?_
    refine g_iand ok dX0_byteAt_17 ?_
    refine g_goto (tgt := 22) ok dX0_byteAt_18 (by decide) ?_
    exact g_iret ok dX0_byteAt_22 ⟨by first | (simp only [v_X0_byteAt, if_neg c1]; done) | contradiction, rfl⟩
theorem cf_X0_isSign : CfV yX0_isSign "TwoGuilds" cX0_isSign 2 (some .boolean) 1 := ⟨⟨by decide, by decide, by decide⟩, q72, q1088, q1087, qs31⟩
def v_X0_isSign (C : CS) (a0 : Int32) : Int32 :=
  if (C.1 0 13) = 3 then
    (if (C.1 0 16) = a0 then
      (1)
      else
      (0))
    else
    (0)
theorem vb_X0_isSign (C : CS) (a0 : Int32) : v_X0_isSign C a0 = 0 ∨ v_X0_isSign C a0 = 1 := by
  unfold v_X0_isSign
  exact (ib_ite (ib_ite (Or.inr rfl) (Or.inl rfl)) (Or.inl rfl))
set_option maxHeartbeats 4000000 in
set_option maxRecDepth 100000 in
theorem mc_X0_isSign {w : WD} (wk : wOk w) (l : Launch) (C : CS) (a0 : Int32) : MC w l yX0_isSign cX0_isSign 2 (some .boolean) 1 0 0 [.ref (ad w 0), .int a0] C (pI (v_X0_isSign C a0) C) := by
  refine MC.of wk (by decide) (Nat.le_of_ble_eq_true rfl) (fun x hx ok => ?_)
  subst hx
  show G w x 2 0 0 (QM w x _ 0 0) C 0 [(0, .ref (ad w 0)), (1, .int a0)] []
  refine g_aload_n ok 0 dX0_isSign_0 rfl ?_
  refine g_get ok 0 rfl rfl in_X0 13 (by decide) q195 rfl dX0_isSign_1 ?_
  refine g_iconst (v := 3) ok dX0_isSign_4 (by decide) ?_
  refine g_icmp_ne (tgt := 20) ok dX0_isSign_5 (by decide) (fun c1 => ?_) (fun c1 => ?_)
  · refine g_iconst (v := 0) ok dX0_isSign_20 (by decide) ?_
    exact g_zret ok dX0_isSign_21 (Or.inl rfl) ⟨by first | (simp only [v_X0_isSign, if_neg c1]; done) | contradiction, rfl⟩
  · refine g_aload_n ok 0 dX0_isSign_8 rfl ?_
    refine g_get ok 0 rfl rfl in_X0 16 (by decide) q198 rfl dX0_isSign_9 ?_
    refine g_iload_n ok 1 dX0_isSign_12 rfl ?_
    refine g_icmp_ne (tgt := 20) ok dX0_isSign_13 (by decide) (fun c2 => ?_) (fun c2 => ?_)
    · refine g_iconst (v := 0) ok dX0_isSign_20 (by decide) ?_
      exact g_zret ok dX0_isSign_21 (Or.inl rfl) ⟨by first | (simp only [v_X0_isSign, if_pos c1, if_neg c2]; done) | contradiction, rfl⟩
    · refine g_iconst (v := 1) ok dX0_isSign_16 (by decide) ?_
      refine g_goto (tgt := 21) ok dX0_isSign_17 (by decide) ?_
      exact g_zret ok dX0_isSign_21 (Or.inr rfl) ⟨by first | (simp only [v_X0_isSign, if_pos c1, if_pos c2]; done) | contradiction, rfl⟩
theorem cf_X0_isName : CfV yX0_isName "TwoGuilds" cX0_isName 1 (some .boolean) 0 := ⟨⟨by decide, by decide, by decide⟩, q72, q1061, q1060, qs30⟩
def v_X0_isName (C : CS)  : Int32 :=
  if (C.1 0 13) = 1 then
    (if ((C.1 0 15) - (C.1 0 14)) = 1 then
      (if (C.1 0 20) = 0 then
        (if (C.1 0 16) = 97 then
          (1)
          else
          (if (C.1 0 16) = 98 then
            (1)
            else
            (if (C.1 0 16) = 119 then
              (1)
              else
              (0))))
        else
        (if (C.1 0 20) = 1 then
          (if (C.1 0 16) = 120 then
            (1)
            else
            (if (C.1 0 16) = 112 then
              (1)
              else
              (0)))
          else
          (if (C.1 0 16) = 100 then
            (1)
            else
            (if (C.1 0 16) = 108 then
              (1)
              else
              (0)))))
      else
      (0))
    else
    (0)
theorem vb_X0_isName (C : CS)  : v_X0_isName C  = 0 ∨ v_X0_isName C  = 1 := by
  unfold v_X0_isName
  exact (ib_ite (ib_ite (ib_ite (ib_ite (Or.inr rfl) (ib_ite (Or.inr rfl) (ib_ite (Or.inr rfl) (Or.inl rfl)))) (ib_ite (ib_ite (Or.inr rfl) (ib_ite (Or.inr rfl) (Or.inl rfl))) (ib_ite (Or.inr rfl) (ib_ite (Or.inr rfl) (Or.inl rfl))))) (Or.inl rfl)) (Or.inl rfl))
set_option maxHeartbeats 4000000 in
set_option maxRecDepth 100000 in
theorem mc_X0_isName {w : WD} (wk : wOk w) (l : Launch) (C : CS)  : MC w l yX0_isName cX0_isName 1 (some .boolean) 1 0 0 [.ref (ad w 0)] C (pI (v_X0_isName C ) C) := by
  refine MC.of wk (by decide) (Nat.le_of_ble_eq_true rfl) (fun x hx ok => ?_)
  subst hx
  show G w x 1 0 0 (QM w x _ 0 0) C 0 [(0, .ref (ad w 0))] []
  refine g_aload_n ok 0 dX0_isName_0 rfl ?_
  refine g_get ok 0 rfl rfl in_X0 13 (by decide) q195 rfl dX0_isName_1 ?_
  refine g_iconst (v := 1) ok dX0_isName_4 (by decide) ?_
  refine g_icmp_ne (tgt := 21) ok dX0_isName_5 (by decide) (fun c1 => ?_) (fun c1 => ?_)
  · refine g_iconst (v := 0) ok dX0_isName_21 (by decide) ?_
    exact g_zret ok dX0_isName_22 (Or.inl rfl) ⟨by first | (simp only [v_X0_isName, if_neg c1]; done) | contradiction, rfl⟩
  · refine g_aload_n ok 0 dX0_isName_8 rfl ?_
    refine g_get ok 0 rfl rfl in_X0 15 (by decide) q197 rfl dX0_isName_9 ?_
    refine g_aload_n ok 0 dX0_isName_12 rfl ?_
    refine g_get ok 0 rfl rfl in_X0 14 (by decide) q196 rfl dX0_isName_13 ?_
    refine g_isub ok dX0_isName_16 ?_
    refine g_iconst (v := 1) ok dX0_isName_17 (by decide) ?_
    refine g_icmp_eq (tgt := 23) ok dX0_isName_18 (by decide) (fun c2 => ?_) (fun c2 => ?_)
    · refine g_aload_n ok 0 dX0_isName_23 rfl ?_
      refine g_get ok 0 rfl rfl in_X0 20 (by decide) q202 rfl dX0_isName_24 ?_
      by_cases c3 : (C.1 0 20) = 0
      · refine g_look (off := 25) (tgt := 52) ok dX0_isName_27 (by decide) (by rw [c3] <;> rfl) (by decide) ?_
        refine g_aload_n ok 0 dX0_isName_52 rfl ?_
        refine g_get ok 0 rfl rfl in_X0 16 (by decide) q198 rfl dX0_isName_53 ?_
        refine g_bipush (v := 97) ok dX0_isName_56 (by decide) ?_
        refine g_icmp_eq (tgt := 79) ok dX0_isName_58 (by decide) (fun c4 => ?_) (fun c4 => ?_)
        · refine g_iconst (v := 1) ok dX0_isName_79 (by decide) ?_
          refine g_goto (tgt := 84) ok dX0_isName_80 (by decide) ?_
          exact g_zret ok dX0_isName_84 (Or.inr rfl) ⟨by first | (simp only [v_X0_isName, if_pos c1, if_pos c2, if_pos c3, if_pos c4]; done) | contradiction, rfl⟩
        · refine g_aload_n ok 0 dX0_isName_61 rfl ?_
          refine g_get ok 0 rfl rfl in_X0 16 (by decide) q198 rfl dX0_isName_62 ?_
          refine g_bipush (v := 98) ok dX0_isName_65 (by decide) ?_
          refine g_icmp_eq (tgt := 79) ok dX0_isName_67 (by decide) (fun c5 => ?_) (fun c5 => ?_)
          · refine g_iconst (v := 1) ok dX0_isName_79 (by decide) ?_
            refine g_goto (tgt := 84) ok dX0_isName_80 (by decide) ?_
            exact g_zret ok dX0_isName_84 (Or.inr rfl) ⟨by first | (simp only [v_X0_isName, if_pos c1, if_pos c2, if_pos c3, if_neg c4, if_pos c5]; done) | contradiction, rfl⟩
          · refine g_aload_n ok 0 dX0_isName_70 rfl ?_
            refine g_get ok 0 rfl rfl in_X0 16 (by decide) q198 rfl dX0_isName_71 ?_
            refine g_bipush (v := 119) ok dX0_isName_74 (by decide) ?_
            refine g_icmp_ne (tgt := 83) ok dX0_isName_76 (by decide) (fun c6 => ?_) (fun c6 => ?_)
            · refine g_iconst (v := 0) ok dX0_isName_83 (by decide) ?_
              exact g_zret ok dX0_isName_84 (Or.inl rfl) ⟨by first | (simp only [v_X0_isName, if_pos c1, if_pos c2, if_pos c3, if_neg c4, if_neg c5, if_neg c6]; done) | contradiction, rfl⟩
            · refine g_iconst (v := 1) ok dX0_isName_79 (by decide) ?_
              refine g_goto (tgt := 84) ok dX0_isName_80 (by decide) ?_
              exact g_zret ok dX0_isName_84 (Or.inr rfl) ⟨by first | (simp only [v_X0_isName, if_pos c1, if_pos c2, if_pos c3, if_neg c4, if_neg c5, if_pos c6]; done) | contradiction, rfl⟩
      · skip
        by_cases c7 : (C.1 0 20) = 1
        · refine g_look (off := 58) (tgt := 85) ok dX0_isName_27 (by decide) (by rw [c7] <;> rfl) (by decide) ?_
          refine g_aload_n ok 0 dX0_isName_85 rfl ?_
          refine g_get ok 0 rfl rfl in_X0 16 (by decide) q198 rfl dX0_isName_86 ?_
          refine g_bipush (v := 120) ok dX0_isName_89 (by decide) ?_
          refine g_icmp_eq (tgt := 103) ok dX0_isName_91 (by decide) (fun c8 => ?_) (fun c8 => ?_)
          · refine g_iconst (v := 1) ok dX0_isName_103 (by decide) ?_
            refine g_goto (tgt := 108) ok dX0_isName_104 (by decide) ?_
            exact g_zret ok dX0_isName_108 (Or.inr rfl) ⟨by first | (simp only [v_X0_isName, if_pos c1, if_pos c2, if_neg c3, if_pos c7, if_pos c8]; done) | contradiction, rfl⟩
          · refine g_aload_n ok 0 dX0_isName_94 rfl ?_
            refine g_get ok 0 rfl rfl in_X0 16 (by decide) q198 rfl dX0_isName_95 ?_
            refine g_bipush (v := 112) ok dX0_isName_98 (by decide) ?_
            refine g_icmp_ne (tgt := 107) ok dX0_isName_100 (by decide) (fun c9 => ?_) (fun c9 => ?_)
            · refine g_iconst (v := 0) ok dX0_isName_107 (by decide) ?_
              exact g_zret ok dX0_isName_108 (Or.inl rfl) ⟨by first | (simp only [v_X0_isName, if_pos c1, if_pos c2, if_neg c3, if_pos c7, if_neg c8, if_neg c9]; done) | contradiction, rfl⟩
            · refine g_iconst (v := 1) ok dX0_isName_103 (by decide) ?_
              refine g_goto (tgt := 108) ok dX0_isName_104 (by decide) ?_
              exact g_zret ok dX0_isName_108 (Or.inr rfl) ⟨by first | (simp only [v_X0_isName, if_pos c1, if_pos c2, if_neg c3, if_pos c7, if_neg c8, if_pos c9]; done) | contradiction, rfl⟩
        · skip
          refine g_look (off := 82) (tgt := 109) ok dX0_isName_27 (by decide) (by show Op.lookupswitch.offset [(0, 25), (1, 58)] 82 _ = _; rw [lv_osw (a := 0) c3 (by decide), lv_osw (a := 1) c7 (by decide)] <;> rfl) (by decide) ?_
          refine g_aload_n ok 0 dX0_isName_109 rfl ?_
          refine g_get ok 0 rfl rfl in_X0 16 (by decide) q198 rfl dX0_isName_110 ?_
          refine g_bipush (v := 100) ok dX0_isName_113 (by decide) ?_
          refine g_icmp_eq (tgt := 127) ok dX0_isName_115 (by decide) (fun c10 => ?_) (fun c10 => ?_)
          · refine g_iconst (v := 1) ok dX0_isName_127 (by decide) ?_
            refine g_goto (tgt := 132) ok dX0_isName_128 (by decide) ?_
            exact g_zret ok dX0_isName_132 (Or.inr rfl) ⟨by first | (simp only [v_X0_isName, if_pos c1, if_pos c2, if_neg c3, if_neg c7, if_pos c10]; done) | contradiction, rfl⟩
          · refine g_aload_n ok 0 dX0_isName_118 rfl ?_
            refine g_get ok 0 rfl rfl in_X0 16 (by decide) q198 rfl dX0_isName_119 ?_
            refine g_bipush (v := 108) ok dX0_isName_122 (by decide) ?_
            refine g_icmp_ne (tgt := 131) ok dX0_isName_124 (by decide) (fun c11 => ?_) (fun c11 => ?_)
            · refine g_iconst (v := 0) ok dX0_isName_131 (by decide) ?_
              exact g_zret ok dX0_isName_132 (Or.inl rfl) ⟨by first | (simp only [v_X0_isName, if_pos c1, if_pos c2, if_neg c3, if_neg c7, if_neg c10, if_neg c11]; done) | contradiction, rfl⟩
            · refine g_iconst (v := 1) ok dX0_isName_127 (by decide) ?_
              refine g_goto (tgt := 132) ok dX0_isName_128 (by decide) ?_
              exact g_zret ok dX0_isName_132 (Or.inr rfl) ⟨by first | (simp only [v_X0_isName, if_pos c1, if_pos c2, if_neg c3, if_neg c7, if_neg c10, if_pos c11]; done) | contradiction, rfl⟩
    · refine g_iconst (v := 0) ok dX0_isName_21 (by decide) ?_
      exact g_zret ok dX0_isName_22 (Or.inl rfl) ⟨by first | (simp only [v_X0_isName, if_pos c1, if_neg c2]; done) | contradiction, rfl⟩
theorem isLet_eq (x : Int32) : v_X0_isLetter x = 0 ↔ isL x = false := by
  unfold v_X0_isLetter isL
  by_cases h1 : x < 97
  · simp [h1]
  · by_cases h2 : x ≤ 122
    · simp [h1, h2, Int32.not_lt.mpr h2]
    · simp [h1, h2, Int32.not_le.mp h2]
theorem isDig_eq (x : Int32) : v_X0_isDigit x = 0 ↔ isF x = false := by
  unfold v_X0_isDigit isF
  by_cases h1 : x < 48
  · simp [h1]
  · by_cases h2 : x ≤ 57
    · simp [h1, h2, Int32.not_lt.mpr h2]
    · simp [h1, h2, Int32.not_le.mp h2]
/-- the byte at p, -1 behind the end -/
def btA (tp : Nat → Int32) (L p : Nat) : Int32 := if p < L then tp p else -1
theorem bt_at {C : CS} {L p : Nat} (h : tpO C L) (hp : p ≤ 96) : p_X0_byteAt C (nI p) ∧ v_X0_byteAt C (nI p) = btA (C.2.1 43) L p := by
  obtain ⟨hL, h1, h2, h3⟩ := h
  unfold p_X0_byteAt v_X0_byteAt btA
  rw [h1]
  by_cases c : p < L
  · have n : ¬ nI L ≤ nI p := fun z => by have := (nI_leI (by omega) (by omega)).mp z; omega
    obtain ⟨m, m1, m2, m3⟩ := h3 p c
    rw [if_neg n, if_pos c, cl_k (by omega), m2, m3]
    exact ⟨⟨fun _ => trivial, fun _ => ⟨vp_k (by omega), trivial⟩⟩, sby_and m m1⟩
  · have y : nI L ≤ nI p := (nI_leI (by omega) (by omega)).mpr (by omega)
    rw [if_pos y, if_neg c]
    exact ⟨⟨fun _ => trivial, fun z => absurd y z⟩, rfl⟩
theorem bt_P {P : Int32 → Bool} (h1 : P (-1) = false) {tp : Nat → Int32} {L p : Nat} : P (btA tp L p) = true ↔ (p < L ∧ P (tp p) = true) := by
  unfold btA
  by_cases c : p < L
  · rw [if_pos c]; exact ⟨fun h => ⟨c, h⟩, fun h => h.2⟩
  · rw [if_neg c, h1]; exact ⟨fun h => absurd h (by decide), fun h => absurd h.1 c⟩
/-- only the reader's four ints may have changed -/
def g0 (C D : CS) : Prop := D.2 = C.2 ∧ ∀ j k, ¬ (j = 0 ∧ 13 ≤ k ∧ k ≤ 16) → D.1 j k = C.1 j k
theorem g0.rf (C : CS) : g0 C C := ⟨rfl, fun _ _ _ => rfl⟩
theorem g0.w {C D : CS} (h : g0 C D) {k : Nat} (hk : 13 ≤ k ∧ k ≤ 16) (v : Int32) : g0 C (wI D 0 k v) := by
  refine ⟨h.1, fun j q hq => ?_⟩
  rw [wIn (fun z => hq ⟨z.1, by omega⟩)]
  exact h.2 j q hq
theorem g0.tr {C D E : CS} (h : g0 C D) (h2 : g0 D E) : g0 C E := ⟨h2.1.trans h.1, fun j k q => (h2.2 j k q).trans (h.2 j k q)⟩
theorem g0.tp {C D : CS} (h : g0 C D) {L : Nat} (ht : tpO C L) : tpO D L ∧ D.2.1 43 = C.2.1 43 := by
  obtain ⟨hL, h1, h2, h3⟩ := ht
  refine ⟨⟨hL, by rw [h.2 0 12 (by omega)]; exact h1, by rw [h.2 1 9 (by omega)]; exact h2, ?_⟩, by rw [h.1]⟩
  rw [h.1]
  exact h3
/-- the token here is t -/
def tk0 (C : CS) (t : TS) : Prop := C.1 0 13 = t.2.2.1 ∧ C.1 0 14 = nI t.2.1 ∧ C.1 0 15 = nI t.1 ∧ (t.2.2.1 = 1 ∨ t.2.2.1 = 2 ∨ t.2.2.1 = 3 → C.1 0 16 = t.2.2.2.1)
/-- where letters or figures ended last -/
def enP (t : TS) : Prop := ((t.2.2.1 = 1 ∨ t.2.2.1 = 2) ∧ t.2.2.2.2 = nI t.1) ∨ ((¬ t.2.2.1 = 1 ∧ ¬ t.2.2.1 = 2) ∧ ∀ p, t.1 ≤ p → p ≤ 96 → ¬ nI p = t.2.2.2.2)
theorem cf_X0_goesOn : CfV yX0_goesOn "TwoGuilds" cX0_goesOn 5 none 0 := ⟨⟨by decide, by decide, by decide⟩, q72, q941, q940, qs20⟩
def p_X0_goesOn (C : CS) (t : TS) (L : Nat) : Prop := tpO C L ∧ C.1 0 13 = t.2.2.1 ∧ C.1 0 15 = nI t.1 ∧ t.1 ≤ L ∧ enP t
def q_X0_goesOn (C : CS) (t : TS) (L : Nat) (C1 : CS) : Prop := g0 C C1 ∧ tk0 C1 (stp (C.2.1 43) L t) ∧ ((stp (C.2.1 43) L t).2.2.1 = 1 ∨ (stp (C.2.1 43) L t).2.2.1 = 2 ∨ (stp (C.2.1 43) L t).2.2.1 = 3 → enP (stp (C.2.1 43) L t))
def wp_X0_goesOn_j249 (Post : CS → Prop) (C : CS) (i1 : Int32) (i2 : Int32) : Prop := ∀ x39 : Int32, x39 = (if i1 = 0 then (0 : Int32) else (if i2 = (C.1 0 14) then (if (C.1 0 13) = 1 then (1 : Int32) else (if (C.1 0 13) = 2 then (1 : Int32) else 0)) else 0)) → 
  (x39 = 0 → 
  ((C.1 0 13) = 2 → 
    (((C.1 0 15) - (C.1 0 14)) ≤ 4 → 
      Post C) ∧
      (¬ ((C.1 0 15) - (C.1 0 14)) ≤ 4 → 
      ∀ C44 : CS, C44 = (wI C 0 13 4) → 
        Post C44)) ∧
    (¬ (C.1 0 13) = 2 → 
    Post C)) ∧
  (¬ x39 = 0 → 
  ∀ C41 : CS, C41 = (wI C 0 13 4) → 
    Post C41)
def wp_X0_goesOn_j188 (Post : CS → Prop) (R144 : CS → Int32 → Int32 → Int32 → Prop) (C : CS) (i1 : Int32) (i2 : Int32) (i3 : Int32) : Prop := (((C.1 0 13) = 2 → 
    ((4 ≤ ((C.1 0 15) - (C.1 0 14)) → 
        True) ∧
        (¬ 4 ≤ ((C.1 0 15) - (C.1 0 14)) → 
        p_X0_byteAt C (C.1 0 15) ∧
          (True))) ∧
      (True)) ∧
    (¬ (C.1 0 13) = 2 → 
    True)) ∧
  (∀ x54 : Int32, x54 = (if (C.1 0 13) = 2 then (if 4 ≤ ((C.1 0 15) - (C.1 0 14)) then i3 else (((10 * (C.1 0 16)) + (v_X0_byteAt C (C.1 0 15))) - 48)) else i3) → 
  ∀ C55 : CS, C55 = (wI C 0 16 x54) → 
  ∀ C56 : CS, C56 = (wI C55 0 15 ((C55.1 0 15) + 1)) → 
  R144 C56 i1 i2 i3)
def wp_X0_goesOn_j166 (Post : CS → Prop) (R144 : CS → Int32 → Int32 → Int32 → Prop) (C : CS) (i1 : Int32) (i2 : Int32) (i3 : Int32) : Prop := ((C.1 0 13) = 2 → 
  p_X0_byteAt C (C.1 0 15) ∧
    (∀ r46 : Int32, r46 = (v_X0_byteAt C (C.1 0 15)) → 
    ∀ r47 : Int32, r47 = (v_X0_isDigit r46) → 
    (r47 = 0 → 
    wp_X0_goesOn_j249 Post C i1 i2) ∧
    (¬ r47 = 0 → 
    wp_X0_goesOn_j188 Post R144 C i1 i2 i3))) ∧
  (¬ (C.1 0 13) = 2 → 
  wp_X0_goesOn_j249 Post C i1 i2)
def wp_X0_goesOn_l144 (Post : CS → Prop) : Nat → CS → Int32 → Int32 → Int32 → Prop
  | 0, _, _, _, _ => False
  | n + 1, C, i1, i2, i3 => ((C.1 0 13) = 1 → 
  p_X0_byteAt C (C.1 0 15) ∧
    (∀ r58 : Int32, r58 = (v_X0_byteAt C (C.1 0 15)) → 
    ∀ r59 : Int32, r59 = (v_X0_isLetter r58) → 
    (r59 = 0 → 
    wp_X0_goesOn_j166 Post (fun C i1 i2 i3 => wp_X0_goesOn_l144 Post n C i1 i2 i3) C i1 i2 i3) ∧
    (¬ r59 = 0 → 
    wp_X0_goesOn_j188 Post (fun C i1 i2 i3 => wp_X0_goesOn_l144 Post n C i1 i2 i3) C i1 i2 i3))) ∧
  (¬ (C.1 0 13) = 1 → 
  wp_X0_goesOn_j166 Post (fun C i1 i2 i3 => wp_X0_goesOn_l144 Post n C i1 i2 i3) C i1 i2 i3)
def wp_X0_goesOn_l27 (Post : CS → Prop) : Nat → CS → Int32 → Int32 → Prop
  | 0, _, _, _ => False
  | n + 1, C, i1, i2 => p_X0_byteAt C (C.1 0 15) ∧
  (∀ r8 : Int32, r8 = (v_X0_byteAt C (C.1 0 15)) → 
  (r8 = 32 → 
  ∀ C62 : CS, C62 = (wI C 0 15 ((C.1 0 15) + 1)) → 
    wp_X0_goesOn_l27 Post n C62 i1 i2) ∧
  (¬ r8 = 32 → 
  ∀ C10 : CS, C10 = (wI C 0 14 (C.1 0 15)) → 
    p_X0_byteAt C10 (C10.1 0 14) ∧
    (∀ r12 : Int32, r12 = (v_X0_byteAt C10 (C10.1 0 14)) → 
    ∀ x19 : Int32, x19 = (if 0 ≤ r12 then (if (v_X0_isLetter r12) = 0 then (if (v_X0_isDigit r12) = 0 then (3 : Int32) else 2) else 1) else 0) → 
    ∀ C20 : CS, C20 = (wI C10 0 13 x19) → 
    ∀ x23 : Int32, x23 = (if (C20.1 0 13) = 3 then r12 else 0) → 
    ∀ C24 : CS, C24 = (wI C20 0 16 x23) → 
    ∀ x27 : Int32, x27 = (if (C24.1 0 13) = 3 then (1 : Int32) else 0) → 
    ∀ C28 : CS, C28 = (wI C24 0 15 ((C24.1 0 15) + x27)) → 
    ∃ m144, wp_X0_goesOn_l144 Post m144 C28 i1 i2 r12)))
def wp_X0_goesOn (Post : CS → Prop) (C : CS)  : Prop :=
  ∀ x5 : Int32, x5 = (if (C.1 0 13) = 1 then (1 : Int32) else (if (C.1 0 13) = 2 then (1 : Int32) else 0)) → 
    ∀ x6 : Int32, x6 = (C.1 0 15) → 
    ∃ m27, wp_X0_goesOn_l27 Post m27 C x5 x6
set_option maxHeartbeats 4000000 in
set_option maxRecDepth 100000 in
theorem gw_X0_goesOn_j249 {w : WD} {x : Cx} (ok : Ok w x cX0_goesOn 5 yX0_goesOn.cls none (rmL 2 0 0)) {Post : CS → Prop} : ∀ (C : CS) (i1 : Int32) (i2 : Int32), wp_X0_goesOn_j249 Post  C i1 i2 → G w x 5 0 0 (QM w x (fun v C1 => v = none ∧ Post C1) 0 0) C 249 [(0, .ref (ad w 0)), (1, .int i1), (2, .int i2)] [] := by
  intro C i1 i2 hw
  unfold wp_X0_goesOn_j249 at hw
  refine g_iload_n ok 1 dX0_goesOn_249 rfl ?_
  have kj38 : ∀ x39 : Int32, x39 = (if i1 = 0 then (0 : Int32) else (if i2 = (C.1 0 14) then (if (C.1 0 13) = 1 then (1 : Int32) else (if (C.1 0 13) = 2 then (1 : Int32) else 0)) else 0)) → G w x 5 0 0 (QM w x (fun v C1 => v = none ∧ Post C1) 0 0) C 282 [(0, .ref (ad w 0))] [.int x39] := by
    intro x39 ex39
    have hw := hw x39 ex39
    refine g_istore0 ok [(4, .int x39), (0, .ref (ad w 0))] dX0_goesOn_282 (by decide) rfl ?_
    refine g_iload ok 0 dX0_goesOn_284 rfl ?_
    refine g_if_ne (tgt := 310) ok dX0_goesOn_286 (by decide) (fun c40 => ?_) (fun c40 => ?_)
    · have hw := hw.2 c40
      refine g_aload_n ok 1 dX0_goesOn_310 rfl ?_
      refine g_iconst (v := 4) ok dX0_goesOn_311 (by decide) ?_
      refine g_putI ok 0 rfl rfl in_X0 tyX0 tyX0_ok nmX0 13 (by decide) q195 rfl rfl rfl (putV_x rfl (by decide)) dX0_goesOn_312 (fun C41 eC41 => ?_)
      have hw := hw C41 eC41
      exact g_vret ok dX0_goesOn_315 ⟨rfl, hw⟩
    · have hw := hw.1 c40
      refine g_aload_n ok 1 dX0_goesOn_289 rfl ?_
      refine g_get ok 0 rfl rfl in_X0 13 (by decide) q195 rfl dX0_goesOn_290 ?_
      refine g_iconst (v := 2) ok dX0_goesOn_293 (by decide) ?_
      refine g_icmp_ne (tgt := 315) ok dX0_goesOn_294 (by decide) (fun c42 => ?_) (fun c42 => ?_)
      · have hw := hw.2 c42
        exact g_vret ok dX0_goesOn_315 ⟨rfl, hw⟩
      · have hw := hw.1 c42
        refine g_aload_n ok 1 dX0_goesOn_297 rfl ?_
        refine g_get ok 0 rfl rfl in_X0 15 (by decide) q197 rfl dX0_goesOn_298 ?_
        refine g_aload_n ok 1 dX0_goesOn_301 rfl ?_
        refine g_get ok 0 rfl rfl in_X0 14 (by decide) q196 rfl dX0_goesOn_302 ?_
        refine g_isub ok dX0_goesOn_305 ?_
        refine g_iconst (v := 4) ok dX0_goesOn_306 (by decide) ?_
        refine g_icmp_le (tgt := 315) ok dX0_goesOn_307 (by decide) (fun c43 => ?_) (fun c43 => ?_)
        · have hw := hw.1 c43
          exact g_vret ok dX0_goesOn_315 ⟨rfl, hw⟩
        · have hw := hw.2 c43
          refine g_aload_n ok 1 dX0_goesOn_310 rfl ?_
          refine g_iconst (v := 4) ok dX0_goesOn_311 (by decide) ?_
          refine g_putI ok 0 rfl rfl in_X0 tyX0 tyX0_ok nmX0 13 (by decide) q195 rfl rfl rfl (putV_x rfl (by decide)) dX0_goesOn_312 (fun C44 eC44 => ?_)
          have hw := hw C44 eC44
          exact g_vret ok dX0_goesOn_315 ⟨rfl, hw⟩
  refine g_if_eq (tgt := 281) ok dX0_goesOn_250 (by decide) (fun c31 => ?_) (fun c31 => ?_)
  · refine g_iconst (v := 0) ok dX0_goesOn_281 (by decide) ?_
    exact g_sub [0] [(0, .ref (ad w 0))] rfl (kj38 _ (by simp only [if_pos c31]))
  · refine g_iload_n ok 2 dX0_goesOn_253 rfl ?_
    refine g_aload_n ok 0 dX0_goesOn_254 rfl ?_
    refine g_get ok 0 rfl rfl in_X0 14 (by decide) q196 rfl dX0_goesOn_255 ?_
    have kj37 : G w x 5 0 0 (QM w x (fun v C1 => v = none ∧ Post C1) 0 0) C 282 [(0, .ref (ad w 0))] [.int (if i2 = (C.1 0 14) then (if (C.1 0 13) = 1 then (1 : Int32) else (if (C.1 0 13) = 2 then (1 : Int32) else 0)) else 0)] := by
      exact (kj38 _ (by simp only [if_neg c31]))
    refine g_icmp_ne (tgt := 281) ok dX0_goesOn_258 (by decide) (fun c32 => ?_) (fun c32 => ?_)
    · refine g_iconst (v := 0) ok dX0_goesOn_281 (by decide) ?_
      simp only [if_neg c32] at kj37
      exact g_sub [0] [(0, .ref (ad w 0))] rfl kj37
    · refine g_aload_n ok 0 dX0_goesOn_261 rfl ?_
      refine g_get ok 0 rfl rfl in_X0 13 (by decide) q195 rfl dX0_goesOn_262 ?_
      refine g_iconst (v := 1) ok dX0_goesOn_265 (by decide) ?_
      have kj36 : G w x 5 0 0 (QM w x (fun v C1 => v = none ∧ Post C1) 0 0) C 282 [(0, .ref (ad w 0))] [.int (if (C.1 0 13) = 1 then (1 : Int32) else (if (C.1 0 13) = 2 then (1 : Int32) else 0))] := by
        simp only [if_pos c32] at kj37
        exact kj37
      refine g_icmp_eq (tgt := 277) ok dX0_goesOn_266 (by decide) (fun c33 => ?_) (fun c33 => ?_)
      · refine g_iconst (v := 1) ok dX0_goesOn_277 (by decide) ?_
        refine g_goto (tgt := 282) ok dX0_goesOn_278 (by decide) ?_
        simp only [if_pos c33] at kj36
        exact g_sub [0] [(0, .ref (ad w 0))] rfl kj36
      · refine g_aload_n ok 0 dX0_goesOn_269 rfl ?_
        refine g_get ok 0 rfl rfl in_X0 13 (by decide) q195 rfl dX0_goesOn_270 ?_
        refine g_iconst (v := 2) ok dX0_goesOn_273 (by decide) ?_
        have kj35 : G w x 5 0 0 (QM w x (fun v C1 => v = none ∧ Post C1) 0 0) C 282 [(0, .ref (ad w 0))] [.int (if (C.1 0 13) = 2 then (1 : Int32) else 0)] := by
          simp only [if_neg c33] at kj36
          exact kj36
        refine g_icmp_ne (tgt := 281) ok dX0_goesOn_274 (by decide) (fun c34 => ?_) (fun c34 => ?_)
        · refine g_iconst (v := 0) ok dX0_goesOn_281 (by decide) ?_
          simp only [if_neg c34] at kj35
          exact g_sub [0] [(0, .ref (ad w 0))] rfl kj35
        · refine g_iconst (v := 1) ok dX0_goesOn_277 (by decide) ?_
          refine g_goto (tgt := 282) ok dX0_goesOn_278 (by decide) ?_
          simp only [if_pos c34] at kj35
          exact g_sub [0] [(0, .ref (ad w 0))] rfl kj35
set_option maxHeartbeats 4000000 in
set_option maxRecDepth 100000 in
theorem gw_X0_goesOn_j188 {w : WD} {x : Cx} (ok : Ok w x cX0_goesOn 5 yX0_goesOn.cls none (rmL 2 0 0)) {Post : CS → Prop} {R144 : CS → Int32 → Int32 → Int32 → Prop} (hR144 : ∀ C (i1 : Int32) (i2 : Int32) (i3 : Int32), R144 C i1 i2 i3 → G w x 5 0 0 (QM w x (fun v C1 => v = none ∧ Post C1) 0 0) C 144 [(0, .ref (ad w 0)), (1, .int i1), (2, .int i2), (3, .int i3)] []) : ∀ (C : CS) (i1 : Int32) (i2 : Int32) (i3 : Int32), wp_X0_goesOn_j188 Post R144 C i1 i2 i3 → G w x 5 0 0 (QM w x (fun v C1 => v = none ∧ Post C1) 0 0) C 188 [(0, .ref (ad w 0)), (1, .int i1), (2, .int i2), (3, .int i3)] [] := by
  intro C i1 i2 i3 hw
  unfold wp_X0_goesOn_j188 at hw
  refine g_aload_n ok 0 dX0_goesOn_188 rfl ?_
  refine g_aload_n ok 0 dX0_goesOn_189 rfl ?_
  refine g_get ok 0 rfl rfl in_X0 13 (by decide) q195 rfl dX0_goesOn_190 ?_
  refine g_iconst (v := 2) ok dX0_goesOn_193 (by decide) ?_
  obtain ⟨hr, hw⟩ := hw
  have kj53 : ∀ x54 : Int32, x54 = (if (C.1 0 13) = 2 then (if 4 ≤ ((C.1 0 15) - (C.1 0 14)) then i3 else (((10 * (C.1 0 16)) + (v_X0_byteAt C (C.1 0 15))) - 48)) else i3) → G w x 5 0 0 (QM w x (fun v C1 => v = none ∧ Post C1) 0 0) C 233 [(0, .ref (ad w 0)), (1, .int i1), (2, .int i2), (3, .int i3)] [.int x54, .ref (ad w 0)] := by
    intro x54 ex54
    have hw := hw x54 ex54
    refine g_putI ok 0 rfl rfl in_X0 tyX0 tyX0_ok nmX0 16 (by decide) q198 rfl rfl rfl (putV_x rfl (by decide)) dX0_goesOn_233 (fun C55 eC55 => ?_)
    have hw := hw C55 eC55
    refine g_aload_n ok 0 dX0_goesOn_236 rfl ?_
    refine g_dup ok dX0_goesOn_237 rfl ?_
    refine g_get ok 0 rfl rfl in_X0 15 (by decide) q197 rfl dX0_goesOn_238 ?_
    refine g_iconst (v := 1) ok dX0_goesOn_241 (by decide) ?_
    refine g_iadd ok dX0_goesOn_242 ?_
    refine g_putI ok 0 rfl rfl in_X0 tyX0 tyX0_ok nmX0 15 (by decide) q197 rfl rfl rfl (putV_x rfl (by decide)) dX0_goesOn_243 (fun C56 eC56 => ?_)
    have hw := hw C56 eC56
    refine g_goto (tgt := 144) ok dX0_goesOn_246 (by decide) ?_
    exact hR144 C56 i1 i2 i3 hw
  have hw := hr
  refine g_icmp_ne (tgt := 232) ok dX0_goesOn_194 (by decide) (fun c49 => ?_) (fun c49 => ?_)
  · have hw := hw.2 c49
    refine g_iload_n ok 3 dX0_goesOn_232 rfl ?_
    exact (kj53 _ (by simp only [if_neg c49]))
  · have hw := hw.1 c49
    refine g_aload_n ok 0 dX0_goesOn_197 rfl ?_
    refine g_get ok 0 rfl rfl in_X0 15 (by decide) q197 rfl dX0_goesOn_198 ?_
    refine g_aload_n ok 0 dX0_goesOn_201 rfl ?_
    refine g_get ok 0 rfl rfl in_X0 14 (by decide) q196 rfl dX0_goesOn_202 ?_
    refine g_isub ok dX0_goesOn_205 ?_
    refine g_iconst (v := 4) ok dX0_goesOn_206 (by decide) ?_
    obtain ⟨hr, hw⟩ := hw
    have kj52 : G w x 5 0 0 (QM w x (fun v C1 => v = none ∧ Post C1) 0 0) C 233 [(0, .ref (ad w 0)), (1, .int i1), (2, .int i2), (3, .int i3)] [.int (if 4 ≤ ((C.1 0 15) - (C.1 0 14)) then i3 else (((10 * (C.1 0 16)) + (v_X0_byteAt C (C.1 0 15))) - 48)), .ref (ad w 0)] := by
      exact (kj53 _ (by simp only [if_pos c49]))
    have hw := hr
    refine g_icmp_ge (tgt := 232) ok dX0_goesOn_207 (by decide) (fun c50 => ?_) (fun c50 => ?_)
    · have hw := hw.1 c50
      refine g_iload_n ok 3 dX0_goesOn_232 rfl ?_
      simp only [if_pos c50] at kj52
      exact kj52
    · have hw := hw.2 c50
      refine g_bipush (v := 10) ok dX0_goesOn_210 (by decide) ?_
      refine g_aload_n ok 0 dX0_goesOn_212 rfl ?_
      refine g_get ok 0 rfl rfl in_X0 16 (by decide) q198 rfl dX0_goesOn_213 ?_
      refine g_imul ok dX0_goesOn_216 ?_
      refine g_aload_n ok 0 dX0_goesOn_217 rfl ?_
      refine g_aload_n ok 0 dX0_goesOn_218 rfl ?_
      refine g_get ok 0 rfl rfl in_X0 15 (by decide) q197 rfl dX0_goesOn_219 ?_
      obtain ⟨hp51, hw⟩ := hw
      refine g_callV ok [.int (C.1 0 15)] cf_X0_byteAt q942 (mc_X0_byteAt ok.wo (xL x) C (C.1 0 15) hp51) (recvF ok 0 rfl rfl) rfl rfl (Nat.le_of_ble_eq_true rfl) ⟨by decide, by decide⟩ ⟨by decide, by decide⟩ dX0_goesOn_222 (resI ?_)
      refine g_iadd ok dX0_goesOn_225 ?_
      refine g_bipush (v := 48) ok dX0_goesOn_226 (by decide) ?_
      refine g_isub ok dX0_goesOn_228 ?_
      refine g_goto (tgt := 233) ok dX0_goesOn_229 (by decide) ?_
      simp only [if_neg c50] at kj52
      exact kj52
set_option maxHeartbeats 4000000 in
set_option maxRecDepth 100000 in
theorem gw_X0_goesOn_j166 {w : WD} {x : Cx} (ok : Ok w x cX0_goesOn 5 yX0_goesOn.cls none (rmL 2 0 0)) {Post : CS → Prop} {R144 : CS → Int32 → Int32 → Int32 → Prop} (hR144 : ∀ C (i1 : Int32) (i2 : Int32) (i3 : Int32), R144 C i1 i2 i3 → G w x 5 0 0 (QM w x (fun v C1 => v = none ∧ Post C1) 0 0) C 144 [(0, .ref (ad w 0)), (1, .int i1), (2, .int i2), (3, .int i3)] []) : ∀ (C : CS) (i1 : Int32) (i2 : Int32) (i3 : Int32), wp_X0_goesOn_j166 Post R144 C i1 i2 i3 → G w x 5 0 0 (QM w x (fun v C1 => v = none ∧ Post C1) 0 0) C 166 [(0, .ref (ad w 0)), (1, .int i1), (2, .int i2), (3, .int i3)] [] := by
  intro C i1 i2 i3 hw
  unfold wp_X0_goesOn_j166 at hw
  refine g_aload_n ok 0 dX0_goesOn_166 rfl ?_
  refine g_get ok 0 rfl rfl in_X0 13 (by decide) q195 rfl dX0_goesOn_167 ?_
  refine g_iconst (v := 2) ok dX0_goesOn_170 (by decide) ?_
  refine g_icmp_ne (tgt := 249) ok dX0_goesOn_171 (by decide) (fun c30 => ?_) (fun c30 => ?_)
  · have hw := hw.2 c30
    refine g_sub [0, 1, 2] [(0, .ref (ad w 0)), (1, .int i1), (2, .int i2)] rfl ?_
    exact gw_X0_goesOn_j249 ok C i1 i2 hw
  · have hw := hw.1 c30
    refine g_aload_n ok 0 dX0_goesOn_174 rfl ?_
    refine g_aload_n ok 0 dX0_goesOn_175 rfl ?_
    refine g_get ok 0 rfl rfl in_X0 15 (by decide) q197 rfl dX0_goesOn_176 ?_
    obtain ⟨hp45, hw⟩ := hw
    refine g_callV ok [.int (C.1 0 15)] cf_X0_byteAt q942 (mc_X0_byteAt ok.wo (xL x) C (C.1 0 15) hp45) (recvF ok 0 rfl rfl) rfl rfl (Nat.le_of_ble_eq_true rfl) ⟨by decide, by decide⟩ ⟨by decide, by decide⟩ dX0_goesOn_179 (resI ?_)
    refine g_nmI (fun r46 er46 => ?_)
    have hw := hw r46 er46
    refine g_callS ok [.int r46] cf_X0_isDigit q949 (mc_X0_isDigit ok.wo (xL x) C r46) rfl rfl (Nat.le_of_ble_eq_true rfl) ⟨by decide, by decide⟩ ⟨by decide, by decide⟩ dX0_goesOn_182 (resI ?_)
    refine g_nmI (fun r47 er47 => ?_)
    have hw := hw r47 er47
    refine g_if_eq (tgt := 249) ok dX0_goesOn_185 (by decide) (fun c48 => ?_) (fun c48 => ?_)
    · have hw := hw.1 c48
      refine g_sub [0, 1, 2] [(0, .ref (ad w 0)), (1, .int i1), (2, .int i2)] rfl ?_
      exact gw_X0_goesOn_j249 ok C i1 i2 hw
    · have hw := hw.2 c48
      exact gw_X0_goesOn_j188 ok hR144 C i1 i2 i3 hw
set_option maxHeartbeats 4000000 in
set_option maxRecDepth 100000 in
theorem gw_X0_goesOn_l144 {w : WD} {x : Cx} (ok : Ok w x cX0_goesOn 5 yX0_goesOn.cls none (rmL 2 0 0)) {Post : CS → Prop} : ∀ (n : Nat) (C : CS) (i1 : Int32) (i2 : Int32) (i3 : Int32), wp_X0_goesOn_l144 Post  n C i1 i2 i3 → G w x 5 0 0 (QM w x (fun v C1 => v = none ∧ Post C1) 0 0) C 144 [(0, .ref (ad w 0)), (1, .int i1), (2, .int i2), (3, .int i3)] [] := by
  intro n
  induction n with
  | zero => intro C i1 i2 i3 hw; exact hw.elim
  | succ n ih =>
    intro C i1 i2 i3 hw
    unfold wp_X0_goesOn_l144 at hw
    refine g_aload_n ok 0 dX0_goesOn_144 rfl ?_
    refine g_get ok 0 rfl rfl in_X0 13 (by decide) q195 rfl dX0_goesOn_145 ?_
    refine g_iconst (v := 1) ok dX0_goesOn_148 (by decide) ?_
    refine g_icmp_ne (tgt := 166) ok dX0_goesOn_149 (by decide) (fun c29 => ?_) (fun c29 => ?_)
    · have hw := hw.2 c29
      exact gw_X0_goesOn_j166 ok (fun C i1 i2 i3 hw => ih C i1 i2 i3 hw) C i1 i2 i3 hw
    · have hw := hw.1 c29
      refine g_aload_n ok 0 dX0_goesOn_152 rfl ?_
      refine g_aload_n ok 0 dX0_goesOn_153 rfl ?_
      refine g_get ok 0 rfl rfl in_X0 15 (by decide) q197 rfl dX0_goesOn_154 ?_
      obtain ⟨hp57, hw⟩ := hw
      refine g_callV ok [.int (C.1 0 15)] cf_X0_byteAt q942 (mc_X0_byteAt ok.wo (xL x) C (C.1 0 15) hp57) (recvF ok 0 rfl rfl) rfl rfl (Nat.le_of_ble_eq_true rfl) ⟨by decide, by decide⟩ ⟨by decide, by decide⟩ dX0_goesOn_157 (resI ?_)
      refine g_nmI (fun r58 er58 => ?_)
      have hw := hw r58 er58
      refine g_callS ok [.int r58] cf_X0_isLetter q946 (mc_X0_isLetter ok.wo (xL x) C r58) rfl rfl (Nat.le_of_ble_eq_true rfl) ⟨by decide, by decide⟩ ⟨by decide, by decide⟩ dX0_goesOn_160 (resI ?_)
      refine g_nmI (fun r59 er59 => ?_)
      have hw := hw r59 er59
      refine g_if_ne (tgt := 188) ok dX0_goesOn_163 (by decide) (fun c60 => ?_) (fun c60 => ?_)
      · have hw := hw.2 c60
        exact gw_X0_goesOn_j188 ok (fun C i1 i2 i3 hw => ih C i1 i2 i3 hw) C i1 i2 i3 hw
      · have hw := hw.1 c60
        exact gw_X0_goesOn_j166 ok (fun C i1 i2 i3 hw => ih C i1 i2 i3 hw) C i1 i2 i3 hw
set_option maxHeartbeats 4000000 in
set_option maxRecDepth 100000 in
theorem gw_X0_goesOn_l27 {w : WD} {x : Cx} (ok : Ok w x cX0_goesOn 5 yX0_goesOn.cls none (rmL 2 0 0)) {Post : CS → Prop} : ∀ (n : Nat) (C : CS) (i1 : Int32) (i2 : Int32), wp_X0_goesOn_l27 Post  n C i1 i2 → G w x 5 0 0 (QM w x (fun v C1 => v = none ∧ Post C1) 0 0) C 27 [(0, .ref (ad w 0)), (1, .int i1), (2, .int i2)] [] := by
  intro n
  induction n with
  | zero => intro C i1 i2 hw; exact hw.elim
  | succ n ih =>
    intro C i1 i2 hw
    unfold wp_X0_goesOn_l27 at hw
    refine g_aload_n ok 0 dX0_goesOn_27 rfl ?_
    refine g_aload_n ok 0 dX0_goesOn_28 rfl ?_
    refine g_get ok 0 rfl rfl in_X0 15 (by decide) q197 rfl dX0_goesOn_29 ?_
    obtain ⟨hp7, hw⟩ := hw
    refine g_callV ok [.int (C.1 0 15)] cf_X0_byteAt q942 (mc_X0_byteAt ok.wo (xL x) C (C.1 0 15) hp7) (recvF ok 0 rfl rfl) rfl rfl (Nat.le_of_ble_eq_true rfl) ⟨by decide, by decide⟩ ⟨by decide, by decide⟩ dX0_goesOn_32 (resI ?_)
    refine g_nmI (fun r8 er8 => ?_)
    have hw := hw r8 er8
    refine g_bipush (v := 32) ok dX0_goesOn_35 (by decide) ?_
    refine g_icmp_ne (tgt := 53) ok dX0_goesOn_37 (by decide) (fun c9 => ?_) (fun c9 => ?_)
    · have hw := hw.2 c9
      refine g_aload_n ok 0 dX0_goesOn_53 rfl ?_
      refine g_aload_n ok 0 dX0_goesOn_54 rfl ?_
      refine g_get ok 0 rfl rfl in_X0 15 (by decide) q197 rfl dX0_goesOn_55 ?_
      refine g_putI ok 0 rfl rfl in_X0 tyX0 tyX0_ok nmX0 14 (by decide) q196 rfl rfl rfl (putV_x rfl (by decide)) dX0_goesOn_58 (fun C10 eC10 => ?_)
      have hw := hw C10 eC10
      refine g_aload_n ok 0 dX0_goesOn_61 rfl ?_
      refine g_aload_n ok 0 dX0_goesOn_62 rfl ?_
      refine g_get ok 0 rfl rfl in_X0 14 (by decide) q196 rfl dX0_goesOn_63 ?_
      obtain ⟨hp11, hw⟩ := hw
      refine g_callV ok [.int (C10.1 0 14)] cf_X0_byteAt q942 (mc_X0_byteAt ok.wo (xL x) C10 (C10.1 0 14) hp11) (recvF ok 0 rfl rfl) rfl rfl (Nat.le_of_ble_eq_true rfl) ⟨by decide, by decide⟩ ⟨by decide, by decide⟩ dX0_goesOn_66 (resI ?_)
      refine g_nmI (fun r12 er12 => ?_)
      have hw := hw r12 er12
      refine g_istore_n0 ok [(3, .int r12), (0, .ref (ad w 0)), (1, .int i1), (2, .int i2)] dX0_goesOn_69 (by decide) rfl ?_
      refine g_aload_n ok 1 dX0_goesOn_70 rfl ?_
      refine g_iload_n ok 0 dX0_goesOn_71 rfl ?_
      have kj18 : ∀ x19 : Int32, x19 = (if 0 ≤ r12 then (if (v_X0_isLetter r12) = 0 then (if (v_X0_isDigit r12) = 0 then (3 : Int32) else 2) else 1) else 0) → G w x 5 0 0 (QM w x (fun v C1 => v = none ∧ Post C1) 0 0) C10 102 [(0, .ref (ad w 0)), (1, .int i1), (2, .int i2), (3, .int r12)] [.int x19, .ref (ad w 0)] := by
        intro x19 ex19
        have hw := hw x19 ex19
        refine g_putI ok 0 rfl rfl in_X0 tyX0 tyX0_ok nmX0 13 (by decide) q195 rfl rfl rfl (putV_x rfl (by decide)) dX0_goesOn_102 (fun C20 eC20 => ?_)
        have hw := hw C20 eC20
        refine g_aload_n ok 0 dX0_goesOn_105 rfl ?_
        refine g_aload_n ok 0 dX0_goesOn_106 rfl ?_
        refine g_get ok 0 rfl rfl in_X0 13 (by decide) q195 rfl dX0_goesOn_107 ?_
        refine g_iconst (v := 3) ok dX0_goesOn_110 (by decide) ?_
        have kj22 : ∀ x23 : Int32, x23 = (if (C20.1 0 13) = 3 then r12 else 0) → G w x 5 0 0 (QM w x (fun v C1 => v = none ∧ Post C1) 0 0) C20 119 [(0, .ref (ad w 0)), (1, .int i1), (2, .int i2), (3, .int r12)] [.int x23, .ref (ad w 0)] := by
          intro x23 ex23
          have hw := hw x23 ex23
          refine g_putI ok 0 rfl rfl in_X0 tyX0 tyX0_ok nmX0 16 (by decide) q198 rfl rfl rfl (putV_x rfl (by decide)) dX0_goesOn_119 (fun C24 eC24 => ?_)
          have hw := hw C24 eC24
          refine g_aload_n ok 0 dX0_goesOn_122 rfl ?_
          refine g_dup ok dX0_goesOn_123 rfl ?_
          refine g_get ok 0 rfl rfl in_X0 15 (by decide) q197 rfl dX0_goesOn_124 ?_
          refine g_aload_n ok 0 dX0_goesOn_127 rfl ?_
          refine g_get ok 0 rfl rfl in_X0 13 (by decide) q195 rfl dX0_goesOn_128 ?_
          refine g_iconst (v := 3) ok dX0_goesOn_131 (by decide) ?_
          have kj26 : ∀ x27 : Int32, x27 = (if (C24.1 0 13) = 3 then (1 : Int32) else 0) → G w x 5 0 0 (QM w x (fun v C1 => v = none ∧ Post C1) 0 0) C24 140 [(0, .ref (ad w 0)), (1, .int i1), (2, .int i2), (3, .int r12)] [.int x27, .int (C24.1 0 15), .ref (ad w 0)] := by
            intro x27 ex27
            have hw := hw x27 ex27
            refine g_iadd ok dX0_goesOn_140 ?_
            refine g_putI ok 0 rfl rfl in_X0 tyX0 tyX0_ok nmX0 15 (by decide) q197 rfl rfl rfl (putV_x rfl (by decide)) dX0_goesOn_141 (fun C28 eC28 => ?_)
            have hw := hw C28 eC28
            obtain ⟨n61, hw⟩ := hw
            exact gw_X0_goesOn_l144 ok n61 C28 i1 i2 r12 hw
          refine g_icmp_ne (tgt := 139) ok dX0_goesOn_132 (by decide) (fun c25 => ?_) (fun c25 => ?_)
          · refine g_iconst (v := 0) ok dX0_goesOn_139 (by decide) ?_
            exact (kj26 _ (by simp only [if_neg c25]))
          · refine g_iconst (v := 1) ok dX0_goesOn_135 (by decide) ?_
            refine g_goto (tgt := 140) ok dX0_goesOn_136 (by decide) ?_
            exact (kj26 _ (by simp only [if_pos c25]))
        refine g_icmp_ne (tgt := 118) ok dX0_goesOn_111 (by decide) (fun c21 => ?_) (fun c21 => ?_)
        · refine g_iconst (v := 0) ok dX0_goesOn_118 (by decide) ?_
          exact (kj22 _ (by simp only [if_neg c21]))
        · refine g_iload_n ok 3 dX0_goesOn_114 rfl ?_
          refine g_goto (tgt := 119) ok dX0_goesOn_115 (by decide) ?_
          exact (kj22 _ (by simp only [if_pos c21]))
      refine g_if_ge (tgt := 79) ok dX0_goesOn_72 (by decide) (fun c13 => ?_) (fun c13 => ?_)
      · refine g_iload_n ok 0 dX0_goesOn_79 rfl ?_
        refine g_callS ok [.int r12] cf_X0_isLetter q946 (mc_X0_isLetter ok.wo (xL x) C10 r12) rfl rfl (Nat.le_of_ble_eq_true rfl) ⟨by decide, by decide⟩ ⟨by decide, by decide⟩ dX0_goesOn_80 (resI ?_)
        have kj17 : G w x 5 0 0 (QM w x (fun v C1 => v = none ∧ Post C1) 0 0) C10 102 [(0, .ref (ad w 0)), (1, .int i1), (2, .int i2), (3, .int r12)] [.int (if (v_X0_isLetter r12) = 0 then (if (v_X0_isDigit r12) = 0 then (3 : Int32) else 2) else 1), .ref (ad w 0)] := by
          exact (kj18 _ (by simp only [if_pos c13]))
        refine g_if_eq (tgt := 90) ok dX0_goesOn_83 (by decide) (fun c14 => ?_) (fun c14 => ?_)
        · refine g_iload_n ok 0 dX0_goesOn_90 rfl ?_
          refine g_callS ok [.int r12] cf_X0_isDigit q949 (mc_X0_isDigit ok.wo (xL x) C10 r12) rfl rfl (Nat.le_of_ble_eq_true rfl) ⟨by decide, by decide⟩ ⟨by decide, by decide⟩ dX0_goesOn_91 (resI ?_)
          have kj16 : G w x 5 0 0 (QM w x (fun v C1 => v = none ∧ Post C1) 0 0) C10 102 [(0, .ref (ad w 0)), (1, .int i1), (2, .int i2), (3, .int r12)] [.int (if (v_X0_isDigit r12) = 0 then (3 : Int32) else 2), .ref (ad w 0)] := by
            simp only [if_pos c14] at kj17
            exact kj17
          refine g_if_eq (tgt := 101) ok dX0_goesOn_94 (by decide) (fun c15 => ?_) (fun c15 => ?_)
          · refine g_iconst (v := 3) ok dX0_goesOn_101 (by decide) ?_
            simp only [if_pos c15] at kj16
            exact g_sub [1, 2, 3, 0] [(0, .ref (ad w 0)), (1, .int i1), (2, .int i2), (3, .int r12)] rfl kj16
          · refine g_iconst (v := 2) ok dX0_goesOn_97 (by decide) ?_
            refine g_goto (tgt := 102) ok dX0_goesOn_98 (by decide) ?_
            simp only [if_neg c15] at kj16
            exact g_sub [1, 2, 3, 0] [(0, .ref (ad w 0)), (1, .int i1), (2, .int i2), (3, .int r12)] rfl kj16
        · refine g_iconst (v := 1) ok dX0_goesOn_86 (by decide) ?_
          refine g_goto (tgt := 102) ok dX0_goesOn_87 (by decide) ?_
          simp only [if_neg c14] at kj17
          exact g_sub [1, 2, 3, 0] [(0, .ref (ad w 0)), (1, .int i1), (2, .int i2), (3, .int r12)] rfl kj17
      · refine g_iconst (v := 0) ok dX0_goesOn_75 (by decide) ?_
        refine g_goto (tgt := 102) ok dX0_goesOn_76 (by decide) ?_
        exact g_sub [1, 2, 3, 0] [(0, .ref (ad w 0)), (1, .int i1), (2, .int i2), (3, .int r12)] rfl (kj18 _ (by simp only [if_neg c13]))
    · have hw := hw.1 c9
      refine g_aload_n ok 0 dX0_goesOn_40 rfl ?_
      refine g_dup ok dX0_goesOn_41 rfl ?_
      refine g_get ok 0 rfl rfl in_X0 15 (by decide) q197 rfl dX0_goesOn_42 ?_
      refine g_iconst (v := 1) ok dX0_goesOn_45 (by decide) ?_
      refine g_iadd ok dX0_goesOn_46 ?_
      refine g_putI ok 0 rfl rfl in_X0 tyX0 tyX0_ok nmX0 15 (by decide) q197 rfl rfl rfl (putV_x rfl (by decide)) dX0_goesOn_47 (fun C62 eC62 => ?_)
      have hw := hw C62 eC62
      refine g_goto (tgt := 27) ok dX0_goesOn_50 (by decide) ?_
      exact ih C62 i1 i2 hw
set_option maxHeartbeats 4000000 in
set_option maxRecDepth 100000 in
theorem gw_X0_goesOn {w : WD} (wk : wOk w) (l : Launch) (C : CS)  {Post : CS → Prop} (hw : wp_X0_goesOn Post C ) : MC w l yX0_goesOn cX0_goesOn 5 none 2 0 0 [.ref (ad w 0)] C (fun v C1 => v = none ∧ Post C1) := by
  unfold wp_X0_goesOn at hw
  refine MC.of wk (by decide) (Nat.le_of_ble_eq_true rfl) (fun x hx ok => ?_)
  subst hx
  show G w x 5 0 0 (QM w x _ 0 0) C 0 [(0, .ref (ad w 0))] []
  refine g_aload_n ok 0 dX0_goesOn_0 rfl ?_
  refine g_get ok 0 rfl rfl in_X0 13 (by decide) q195 rfl dX0_goesOn_1 ?_
  refine g_iconst (v := 1) ok dX0_goesOn_4 (by decide) ?_
  have kj4 : ∀ x5 : Int32, x5 = (if (C.1 0 13) = 1 then (1 : Int32) else (if (C.1 0 13) = 2 then (1 : Int32) else 0)) → G w x 5 0 0 (QM w x (fun v C1 => v = none ∧ Post C1) 0 0) C 21 [(0, .ref (ad w 0))] [.int x5] := by
    intro x5 ex5
    have hw := hw x5 ex5
    refine g_istore_n0 ok [(1, .int x5), (0, .ref (ad w 0))] dX0_goesOn_21 (by decide) rfl ?_
    refine g_aload_n ok 1 dX0_goesOn_22 rfl ?_
    refine g_get ok 0 rfl rfl in_X0 15 (by decide) q197 rfl dX0_goesOn_23 ?_
    refine g_istore_n ok (fun z => [(2, .int z), (1, .int x5), (0, .ref (ad w 0))]) dX0_goesOn_26 (by decide) (fun _ => rfl) (fun x6 ex6 => ?_)
    have hw := hw x6 ex6
    refine g_sub [2, 1, 0] [(0, .ref (ad w 0)), (1, .int x5), (2, .int x6)] rfl ?_
    obtain ⟨n63, hw⟩ := hw
    exact gw_X0_goesOn_l27 ok n63 C x5 x6 hw
  refine g_icmp_eq (tgt := 16) ok dX0_goesOn_5 (by decide) (fun c1 => ?_) (fun c1 => ?_)
  · refine g_iconst (v := 1) ok dX0_goesOn_16 (by decide) ?_
    refine g_goto (tgt := 21) ok dX0_goesOn_17 (by decide) ?_
    exact (kj4 _ (by simp only [if_pos c1]))
  · refine g_aload_n ok 0 dX0_goesOn_8 rfl ?_
    refine g_get ok 0 rfl rfl in_X0 13 (by decide) q195 rfl dX0_goesOn_9 ?_
    refine g_iconst (v := 2) ok dX0_goesOn_12 (by decide) ?_
    have kj3 : G w x 5 0 0 (QM w x (fun v C1 => v = none ∧ Post C1) 0 0) C 21 [(0, .ref (ad w 0))] [.int (if (C.1 0 13) = 2 then (1 : Int32) else 0)] := by
      exact (kj4 _ (by simp only [if_neg c1]))
    refine g_icmp_ne (tgt := 20) ok dX0_goesOn_13 (by decide) (fun c2 => ?_) (fun c2 => ?_)
    · refine g_iconst (v := 0) ok dX0_goesOn_20 (by decide) ?_
      simp only [if_neg c2] at kj3
      exact kj3
    · refine g_iconst (v := 1) ok dX0_goesOn_16 (by decide) ?_
      refine g_goto (tgt := 21) ok dX0_goesOn_17 (by decide) ?_
      simp only [if_pos c2] at kj3
      exact kj3
theorem no0 : ¬ ((0 : Int32) = 1 ∨ (0 : Int32) = 2 ∨ (0 : Int32) = 3) := by decide
theorem no4 : ¬ ((4 : Int32) = 1 ∨ (4 : Int32) = 2 ∨ (4 : Int32) = 3) := by decide
theorem spn_ge1 {P : Int32 → Bool} {tp : Nat → Int32} {L p : Nat} (h : p < L) (hp : P (tp p) = true) : p + 1 ≤ spn P tp L p := by
  rw [spn_step h hp]
  exact (spn_le (by omega)).1
theorem sp_X0_goesOn (C : CS) (t : TS) (L : Nat) (hp : p_X0_goesOn C t L) : wp_X0_goesOn (q_X0_goesOn C t L) C := by
  obtain ⟨ht, h13, h15, hpL, hen⟩ := hp
  have hL := ht.1
  obtain ⟨p, b0, k0, val, en⟩ := t
  simp only at h13 h15 hpL hen
  unfold q_X0_goesOn stp
  simp only
  generalize htp : C.2.1 43 = tp at *
  have hbt : ∀ D, g0 C D → ∀ i, i ≤ 96 → p_X0_byteAt D (nI i) ∧ v_X0_byteAt D (nI i) = btA tp L i := by
    intro D hD i hi
    have := bt_at (hD.tp ht).1 hi
    rw [(hD.tp ht).2, htp] at this
    exact this
  generalize hq : spn isSp tp L p = q
  have hqL : p ≤ q ∧ q ≤ L := by rw [← hq]; exact spn_le hpL
  -- glued or not
  have glu : ∀ x5 : Int32, x5 = (if k0 = 1 then (1 : Int32) else (if k0 = 2 then (1 : Int32) else 0)) → ((¬ x5 = 0 ∧ p = q) ↔ nI q = en) := by
    intro x5 e5
    rcases hen with ⟨a1, a2⟩ | ⟨⟨a1, a3⟩, a2⟩
    · have n0 : ¬ x5 = 0 := by
        rw [e5]
        rcases a1 with z | z
        · rw [if_pos z]; decide
        · by_cases y : k0 = 1
          · rw [if_pos y]; decide
          · rw [if_neg y, if_pos z]; decide
      have a2 : en = nI p := a2
      rw [a2, nI_eq (by omega) (by omega)]
      exact ⟨fun z => z.2.symm, fun z => ⟨n0, z.symm⟩⟩
    · have n0 : x5 = 0 := by rw [e5, if_neg a1, if_neg a3]
      exact ⟨fun z => absurd n0 z.1, fun z => absurd z (a2 q hqL.1 (by omega))⟩
  -- the end
  have fin : ∀ (D : CS) (x5 : Int32) (r k : Nat) (tk : Int32), g0 C D → x5 = (if k0 = 1 then (1 : Int32) else (if k0 = 2 then (1 : Int32) else 0)) → D.1 0 13 = tk → D.1 0 14 = nI q → D.1 0 15 = nI r → q ≤ r → r ≤ 96 → ∀ Post : CS → Prop, (¬ (nI q = en ∧ (tk = 1 ∨ tk = 2)) → ¬ (tk = 2 ∧ ¬ r - q ≤ 4) → Post D) → ((nI q = en ∧ (tk = 1 ∨ tk = 2)) ∨ (tk = 2 ∧ ¬ r - q ≤ 4) → Post (wI D 0 13 4)) → wp_X0_goesOn_j249 Post D x5 (nI p) := by
    intro D x5 r k tk hD e5 d13 d14 d15 hqr hr Post P1 P2 x39 e39
    have g := glu x5 e5
    rw [d14, d13] at e39
    have e39' : x39 = 0 ↔ ¬ (nI q = en ∧ (tk = 1 ∨ tk = 2)) := by
      rw [e39]
      by_cases c : x5 = 0
      · rw [if_pos c]
        refine ⟨fun _ z => (g.mpr z.1).1 c, fun _ => rfl⟩
      · rw [if_neg c]
        by_cases c2 : p = q
        · rw [if_pos (by rw [c2])]
          have ge := g.mp ⟨c, c2⟩
          by_cases c3 : tk = 1
          · rw [if_pos c3]; exact ⟨fun z => absurd z (by decide), fun z => absurd ⟨ge, Or.inl c3⟩ z⟩
          · rw [if_neg c3]
            by_cases c4 : tk = 2
            · rw [if_pos c4]; exact ⟨fun z => absurd z (by decide), fun z => absurd ⟨ge, Or.inr c4⟩ z⟩
            · rw [if_neg c4]; exact ⟨fun _ z => by rcases z.2 with y | y; exact c3 y; exact c4 y, fun _ => rfl⟩
        · rw [if_neg (fun z => c2 ((nI_eq (by omega) (by omega)).mp z))]
          exact ⟨fun _ z => c2 (g.mpr z.1).2, fun _ => rfl⟩
    have e4 : D.1 0 15 - D.1 0 14 ≤ 4 ↔ r - q ≤ 4 := by
      rw [d15, d14, pk_sub hqr, show (4 : Int32) = nI 4 from rfl, nI_leI (by omega) (by omega)]
    refine ⟨fun z => ⟨fun y => ⟨fun u => P1 (e39'.mp z) (fun v => v.2 (e4.mp u)), fun u C44 e44 => ?_⟩, fun y => P1 (e39'.mp z) (fun v => y (by rw [d13]; exact v.1))⟩, fun z C41 e41 => ?_⟩
    · rw [e44]; exact P2 (Or.inr ⟨by rw [← d13]; exact y, fun v => u (e4.mpr v)⟩)
    · rw [e41]; exact P2 (Or.inl (Classical.byContradiction fun v => z (e39'.mpr v)))
  -- letters and figures
  have H2 : ∀ (x5 c0 : Int32), x5 = (if k0 = 1 then (1 : Int32) else (if k0 = 2 then (1 : Int32) else 0)) → c0 = btA tp L q → ∀ (tk : Int32), ∀ Post : CS → Prop,
      (∀ (r : Nat) (D : CS), g0 C D → D.1 0 13 = tk → D.1 0 14 = nI q → D.1 0 15 = nI r → q ≤ r → r ≤ L → (tk = 1 → r = spn isL tp L q ∧ (q < r → D.1 0 16 = c0)) → (tk = 2 → r = spn isF tp L q ∧ (r - q ≤ 4 → D.1 0 16 = numV tp q (r - q))) → (¬ tk = 1 → ¬ tk = 2 → True) → wp_X0_goesOn_j249 Post D x5 (nI p)) →
      ∀ d r, r + d = L → q ≤ r → ∀ D, g0 C D → D.1 0 13 = tk → D.1 0 14 = nI q → D.1 0 15 = nI r → (tk = 1 ∨ tk = 2) → (tk = 1 → spn isL tp L q = spn isL tp L r ∧ (q < r → D.1 0 16 = c0)) → (tk = 2 → spn isF tp L q = spn isF tp L r ∧ (r - q ≤ 4 → D.1 0 16 = numV tp q (r - q))) → wp_X0_goesOn_l144 Post (d + 1) D x5 (nI p) c0 := by
    intro x5 c0 e5 ec tk Post K d
    induction d with
    | zero =>
      intro r hr hqr D hD d13 d14 d15 h12 hl hf
      have b := hbt D hD r (by omega)
      have bn : btA tp L r = -1 := by unfold btA; rw [if_neg (by omega)]
      have stop : wp_X0_goesOn_j249 Post D x5 (nI p) := K r D hD d13 d14 d15 hqr (by omega) (fun z => ⟨by rw [(hl z).1]; exact (spn_stop (P := isL) (tp := tp) (L := L) (p := r) (by omega)).symm, (hl z).2⟩) (fun z => ⟨by rw [(hf z).1]; exact (spn_stop (P := isF) (tp := tp) (L := L) (p := r) (by omega)).symm, (hf z).2⟩) (fun _ _ => trivial)
      have j166 : wp_X0_goesOn_j166 Post (fun C i1 i2 i3 => wp_X0_goesOn_l144 Post 0 C i1 i2 i3) D x5 (nI p) c0 := by
        refine ⟨fun z => ⟨by rw [d15]; exact b.1, fun r46 e46 r47 e47 => ⟨fun _ => stop, fun y => ?_⟩⟩, fun _ => stop⟩
        rw [d15, b.2, bn] at e46
        rw [e47, e46] at y
        exact absurd (by decide) y
      refine ⟨fun z => ⟨by rw [d15]; exact b.1, fun r58 e58 r59 e59 => ⟨fun _ => j166, fun y => ?_⟩⟩, fun _ => j166⟩
      rw [d15, b.2, bn] at e58
      rw [e59, e58] at y
      exact absurd (by decide) y
    | succ d ih =>
      intro r hr hqr D hD d13 d14 d15 h12 hl hf
      have b := hbt D hD r (by omega)
      have bn : btA tp L r = tp r := by unfold btA; rw [if_pos (by omega)]
      have j188 : (tk = 1 → isL (tp r) = true) → (tk = 2 → isF (tp r) = true) → wp_X0_goesOn_j188 Post (fun C i1 i2 i3 => wp_X0_goesOn_l144 Post (d + 1) C i1 i2 i3) D x5 (nI p) c0 := by
        intro w1 w2
        have e4 : 4 ≤ D.1 0 15 - D.1 0 14 ↔ 4 ≤ r - q := by
          rw [d15, d14, pk_sub hqr, show (4 : Int32) = nI 4 from rfl, nI_leI (by omega) (by omega)]
        refine ⟨⟨fun _ => ⟨⟨fun _ => trivial, fun _ => ⟨by rw [d15]; exact b.1, trivial⟩⟩, trivial⟩, fun _ => trivial⟩, fun x54 e54 C55 e55 C56 e56 => ?_⟩
        have f55 : C55.1 0 15 = nI r := by rw [e55, wIn (by decide)]; exact d15
        refine ih (r + 1) (by omega) (by omega) C56 (by rw [e56, e55]; exact (hD.w (by omega) _).w (by omega) _) (by rw [e56, wIn (by decide), e55, wIn (by decide)]; exact d13) (by rw [e56, wIn (by decide), e55, wIn (by decide)]; exact d14) ?_ h12 (fun z => ⟨?_, fun _ => ?_⟩) (fun z => ⟨?_, fun y => ?_⟩)
        · rw [e56, f55, wIs, show (1 : Int32) = nI 1 from rfl, nI_add]
        · rw [(hl z).1]; exact spn_step (by omega) (w1 z)
        · rw [e56, wIn (by decide), e55, wIs, e54, d13, if_neg (by rw [z]; decide)]
        · rw [(hf z).1]; exact spn_step (by omega) (w2 z)
        · rw [e56, wIn (by decide), e55, wIs, e54, d13, if_pos z, if_neg (fun u => by have := e4.mp u; omega), (hf z).2 (by omega), d15, b.2, bn, show r + 1 - q = (r - q) + 1 by omega, numV, if_pos (by omega), show q + (r - q) = r by omega]
      have stop : (tk = 1 → isL (tp r) = false) → (tk = 2 → isF (tp r) = false) → wp_X0_goesOn_j249 Post D x5 (nI p) := fun w1 w2 => K r D hD d13 d14 d15 hqr (by omega) (fun z => ⟨by rw [(hl z).1]; exact (spn_stop (P := isL) (tp := tp) (L := L) (p := r) (fun y => by rw [w1 z] at y; cases y.2)).symm, (hl z).2⟩) (fun z => ⟨by rw [(hf z).1]; exact (spn_stop (P := isF) (tp := tp) (L := L) (p := r) (fun y => by rw [w2 z] at y; cases y.2)).symm, (hf z).2⟩) (fun _ _ => trivial)
      have j166 : (tk = 1 → isL (tp r) = false) → wp_X0_goesOn_j166 Post (fun C i1 i2 i3 => wp_X0_goesOn_l144 Post (d + 1) C i1 i2 i3) D x5 (nI p) c0 := by
        intro w1
        refine ⟨fun z => ⟨by rw [d15]; exact b.1, fun r46 e46 r47 e47 => ⟨fun y => ?_, fun y => ?_⟩⟩, fun z => stop w1 (fun y => absurd (by rw [d13]; exact y) z)⟩
        · rw [d15, b.2, bn] at e46
          rw [e47, e46, isDig_eq] at y
          exact stop w1 (fun _ => y)
        · rw [d15, b.2, bn] at e46
          rw [e47, e46, isDig_eq, Bool.not_eq_false] at y
          exact j188 (fun u => absurd (u.symm.trans (d13.symm.trans z)) (by decide)) (fun _ => y)
      refine ⟨fun z => ⟨by rw [d15]; exact b.1, fun r58 e58 r59 e59 => ⟨fun y => ?_, fun y => ?_⟩⟩, fun z => j166 (fun y => absurd (by rw [d13]; exact y) z)⟩
      · rw [d15, b.2, bn] at e58
        rw [e59, e58, isLet_eq] at y
        exact j166 (fun _ => y)
      · rw [d15, b.2, bn] at e58
        rw [e59, e58, isLet_eq, Bool.not_eq_false] at y
        exact j188 (fun _ => y) (fun u => absurd (u.symm.trans (d13.symm.trans z)) (by decide))
  have gT : goT tp L p val en = if q = L then (q, q, 0, val, en) else if isL (tp q) = true then (spn isL tp L q, q, (if nI q = en then 4 else 1), tp q, nI (spn isL tp L q)) else if isF (tp q) = true then (spn isF tp L q, q, (if nI q = en then 4 else if spn isF tp L q - q ≤ 4 then 2 else 4), numV tp q (spn isF tp L q - q), nI (spn isF tp L q)) else (q + 1, q, 3, tp q, en) := by
    unfold goT
    rw [hq]
  rw [gT]
  intro x5 e5 x6 e6
  rw [h13] at e5
  rw [h15] at e6
  rw [e6]
  -- at q
  have M : ∀ D, g0 C D → D.1 0 15 = nI q → ∀ C10, C10 = wI D 0 14 (D.1 0 15) → p_X0_byteAt C10 (C10.1 0 14) ∧ (∀ r12 : Int32, r12 = v_X0_byteAt C10 (C10.1 0 14) → ∀ x19 : Int32, x19 = (if 0 ≤ r12 then (if (v_X0_isLetter r12) = 0 then (if (v_X0_isDigit r12) = 0 then (3 : Int32) else 2) else 1) else 0) → ∀ C20 : CS, C20 = wI C10 0 13 x19 → ∀ x23 : Int32, x23 = (if (C20.1 0 13) = 3 then r12 else 0) → ∀ C24 : CS, C24 = wI C20 0 16 x23 → ∀ x27 : Int32, x27 = (if (C24.1 0 13) = 3 then (1 : Int32) else 0) → ∀ C28 : CS, C28 = wI C24 0 15 ((C24.1 0 15) + x27) → ∃ m144, wp_X0_goesOn_l144 (fun C1 => g0 C C1 ∧ tk0 C1 (if q = L then (q, q, 0, val, en) else if isL (tp q) = true then (spn isL tp L q, q, (if nI q = en then 4 else 1), tp q, nI (spn isL tp L q)) else if isF (tp q) = true then (spn isF tp L q, q, (if nI q = en then 4 else if spn isF tp L q - q ≤ 4 then 2 else 4), numV tp q (spn isF tp L q - q), nI (spn isF tp L q)) else (q + 1, q, 3, tp q, en)) ∧ ((if q = L then (q, q, 0, val, en) else if isL (tp q) = true then (spn isL tp L q, q, (if nI q = en then 4 else 1), tp q, nI (spn isL tp L q)) else if isF (tp q) = true then (spn isF tp L q, q, (if nI q = en then 4 else if spn isF tp L q - q ≤ 4 then 2 else 4), numV tp q (spn isF tp L q - q), nI (spn isF tp L q)) else (q + 1, q, 3, tp q, en) : TS).2.2.1 = 1 ∨ (if q = L then (q, q, 0, val, en) else if isL (tp q) = true then (spn isL tp L q, q, (if nI q = en then 4 else 1), tp q, nI (spn isL tp L q)) else if isF (tp q) = true then (spn isF tp L q, q, (if nI q = en then 4 else if spn isF tp L q - q ≤ 4 then 2 else 4), numV tp q (spn isF tp L q - q), nI (spn isF tp L q)) else (q + 1, q, 3, tp q, en) : TS).2.2.1 = 2 ∨ (if q = L then (q, q, 0, val, en) else if isL (tp q) = true then (spn isL tp L q, q, (if nI q = en then 4 else 1), tp q, nI (spn isL tp L q)) else if isF (tp q) = true then (spn isF tp L q, q, (if nI q = en then 4 else if spn isF tp L q - q ≤ 4 then 2 else 4), numV tp q (spn isF tp L q - q), nI (spn isF tp L q)) else (q + 1, q, 3, tp q, en) : TS).2.2.1 = 3 → enP (if q = L then (q, q, 0, val, en) else if isL (tp q) = true then (spn isL tp L q, q, (if nI q = en then 4 else 1), tp q, nI (spn isL tp L q)) else if isF (tp q) = true then (spn isF tp L q, q, (if nI q = en then 4 else if spn isF tp L q - q ≤ 4 then 2 else 4), numV tp q (spn isF tp L q - q), nI (spn isF tp L q)) else (q + 1, q, 3, tp q, en)))) m144 C28 x5 (nI p) r12) := by
    intro D hD d15 C10 e10
    have a10 : C10.1 0 14 = nI q := by rw [e10, wIs]; exact d15
    have g10 : g0 C C10 := by rw [e10]; exact hD.w (by omega) _
    have b := hbt C10 g10 q (by omega)
    rw [a10]
    refine ⟨b.1, fun r12 e12 x19 e19 C20 e20 x23 e23 C24 e24 x27 e27 C28 e28 => ?_⟩
    rw [b.2] at e12
    have f20 : C20.1 0 13 = x19 := by rw [e20, wIs]
    have f24 : C24.1 0 13 = x19 := by rw [e24, wIn (by decide)]; exact f20
    have f25 : C24.1 0 15 = nI q := by rw [e24, wIn (by decide), e20, wIn (by decide), e10, wIn (by decide)]; exact d15
    have g28 : g0 C C28 := by rw [e28, e24, e20]; exact ((g10.w (by omega) _).w (by omega) _).w (by omega) _
    have a13 : C28.1 0 13 = x19 := by rw [e28, wIn (by decide)]; exact f24
    have a14 : C28.1 0 14 = nI q := by rw [e28, wIn (by decide), e24, wIn (by decide), e20, wIn (by decide)]; exact a10
    have a15 : C28.1 0 15 = nI q + x27 := by rw [e28, wIs, f25]
    have a16 : C28.1 0 16 = x23 := by rw [e28, wIn (by decide), e24, wIs]
    rw [f20] at e23
    rw [f24] at e27
    -- a token without letters and figures
    have one : ¬ x19 = 1 → ¬ x19 = 2 → ∀ Post : CS → Prop, wp_X0_goesOn_j249 Post C28 x5 (nI p) → ∃ m, wp_X0_goesOn_l144 Post m C28 x5 (nI p) r12 := by
      intro n1 n2 Post hw
      exact ⟨1, fun z => absurd (a13.symm.trans z) n1, fun _ => ⟨fun z => absurd (a13.symm.trans z) n2, fun _ => hw⟩⟩
    by_cases cL : q = L
    · have z12 : r12 = -1 := by rw [e12]; unfold btA; rw [if_neg (by omega)]
      have z19 : x19 = 0 := by rw [e19, z12, if_neg (by decide)]
      have z27 : x27 = 0 := by rw [e27, z19, if_neg (by decide)]
      simp only [if_pos cL]
      refine one (by rw [z19]; decide) (by rw [z19]; decide) _ (fin C28 x5 q 0 x19 g28 e5 a13 a14 (by rw [a15, z27]; exact Int32.add_zero _) (Nat.le_refl _) (by omega) _ (fun _ _ => ⟨g28, ⟨by rw [a13, z19], a14, by rw [a15, z27]; exact Int32.add_zero _, fun z => ?_⟩, fun z => ?_⟩) (fun z => ?_))
      · exact absurd z no0
      · exact absurd z no0
      · rcases z with z | z
        · rcases z.2 with y | y <;> rw [z19] at y <;> exact absurd y (by decide)
        · rw [z19] at z; exact absurd z.1 (by decide)
    have hlt : q < L := by omega
    have z12 : r12 = tp q := by rw [e12]; unfold btA; rw [if_pos hlt]
    have pos : (0 : Int32) ≤ r12 := by
      obtain ⟨m, m1, m2, m3⟩ := ht.2.2.2 q hlt
      rw [z12, ← htp, m2]
      exact (nI_leI (a := 0) (by omega) (by omega)).mpr (by omega)
    rw [if_pos pos] at e19
    simp only [if_neg cL]
    by_cases cl : isL (tp q) = true
    · have z19 : x19 = 1 := by rw [e19, if_neg (fun z => by rw [isLet_eq, z12, cl] at z; cases z)]
      have z27 : x27 = 0 := by rw [e27, z19, if_neg (by decide)]
      simp only [if_pos cl]
      refine ⟨_, H2 x5 r12 e5 e12 1 _ (fun r D1 hD1 b13 b14 b15 hqr hrL h1 _ _ => ?_) (L - q) q (by omega) (Nat.le_refl _) C28 g28 (by rw [a13, z19]) a14 (by rw [a15, z27]; exact Int32.add_zero _) (Or.inl rfl) (fun _ => ⟨rfl, fun z => absurd z (Nat.lt_irrefl _)⟩) (fun z => absurd z (by decide))⟩
      obtain ⟨hr, hv⟩ := h1 rfl
      have hr1 : q + 1 ≤ r := by rw [hr]; exact spn_ge1 hlt cl
      have zE : (nI q = en ∧ ((1 : Int32) = 1 ∨ (1 : Int32) = 2)) ∨ ((1 : Int32) = 2 ∧ ¬ r - q ≤ 4) → nI q = en := fun z => by
        rcases z with z | z
        · exact z.1
        · exact absurd z.1 (by decide)
      rw [← hr]
      refine fin D1 x5 r 0 1 hD1 e5 b13 b14 b15 hqr (by omega) _ (fun z _ => ⟨hD1, ⟨?_, b14, b15, fun _ => ?_⟩, fun _ => Or.inl ⟨?_, rfl⟩⟩) (fun z => ⟨hD1.w (by omega) _, ⟨?_, by rw [wIn (by decide)]; exact b14, by rw [wIn (by decide)]; exact b15, fun y => ?_⟩, fun y => ?_⟩)
      · rw [b13]; show _ = if nI q = en then 4 else 1; rw [if_neg (fun y => z ⟨y, Or.inl rfl⟩)]
      · rw [hv (by omega)]; exact z12
      · show (if nI q = en then (4 : Int32) else 1) = 1 ∨ _
        rw [if_neg (fun y => z ⟨y, Or.inl rfl⟩)]; exact Or.inl rfl
      · rw [wIs]; show _ = if nI q = en then 4 else 1; rw [if_pos (zE z)]
      · rw [if_pos (zE z)] at y; exact absurd y no4
      · rw [if_pos (zE z)] at y; exact absurd y no4
    simp only [if_neg cl]
    have nl : v_X0_isLetter r12 = 0 := by rw [isLet_eq, z12]; simpa using cl
    rw [if_pos nl] at e19
    by_cases cf : isF (tp q) = true
    · have z19 : x19 = 2 := by rw [e19, if_neg (fun z => by rw [isDig_eq, z12, cf] at z; cases z)]
      have z27 : x27 = 0 := by rw [e27, z19, if_neg (by decide)]
      have z23 : x23 = 0 := by rw [e23, z19, if_neg (by decide)]
      simp only [if_pos cf]
      refine ⟨_, H2 x5 r12 e5 e12 2 _ (fun r D1 hD1 b13 b14 b15 hqr hrL _ h2 _ => ?_) (L - q) q (by omega) (Nat.le_refl _) C28 g28 (by rw [a13, z19]) a14 (by rw [a15, z27]; exact Int32.add_zero _) (Or.inr rfl) (fun z => absurd z (by decide)) (fun _ => ⟨rfl, fun _ => by rw [a16, z23, Nat.sub_self]; rfl⟩)⟩
      obtain ⟨hr, hv⟩ := h2 rfl
      rw [← hr]
      have zt : (nI q = en ∧ ((2 : Int32) = 1 ∨ (2 : Int32) = 2)) ∨ ((2 : Int32) = 2 ∧ ¬ r - q ≤ 4) → (if nI q = en then (4 : Int32) else if r - q ≤ 4 then 2 else 4) = 4 := fun z => by
        rcases z with z | z
        · rw [if_pos z.1]
        · by_cases u : nI q = en
          · rw [if_pos u]
          · rw [if_neg u, if_neg z.2]
      refine fin D1 x5 r 0 2 hD1 e5 b13 b14 b15 hqr (by omega) _ (fun z y => ?_) (fun z => ⟨hD1.w (by omega) _, ⟨?_, by rw [wIn (by decide)]; exact b14, by rw [wIn (by decide)]; exact b15, fun y => ?_⟩, fun y => ?_⟩)
      · have ze : ¬ nI q = en := fun u => z ⟨u, Or.inr rfl⟩
        have y4 : r - q ≤ 4 := Classical.byContradiction fun u => y ⟨rfl, u⟩
        refine ⟨hD1, ⟨?_, b14, b15, fun _ => hv y4⟩, fun _ => Or.inl ⟨?_, rfl⟩⟩
        · rw [b13]; show _ = if nI q = en then 4 else if r - q ≤ 4 then 2 else 4; rw [if_neg ze, if_pos y4]
        · show (if nI q = en then (4 : Int32) else if r - q ≤ 4 then 2 else 4) = 1 ∨ (if nI q = en then (4 : Int32) else if r - q ≤ 4 then 2 else 4) = 2
          rw [if_neg ze, if_pos y4]; exact Or.inr rfl
      · rw [wIs]; exact (zt z).symm
      · rw [zt z] at y; exact absurd y no4
      · rw [zt z] at y; exact absurd y no4
    · have z19 : x19 = 3 := by rw [e19, if_pos (by rw [isDig_eq, z12]; simpa using cf)]
      have z27 : x27 = 1 := by rw [e27, z19, if_pos rfl]
      have z23 : x23 = tp q := by rw [e23, z19, if_pos rfl]; exact z12
      have a15' : C28.1 0 15 = nI (q + 1) := by rw [a15, z27, show (1 : Int32) = nI 1 from rfl, nI_add]
      simp only [if_neg cf]
      refine one (by rw [z19]; decide) (by rw [z19]; decide) _ (fin C28 x5 (q + 1) 0 x19 g28 e5 a13 a14 a15' (by omega) (by omega) _ (fun _ _ => ⟨g28, ⟨by rw [a13, z19], a14, a15', fun _ => by rw [a16, z23]⟩, fun _ => Or.inr ⟨⟨(by decide : ¬ (3 : Int32) = 1), (by decide : ¬ (3 : Int32) = 2)⟩, fun p2 h1 h2 => ?_⟩⟩) (fun z => ?_))
      · show ¬ nI p2 = en
        have h1 : q + 1 ≤ p2 := h1
        rcases hen with ⟨u1, u2⟩ | ⟨u1, u2⟩
        · have u2 : en = nI p := u2
          rw [u2, nI_eq (by omega) (by omega)]
          omega
        · exact u2 p2 (by show p ≤ p2; omega) h2
      · rcases z with z | z
        · rcases z.2 with y | y <;> rw [z19] at y <;> exact absurd y (by decide)
        · rw [z19] at z; exact absurd z.1 (by decide)
  -- spaces
  have H1 : ∀ Post : CS → Prop, (∀ D, g0 C D → D.1 0 15 = nI q → ∀ C10, C10 = wI D 0 14 (D.1 0 15) → p_X0_byteAt C10 (C10.1 0 14) ∧ (∀ r12 : Int32, r12 = v_X0_byteAt C10 (C10.1 0 14) → ∀ x19 : Int32, x19 = (if 0 ≤ r12 then (if (v_X0_isLetter r12) = 0 then (if (v_X0_isDigit r12) = 0 then (3 : Int32) else 2) else 1) else 0) → ∀ C20 : CS, C20 = wI C10 0 13 x19 → ∀ x23 : Int32, x23 = (if (C20.1 0 13) = 3 then r12 else 0) → ∀ C24 : CS, C24 = wI C20 0 16 x23 → ∀ x27 : Int32, x27 = (if (C24.1 0 13) = 3 then (1 : Int32) else 0) → ∀ C28 : CS, C28 = wI C24 0 15 ((C24.1 0 15) + x27) → ∃ m144, wp_X0_goesOn_l144 Post m144 C28 x5 (nI p) r12)) → ∀ d r, r + d = L → spn isSp tp L r = q → ∀ D, g0 C D → D.1 0 15 = nI r → wp_X0_goesOn_l27 Post (d + 1) D x5 (nI p) := by
    intro Post M d
    induction d with
    | zero =>
      intro r hr hs D hD d15
      have b := hbt D hD r (by omega)
      have hrq : r = q := by rw [← hs]; exact (spn_stop (P := isSp) (tp := tp) (L := L) (p := r) (by omega)).symm
      refine ⟨by rw [d15]; exact b.1, fun r8 e8 => ⟨fun z => ?_, fun z C10 e10 => ?_⟩⟩
      · rw [d15, b.2] at e8
        unfold btA at e8
        rw [if_neg (by omega)] at e8
        rw [e8] at z
        exact absurd z (by decide)
      · exact M D hD (by rw [d15, hrq]) C10 e10
    | succ d ih =>
      intro r hr hs D hD d15
      have b := hbt D hD r (by omega)
      have bn : btA tp L r = tp r := by unfold btA; rw [if_pos (by omega)]
      refine ⟨by rw [d15]; exact b.1, fun r8 e8 => ⟨fun z C62 e62 => ?_, fun z C10 e10 => ?_⟩⟩
      · rw [d15, b.2, bn] at e8
        rw [e8] at z
        refine ih (r + 1) (by omega) ?_ C62 (by rw [e62]; exact hD.w (by omega) _) (by rw [e62, wIs, d15, show (1 : Int32) = nI 1 from rfl, nI_add])
        rw [← hs]
        exact (spn_step (by omega) (by unfold isSp; rw [z]; decide)).symm
      · rw [d15, b.2, bn] at e8
        rw [e8] at z
        have hrq : r = q := by rw [← hs]; exact (spn_stop (P := isSp) (tp := tp) (L := L) (p := r) (fun y => z (by have := y.2; unfold isSp at this; simpa using this))).symm
        exact M D hD (by rw [d15, hrq]) C10 e10
  exact ⟨_, H1 _ M (L - p) p (by omega) hq C (g0.rf C) h15⟩
theorem mc_X0_goesOn {w : WD} (wk : wOk w) (l : Launch) (C : CS)  (t : TS) (L : Nat) (hp : p_X0_goesOn C t L) : MC w l yX0_goesOn cX0_goesOn 5 none 2 0 0 [.ref (ad w 0)] C (pVR (q_X0_goesOn C t L)) := MC.postVR (gw_X0_goesOn wk l C  (sp_X0_goesOn C t L hp))

