def lostR (r : Nat → Int32) : Int32 := lostS r (r 1).toNatClampNeg
def wearR (r : Nat → Int32) : Int32 := wearS r (r 1).toNatClampNeg
theorem thinks_f (C : CS) : frm [41] C (n_X3_thinks C) ∧ ∀ i, i < 76 → (n_X3_thinks C).2.1 41 i = C.2.1 36 i := by
  refine ⟨⟨rfl, rfl, fun j hj => ?_⟩, fun i hi => ?_⟩
  · unfold n_X3_thinks cpA
    funext i
    simp only [List.mem_singleton] at hj
    simp [hj]
  · unfold n_X3_thinks cpA
    simp [hi]
theorem back_f {C D : CS} (h : frm [36, 39, 40, 41, 49, 50] C D) (h41 : ∀ i, i < 76 → D.2.1 41 i = C.2.1 36 i) (h76 : ∀ i, 76 ≤ i → D.2.1 36 i = C.2.1 36 i) :
    frm [39, 40, 41, 49, 50] C (n_X3_putsBack D) ∧ ∀ i, i < 76 → (n_X3_putsBack D).2.1 41 i = C.2.1 36 i := by
  refine ⟨⟨h.1, h.2.1, fun j hj => ?_⟩, fun i hi => ?_⟩
  · funext i
    by_cases h36 : j = 36
    · subst h36
      unfold n_X3_putsBack cpA
      by_cases hi : i < 76
      · simp [hi, h41 i hi]
      · simp [hi, h76 i (by omega)]
    · have e := congrFun (h.2.2 j (fun z => by simp at z hj; omega)) i
      unfold n_X3_putsBack cpA
      simp [h36, e]
  · unfold n_X3_putsBack cpA
    simp [h41 i hi]
theorem cf_X3_behind : CfV yX3_behind "TwoGuildsModel" cX3_behind 5 (some .int) 2 := ⟨⟨by decide, by decide, by decide⟩, q75, q1647, q1645, q1646⟩
def p_X3_behind (C : CS) (a0 a1 : Int32) : Prop := rowD (C.2.1 36)
def bhR (r : Nat → Int32) (n : Nat) (what : Int32) : Int32 := if what = 0 then bestR (goR r (-1) n).1 (allN (goR r (-1) n).1) else if what = 1 then lostR (goR r (-1) n).1 else wearR (goR r (-1) n).1
def v_X3_behind (C : CS) (a0 a1 : Int32) : Int32 := if v_X3_in a0 0 100 = 0 then -1000000001 else if v_X3_in a1 0 2 = 0 then -1000000001 else bhR (C.2.1 36) a0.toNatClampNeg a1
def q_X3_behind (C : CS) (a0 a1 : Int32) (C1 : CS) : Prop := frm [39, 40, 41, 49, 50] C C1
def wp_X3_behind (Post : Int32 → CS → Prop) (C : CS) (a0 : Int32) (a1 : Int32) : Prop :=
  ∀ r1 : Int32, r1 = (v_X3_in a0 0 100) → 
    (r1 = 0 → 
    Post (-1000000001) C) ∧
    (¬ r1 = 0 → 
    ∀ r3 : Int32, r3 = (v_X3_in a1 0 2) → 
      (r3 = 0 → 
      Post (-1000000001) C) ∧
      (¬ r3 = 0 → 
      ∀ C5 : CS, C5 = (n_X3_thinks C) → 
        p_X3_goesOn C5 a0 (-1) ∧
        (∀ r7 : Int32, r7 = (v_X3_goesOn C5 a0 (-1)) → 
        ∀ C6 : CS, q_X3_goesOn C5 a0 (-1) C6 → 
        (a1 = 0 → 
        p_X3_bestOfAll C6 ∧
          (∀ r14 : Int32, r14 = (v_X3_bestOfAll C6) → 
          ∀ C13 : CS, q_X3_bestOfAll C6 C13 → 
          ∀ C15 : CS, C15 = (n_X3_putsBack C13) → 
          Post r14 C15)) ∧
        (¬ a1 = 0 → 
        ((a1 = 1 → 
            p_X3_lostMany C6 ∧
              (True)) ∧
            (¬ a1 = 1 → 
            p_X3_wearAll C6 ∧
              (True))) ∧
          (∀ x11 : Int32, x11 = (if a1 = 1 then (v_X3_lostMany C6) else (v_X3_wearAll C6)) → 
          ∀ C12 : CS, C12 = (n_X3_putsBack C6) → 
          Post x11 C12)))))
set_option maxHeartbeats 4000000 in
set_option maxRecDepth 100000 in
theorem gw_X3_behind {w : WD} (wk : wOk w) (l : Launch) (C : CS) (a0 : Int32) (a1 : Int32) {Post : Int32 → CS → Prop} (hw : wp_X3_behind Post C a0 a1) : MC w l yX3_behind cX3_behind 5 (some .int) 5 0 0 [.ref (ad w 1), .int a0, .int a1] C (fun v C1 => ∃ r : Int32, v = some (.int r) ∧ Post r C1) := by
  unfold wp_X3_behind at hw
  refine MC.of wk (by decide) (Nat.le_of_ble_eq_true rfl) (fun x hx ok => ?_)
  subst hx
  show G w x 5 0 0 (QM w x _ 0 0) C 0 [(0, .ref (ad w 1)), (1, .int a0), (2, .int a1)] []
  refine g_iload_n ok 1 dX3_behind_0 rfl ?_
  refine g_iconst (v := 0) ok dX3_behind_1 (by decide) ?_
  refine g_bipush (v := 100) ok dX3_behind_2 (by decide) ?_
  refine g_callSI ok [.int a0, .int 0, .int 100] cf_X3_in q1474 (mc_X3_in ok.wo (xL x) C a0 0 100) rfl rfl (Nat.le_of_ble_eq_true rfl) ⟨by decide, by decide⟩ ⟨by decide, by decide⟩ dX3_behind_4 ?_
  refine g_nmI (fun r1 er1 => ?_)
  have hw := hw r1 er1
  refine g_if_eq (tgt := 19) ok dX3_behind_7 (by decide) (fun c2 => ?_) (fun c2 => ?_)
  · have hw := hw.1 c2
    refine g_ldc (v := -1000000001) ok q1477 dX3_behind_19 ?_
    exact g_iret ok dX3_behind_21 ⟨_, rfl, hw⟩
  · have hw := hw.2 c2
    refine g_iload_n ok 2 dX3_behind_10 rfl ?_
    refine g_iconst (v := 0) ok dX3_behind_11 (by decide) ?_
    refine g_iconst (v := 2) ok dX3_behind_12 (by decide) ?_
    refine g_callSI ok [.int a1, .int 0, .int 2] cf_X3_in q1474 (mc_X3_in ok.wo (xL x) C a1 0 2) rfl rfl (Nat.le_of_ble_eq_true rfl) ⟨by decide, by decide⟩ ⟨by decide, by decide⟩ dX3_behind_13 ?_
    refine g_nmI (fun r3 er3 => ?_)
    have hw := hw r3 er3
    refine g_if_ne (tgt := 22) ok dX3_behind_16 (by decide) (fun c4 => ?_) (fun c4 => ?_)
    · have hw := hw.2 c4
      refine g_aload_n ok 0 dX3_behind_22 rfl ?_
      refine g_callVV ok [] cf_X3_thinks q1648 (mc_X3_thinks ok.wo (xL x) C) (recvF ok 1 rfl rfl) rfl rfl (Nat.le_of_ble_eq_true rfl) ⟨by decide, by decide⟩ ⟨by decide, by decide⟩ dX3_behind_23 ?_
      refine g_nmC (fun C5 eC5 => ?_)
      have hw := hw C5 eC5
      refine g_aload_n ok 0 dX3_behind_26 rfl ?_
      refine g_iload_n ok 1 dX3_behind_27 rfl ?_
      refine g_iconst (v := -1) ok dX3_behind_28 (by decide) ?_
      obtain ⟨hp, hw⟩ := hw
      refine g_callVIR ok [.int a0, .int (-1)] cf_X3_goesOn q1632 (mc_X3_goesOn ok.wo (xL x) C5 a0 (-1) hp) (recvF ok 1 rfl rfl) rfl rfl (Nat.le_of_ble_eq_true rfl) ⟨by decide, by decide⟩ ⟨by decide, by decide⟩ dX3_behind_29 (fun C6 eC6 => ?_)
      refine g_nmI (fun r7 er7 => ?_)
      have hw := hw r7 er7 C6 eC6
      refine g_istore_n0 ok [(3, .int r7), (0, .ref (ad w 1)), (1, .int a0), (2, .int a1)] dX3_behind_32 (by decide) rfl ?_
      refine g_iload_n ok 3 dX3_behind_33 rfl ?_
      refine g_if_ne (tgt := 44) ok dX3_behind_34 (by decide) (fun c8 => ?_) (fun c8 => ?_)
      · have hw := hw.2 c8
        refine g_iload_n ok 3 dX3_behind_44 rfl ?_
        refine g_iconst (v := 1) ok dX3_behind_45 (by decide) ?_
        obtain ⟨hr, hw⟩ := hw
        have kj10 : ∀ x11 : Int32, x11 = (if a1 = 1 then (v_X3_lostMany C6) else (v_X3_wearAll C6)) → G w x 5 0 0 (QM w x (fun v C1 => ∃ r : Int32, v = some (.int r) ∧ Post r C1) 0 0) C6 60 [(0, .ref (ad w 1))] [.int x11] := by
          intro x11 ex11
          have hw := hw x11 ex11
          refine g_istore0 ok [(4, .int x11), (0, .ref (ad w 1))] dX3_behind_60 (by decide) rfl ?_
          refine g_aload_n ok 1 dX3_behind_62 rfl ?_
          refine g_callVV ok [] cf_X3_putsBack q1664 (mc_X3_putsBack ok.wo (xL x) C6) (recvF ok 1 rfl rfl) rfl rfl (Nat.le_of_ble_eq_true rfl) ⟨by decide, by decide⟩ ⟨by decide, by decide⟩ dX3_behind_63 ?_
          refine g_nmC (fun C12 eC12 => ?_)
          have hw := hw C12 eC12
          refine g_iload ok 0 dX3_behind_66 rfl ?_
          exact g_iret ok dX3_behind_68 ⟨_, rfl, hw⟩
        have hw := hr
        refine g_icmp_ne (tgt := 56) ok dX3_behind_46 (by decide) (fun c9 => ?_) (fun c9 => ?_)
        · have hw := hw.2 c9
          refine g_aload_n ok 1 dX3_behind_56 rfl ?_
          obtain ⟨hp, hw⟩ := hw
          refine g_callVI ok [] cf_X3_wearAll q1660 (mc_X3_wearAll ok.wo (xL x) C6 hp) (recvF ok 1 rfl rfl) rfl rfl (Nat.le_of_ble_eq_true rfl) ⟨by decide, by decide⟩ ⟨by decide, by decide⟩ dX3_behind_57 ?_
          exact g_sub [1] [(0, .ref (ad w 1))] rfl (kj10 _ (by simp only [if_neg c9]))
        · have hw := hw.1 c9
          refine g_aload_n ok 1 dX3_behind_49 rfl ?_
          obtain ⟨hp, hw⟩ := hw
          refine g_callVI ok [] cf_X3_lostMany q1656 (mc_X3_lostMany ok.wo (xL x) C6 hp) (recvF ok 1 rfl rfl) rfl rfl (Nat.le_of_ble_eq_true rfl) ⟨by decide, by decide⟩ ⟨by decide, by decide⟩ dX3_behind_50 ?_
          refine g_goto (tgt := 60) ok dX3_behind_53 (by decide) ?_
          exact g_sub [1] [(0, .ref (ad w 1))] rfl (kj10 _ (by simp only [if_pos c9]))
      · have hw := hw.1 c8
        refine g_aload_n ok 1 dX3_behind_37 rfl ?_
        obtain ⟨hp, hw⟩ := hw
        refine g_callVIR ok [] cf_X3_bestOfAll q1652 (mc_X3_bestOfAll ok.wo (xL x) C6 hp) (recvF ok 1 rfl rfl) rfl rfl (Nat.le_of_ble_eq_true rfl) ⟨by decide, by decide⟩ ⟨by decide, by decide⟩ dX3_behind_38 (fun C13 eC13 => ?_)
        refine g_nmI (fun r14 er14 => ?_)
        have hw := hw r14 er14 C13 eC13
        refine g_goto (tgt := 60) ok dX3_behind_41 (by decide) ?_
        refine g_istore0 ok [(4, .int r14), (3, .int r7), (0, .ref (ad w 1)), (1, .int a0), (2, .int a1)] dX3_behind_60 (by decide) rfl ?_
        refine g_aload_n ok 2 dX3_behind_62 rfl ?_
        refine g_callVV ok [] cf_X3_putsBack q1664 (mc_X3_putsBack ok.wo (xL x) C13) (recvF ok 1 rfl rfl) rfl rfl (Nat.le_of_ble_eq_true rfl) ⟨by decide, by decide⟩ ⟨by decide, by decide⟩ dX3_behind_63 ?_
        refine g_nmC (fun C15 eC15 => ?_)
        have hw := hw C15 eC15
        refine g_iload ok 0 dX3_behind_66 rfl ?_
        exact g_iret ok dX3_behind_68 ⟨_, rfl, hw⟩
    · have hw := hw.1 c4
      refine g_ldc (v := -1000000001) ok q1477 dX3_behind_19 ?_
      exact g_iret ok dX3_behind_21 ⟨_, rfl, hw⟩
theorem sp_X3_behind (C : CS) (a0 a1 : Int32) (hp : p_X3_behind C a0 a1) : wp_X3_behind (fun r C1 => r = v_X3_behind C a0 a1 ∧ q_X3_behind C a0 a1 C1) C a0 a1 := by
  intro r1 e1
  refine ⟨fun c => ⟨by unfold v_X3_behind; rw [← e1, if_pos c], frm.rf _ _⟩, fun c r3 e3 => ⟨fun c3 => ⟨by unfold v_X3_behind; rw [← e1, if_neg c, ← e3, if_pos c3], frm.rf _ _⟩, fun c3 C5 e5 => ?_⟩⟩
  have c' := c
  rw [e1, in_iff] at c'
  obtain ⟨n, rfl, -, hn⟩ := nI_btw (lo := 0) (hi := 100) c'.1 c'.2 (by decide)
  obtain ⟨t1, t2⟩ := thinks_f C
  rw [← e5] at t1 t2
  have h5 : C5.2.1 36 = C.2.1 36 := t1.2.2 36 (by decide)
  have hv : v_X3_behind C (nI n) a1 = bhR (C.2.1 36) n a1 := by unfold v_X3_behind; rw [← e1, if_neg c, ← e3, if_neg c3, cl_k (by omega)]
  refine ⟨⟨by rw [h5]; exact hp, n, rfl, hn⟩, fun r7 e7 C6 e6 => ?_⟩
  obtain ⟨f6, row6⟩ := e6
  rw [h5, cl_k (by omega)] at row6
  have hr6 : rowD (C6.2.1 36) := by rw [row6]; exact goR_row hp (-1) n
  have F6 : frm [36, 39, 40, 41, 49, 50] C C6 := (t1.mono (by decide)).tr (f6.mono (by decide))
  have k41 : ∀ i, i < 76 → C6.2.1 41 i = C.2.1 36 i := fun i hi => by rw [f6.2.2 41 (by decide)]; exact t2 i hi
  have k76 : ∀ i, 76 ≤ i → C6.2.1 36 i = C.2.1 36 i := fun i hi => by rw [row6]; exact goR_same hp (-1) n i (by omega)
  refine ⟨fun c4 => ⟨hr6, fun r14 e14 C13 e13 C15 e15 => ⟨?_, ?_⟩⟩, fun c4 => ⟨⟨fun _ => ⟨?_, trivial⟩, fun _ => ⟨?_, trivial⟩⟩, fun x11 e11 C12 e12 => ⟨?_, ?_⟩⟩⟩
  · rw [hv, bhR, if_pos c4, e14]; unfold v_X3_bestOfAll; rw [row6]
  · rw [e15]
    exact (back_f (F6.tr (e13.mono (by decide))) (fun i hi => by rw [e13.2.2 41 (by decide)]; exact k41 i hi) (fun i hi => by rw [e13.2.2 36 (by decide)]; exact k76 i hi)).1
  · obtain ⟨⟨N, e, hN⟩, -⟩ := hr6
    exact ⟨N, e, hN⟩
  · obtain ⟨⟨N, e, hN⟩, -⟩ := hr6
    exact ⟨N, e, hN⟩
  · rw [hv, bhR, if_neg c4, e11]
    unfold v_X3_lostMany v_X3_wearAll
    rw [row6]; rfl
  · rw [e12]; exact (back_f F6 k41 k76).1
theorem mc_X3_behind {w : WD} (wk : wOk w) (l : Launch) (C : CS) (a0 : Int32) (a1 : Int32) (hp : p_X3_behind C a0 a1) : MC w l yX3_behind cX3_behind 5 (some .int) 5 0 0 [.ref (ad w 1), .int a0, .int a1] C (pIR (v_X3_behind C a0 a1) (q_X3_behind C a0 a1)) := MC.postIR (gw_X3_behind wk l C a0 a1 (sp_X3_behind C a0 a1 hp))
theorem cf_X3_keepHome : CfV yX3_keepHome "TwoGuildsModel" cX3_keepHome 7 (some .int) 1 := ⟨⟨by decide, by decide, by decide⟩, q75, q1671, q1669, q1670⟩
def khS (r : Nat → Int32) (n : Nat) (g : Nat) (q : Int32 × Int32) : Int32 × Int32 :=
  ((if q.1 < 0 then nI g else (if bestR (goR r (nI g) n).1 (allN (goR r (nI g) n).1) ≤ q.2 then q.1 else nI g)),
   if (if q.1 < 0 then nI g else (if bestR (goR r (nI g) n).1 (allN (goR r (nI g) n).1) ≤ q.2 then q.1 else nI g)) = nI g then bestR (goR r (nI g) n).1 (allN (goR r (nI g) n).1) else q.2)
def p_X3_keepHome (C : CS) (a0 : Int32) : Prop := rowD (C.2.1 36)
def v_X3_keepHome (C : CS) (a0 : Int32) : Int32 := if v_X3_in a0 1 30 = 0 then -1000000001 else v_X3_told0 (itr (khS (C.2.1 36) a0.toNatClampNeg) (C.2.1 36 1).toNatClampNeg (-1, 0)).1
def q_X3_keepHome (C : CS) (a0 : Int32) (C1 : CS) : Prop := frm [39, 40, 41, 49, 50] C C1
def wp_X3_keepHome_l24 (Post : Int32 → CS → Prop) : Nat → CS → Int32 → Int32 → Int32 → Int32 → Prop
  | 0, _, _, _, _, _ => False
  | n + 1, C, i1, i2, i3, i4 => ((C.2.1 36 1) ≤ i4 → 
  ∀ r5 : Int32, r5 = (v_X3_told0 i2) → 
    Post r5 C) ∧
  (¬ (C.2.1 36 1) ≤ i4 → 
  p_X3_goesOn C i1 i4 ∧
    (∀ r7 : Int32, r7 = (v_X3_goesOn C i1 i4) → 
    ∀ C6 : CS, q_X3_goesOn C i1 i4 C6 → 
    p_X3_bestOfAll C6 ∧
    (∀ r9 : Int32, r9 = (v_X3_bestOfAll C6) → 
    ∀ C8 : CS, q_X3_bestOfAll C6 C8 → 
    ∀ C10 : CS, C10 = (n_X3_putsBack C8) → 
    ∀ x15 : Int32, x15 = (if i2 < 0 then i4 else (if r9 ≤ i3 then i2 else i4)) → 
    ∀ x18 : Int32, x18 = (if x15 = i4 then r9 else i3) → 
    ∀ x19 : Int32, x19 = (i4 + Int32.ofInt 1) → 
    wp_X3_keepHome_l24 Post n C10 i1 x15 x18 x19)))
def wp_X3_keepHome (Post : Int32 → CS → Prop) (C : CS) (a0 : Int32) : Prop :=
  ∀ r1 : Int32, r1 = (v_X3_in a0 1 30) → 
    (r1 = 0 → 
    Post (-1000000001) C) ∧
    (¬ r1 = 0 → 
    ∀ C3 : CS, C3 = (n_X3_thinks C) → 
      ∃ m24, wp_X3_keepHome_l24 Post m24 C3 a0 (-1) 0 0)
set_option maxHeartbeats 4000000 in
set_option maxRecDepth 100000 in
theorem gw_X3_keepHome_l24 {w : WD} {x : Cx} (ok : Ok w x cX3_keepHome 7 yX3_keepHome.cls (some .int) (rmL 5 0 0)) {Post : Int32 → CS → Prop} : ∀ (n : Nat) (C : CS) (i1 : Int32) (i2 : Int32) (i3 : Int32) (i4 : Int32), wp_X3_keepHome_l24 Post  n C i1 i2 i3 i4 → G w x 7 0 0 (QM w x (fun v C1 => ∃ r : Int32, v = some (.int r) ∧ Post r C1) 0 0) C 24 [(0, .ref (ad w 1)), (1, .int i1), (2, .int i2), (3, .int i3), (4, .int i4)] [] := by
  intro n
  induction n with
  | zero => intro C i1 i2 i3 i4 hw; exact hw.elim
  | succ n ih =>
    intro C i1 i2 i3 i4 hw
    unfold wp_X3_keepHome_l24 at hw
    refine g_iload ok 4 dX3_keepHome_24 rfl ?_
    refine g_aload_n ok 0 dX3_keepHome_26 rfl ?_
    refine g_get ok 1 rfl rfl in_X3 0 (by decide) q1359 rfl dX3_keepHome_27 ?_
    refine g_iconst (v := 1) ok dX3_keepHome_30 (by decide) ?_
    refine g_iald ok 36 rfl (by unfold vp_in; decide) 1 (by decide) dX3_keepHome_31 ?_
    refine g_icmp_ge (tgt := 90) ok dX3_keepHome_32 (by decide) (fun c4 => ?_) (fun c4 => ?_)
    · have hw := hw.1 c4
      refine g_iload_n ok 2 dX3_keepHome_90 rfl ?_
      refine g_callSI ok [.int i2] cf_X3_told0 q1597 (mc_X3_told0 ok.wo (xL x) C i2) rfl rfl (Nat.le_of_ble_eq_true rfl) ⟨by decide, by decide⟩ ⟨by decide, by decide⟩ dX3_keepHome_91 ?_
      refine g_nmI (fun r5 er5 => ?_)
      have hw := hw r5 er5
      exact g_iret ok dX3_keepHome_94 ⟨_, rfl, hw⟩
    · have hw := hw.2 c4
      refine g_aload_n ok 0 dX3_keepHome_35 rfl ?_
      refine g_iload_n ok 1 dX3_keepHome_36 rfl ?_
      refine g_iload ok 4 dX3_keepHome_37 rfl ?_
      obtain ⟨hp, hw⟩ := hw
      refine g_callVIR ok [.int i1, .int i4] cf_X3_goesOn q1632 (mc_X3_goesOn ok.wo (xL x) C i1 i4 hp) (recvF ok 1 rfl rfl) rfl rfl (Nat.le_of_ble_eq_true rfl) ⟨by decide, by decide⟩ ⟨by decide, by decide⟩ dX3_keepHome_39 (fun C6 eC6 => ?_)
      refine g_nmI (fun r7 er7 => ?_)
      have hw := hw r7 er7 C6 eC6
      refine g_istore0 ok [(5, .int r7), (0, .ref (ad w 1)), (1, .int i1), (2, .int i2), (3, .int i3), (4, .int i4)] dX3_keepHome_42 (by decide) rfl ?_
      refine g_aload_n ok 1 dX3_keepHome_44 rfl ?_
      obtain ⟨hp, hw⟩ := hw
      refine g_callVIR ok [] cf_X3_bestOfAll q1652 (mc_X3_bestOfAll ok.wo (xL x) C6 hp) (recvF ok 1 rfl rfl) rfl rfl (Nat.le_of_ble_eq_true rfl) ⟨by decide, by decide⟩ ⟨by decide, by decide⟩ dX3_keepHome_45 (fun C8 eC8 => ?_)
      refine g_nmI (fun r9 er9 => ?_)
      have hw := hw r9 er9 C8 eC8
      refine g_istore0 ok [(6, .int r9), (5, .int r7), (0, .ref (ad w 1)), (1, .int i1), (2, .int i2), (3, .int i3), (4, .int i4)] dX3_keepHome_48 (by decide) rfl ?_
      refine g_aload_n ok 2 dX3_keepHome_50 rfl ?_
      refine g_callVV ok [] cf_X3_putsBack q1664 (mc_X3_putsBack ok.wo (xL x) C8) (recvF ok 1 rfl rfl) rfl rfl (Nat.le_of_ble_eq_true rfl) ⟨by decide, by decide⟩ ⟨by decide, by decide⟩ dX3_keepHome_51 ?_
      refine g_nmC (fun C10 eC10 => ?_)
      have hw := hw C10 eC10
      refine g_iload_n ok 4 dX3_keepHome_54 rfl ?_
      have kj14 : ∀ x15 : Int32, x15 = (if i2 < 0 then i4 else (if r9 ≤ i3 then i2 else i4)) → G w x 7 0 0 (QM w x (fun v C1 => ∃ r : Int32, v = some (.int r) ∧ Post r C1) 0 0) C10 70 [(0, .ref (ad w 1)), (1, .int i1), (3, .int i3), (4, .int i4), (6, .int r9)] [.int x15] := by
        intro x15 ex15
        have hw := hw x15 ex15
        refine g_istore_n0 ok [(2, .int x15), (0, .ref (ad w 1)), (1, .int i1), (3, .int i3), (4, .int i4), (6, .int r9)] dX3_keepHome_70 (by decide) rfl ?_
        refine g_iload_n ok 0 dX3_keepHome_71 rfl ?_
        refine g_iload ok 4 dX3_keepHome_72 rfl ?_
        have kj17 : ∀ x18 : Int32, x18 = (if x15 = i4 then r9 else i3) → G w x 7 0 0 (QM w x (fun v C1 => ∃ r : Int32, v = some (.int r) ∧ Post r C1) 0 0) C10 83 [(0, .ref (ad w 1)), (1, .int i1), (2, .int x15), (4, .int i4)] [.int x18] := by
          intro x18 ex18
          have hw := hw x18 ex18
          refine g_istore_n0 ok [(3, .int x18), (0, .ref (ad w 1)), (1, .int i1), (2, .int x15), (4, .int i4)] dX3_keepHome_83 (by decide) rfl ?_
          refine g_iinc ok 4 (fun z => [(4, .int z), (3, .int x18), (0, .ref (ad w 1)), (1, .int i1), (2, .int x15)]) dX3_keepHome_84 rfl (by decide) (fun _ => rfl) (fun x19 ex19 => ?_)
          have hw := hw x19 ex19
          refine g_goto (tgt := 24) ok dX3_keepHome_87 (by decide) ?_
          refine g_sub [2, 3, 4, 1, 0] [(0, .ref (ad w 1)), (1, .int i1), (2, .int x15), (3, .int x18), (4, .int x19)] rfl ?_
          exact ih C10 i1 x15 x18 x19 hw
        refine g_icmp_ne (tgt := 82) ok dX3_keepHome_74 (by decide) (fun c16 => ?_) (fun c16 => ?_)
        · refine g_iload_n ok 3 dX3_keepHome_82 rfl ?_
          exact g_sub [1, 2, 0, 4] [(0, .ref (ad w 1)), (1, .int i1), (2, .int x15), (4, .int i4)] rfl (kj17 _ (by simp only [if_neg c16]))
        · refine g_iload ok 5 dX3_keepHome_77 rfl ?_
          refine g_goto (tgt := 83) ok dX3_keepHome_79 (by decide) ?_
          exact g_sub [1, 2, 0, 4] [(0, .ref (ad w 1)), (1, .int i1), (2, .int x15), (4, .int i4)] rfl (kj17 _ (by simp only [if_pos c16]))
      refine g_if_lt (tgt := 64) ok dX3_keepHome_55 (by decide) (fun c11 => ?_) (fun c11 => ?_)
      · refine g_iload ok 6 dX3_keepHome_64 rfl ?_
        refine g_goto (tgt := 70) ok dX3_keepHome_66 (by decide) ?_
        exact g_sub [2, 3, 5, 6, 0] [(0, .ref (ad w 1)), (1, .int i1), (3, .int i3), (4, .int i4), (6, .int r9)] rfl (kj14 _ (by simp only [if_pos c11]))
      · refine g_iload ok 0 dX3_keepHome_58 rfl ?_
        refine g_iload_n ok 5 dX3_keepHome_60 rfl ?_
        have kj13 : G w x 7 0 0 (QM w x (fun v C1 => ∃ r : Int32, v = some (.int r) ∧ Post r C1) 0 0) C10 70 [(0, .ref (ad w 1)), (1, .int i1), (3, .int i3), (4, .int i4), (6, .int r9)] [.int (if r9 ≤ i3 then i2 else i4)] := by
          exact (kj14 _ (by simp only [if_neg c11]))
        refine g_icmp_le (tgt := 69) ok dX3_keepHome_61 (by decide) (fun c12 => ?_) (fun c12 => ?_)
        · refine g_iload_n ok 4 dX3_keepHome_69 rfl ?_
          simp only [if_pos c12] at kj13
          exact g_sub [2, 3, 5, 6, 0] [(0, .ref (ad w 1)), (1, .int i1), (3, .int i3), (4, .int i4), (6, .int r9)] rfl kj13
        · refine g_iload ok 6 dX3_keepHome_64 rfl ?_
          refine g_goto (tgt := 70) ok dX3_keepHome_66 (by decide) ?_
          simp only [if_neg c12] at kj13
          exact g_sub [2, 3, 5, 6, 0] [(0, .ref (ad w 1)), (1, .int i1), (3, .int i3), (4, .int i4), (6, .int r9)] rfl kj13
set_option maxHeartbeats 4000000 in
set_option maxRecDepth 100000 in
theorem gw_X3_keepHome {w : WD} (wk : wOk w) (l : Launch) (C : CS) (a0 : Int32) {Post : Int32 → CS → Prop} (hw : wp_X3_keepHome Post C a0) : MC w l yX3_keepHome cX3_keepHome 7 (some .int) 5 0 0 [.ref (ad w 1), .int a0] C (fun v C1 => ∃ r : Int32, v = some (.int r) ∧ Post r C1) := by
  unfold wp_X3_keepHome at hw
  refine MC.of wk (by decide) (Nat.le_of_ble_eq_true rfl) (fun x hx ok => ?_)
  subst hx
  show G w x 7 0 0 (QM w x _ 0 0) C 0 [(0, .ref (ad w 1)), (1, .int a0)] []
  refine g_iload_n ok 1 dX3_keepHome_0 rfl ?_
  refine g_iconst (v := 1) ok dX3_keepHome_1 (by decide) ?_
  refine g_bipush (v := 30) ok dX3_keepHome_2 (by decide) ?_
  refine g_callSI ok [.int a0, .int 1, .int 30] cf_X3_in q1474 (mc_X3_in ok.wo (xL x) C a0 1 30) rfl rfl (Nat.le_of_ble_eq_true rfl) ⟨by decide, by decide⟩ ⟨by decide, by decide⟩ dX3_keepHome_4 ?_
  refine g_nmI (fun r1 er1 => ?_)
  have hw := hw r1 er1
  refine g_if_ne (tgt := 13) ok dX3_keepHome_7 (by decide) (fun c2 => ?_) (fun c2 => ?_)
  · have hw := hw.2 c2
    refine g_aload_n ok 0 dX3_keepHome_13 rfl ?_
    refine g_callVV ok [] cf_X3_thinks q1648 (mc_X3_thinks ok.wo (xL x) C) (recvF ok 1 rfl rfl) rfl rfl (Nat.le_of_ble_eq_true rfl) ⟨by decide, by decide⟩ ⟨by decide, by decide⟩ dX3_keepHome_14 ?_
    refine g_nmC (fun C3 eC3 => ?_)
    have hw := hw C3 eC3
    refine g_iconst (v := -1) ok dX3_keepHome_17 (by decide) ?_
    refine g_istore_n0 ok [(2, .int (-1)), (0, .ref (ad w 1)), (1, .int a0)] dX3_keepHome_18 (by decide) rfl ?_
    refine g_iconst (v := 0) ok dX3_keepHome_19 (by decide) ?_
    refine g_istore_n0 ok [(3, .int 0), (2, .int (-1)), (0, .ref (ad w 1)), (1, .int a0)] dX3_keepHome_20 (by decide) rfl ?_
    refine g_iconst (v := 0) ok dX3_keepHome_21 (by decide) ?_
    refine g_istore0 ok [(4, .int 0), (3, .int 0), (2, .int (-1)), (0, .ref (ad w 1)), (1, .int a0)] dX3_keepHome_22 (by decide) rfl ?_
    refine g_sub [3, 4, 2, 1, 0] [(0, .ref (ad w 1)), (1, .int a0), (2, .int (-1)), (3, .int 0), (4, .int 0)] rfl ?_
    obtain ⟨n20, hw⟩ := hw
    exact gw_X3_keepHome_l24 ok n20 C3 a0 (-1) 0 0 hw
  · have hw := hw.1 c2
    refine g_ldc (v := -1000000001) ok q1477 dX3_keepHome_10 ?_
    exact g_iret ok dX3_keepHome_12 ⟨_, rfl, hw⟩
theorem sp_X3_keepHome (C : CS) (a0 : Int32) (hp : p_X3_keepHome C a0) : wp_X3_keepHome (fun r C1 => r = v_X3_keepHome C a0 ∧ q_X3_keepHome C a0 C1) C a0 := by
  intro r1 e1
  refine ⟨fun c => ⟨by unfold v_X3_keepHome; rw [← e1, if_pos c], frm.rf _ _⟩, fun c C3 e3 => ?_⟩
  have c' := c
  rw [e1, in_iff] at c'
  obtain ⟨n, rfl, -, hn⟩ := nI_btw (lo := 1) (hi := 30) c'.1 c'.2 (by decide)
  obtain ⟨t1, t2⟩ := thinks_f C
  rw [← e3] at t1 t2
  have hv : v_X3_keepHome C (nI n) = v_X3_told0 (itr (khS (C.2.1 36) n) (C.2.1 36 1).toNatClampNeg (-1, 0)).1 := by unfold v_X3_keepHome; rw [← e1, if_neg c, cl_k (by omega)]
  obtain ⟨N, e, hN⟩ := hp.1
  rw [e, cl_k (by omega)] at hv
  have H : ∀ d g, g + d = N → ∀ C1 : CS, frm [39, 40, 41, 49, 50] C C1 → (∀ i, i < 76 → C1.2.1 41 i = C.2.1 36 i) → wp_X3_keepHome_l24 (fun r C1 => r = v_X3_keepHome C (nI n) ∧ q_X3_keepHome C (nI n) C1) (d + 1) C1 (nI n) (itr (khS (C.2.1 36) n) g (-1, 0)).1 (itr (khS (C.2.1 36) n) g (-1, 0)).2 (nI g) := by
    intro d
    induction d with
    | zero =>
      intro g hg C1 hf h41
      have h36 : C1.2.1 36 = C.2.1 36 := hf.2.2 36 (by decide)
      have eg : g = N := by omega
      subst eg
      refine ⟨fun _ r5 e5 => ⟨by rw [hv, e5], hf⟩, fun c => absurd ?_ c⟩
      rw [h36, e, nI_leI (by omega) (by omega)]; omega
    | succ d ih =>
      intro g hg C1 hf h41
      have h36 : C1.2.1 36 = C.2.1 36 := hf.2.2 36 (by decide)
      refine ⟨fun c => ?_, fun _ => ⟨⟨by rw [h36]; exact hp, n, rfl, by omega⟩, fun r7 e7 C6 e6 => ?_⟩⟩
      · rw [h36, e, nI_leI (by omega) (by omega)] at c; omega
      · obtain ⟨f6, row6⟩ := e6
        rw [h36, cl_k (by omega)] at row6
        have hr6 : rowD (C6.2.1 36) := by rw [row6]; exact goR_row hp (nI g) n
        refine ⟨hr6, fun r9 e9 C8 e8 C10 e10 x15 e15 x18 e18 x19 e19 => ?_⟩
        have F8 : frm [36, 39, 40, 41, 49, 50] C C8 := ((hf.mono (by decide)).tr (f6.mono (by decide))).tr (e8.mono (by decide))
        obtain ⟨b1, b2⟩ := back_f F8 (fun i hi => by rw [e8.2.2 41 (by decide), f6.2.2 41 (by decide)]; exact h41 i hi) (fun i hi => by rw [e8.2.2 36 (by decide), row6]; exact goR_same hp (nI g) n i (by omega))
        rw [← e10] at b1 b2
        have e9 : r9 = bestR (goR (C.2.1 36) (nI g) n).1 (allN (goR (C.2.1 36) (nI g) n).1) := by rw [e9]; unfold v_X3_bestOfAll; rw [row6]
        have e2 : itr (khS (C.2.1 36) n) (g + 1) (-1, 0) = (x15, x18) := by rw [itr, khS, ← e9, ← e15, ← e18]
        have h3 := ih (g + 1) (by omega) C10 b1 b2
        rw [e2] at h3
        rw [e19, o1, nI_add]
        exact h3
  exact ⟨N + 1, H N 0 (by omega) C3 (t1.mono (by decide)) t2⟩
theorem mc_X3_keepHome {w : WD} (wk : wOk w) (l : Launch) (C : CS) (a0 : Int32) (hp : p_X3_keepHome C a0) : MC w l yX3_keepHome cX3_keepHome 7 (some .int) 5 0 0 [.ref (ad w 1), .int a0] C (pIR (v_X3_keepHome C a0) (q_X3_keepHome C a0)) := MC.postIR (gw_X3_keepHome wk l C a0 (sp_X3_keepHome C a0 hp))
