theorem wA_row (C : CS) (j i : Nat) (v : Int32) : (wA C j i v).2.1 j = upd (C.2.1 j) i v := by
  funext k
  simp [wA, up2, upd]
theorem wA_ne (C : CS) {j q : Nat} (i : Nat) (v : Int32) (h : q ≠ j) : (wA C j i v).2.1 q = C.2.1 q := by
  funext k
  simp [wA, up2, h]
/-- f 0, then f 1 .. up to f (n - 1) -/
def itr {σ : Type} (f : Nat → σ → σ) : Nat → σ → σ
  | 0, s => s
  | n + 1, s => f n (itr f n s)
theorem txsOk_of {r r1 : Nat → Int32} (h5 : r1 5 = r 5) (h : ∀ i, 76 ≤ i → r1 i = r i) (hr : txsOk r) : txsOk r1 := by
  obtain ⟨T, e, hT, ht⟩ := hr
  refine ⟨T, h5.trans e, hT, fun t h1 => ?_⟩
  have e1 : txC r1 t = txC r t := funext fun k => h _ (by omega)
  have e2 : r1 (76 + 2 * t) = r (76 + 2 * t) := h _ (by omega)
  have e3 : txN r1 t = txN r t := by unfold txN; rw [e2]
  have := ht t h1
  unfold txOk at this ⊢
  rw [e1, e2, e3]
  exact this
theorem cntR_of {r r1 : Nat → Int32} (h5 : r1 5 = r 5) (h : ∀ i, 76 ≤ i → r1 i = r i) (key : Int32) : cntR r1 key = cntR r key := by
  unfold cntR
  rw [h5]
  generalize (r 5).toNatClampNeg = T
  induction T with
  | zero => rfl
  | succ T ih => rw [cntT, cntT, ih, h _ (by omega)]
theorem evR_of {r r1 : Nat → Int32} (h : ∀ i, 76 ≤ i → r1 i = r i) (f : Nat → Int32) (t : Nat) : evR r1 f t = evR r f t := by
  have e1 : txC r1 t = txC r t := funext fun k => h _ (by omega)
  have e2 : r1 (76 + 2 * t) = r (76 + 2 * t) := h _ (by omega)
  have e3 : txN r1 t = txN r t := by unfold txN; rw [e2]
  unfold evR
  rw [e1, e3]
def drw (z : Int32) : Int32 := z * 1103515245 + 12345
def shz (z : Int32) : Int32 := (z.toUInt32 >>> ((8 : Int32).toUInt32 &&& Int32.toUInt32 31)).toInt32
def rem (a b : Int32) : Int32 := a - a / b * b
theorem draw_v (C : CS) : v_X3_draw C = shz (drw (C.2.1 36 0)) := by
  unfold v_X3_draw shz drw
  simp [wA, up2]
theorem draw_r (C : CS) : (n_X3_draw C).2.1 36 = upd (C.2.1 36) 0 (drw (C.2.1 36 0)) := by
  unfold n_X3_draw
  rw [wA_row]; rfl
theorem put_r (C : CS) {g : Nat} (k : Nat) (v : Int32) (h : 16 + 6 * g + k < 1448) : (n_X3_put C (nI g) (nI k) v) = wA C 36 (16 + 6 * g + k) v := by
  unfold n_X3_put
  rw [show (16 : Int32) = nI 16 from rfl, show (6 : Int32) = nI 6 from rfl, pk_mul, nI_add, nI_add, nI_clamp (by omega)]
theorem put_p (C : CS) {g : Nat} (k : Nat) (v : Int32) (h : 16 + 6 * g + k < 1448) : p_X3_put C (nI g) (nI k) v := by
  unfold p_X3_put
  rw [show (16 : Int32) = nI 16 from rfl, show (6 : Int32) = nI 6 from rfl, pk_mul, nI_add, nI_add]
  exact ⟨vp_k h, trivial⟩
/-- glove g on a day -/
def dayS (home : Int32) (g : Nat) (q : (Nat → Int32) × Int32) : (Nat → Int32) × Int32 :=
  if nI g = home then q else if q.1 (16 + 6 * g + 5) = 0 then
    let r1 := upd q.1 0 (drw (q.1 0))
    let r2 := upd r1 (16 + 6 * g + 4) (v_X3_within (r1 (16 + 6 * g + 4) + wvR r1 g (rem (shz (drw (q.1 0))) 10)) 0 99)
    let r3 := upd r2 0 (drw (r2 0))
    (upd r3 (16 + 6 * g + 5) (if r3 3 ≤ rem (shz (drw (r2 0))) 100 then 0 else 1), q.2 + (if r3 3 ≤ rem (shz (drw (r2 0))) 100 then 0 else 1))
  else q
/-- a day: the row behind it, how many were lost -/
def dayR (r : Nat → Int32) (home : Int32) : (Nat → Int32) × Int32 :=
  let q := itr (dayS home) (r 1).toNatClampNeg (r, 0)
  (upd q.1 2 (q.1 2 + 1), q.2)
theorem dayS_same (home : Int32) {g : Nat} (hg : g < 10) (q : (Nat → Int32) × Int32) : ∀ i, i = 1 ∨ (2 ≤ i ∧ i < 16) ∨ 76 ≤ i → (dayS home g q).1 i = q.1 i := by
  intro i hi
  unfold dayS
  by_cases h1 : nI g = home
  · rw [if_pos h1]
  · rw [if_neg h1]
    by_cases h2 : q.1 (16 + 6 * g + 5) = 0
    · rw [if_pos h2]
      simp only [upd]
      rw [if_neg (by omega), if_neg (by omega), if_neg (by omega), if_neg (by omega)]
    · rw [if_neg h2]
theorem dayI_same (home : Int32) (q : (Nat → Int32) × Int32) : ∀ n, n ≤ 10 → ∀ i, i = 1 ∨ (2 ≤ i ∧ i < 16) ∨ 76 ≤ i → (itr (dayS home) n q).1 i = q.1 i := by
  intro n
  induction n with
  | zero => intro _ i _; rfl
  | succ n ih => intro hn i hi; rw [itr, dayS_same home (by omega) _ i hi, ih (by omega) i hi]
/-- the row can be lived through -/
def rowD (r : Nat → Int32) : Prop := (∃ N, r 1 = nI N ∧ N ≤ 10) ∧ txsOk r
theorem cf_X3_day : CfV yX3_day "TwoGuildsModel" cX3_day 6 (some .int) 1 := ⟨⟨by decide, by decide, by decide⟩, q75, q1639, q1638, qs52⟩
def p_X3_day (C : CS) (a0 : Int32) : Prop := rowD (C.2.1 36)
def v_X3_day (C : CS) (a0 : Int32) : Int32 := (dayR (C.2.1 36) a0).2
def q_X3_day (C : CS) (a0 : Int32) (C1 : CS) : Prop := frm [36, 49, 50] C C1 ∧ C1.2.1 36 = (dayR (C.2.1 36) a0).1
def wp_X3_day_j115 (Post : Int32 → CS → Prop) (R4 : CS → Int32 → Int32 → Int32 → Prop) (C : CS) (i1 : Int32) (i2 : Int32) (i3 : Int32) : Prop := ∀ x4 : Int32, x4 = (i3 + Int32.ofInt 1) → 
  R4 C i1 i2 x4
def wp_X3_day_l4 (Post : Int32 → CS → Prop) : Nat → CS → Int32 → Int32 → Int32 → Prop
  | 0, _, _, _, _ => False
  | n + 1, C, i1, i2, i3 => ((C.2.1 36 1) ≤ i3 → 
  ∀ C2 : CS, C2 = (wA C 36 2 ((C.2.1 36 2) + 1)) → 
    Post i2 C2) ∧
  (¬ (C.2.1 36 1) ≤ i3 → 
  (i3 = i1 → 
    wp_X3_day_j115 Post (fun C i1 i2 i3 => wp_X3_day_l4 Post n C i1 i2 i3) C i1 i2 i3) ∧
    (¬ i3 = i1 → 
    p_X3_of C i3 5 ∧
      (∀ r5 : Int32, r5 = (v_X3_of C i3 5) → 
      (r5 = 0 → 
      ∀ r7 : Int32, r7 = (v_X3_draw C) → 
        ∀ C8 : CS, C8 = (n_X3_draw C) → 
        ∀ x9 : Int32, x9 = (r7 - r7 / 10 * 10) → 
        p_X3_of C8 i3 4 ∧
        (∀ r10 : Int32, r10 = (v_X3_of C8 i3 4) → 
        p_X3_wearsBy C8 i3 x9 ∧
        (∀ r12 : Int32, r12 = (v_X3_wearsBy C8 i3 x9) → 
        ∀ C11 : CS, q_X3_wearsBy C8 i3 x9 C11 → 
        ∀ r13 : Int32, r13 = (v_X3_within (r10 + r12) 0 99) → 
        p_X3_put C11 i3 4 r13 ∧
        (∀ C14 : CS, C14 = (n_X3_put C11 i3 4 r13) → 
        ∀ r15 : Int32, r15 = (v_X3_draw C14) → 
        ∀ C16 : CS, C16 = (n_X3_draw C14) → 
        ∀ x19 : Int32, x19 = (if (C16.2.1 36 3) ≤ (r15 - r15 / 100 * 100) then (0 : Int32) else 1) → 
        ∀ x22 : Int32, x22 = (if x19 = 0 then (0 : Int32) else 1) → 
        p_X3_put C16 i3 5 x22 ∧
        (∀ C23 : CS, C23 = (n_X3_put C16 i3 5 x22) → 
        ∀ x26 : Int32, x26 = (if x19 = 0 then (0 : Int32) else 1) → 
        ∀ x27 : Int32, x27 = (i2 + x26) → 
        wp_X3_day_j115 Post (fun C i1 i2 i3 => wp_X3_day_l4 Post n C i1 i2 i3) C23 i1 x27 i3))))) ∧
      (¬ r5 = 0 → 
      wp_X3_day_j115 Post (fun C i1 i2 i3 => wp_X3_day_l4 Post n C i1 i2 i3) C i1 i2 i3))))
def wp_X3_day (Post : Int32 → CS → Prop) (C : CS) (a0 : Int32) : Prop :=
  ∃ m4, wp_X3_day_l4 Post m4 C a0 0 0
set_option maxHeartbeats 4000000 in
set_option maxRecDepth 100000 in
theorem gw_X3_day_j115 {w : WD} {x : Cx} (ok : Ok w x cX3_day 6 yX3_day.cls (some .int) (rmL 3 0 0)) {Post : Int32 → CS → Prop} {R4 : CS → Int32 → Int32 → Int32 → Prop} (hR4 : ∀ C (i1 : Int32) (i2 : Int32) (i3 : Int32), R4 C i1 i2 i3 → G w x 6 0 0 (QM w x (fun v C1 => ∃ r : Int32, v = some (.int r) ∧ Post r C1) 0 0) C 4 [(0, .ref (ad w 1)), (1, .int i1), (2, .int i2), (3, .int i3)] []) : ∀ (C : CS) (i1 : Int32) (i2 : Int32) (i3 : Int32), wp_X3_day_j115 Post R4 C i1 i2 i3 → G w x 6 0 0 (QM w x (fun v C1 => ∃ r : Int32, v = some (.int r) ∧ Post r C1) 0 0) C 115 [(0, .ref (ad w 1)), (1, .int i1), (2, .int i2), (3, .int i3)] [] := by
  intro C i1 i2 i3 hw
  unfold wp_X3_day_j115 at hw
  refine g_iinc ok 3 (fun z => [(3, .int z), (0, .ref (ad w 1)), (1, .int i1), (2, .int i2)]) dX3_day_115 rfl (by decide) (fun _ => rfl) (fun x4 ex4 => ?_)
  have hw := hw x4 ex4
  refine g_goto (tgt := 4) ok dX3_day_118 (by decide) ?_
  refine g_sub [1, 2, 3, 0] [(0, .ref (ad w 1)), (1, .int i1), (2, .int i2), (3, .int x4)] rfl ?_
  exact hR4 C i1 i2 x4 hw
set_option maxHeartbeats 4000000 in
set_option maxRecDepth 100000 in
theorem gw_X3_day_l4 {w : WD} {x : Cx} (ok : Ok w x cX3_day 6 yX3_day.cls (some .int) (rmL 3 0 0)) {Post : Int32 → CS → Prop} : ∀ (n : Nat) (C : CS) (i1 : Int32) (i2 : Int32) (i3 : Int32), wp_X3_day_l4 Post  n C i1 i2 i3 → G w x 6 0 0 (QM w x (fun v C1 => ∃ r : Int32, v = some (.int r) ∧ Post r C1) 0 0) C 4 [(0, .ref (ad w 1)), (1, .int i1), (2, .int i2), (3, .int i3)] [] := by
  intro n
  induction n with
  | zero => intro C i1 i2 i3 hw; exact hw.elim
  | succ n ih =>
    intro C i1 i2 i3 hw
    unfold wp_X3_day_l4 at hw
    refine g_iload_n ok 3 dX3_day_4 rfl ?_
    refine g_aload_n ok 0 dX3_day_5 rfl ?_
    refine g_get ok 1 rfl rfl in_X3 0 (by decide) q1359 rfl dX3_day_6 ?_
    refine g_iconst (v := 1) ok dX3_day_9 (by decide) ?_
    refine g_iald ok 36 rfl (by unfold vp_in; decide) 1 (by decide) dX3_day_10 ?_
    refine g_icmp_ge (tgt := 121) ok dX3_day_11 (by decide) (fun c1 => ?_) (fun c1 => ?_)
    · have hw := hw.1 c1
      refine g_aload_n ok 0 dX3_day_121 rfl ?_
      refine g_get ok 1 rfl rfl in_X3 0 (by decide) q1359 rfl dX3_day_122 ?_
      refine g_iconst (v := 2) ok dX3_day_125 (by decide) ?_
      refine g_dup2 ok dX3_day_126 rfl rfl ?_
      refine g_iald ok 36 rfl (by unfold vp_in; decide) 2 (by decide) dX3_day_127 ?_
      refine g_iconst (v := 1) ok dX3_day_128 (by decide) ?_
      refine g_iadd ok dX3_day_129 ?_
      refine g_iast ok 36 rfl (by unfold vp_in; decide) 2 (by decide) dX3_day_130 (fun C2 eC2 => ?_)
      have hw := hw C2 eC2
      refine g_iload_n ok 2 dX3_day_131 rfl ?_
      exact g_iret ok dX3_day_132 ⟨_, rfl, hw⟩
    · have hw := hw.2 c1
      refine g_iload_n ok 3 dX3_day_14 rfl ?_
      refine g_iload_n ok 1 dX3_day_15 rfl ?_
      refine g_icmp_eq (tgt := 115) ok dX3_day_16 (by decide) (fun c3 => ?_) (fun c3 => ?_)
      · have hw := hw.1 c3
        exact gw_X3_day_j115 ok (fun C i1 i2 i3 hw => ih C i1 i2 i3 hw) C i1 i2 i3 hw
      · have hw := hw.2 c3
        refine g_aload_n ok 0 dX3_day_19 rfl ?_
        refine g_iload_n ok 3 dX3_day_20 rfl ?_
        refine g_iconst (v := 5) ok dX3_day_21 (by decide) ?_
        obtain ⟨hp, hw⟩ := hw
        refine g_callVI ok [.int i3, .int 5] cf_X3_of q1495 (mc_X3_of ok.wo (xL x) C i3 5 hp) (recvF ok 1 rfl rfl) rfl rfl (Nat.le_of_ble_eq_true rfl) ⟨by decide, by decide⟩ ⟨by decide, by decide⟩ dX3_day_22 ?_
        refine g_nmI (fun r5 er5 => ?_)
        have hw := hw r5 er5
        refine g_if_ne (tgt := 115) ok dX3_day_25 (by decide) (fun c6 => ?_) (fun c6 => ?_)
        · have hw := hw.2 c6
          exact gw_X3_day_j115 ok (fun C i1 i2 i3 hw => ih C i1 i2 i3 hw) C i1 i2 i3 hw
        · have hw := hw.1 c6
          refine g_aload_n ok 0 dX3_day_28 rfl ?_
          refine g_callVI ok [] cf_X3_draw q1565 (mc_X3_draw ok.wo (xL x) C) (recvF ok 1 rfl rfl) rfl rfl (Nat.le_of_ble_eq_true rfl) ⟨by decide, by decide⟩ ⟨by decide, by decide⟩ dX3_day_29 ?_
          refine g_nmI (fun r7 er7 => ?_)
          have hw := hw r7 er7
          refine g_nmC (fun C8 eC8 => ?_)
          have hw := hw C8 eC8
          refine g_bipush (v := 10) ok dX3_day_32 (by decide) ?_
          refine g_irem ok dX3_day_34 (by decide) ?_
          refine g_istore ok (fun z => [(4, .int z), (0, .ref (ad w 1)), (1, .int i1), (2, .int i2), (3, .int i3)]) dX3_day_35 (by decide) (fun _ => rfl) (fun x9 ex9 => ?_)
          have hw := hw x9 ex9
          refine g_aload_n ok 1 dX3_day_37 rfl ?_
          refine g_iload_n ok 4 dX3_day_38 rfl ?_
          refine g_iconst (v := 4) ok dX3_day_39 (by decide) ?_
          refine g_aload_n ok 1 dX3_day_40 rfl ?_
          refine g_iload_n ok 4 dX3_day_41 rfl ?_
          refine g_iconst (v := 4) ok dX3_day_42 (by decide) ?_
          obtain ⟨hp, hw⟩ := hw
          refine g_callVI ok [.int i3, .int 4] cf_X3_of q1495 (mc_X3_of ok.wo (xL x) C8 i3 4 hp) (recvF ok 1 rfl rfl) rfl rfl (Nat.le_of_ble_eq_true rfl) ⟨by decide, by decide⟩ ⟨by decide, by decide⟩ dX3_day_43 ?_
          refine g_nmI (fun r10 er10 => ?_)
          have hw := hw r10 er10
          refine g_aload_n ok 1 dX3_day_46 rfl ?_
          refine g_iload_n ok 4 dX3_day_47 rfl ?_
          refine g_iload ok 0 dX3_day_48 rfl ?_
          obtain ⟨hp, hw⟩ := hw
          refine g_callVIR ok [.int i3, .int x9] cf_X3_wearsBy q1640 (mc_X3_wearsBy ok.wo (xL x) C8 i3 x9 hp) (recvF ok 1 rfl rfl) rfl rfl (Nat.le_of_ble_eq_true rfl) ⟨by decide, by decide⟩ ⟨by decide, by decide⟩ dX3_day_50 (fun C11 eC11 => ?_)
          refine g_nmI (fun r12 er12 => ?_)
          have hw := hw r12 er12 C11 eC11
          refine g_iadd ok dX3_day_53 ?_
          refine g_iconst (v := 0) ok dX3_day_54 (by decide) ?_
          refine g_bipush (v := 99) ok dX3_day_55 (by decide) ?_
          refine g_callSI ok [.int (r10 + r12), .int 0, .int 99] cf_X3_within q1550 (mc_X3_within ok.wo (xL x) C11 (r10 + r12) 0 99) rfl rfl (Nat.le_of_ble_eq_true rfl) ⟨by decide, by decide⟩ ⟨by decide, by decide⟩ dX3_day_57 ?_
          refine g_nmI (fun r13 er13 => ?_)
          have hw := hw r13 er13
          obtain ⟨hp, hw⟩ := hw
          refine g_callVV ok [.int i3, .int 4, .int r13] cf_X3_put q1483 (mc_X3_put ok.wo (xL x) C11 i3 4 r13 hp) (recvF ok 1 rfl rfl) rfl rfl (Nat.le_of_ble_eq_true rfl) ⟨by decide, by decide⟩ ⟨by decide, by decide⟩ dX3_day_60 ?_
          refine g_nmC (fun C14 eC14 => ?_)
          have hw := hw C14 eC14
          refine g_aload_n ok 1 dX3_day_63 rfl ?_
          refine g_callVI ok [] cf_X3_draw q1565 (mc_X3_draw ok.wo (xL x) C14) (recvF ok 1 rfl rfl) rfl rfl (Nat.le_of_ble_eq_true rfl) ⟨by decide, by decide⟩ ⟨by decide, by decide⟩ dX3_day_64 ?_
          refine g_nmI (fun r15 er15 => ?_)
          have hw := hw r15 er15
          refine g_nmC (fun C16 eC16 => ?_)
          have hw := hw C16 eC16
          refine g_bipush (v := 100) ok dX3_day_67 (by decide) ?_
          refine g_irem ok dX3_day_69 (by decide) ?_
          refine g_aload_n ok 1 dX3_day_70 rfl ?_
          refine g_get ok 1 rfl rfl in_X3 0 (by decide) q1359 rfl dX3_day_71 ?_
          refine g_iconst (v := 3) ok dX3_day_74 (by decide) ?_
          refine g_iald ok 36 rfl (by unfold vp_in; decide) 3 (by decide) dX3_day_75 ?_
          have kj18 : ∀ x19 : Int32, x19 = (if (C16.2.1 36 3) ≤ (r15 - r15 / 100 * 100) then (0 : Int32) else 1) → G w x 6 0 0 (QM w x (fun v C1 => ∃ r : Int32, v = some (.int r) ∧ Post r C1) 0 0) C16 84 [(0, .ref (ad w 1)), (1, .int i1), (2, .int i2), (3, .int i3)] [.int x19] := by
            intro x19 ex19
            have hw := hw x19 ex19
            refine g_istore0 ok [(5, .int x19), (0, .ref (ad w 1)), (1, .int i1), (2, .int i2), (3, .int i3)] dX3_day_84 (by decide) rfl ?_
            refine g_aload_n ok 1 dX3_day_86 rfl ?_
            refine g_iload_n ok 4 dX3_day_87 rfl ?_
            refine g_iconst (v := 5) ok dX3_day_88 (by decide) ?_
            refine g_iload ok 0 dX3_day_89 rfl ?_
            have kj21 : ∀ x22 : Int32, x22 = (if x19 = 0 then (0 : Int32) else 1) → G w x 6 0 0 (QM w x (fun v C1 => ∃ r : Int32, v = some (.int r) ∧ Post r C1) 0 0) C16 99 [(0, .ref (ad w 1)), (1, .int i1), (2, .int i2), (3, .int i3), (5, .int x19)] [.int x22, .int 5, .int i3, .ref (ad w 1)] := by
              intro x22 ex22
              have hw := hw x22 ex22
              obtain ⟨hp, hw⟩ := hw
              refine g_callVV ok [.int i3, .int 5, .int x22] cf_X3_put q1483 (mc_X3_put ok.wo (xL x) C16 i3 5 x22 hp) (recvF ok 1 rfl rfl) rfl rfl (Nat.le_of_ble_eq_true rfl) ⟨by decide, by decide⟩ ⟨by decide, by decide⟩ dX3_day_99 ?_
              refine g_nmC (fun C23 eC23 => ?_)
              have hw := hw C23 eC23
              refine g_iload_n ok 2 dX3_day_102 rfl ?_
              refine g_iload ok 4 dX3_day_103 rfl ?_
              have kj25 : ∀ x26 : Int32, x26 = (if x19 = 0 then (0 : Int32) else 1) → G w x 6 0 0 (QM w x (fun v C1 => ∃ r : Int32, v = some (.int r) ∧ Post r C1) 0 0) C23 113 [(0, .ref (ad w 1)), (1, .int i1), (3, .int i3)] [.int x26, .int i2] := by
                intro x26 ex26
                have hw := hw x26 ex26
                refine g_iadd ok dX3_day_113 ?_
                refine g_istore_n ok (fun z => [(2, .int z), (0, .ref (ad w 1)), (1, .int i1), (3, .int i3)]) dX3_day_114 (by decide) (fun _ => rfl) (fun x27 ex27 => ?_)
                have hw := hw x27 ex27
                refine g_sub [1, 2, 0, 3] [(0, .ref (ad w 1)), (1, .int i1), (2, .int x27), (3, .int i3)] rfl ?_
                exact gw_X3_day_j115 ok (fun C i1 i2 i3 hw => ih C i1 i2 i3 hw) C23 i1 x27 i3 hw
              refine g_if_eq (tgt := 112) ok dX3_day_105 (by decide) (fun c24 => ?_) (fun c24 => ?_)
              · refine g_iconst (v := 0) ok dX3_day_112 (by decide) ?_
                exact g_sub [0, 1, 3] [(0, .ref (ad w 1)), (1, .int i1), (3, .int i3)] rfl (kj25 _ (by simp only [if_pos c24]))
              · refine g_iconst (v := 1) ok dX3_day_108 (by decide) ?_
                refine g_goto (tgt := 113) ok dX3_day_109 (by decide) ?_
                exact g_sub [0, 1, 3] [(0, .ref (ad w 1)), (1, .int i1), (3, .int i3)] rfl (kj25 _ (by simp only [if_neg c24]))
            refine g_if_eq (tgt := 98) ok dX3_day_91 (by decide) (fun c20 => ?_) (fun c20 => ?_)
            · refine g_iconst (v := 0) ok dX3_day_98 (by decide) ?_
              exact g_sub [1, 2, 3, 4, 0] [(0, .ref (ad w 1)), (1, .int i1), (2, .int i2), (3, .int i3), (5, .int x19)] rfl (kj21 _ (by simp only [if_pos c20]))
            · refine g_iconst (v := 1) ok dX3_day_94 (by decide) ?_
              refine g_goto (tgt := 99) ok dX3_day_95 (by decide) ?_
              exact g_sub [1, 2, 3, 4, 0] [(0, .ref (ad w 1)), (1, .int i1), (2, .int i2), (3, .int i3), (5, .int x19)] rfl (kj21 _ (by simp only [if_neg c20]))
          refine g_icmp_ge (tgt := 83) ok dX3_day_76 (by decide) (fun c17 => ?_) (fun c17 => ?_)
          · refine g_iconst (v := 0) ok dX3_day_83 (by decide) ?_
            exact g_sub [1, 2, 3, 4] [(0, .ref (ad w 1)), (1, .int i1), (2, .int i2), (3, .int i3)] rfl (kj18 _ (by simp only [if_pos c17]))
          · refine g_iconst (v := 1) ok dX3_day_79 (by decide) ?_
            refine g_goto (tgt := 84) ok dX3_day_80 (by decide) ?_
            exact g_sub [1, 2, 3, 4] [(0, .ref (ad w 1)), (1, .int i1), (2, .int i2), (3, .int i3)] rfl (kj18 _ (by simp only [if_neg c17]))
set_option maxHeartbeats 4000000 in
set_option maxRecDepth 100000 in
theorem gw_X3_day {w : WD} (wk : wOk w) (l : Launch) (C : CS) (a0 : Int32) {Post : Int32 → CS → Prop} (hw : wp_X3_day Post C a0) : MC w l yX3_day cX3_day 6 (some .int) 3 0 0 [.ref (ad w 1), .int a0] C (fun v C1 => ∃ r : Int32, v = some (.int r) ∧ Post r C1) := by
  unfold wp_X3_day at hw
  refine MC.of wk (by decide) (Nat.le_of_ble_eq_true rfl) (fun x hx ok => ?_)
  subst hx
  show G w x 6 0 0 (QM w x _ 0 0) C 0 [(0, .ref (ad w 1)), (1, .int a0)] []
  refine g_iconst (v := 0) ok dX3_day_0 (by decide) ?_
  refine g_istore_n0 ok [(2, .int 0), (0, .ref (ad w 1)), (1, .int a0)] dX3_day_1 (by decide) rfl ?_
  refine g_iconst (v := 0) ok dX3_day_2 (by decide) ?_
  refine g_istore_n0 ok [(3, .int 0), (2, .int 0), (0, .ref (ad w 1)), (1, .int a0)] dX3_day_3 (by decide) rfl ?_
  refine g_sub [2, 3, 1, 0] [(0, .ref (ad w 1)), (1, .int a0), (2, .int 0), (3, .int 0)] rfl ?_
  obtain ⟨n28, hw⟩ := hw
  exact gw_X3_day_l4 ok n28 C a0 0 0 hw
theorem sp_X3_day (C : CS) (a0 : Int32) (hp : p_X3_day C a0) : wp_X3_day (fun r C1 => r = v_X3_day C a0 ∧ q_X3_day C a0 C1) C a0 := by
  obtain ⟨⟨N, e, hN⟩, ht⟩ := hp
  have H : ∀ d g, g + d = N → ∀ C1 : CS, frm [36, 49, 50] C C1 → C1.2.1 36 = (itr (dayS a0) g (C.2.1 36, 0)).1 → wp_X3_day_l4 (fun r C1 => r = v_X3_day C a0 ∧ q_X3_day C a0 C1) (d + 1) C1 a0 (itr (dayS a0) g (C.2.1 36, 0)).2 (nI g) := by
    intro d
    induction d with
    | zero =>
      intro g hg C1 hf h36
      have h1 : C1.2.1 36 1 = nI N := by rw [h36, dayI_same _ _ _ (by omega) _ (by omega)]; exact e
      have eg : g = N := by omega
      subst eg
      refine ⟨fun _ C4 e4 => ⟨?_, ?_, ?_⟩, fun c => absurd ?_ c⟩
      · unfold v_X3_day dayR; rw [e, cl_k (by omega)]
      · rw [e4]; exact hf.w (by decide)
      · rw [e4, wA_row]; unfold dayR; rw [e, cl_k (by omega), h36]
      · rw [h1, nI_leI (by omega) (by omega)]; omega
    | succ d ih =>
      intro g hg C1 hf h36
      have h1 : C1.2.1 36 1 = nI N := by rw [h36, dayI_same _ _ _ (by omega) _ (by omega)]; exact e
      have hg10 : g < 10 := by omega
      refine ⟨fun c => ?_, fun _ => ⟨fun c x6 e6 => ?_, fun c => ⟨(pofn C1 hg10).2.2.2.2.2, fun r7 e7 => ⟨fun c2 => ?_, fun c2 x6 e6 => ?_⟩⟩⟩⟩
      · rw [h1, nI_leI (by omega) (by omega)] at c; omega
      · have e2 : itr (dayS a0) (g + 1) (C.2.1 36, 0) = itr (dayS a0) g (C.2.1 36, 0) := by rw [itr, dayS, if_pos c]
        have h3 := ih (g + 1) (by omega) C1 hf (by rw [e2]; exact h36)
        rw [e2] at h3
        rw [e6, o1, nI_add]
        exact h3
      · rw [(ofn C1 hg10).2.2.2.2.2] at e7
        rw [e7] at c2
        intro r9 e9 C10 e10 x11 e11
        rw [draw_v] at e9
        have hr10 : C10.2.1 36 = upd (C1.2.1 36) 0 (drw (C1.2.1 36 0)) := by rw [e10, draw_r]
        have hf10 : frm [36, 49, 50] C C10 := by rw [e10]; exact hf.w (by decide)
        refine ⟨(pofn C10 hg10).2.2.2.2.1, fun r12 e12 => ?_⟩
        rw [(ofn C10 hg10).2.2.2.2.1] at e12
        have hx : ∀ i, 76 ≤ i → C10.2.1 36 i = C.2.1 36 i := fun i hi => by
          rw [hr10, upd, if_neg (by omega), h36, dayI_same _ _ _ (by omega) _ (by omega)]
        have h5 : C10.2.1 36 5 = C.2.1 36 5 := by rw [hr10, upd, if_neg (by omega), h36, dayI_same _ _ _ (by omega) _ (by omega)]
        refine ⟨⟨g, rfl, hg10, txsOk_of h5 hx ht⟩, fun r13 e13 C14 e14 r15 e15 => ⟨put_p C14 4 r15 (by omega), fun C16 e16 r17 e17 C18 e18 x21 e21 x25 e25 => ⟨put_p C18 5 x25 (by omega), fun C26 e26 x29 e29 x30 e30 x6 e6 => ?_⟩⟩⟩
        have hf14 : frm [36, 49, 50] C C14 := hf10.tr (e14.mono (by decide))
        have hr14 : C14.2.1 36 = C10.2.1 36 := e14.2.2 36 (by decide)
        have e16 : C16 = wA C14 36 (16 + 6 * g + 4) r15 := e16.trans (put_r C14 4 r15 (by omega))
        have e26 : C26 = wA C18 36 (16 + 6 * g + 5) x25 := e26.trans (put_r C18 5 x25 (by omega))
        have hr16 : C16.2.1 36 = upd (C10.2.1 36) (16 + 6 * g + 4) r15 := by rw [e16, wA_row, hr14]
        rw [draw_v] at e17
        have hr18 : C18.2.1 36 = upd (C16.2.1 36) 0 (drw (C16.2.1 36 0)) := by rw [e18, draw_r]
        have hr26 : C26.2.1 36 = upd (C18.2.1 36) (16 + 6 * g + 5) x25 := by rw [e26, wA_row]
        have hf26 : frm [36, 49, 50] C C26 := by rw [e26, e18, e16]; exact ((hf14.w (by decide)).w (by decide)).w (by decide)
        have h25 : x25 = x21 := by rw [e25]; rcases (show x21 = 0 ∨ x21 = 1 by rw [e21]; exact ib_ite (Or.inl rfl) (Or.inr rfl)) with h | h <;> rw [h] <;> decide
        have h29 : x29 = x21 := by rw [e29]; rcases (show x21 = 0 ∨ x21 = 1 by rw [e21]; exact ib_ite (Or.inl rfl) (Or.inr rfl)) with h | h <;> rw [h] <;> decide
        have e2 : itr (dayS a0) (g + 1) (C.2.1 36, 0) = (C26.2.1 36, x30) := by
          rw [itr, dayS, if_neg c, ← h36, if_pos c2]
          have k15 : r15 = v_X3_within (upd (C1.2.1 36) 0 (drw (C1.2.1 36 0)) (16 + 6 * g + 4) + wvR (upd (C1.2.1 36) 0 (drw (C1.2.1 36 0))) g (rem (shz (drw (C1.2.1 36 0))) 10)) 0 99 := by
            rw [e15, e12, e13, hr10, e11, e9]
            unfold v_X3_wearsBy
            rw [hr10, cl_k (by omega)]
            rfl
          have k21 : x21 = if C18.2.1 36 3 ≤ rem (shz (drw (C16.2.1 36 0))) 100 then 0 else 1 := by rw [e21, e17]; rfl
          simp only []
          rw [← hr10] at k15 ⊢
          rw [← k15, ← hr16, ← hr18, ← k21, hr26, h25, e30, h29]
        have h3 := ih (g + 1) (by omega) C26 hf26 (by rw [e2])
        rw [e2] at h3
        rw [e6, o1, nI_add]
        exact h3
      · rw [(ofn C1 hg10).2.2.2.2.2] at e7
        rw [e7, h36] at c2
        have e2 : itr (dayS a0) (g + 1) (C.2.1 36, 0) = itr (dayS a0) g (C.2.1 36, 0) := by rw [itr, dayS, if_neg c, if_neg c2]
        have h3 := ih (g + 1) (by omega) C1 hf (by rw [e2]; exact h36)
        rw [e2] at h3
        rw [e6, o1, nI_add]
        exact h3
  exact ⟨N + 1, H N 0 (by omega) C (frm.rf _ _) rfl⟩
theorem mc_X3_day {w : WD} (wk : wOk w) (l : Launch) (C : CS) (a0 : Int32) (hp : p_X3_day C a0) : MC w l yX3_day cX3_day 6 (some .int) 3 0 0 [.ref (ad w 1), .int a0] C (pIR (v_X3_day C a0) (q_X3_day C a0)) := MC.postIR (gw_X3_day wk l C a0 (sp_X3_day C a0 hp))
