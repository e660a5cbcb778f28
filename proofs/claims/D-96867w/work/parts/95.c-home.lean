def p_X0_keepHome (C : CS) (a0 : Int32) : Prop := opP C ∧ XD C ∧ cN C = 2
def v_X0_keepHome (C : CS) (a0 : Int32) : Int32 := v_X3_keepHome C a0
def q_X0_keepHome (C : CS) (a0 : Int32) (C1 : CS) : Prop := hOp C C1
def wp_X0_keepHome_l28 (Post : Int32 → CS → Prop) : Nat → CS → Int32 → Nat → Int32 → Int32 → Int32 → Prop
  | 0, _, _, _, _, _, _ => False
  | n + 1, C, i1, t2, i3, i4, i5 => isTb t2 ∧
  (((C.1 t2 0) ≤ i5 → 
  ∀ r5 : Int32, r5 = (v_X0_orNone i3) → 
    ∀ C6 : CS, C6 = (wN C t2) → 
    Post r5 C6) ∧
  (¬ (C.1 t2 0) ≤ i5 → 
  ∃ (g7 : (Nat → Int32)), p_X0_thinks C t2 g7 ∧
    (∀ C9 : CS, q_X0_thinks C t2 g7 C9 → 
    isTb (cN C9) ∧
    (∃ (g10 : (Nat → Int32)) (g11 : Nat), p_X1_goesOn_2 C9 (cN C9) i5 i1 g10 g11 ∧
    (∀ C14 : CS, q_X1_goesOn_2 C9 (cN C9) i5 i1 g10 g11 C14 → 
    isTb (cN C14) ∧
    (p_X1_all C14 (cN C14) ∧
    (∀ r17 : Int32, r17 = (v_X1_all C14 (cN C14)) → 
    ∃ (g18 : (Nat → Int32)), p_X0_best C14 r17 g18 ∧
    (∀ r21 : Int32, r21 = (v_X0_best C14 r17 g18) → 
    ∀ C20 : CS, q_X0_best C14 r17 g18 C20 → 
    ∀ x26 : Int32, x26 = (if i3 < 0 then i5 else (if r21 ≤ i4 then i3 else i5)) → 
    ∀ x27 : Int32, x27 = (if i3 < 0 then r21 else (if r21 ≤ i4 then i4 else r21)) → 
    ∀ x28 : Int32, x28 = (i5 + Int32.ofInt 1) → 
    wp_X0_keepHome_l28 Post n C20 i1 t2 x26 x27 x28))))))))
def wp_X0_keepHome (Post : Int32 → CS → Prop) (C : CS) (a0 : Int32) : Prop :=
  ∀ r1 : Int32, r1 = (v_X0_isIn (Int32.toInt64 a0) 1 30) → 
    (r1 = 0 → 
    Post (-1000000001) C) ∧
    (¬ r1 = 0 → 
    ∃ m28, m28 ≤ 11 ∧ wp_X0_keepHome_l28 Post m28 C a0 (cN C) (-1) 0 0)
set_option maxHeartbeats 4000000 in
set_option maxRecDepth 100000 in
theorem gw_X0_keepHome_l28 {w : WD} {x : Cx} (ok : Ok w x cX0_keepHome 8 yX0_keepHome.cls (some .int) (rmL 102 121 968)) {Post : Int32 → CS → Prop} : ∀ (n : Nat) (C : CS) (i1 : Int32) (t2 : Nat) (i3 : Int32) (i4 : Int32) (i5 : Int32), wp_X0_keepHome_l28 Post  n C i1 t2 i3 i4 i5 → n ≤ 11 → G w x 8 (0 + (11 - n) * 11) (0 + (11 - n) * 88) (QM w x (fun v C1 => ∃ r : Int32, v = some (.int r) ∧ Post r C1) 121 968) C 28 [(0, .ref (ad w 0)), (1, .int i1), (2, .ref (ad w t2)), (3, .int i3), (4, .int i4), (5, .int i5)] [] := by
  intro n
  induction n with
  | zero => intro C i1 t2 i3 i4 i5 hw hB; exact hw.elim
  | succ n ih =>
    intro C i1 t2 i3 i4 i5 hw hB
    unfold wp_X0_keepHome_l28 at hw
    refine g_iload ok 5 dX0_keepHome_28 rfl ?_
    refine g_aload_n ok 2 dX0_keepHome_30 rfl ?_
    obtain ⟨hf3, hw⟩ := hw
    refine g_get ok t2 (fObjT hf3) rfl in_X1 0 (by decide) q124 rfl dX0_keepHome_31 ?_
    refine g_icmp_ge (tgt := 89) ok dX0_keepHome_34 (by decide) (fun c4 => ?_) (fun c4 => ?_)
    · have hw := hw.1 c4
      refine g_iload_n ok 3 dX0_keepHome_89 rfl ?_
      refine g_callS ok [.int i3] cf_X0_orNone q783 (mc_X0_orNone ok.wo (xL x) C i3) rfl rfl (Nat.le_of_ble_eq_true rfl) ⟨by decide, by decide⟩ ⟨by show (0 + (11 - (n + 1)) * 11) + 0 ≤ 121; omega, by show (0 + (11 - (n + 1)) * 88) + 0 ≤ 968; omega⟩ dX0_keepHome_90 (resI ?_)
      refine g_nmI (fun r5 er5 => ?_)
      have hw := hw r5 er5
      refine g_istore0 ok [(5, .int r5), (0, .ref (ad w 0)), (1, .int i1), (2, .ref (ad w t2)), (3, .int i3), (4, .int i4)] dX0_keepHome_93 (by decide) rfl ?_
      refine g_aload_n ok 1 dX0_keepHome_95 rfl ?_
      refine g_aload_n ok 3 dX0_keepHome_96 rfl ?_
      refine g_putN ok hf3 q180 dX0_keepHome_97 (fun C6 eC6 => ?_)
      have hw := hw C6 eC6
      refine g_iload ok 0 dX0_keepHome_100 rfl ?_
      refine g_widen 121 968 (by omega) (by omega) ?_
      exact g_iret ok dX0_keepHome_102 ⟨_, rfl, hw⟩
    · have hw := hw.2 c4
      refine g_aload_n ok 0 dX0_keepHome_37 rfl ?_
      refine g_aload_n ok 2 dX0_keepHome_38 rfl ?_
      obtain ⟨g7, hp8, hw⟩ := hw
      refine g_callV ok [.ref (ad w t2)] cf_X0_thinks q852 (mc_X0_thinks ok.wo (xL x) C t2 g7 hp8) (recvF ok 0 rfl rfl) rfl rfl (Nat.le_of_ble_eq_true rfl) ⟨by decide, by decide⟩ ⟨by show (0 + (11 - (n + 1)) * 11) + 11 ≤ 121; omega, by show (0 + (11 - (n + 1)) * 88) + 88 ≤ 968; omega⟩ dX0_keepHome_39 (resVR fun C9 eC9 => ?_)
      have hw := hw C9 eC9
      refine g_aload_n ok 0 dX0_keepHome_42 rfl ?_
      refine g_get ok 0 rfl rfl in_X0 0 (by decide) q180 rfl dX0_keepHome_43 ?_
      refine g_iload ok 5 dX0_keepHome_46 rfl ?_
      refine g_iload_n ok 1 dX0_keepHome_48 rfl ?_
      obtain ⟨hf13, hw⟩ := hw
      obtain ⟨g10, g11, hp12, hw⟩ := hw
      refine g_callV ok [.int i5, .int i1] cf_X1_goesOn_2 q869 (mc_X1_goesOn_2 ok.wo (xL x) C9 (cN C9) i5 i1 g10 g11 hp12) (recvF ok (cN C9) (fObjT hf13) rfl) rfl rfl (Nat.le_of_ble_eq_true rfl) ⟨by decide, by decide⟩ ⟨by show (0 + (11 - (n + 1)) * 11 + 11) + 0 ≤ 121; omega, by show (0 + (11 - (n + 1)) * 88 + 88) + 0 ≤ 968; omega⟩ dX0_keepHome_49 (resVR fun C14 eC14 => ?_)
      have hw := hw C14 eC14
      refine g_aload_n ok 0 dX0_keepHome_52 rfl ?_
      refine g_aload_n ok 0 dX0_keepHome_53 rfl ?_
      refine g_get ok 0 rfl rfl in_X0 0 (by decide) q180 rfl dX0_keepHome_54 ?_
      obtain ⟨hf16, hw⟩ := hw
      obtain ⟨hp15, hw⟩ := hw
      refine g_callV ok [] cf_X1_all q759 (mc_X1_all ok.wo (xL x) C14 (cN C14) hp15) (recvF ok (cN C14) (fObjT hf16) rfl) rfl rfl (Nat.le_of_ble_eq_true rfl) ⟨by decide, by decide⟩ ⟨by show (0 + (11 - (n + 1)) * 11 + 11) + 0 ≤ 121; omega, by show (0 + (11 - (n + 1)) * 88 + 88) + 0 ≤ 968; omega⟩ dX0_keepHome_57 (resI ?_)
      refine g_nmI (fun r17 er17 => ?_)
      have hw := hw r17 er17
      obtain ⟨g18, hp19, hw⟩ := hw
      refine g_callV ok [.int r17] cf_X0_best q874 (mc_X0_best ok.wo (xL x) C14 r17 g18 hp19) (recvF ok 0 rfl rfl) rfl rfl (Nat.le_of_ble_eq_true rfl) ⟨by decide, by decide⟩ ⟨by show (0 + (11 - (n + 1)) * 11 + 11) + 0 ≤ 121; omega, by show (0 + (11 - (n + 1)) * 88 + 88) + 0 ≤ 968; omega⟩ dX0_keepHome_60 (resIR fun C20 eC20 => ?_)
      refine g_nmI (fun r21 er21 => ?_)
      have hw := hw r21 er21 C20 eC20
      refine g_istore0 ok [(6, .int r21), (0, .ref (ad w 0)), (1, .int i1), (2, .ref (ad w t2)), (3, .int i3), (4, .int i4), (5, .int i5)] dX0_keepHome_63 (by decide) rfl ?_
      refine g_iload_n ok 4 dX0_keepHome_65 rfl ?_
      have kj25 : ∀ x26 : Int32, x26 = (if i3 < 0 then i5 else (if r21 ≤ i4 then i3 else i5)) → ∀ x27 : Int32, x27 = (if i3 < 0 then r21 else (if r21 ≤ i4 then i4 else r21)) → G w x 8 (0 + (11 - (n + 1)) * 11 + 11) (0 + (11 - (n + 1)) * 88 + 88) (QM w x (fun v C1 => ∃ r : Int32, v = some (.int r) ∧ Post r C1) 121 968) C20 83 [(0, .ref (ad w 0)), (1, .int i1), (2, .ref (ad w t2)), (3, .int x26), (4, .int x27), (5, .int i5)] [] := by
        intro x26 ex26
        have hw := hw x26 ex26
        intro x27 ex27
        have hw := hw x27 ex27
        refine g_iinc ok 5 (fun z => [(5, .int z), (0, .ref (ad w 0)), (1, .int i1), (2, .ref (ad w t2)), (3, .int x26), (4, .int x27)]) dX0_keepHome_83 rfl (by decide) (fun _ => rfl) (fun x28 ex28 => ?_)
        have hw := hw x28 ex28
        refine g_goto (tgt := 28) ok dX0_keepHome_86 (by decide) ?_
        refine g_sub [1, 2, 3, 4, 5, 0] [(0, .ref (ad w 0)), (1, .int i1), (2, .ref (ad w t2)), (3, .int x26), (4, .int x27), (5, .int x28)] rfl ?_
        refine g_widen _ _ ?_ ?_ (ih C20 i1 t2 x26 x27 x28 hw (by omega)) <;> omega
      refine g_if_lt (tgt := 76) ok dX0_keepHome_66 (by decide) (fun c22 => ?_) (fun c22 => ?_)
      · refine g_iload ok 6 dX0_keepHome_76 rfl ?_
        refine g_istore_n0 ok [(3, .int i5), (6, .int r21), (0, .ref (ad w 0)), (1, .int i1), (2, .ref (ad w t2)), (4, .int i4), (5, .int i5)] dX0_keepHome_78 (by decide) rfl ?_
        refine g_iload ok 1 dX0_keepHome_79 rfl ?_
        refine g_istore0 ok [(4, .int r21), (3, .int i5), (6, .int r21), (0, .ref (ad w 0)), (1, .int i1), (2, .ref (ad w t2)), (5, .int i5)] dX0_keepHome_81 (by decide) rfl ?_
        exact g_sub [3, 4, 5, 1, 0, 6] [(0, .ref (ad w 0)), (1, .int i1), (2, .ref (ad w t2)), (3, .int i5), (4, .int r21), (5, .int i5)] rfl (kj25 _ (by simp only [if_pos c22]) _ (by simp only [if_pos c22]))
      · refine g_iload ok 0 dX0_keepHome_69 rfl ?_
        refine g_iload ok 5 dX0_keepHome_71 rfl ?_
        have kj24 : G w x 8 (0 + (11 - (n + 1)) * 11 + 11) (0 + (11 - (n + 1)) * 88 + 88) (QM w x (fun v C1 => ∃ r : Int32, v = some (.int r) ∧ Post r C1) 121 968) C20 83 [(0, .ref (ad w 0)), (1, .int i1), (2, .ref (ad w t2)), (3, .int (if r21 ≤ i4 then i3 else i5)), (4, .int (if r21 ≤ i4 then i4 else r21)), (5, .int i5)] [] := by
          exact (kj25 _ (by simp only [if_neg c22]) _ (by simp only [if_neg c22]))
        refine g_icmp_le (tgt := 83) ok dX0_keepHome_73 (by decide) (fun c23 => ?_) (fun c23 => ?_)
        · simp only [if_pos c23] at kj24
          exact g_sub [1, 2, 3, 4, 5, 6] [(0, .ref (ad w 0)), (1, .int i1), (2, .ref (ad w t2)), (3, .int i3), (4, .int i4), (5, .int i5)] rfl kj24
        · refine g_iload ok 6 dX0_keepHome_76 rfl ?_
          refine g_istore_n0 ok [(3, .int i5), (6, .int r21), (0, .ref (ad w 0)), (1, .int i1), (2, .ref (ad w t2)), (4, .int i4), (5, .int i5)] dX0_keepHome_78 (by decide) rfl ?_
          refine g_iload ok 1 dX0_keepHome_79 rfl ?_
          refine g_istore0 ok [(4, .int r21), (3, .int i5), (6, .int r21), (0, .ref (ad w 0)), (1, .int i1), (2, .ref (ad w t2)), (5, .int i5)] dX0_keepHome_81 (by decide) rfl ?_
          simp only [if_neg c23] at kj24
          exact g_sub [3, 4, 5, 1, 0, 6] [(0, .ref (ad w 0)), (1, .int i1), (2, .ref (ad w t2)), (3, .int i5), (4, .int r21), (5, .int i5)] rfl kj24
set_option maxHeartbeats 4000000 in
set_option maxRecDepth 100000 in
theorem gw_X0_keepHome {w : WD} (wk : wOk w) (l : Launch) (C : CS) (a0 : Int32) {Post : Int32 → CS → Prop} (hw : wp_X0_keepHome Post C a0) : MCW w l yX0_keepHome cX0_keepHome 8 (some .int) [(20, 95, 103, 0), (103, 105, 103, 0)] 102 121 968 [.ref (ad w 0), .int a0] C (fun v C1 => ∃ r : Int32, v = some (.int r) ∧ Post r C1) := by
  unfold wp_X0_keepHome at hw
  refine MCW.of wk (by decide) (Nat.le_of_ble_eq_true rfl) (fun x hx ok ht => ?_)
  subst hx
  show G w x 8 0 0 (QM w x _ 121 968) C 0 [(0, .ref (ad w 0)), (1, .int a0)] []
  refine g_iload_n ok 1 dX0_keepHome_0 rfl ?_
  refine g_i2l ok dX0_keepHome_1 ?_
  refine g_lconst (v := 1) ok dX0_keepHome_2 (by decide) ?_
  refine g_ldc2 (v := 30) ok q883 dX0_keepHome_3 ?_
  refine g_callS ok [.long (Int32.toInt64 a0), .long 1, .long 30] cf_X0_isIn q269 (mc_X0_isIn ok.wo (xL x) C (Int32.toInt64 a0) 1 30) rfl rfl (Nat.le_of_ble_eq_true rfl) ⟨by decide, by decide⟩ ⟨by decide, by decide⟩ dX0_keepHome_6 (resI ?_)
  refine g_nmI (fun r1 er1 => ?_)
  have hw := hw r1 er1
  refine g_if_ne (tgt := 15) ok dX0_keepHome_9 (by decide) (fun c2 => ?_) (fun c2 => ?_)
  · have hw := hw.2 c2
    refine g_aload_n ok 0 dX0_keepHome_15 rfl ?_
    refine g_get ok 0 rfl rfl in_X0 0 (by decide) q180 rfl dX0_keepHome_16 ?_
    refine g_astore_n ok [(2, .ref (ad w (cN C))), (0, .ref (ad w 0)), (1, .int a0)] dX0_keepHome_19 (by decide) rfl ?_
    refine g_iconst (v := -1) ok dX0_keepHome_20 (by decide) ?_
    refine g_istore_n0 ok [(3, .int (-1)), (2, .ref (ad w (cN C))), (0, .ref (ad w 0)), (1, .int a0)] dX0_keepHome_21 (by decide) rfl ?_
    refine g_iconst (v := 0) ok dX0_keepHome_22 (by decide) ?_
    refine g_istore0 ok [(4, .int 0), (3, .int (-1)), (2, .ref (ad w (cN C))), (0, .ref (ad w 0)), (1, .int a0)] dX0_keepHome_23 (by decide) rfl ?_
    refine g_iconst (v := 0) ok dX0_keepHome_25 (by decide) ?_
    refine g_istore0 ok [(5, .int 0), (4, .int 0), (3, .int (-1)), (2, .ref (ad w (cN C))), (0, .ref (ad w 0)), (1, .int a0)] dX0_keepHome_26 (by decide) rfl ?_
    refine g_sub [4, 5, 3, 2, 1, 0] [(0, .ref (ad w 0)), (1, .int a0), (2, .ref (ad w (cN C))), (3, .int (-1)), (4, .int 0), (5, .int 0)] rfl ?_
    obtain ⟨n29, hB, hw⟩ := hw
    refine g_widen _ _ ?_ ?_ (gw_X0_keepHome_l28 ok n29 C a0 (cN C) (-1) 0 0 hw hB) <;> omega
  · have hw := hw.1 c2
    refine g_ldc (v := -1000000001) ok q274 dX0_keepHome_12 ?_
    refine g_widen 121 968 (by omega) (by omega) ?_
    exact g_iret ok dX0_keepHome_14 ⟨_, rfl, hw⟩
theorem kh_in (r : Nat → Int32) (n : Nat) : ∀ k, (itr (khS r n) k (-1, 0)).1 = -1 ∨ ∃ g, g < k ∧ (itr (khS r n) k (-1, 0)).1 = nI g := by
  intro k
  induction k with
  | zero => exact Or.inl rfl
  | succ k ih =>
    right
    rw [itr]
    generalize itr (khS r n) k (-1, 0) = q at ih ⊢
    unfold khS
    dsimp only
    rcases ih with h | ⟨g, hg, h⟩
    · exact ⟨k, by omega, by rw [h, if_pos (by decide)]⟩
    · split
      · exact ⟨k, by omega, rfl⟩
      · split
        · exact ⟨g, by omega, h⟩
        · exact ⟨k, by omega, rfl⟩
theorem sp_X0_keepHome (C : CS) (a0 : Int32) (hp : p_X0_keepHome C a0) : wp_X0_keepHome (fun x C1 => x = v_X0_keepHome C a0 ∧ q_X0_keepHome C a0 C1) C a0 := by
  obtain ⟨hp, hx, h2⟩ := hp
  have rf : hOp C C := hOp.rf hp.2 hx
  unfold v_X0_keepHome v_X3_keepHome
  refine fun r1 e1 => ⟨fun c1 => ?_, fun c1 => ?_⟩
  all_goals rw [e1, isIn_eq (b := 1) (B := 1) (c := 30) (D := 30) rfl rfl] at c1
  · simp only [if_pos c1]; exact ⟨trivial, rf⟩
  simp only [if_neg c1]
  obtain ⟨n, hn1, hn, rfl⟩ := in1 (m := 30) (by decide) c1
  rw [cl_k (by omega), h2]
  obtain ⟨N, eN, hN⟩ := hp.N
  rw [eN, cl_k (by omega)]
  have t2 : isTb 2 := Or.inl rfl
  have ht : TR C 2 (C.2.1 36) := by rw [← h2]; exact hp.1.2
  generalize hr : C.2.1 36 = r at *
  have H : ∀ f k, k + f = N → ∀ C1 : CS, bE 3 C C1 → GD C1 → XD C1 → ∀ q : Int32 × Int32, q = itr (khS r n) k (-1, 0) → wp_X0_keepHome_l28 (fun x C1 => x = v_X3_told0 (itr (khS r n) N (-1, 0)).1 ∧ q_X0_keepHome C (nI n) C1) (f + 1) C1 (nI n) 2 q.1 q.2 (nI k) := by
    intro f
    induction f with
    | zero =>
      intro k hk C1 b1 g1 x1 q eq
      have hk : k = N := by omega
      subst hk
      have ts : TR C1 2 r := b1.other tb3 t2 (by decide) hp.2 ht
      refine ⟨t2, fun _ r5 e5 C6 e6 => ⟨?_, ?_⟩, fun c => absurd ?_ c⟩
      · rw [e5, eq]; rfl
      · rw [e6]
        exact ⟨h2.symm, b1.wN _, g1, x1⟩
      · rw [ts.n.2.1, eN]; exact Int32.le_refl _
    | succ f ih =>
      intro k hk C1 b1 g1 x1 q eq
      have ts : TR C1 2 r := b1.other tb3 t2 (by decide) hp.2 ht
      refine ⟨t2, fun c => ?_, fun _ => ⟨r, ⟨t2, by decide, ts, g1, x1⟩, fun C9 h9 => ?_⟩⟩
      · rw [ts.n.2.1, eN, nI_leI (by omega) (by omega)] at c; omega
      have i9 := thI.of h9
      rw [i9.1]
      refine ⟨tb3, r, n, ⟨i9.1.symm, i9.ok.1, i9.ok.2, rfl, by omega⟩, fun C14 h14 => ?_⟩
      have i14 := i9.days h14.1 h14.2
      rw [i14.1]
      have eN2 : (goR r (nI k) n).1 1 = nI N := goR_1 eN hN _ n
      have e0 : C14.1 3 0 = nI N := i14.2.1.n.2.1.trans eN2
      have p2 := p2_le hN
      have : 0 < 2 ^ N := Nat.pow_pos (by decide)
      refine ⟨tb3, ⟨tb3, trivial⟩, fun r17 e17 => ⟨(goR r (nI k) n).1, i14.ok, fun r21 e21 C20 h20 x26 e26 x27 e27 x28 e28 => ?_⟩⟩
      have i20 := i14.fr h20
      have ev : r21 = bestR (goR r (nI k) n).1 (allN (goR r (nI k) n).1) := by
        rw [e21, e17, all_c e0 hN]
        unfold v_X0_best
        rw [all_v (C := rowC (goR r (nI k) n).1) ⟨eN2, hN⟩, if_neg (in_iff.mpr ⟨nI_pos' (by omega), Int32.le_refl _⟩), cl_k (by omega)]
        unfold allN
        rw [eN2, cl_k (by omega)]
      rw [e28, o1, nI_add]
      have b20 : bE 3 C C20 := b1.tr i20.2.2.1
      refine ih (k + 1) (by omega) C20 b20 i20.2.2.2.1 i20.2.2.2.2 (x26, x27) ?_
      rw [itr, ← eq, e26, e27, ev]
      have hq := kh_in r n k
      rw [← eq] at hq
      unfold khS
      by_cases c1 : q.1 < 0
      · rw [if_pos c1, if_pos c1, if_pos rfl]
      · rw [if_neg c1, if_neg c1]
        by_cases c2 : bestR (goR r (nI k) n).1 (allN (goR r (nI k) n).1) ≤ q.2
        · rw [if_pos c2, if_pos c2]
          rcases hq with h | ⟨g, hg, h⟩
          · rw [h] at c1; exact absurd (by decide) c1
          · rw [if_neg (fun z => absurd ((nI_eq (by omega) (by omega)).mp (h.symm.trans z)) (by omega))]
        · rw [if_neg c2, if_neg c2, if_pos rfl]
  exact ⟨N + 1, by omega, H N 0 (by omega) C (bE.rf 3 C) hp.2 hx (-1, 0) rfl⟩
theorem mc_X0_keepHome {w : WD} (wk : wOk w) (l : Launch) (C : CS) (a0 : Int32) (hp : p_X0_keepHome C a0) : MCW w l yX0_keepHome cX0_keepHome 8 (some .int) [(20, 95, 103, 0), (103, 105, 103, 0)] 102 121 968 [.ref (ad w 0), .int a0] C (pIR (v_X0_keepHome C a0) (q_X0_keepHome C a0)) := MCW.postIR (gw_X0_keepHome wk l C a0 (sp_X0_keepHome C a0 hp))
