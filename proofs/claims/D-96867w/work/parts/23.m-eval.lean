/-! a text's signs, worked out on a stack -/
def cStep (f : Nat → Int32) (s : List Int32) (x : Int32) : List Int32 :=
  if x < 0 then
    if x = -10 then (match s with | a :: s => (if a = 0 then 1 else 0) :: s | [] => [])
    else (match s with | b :: a :: s => v_X3_two x a b :: s | s => s)
  else (if 10000 ≤ x then f (x - 10000).toNatClampNeg else x) :: s
def cRun (f : Nat → Int32) (c : Nat → Int32) : Nat → List Int32
  | 0 => []
  | k + 1 => cStep f (cRun f c k) (c k)
def dStep (d : Nat) (x : Int32) : Nat := if x < 0 then (if x = -10 then d else d - 1) else d + 1
def cDep (c : Nat → Int32) : Nat → Nat
  | 0 => 0
  | k + 1 => dStep (cDep c k) (c k)
/-- n signs that can be worked out, with names below nf -/
def cOk (nf : Nat) (c : Nat → Int32) (n : Nat) : Prop := ∀ k, k < n → (c k < 0 → (c k = -10 → 1 ≤ cDep c k) ∧ (¬ c k = -10 → 2 ≤ cDep c k)) ∧ (¬ c k < 0 → 10000 ≤ c k → vp_in (c k - 10000) nf)
theorem cStep_len {f : Nat → Int32} {s : List Int32} {x : Int32} (h : x < 0 → (x = -10 → 1 ≤ s.length) ∧ (¬ x = -10 → 2 ≤ s.length)) : (cStep f s x).length = dStep s.length x := by
  unfold cStep dStep
  by_cases h0 : x < 0
  · rw [if_pos h0, if_pos h0]
    by_cases h1 : x = -10
    · rw [if_pos h1, if_pos h1]
      have := (h h0).1 h1
      match s with
      | a :: s => rfl
    · rw [if_neg h1, if_neg h1]
      have := (h h0).2 h1
      match s with
      | b :: a :: s => simp
      | [a] => simp at this
  · rw [if_neg h0, if_neg h0]; rfl
theorem cRun_len {f c : Nat → Int32} {nf n : Nat} (h : cOk nf c n) : ∀ k, k ≤ n → (cRun f c k).length = cDep c k := by
  intro k
  induction k with
  | zero => intro _; rfl
  | succ k ih =>
    intro hk
    have e := ih (by omega)
    rw [cRun, cDep, cStep_len (by rw [e]; exact (h k (by omega)).1), e]
theorem cDep_le (c : Nat → Int32) : ∀ k, cDep c k ≤ k := by
  intro k
  induction k with
  | zero => exact Nat.le_refl _
  | succ k ih =>
    rw [cDep, dStep]
    split
    · split <;> omega
    · omega
/-- the array holds the list, its end at 0 -/
def stk (A : Nat → Int32) : List Int32 → Prop
  | [] => True
  | a :: s => A s.length = a ∧ stk A s
theorem stk_up {A B : Nat → Int32} : ∀ {s : List Int32}, stk A s → (∀ i, i < s.length → B i = A i) → stk B s
  | [], _, _ => trivial
  | a :: s, h, e => ⟨by rw [e s.length (by simp)]; exact h.1, stk_up h.2 (fun i hi => e i (by simp; omega))⟩
/-- signs of text t in a row, and how many -/
def txC (r : Nat → Int32) (t : Nat) : Nat → Int32 := fun k => r (104 + 96 * t + k)
def txN (r : Nat → Int32) (t : Nat) : Nat := (r (76 + 2 * t) - r (76 + 2 * t) / 1000 * 1000).toNatClampNeg
/-- what text t of a row gives, the names being f -/
def evR (r f : Nat → Int32) (t : Nat) : Int32 := (cRun f (txC r t) (txN r t)).headD 0
/-- text t of the row can be worked out -/
def txOk (nf : Nat) (r : Nat → Int32) (t : Nat) : Prop := r (76 + 2 * t) - r (76 + 2 * t) / 1000 * 1000 = nI (txN r t) ∧ txN r t ≤ 96 ∧ cOk nf (txC r t) (txN r t) ∧ cDep (txC r t) (txN r t) = 1
theorem ptwo (C : CS) (x a b : Int32) : p_X3_two C x a b := by
  unfold p_X3_two
  grind
theorem ix104 (t k : Nat) : (104 + 96 * nI t + nI k : Int32) = nI (104 + 96 * t + k) := by rw [show (104 : Int32) = nI 104 from rfl, show (96 : Int32) = nI 96 from rfl, pk_mul, nI_add, nI_add]
theorem cf_X3_worksOut : CfV yX3_worksOut "TwoGuildsModel" cX3_worksOut 6 (some .int) 1 := ⟨⟨by decide, by decide, by decide⟩, q75, q1556, q1555, qs43⟩
def p_X3_worksOut (C : CS) (a0 : Int32) : Prop := ∃ t, a0 = nI t ∧ t < 14 ∧ txOk 4 (C.2.1 36) t
def v_X3_worksOut (C : CS) (a0 : Int32) : Int32 := evR (C.2.1 36) (C.2.1 50) a0.toNatClampNeg
def q_X3_worksOut (C : CS) (a0 : Int32) (C1 : CS) : Prop := frm [49] C C1
def wp_X3_worksOut_j149 (Post : Int32 → CS → Prop) (R21 : CS → Int32 → Int32 → Int32 → Int32 → Prop) (C : CS) (i1 : Int32) (i2 : Int32) (i3 : Int32) (i4 : Int32) : Prop := ∀ x9 : Int32, x9 = (i4 + Int32.ofInt 1) → 
  R21 C i1 i2 i3 x9
def wp_X3_worksOut_l21 (Post : Int32 → CS → Prop) : Nat → CS → Int32 → Int32 → Int32 → Int32 → Prop
  | 0, _, _, _, _, _ => False
  | n + 1, C, i1, i2, i3, i4 => (i3 ≤ i4 → 
  Post (C.2.1 49 0) C) ∧
  (¬ i3 ≤ i4 → 
  vp_in ((104 + (96 * i1)) + i4) 1448 ∧
    (∀ x3 : Int32, x3 = (C.2.1 36 (Int32.toNatClampNeg ((104 + (96 * i1)) + i4))) → 
    (x3 < 0 → 
    (x3 = (-10) → 
      vp_in (i2 - 1) 96 ∧
        (∀ x12 : Int32, x12 = (if (C.2.1 49 (Int32.toNatClampNeg (i2 - 1))) = 0 then (1 : Int32) else 0) → 
        vp_in (i2 - 1) 96 ∧
        (∀ C13 : CS, C13 = (wA C 49 (Int32.toNatClampNeg (i2 - 1)) x12) → 
        wp_X3_worksOut_j149 Post (fun C i1 i2 i3 i4 => wp_X3_worksOut_l21 Post n C i1 i2 i3 i4) C13 i1 i2 i3 i4))) ∧
      (¬ x3 = (-10) → 
      ∀ x6 : Int32, x6 = (i2 + Int32.ofInt (-1)) → 
        vp_in (x6 - 1) 96 ∧
        (vp_in x6 96 ∧
        (p_X3_two C x3 (C.2.1 49 (Int32.toNatClampNeg (x6 - 1))) (C.2.1 49 (Int32.toNatClampNeg x6)) ∧
        (∀ r7 : Int32, r7 = (v_X3_two x3 (C.2.1 49 (Int32.toNatClampNeg (x6 - 1))) (C.2.1 49 (Int32.toNatClampNeg x6))) → 
        vp_in (x6 - 1) 96 ∧
        (∀ C8 : CS, C8 = (wA C 49 (Int32.toNatClampNeg (x6 - 1)) r7) → 
        wp_X3_worksOut_j149 Post (fun C i1 i2 i3 i4 => wp_X3_worksOut_l21 Post n C i1 i2 i3 i4) C8 i1 x6 i3 i4)))))) ∧
    (¬ x3 < 0 → 
    ((10000 ≤ x3 → 
        vp_in (x3 - 10000) 4 ∧
          (True)) ∧
        (¬ 10000 ≤ x3 → 
        True)) ∧
      (∀ x16 : Int32, x16 = (if 10000 ≤ x3 then (C.2.1 50 (Int32.toNatClampNeg (x3 - 10000))) else x3) → 
      vp_in i2 96 ∧
      (∀ C17 : CS, C17 = (wA C 49 (Int32.toNatClampNeg i2) x16) → 
      ∀ x18 : Int32, x18 = (i2 + Int32.ofInt 1) → 
      wp_X3_worksOut_j149 Post (fun C i1 i2 i3 i4 => wp_X3_worksOut_l21 Post n C i1 i2 i3 i4) C17 i1 x18 i3 i4)))))
def wp_X3_worksOut (Post : Int32 → CS → Prop) (C : CS) (a0 : Int32) : Prop :=
  vp_in (76 + (2 * a0)) 1448 ∧
    (∀ x1 : Int32, x1 = ((C.2.1 36 (Int32.toNatClampNeg (76 + (2 * a0)))) - (C.2.1 36 (Int32.toNatClampNeg (76 + (2 * a0)))) / 1000 * 1000) → 
    ∃ m21, wp_X3_worksOut_l21 Post m21 C a0 0 x1 0)
set_option maxHeartbeats 4000000 in
set_option maxRecDepth 100000 in
theorem gw_X3_worksOut_j149 {w : WD} {x : Cx} (ok : Ok w x cX3_worksOut 6 yX3_worksOut.cls (some .int) (rmL 1 0 0)) {Post : Int32 → CS → Prop} {R21 : CS → Int32 → Int32 → Int32 → Int32 → Prop} (hR21 : ∀ C (i1 : Int32) (i2 : Int32) (i3 : Int32) (i4 : Int32), R21 C i1 i2 i3 i4 → G w x 6 0 0 (QM w x (fun v C1 => ∃ r : Int32, v = some (.int r) ∧ Post r C1) 0 0) C 21 [(0, .ref (ad w 1)), (1, .int i1), (2, .int i2), (3, .int i3), (4, .int i4)] []) : ∀ (C : CS) (i1 : Int32) (i2 : Int32) (i3 : Int32) (i4 : Int32), wp_X3_worksOut_j149 Post R21 C i1 i2 i3 i4 → G w x 6 0 0 (QM w x (fun v C1 => ∃ r : Int32, v = some (.int r) ∧ Post r C1) 0 0) C 149 [(0, .ref (ad w 1)), (1, .int i1), (2, .int i2), (3, .int i3), (4, .int i4)] [] := by
  intro C i1 i2 i3 i4 hw
  unfold wp_X3_worksOut_j149 at hw
  refine g_iinc ok 4 (fun z => [(4, .int z), (0, .ref (ad w 1)), (1, .int i1), (2, .int i2), (3, .int i3)]) dX3_worksOut_149 rfl (by decide) (fun _ => rfl) (fun x9 ex9 => ?_)
  have hw := hw x9 ex9
  refine g_goto (tgt := 21) ok dX3_worksOut_152 (by decide) ?_
  refine g_sub [1, 2, 3, 4, 0] [(0, .ref (ad w 1)), (1, .int i1), (2, .int i2), (3, .int i3), (4, .int x9)] rfl ?_
  exact hR21 C i1 i2 i3 x9 hw
set_option maxHeartbeats 4000000 in
set_option maxRecDepth 100000 in
theorem gw_X3_worksOut_l21 {w : WD} {x : Cx} (ok : Ok w x cX3_worksOut 6 yX3_worksOut.cls (some .int) (rmL 1 0 0)) {Post : Int32 → CS → Prop} : ∀ (n : Nat) (C : CS) (i1 : Int32) (i2 : Int32) (i3 : Int32) (i4 : Int32), wp_X3_worksOut_l21 Post  n C i1 i2 i3 i4 → G w x 6 0 0 (QM w x (fun v C1 => ∃ r : Int32, v = some (.int r) ∧ Post r C1) 0 0) C 21 [(0, .ref (ad w 1)), (1, .int i1), (2, .int i2), (3, .int i3), (4, .int i4)] [] := by
  intro n
  induction n with
  | zero => intro C i1 i2 i3 i4 hw; exact hw.elim
  | succ n ih =>
    intro C i1 i2 i3 i4 hw
    unfold wp_X3_worksOut_l21 at hw
    refine g_iload ok 4 dX3_worksOut_21 rfl ?_
    refine g_iload_n ok 3 dX3_worksOut_23 rfl ?_
    refine g_icmp_ge (tgt := 155) ok dX3_worksOut_24 (by decide) (fun c2 => ?_) (fun c2 => ?_)
    · have hw := hw.1 c2
      refine g_aload_n ok 0 dX3_worksOut_155 rfl ?_
      refine g_get ok 1 rfl rfl in_X3 24 (by decide) q1383 rfl dX3_worksOut_156 ?_
      refine g_iconst (v := 0) ok dX3_worksOut_159 (by decide) ?_
      refine g_iald ok 49 rfl (by unfold vp_in; decide) 0 (by decide) dX3_worksOut_160 ?_
      exact g_iret ok dX3_worksOut_161 ⟨_, rfl, hw⟩
    · have hw := hw.2 c2
      refine g_aload_n ok 0 dX3_worksOut_27 rfl ?_
      refine g_get ok 1 rfl rfl in_X3 0 (by decide) q1359 rfl dX3_worksOut_28 ?_
      refine g_bipush (v := 104) ok dX3_worksOut_31 (by decide) ?_
      refine g_bipush (v := 96) ok dX3_worksOut_33 (by decide) ?_
      refine g_iload_n ok 1 dX3_worksOut_35 rfl ?_
      refine g_imul ok dX3_worksOut_36 ?_
      refine g_iadd ok dX3_worksOut_37 ?_
      refine g_iload ok 4 dX3_worksOut_38 rfl ?_
      refine g_iadd ok dX3_worksOut_40 ?_
      obtain ⟨hg, hw⟩ := hw
      refine g_iald ok 36 rfl hg _ rfl dX3_worksOut_41 ?_
      refine g_istore ok (fun z => [(5, .int z), (0, .ref (ad w 1)), (1, .int i1), (2, .int i2), (3, .int i3), (4, .int i4)]) dX3_worksOut_42 (by decide) (fun _ => rfl) (fun x3 ex3 => ?_)
      have hw := hw x3 ex3
      refine g_iload ok 0 dX3_worksOut_44 rfl ?_
      refine g_if_lt (tgt := 85) ok dX3_worksOut_46 (by decide) (fun c4 => ?_) (fun c4 => ?_)
      · have hw := hw.1 c4
        refine g_iload ok 0 dX3_worksOut_85 rfl ?_
        refine g_bipush (v := -10) ok dX3_worksOut_87 (by decide) ?_
        refine g_icmp_ne (tgt := 119) ok dX3_worksOut_89 (by decide) (fun c5 => ?_) (fun c5 => ?_)
        · have hw := hw.2 c5
          refine g_iinc ok 3 (fun z => [(2, .int z), (5, .int x3), (0, .ref (ad w 1)), (1, .int i1), (3, .int i3), (4, .int i4)]) dX3_worksOut_119 rfl (by decide) (fun _ => rfl) (fun x6 ex6 => ?_)
          have hw := hw x6 ex6
          refine g_aload_n ok 2 dX3_worksOut_122 rfl ?_
          refine g_get ok 1 rfl rfl in_X3 24 (by decide) q1383 rfl dX3_worksOut_123 ?_
          refine g_iload_n ok 0 dX3_worksOut_126 rfl ?_
          refine g_iconst (v := 1) ok dX3_worksOut_127 (by decide) ?_
          refine g_isub ok dX3_worksOut_128 ?_
          refine g_iload ok 1 dX3_worksOut_129 rfl ?_
          refine g_aload_n ok 2 dX3_worksOut_131 rfl ?_
          refine g_get ok 1 rfl rfl in_X3 24 (by decide) q1383 rfl dX3_worksOut_132 ?_
          refine g_iload_n ok 0 dX3_worksOut_135 rfl ?_
          refine g_iconst (v := 1) ok dX3_worksOut_136 (by decide) ?_
          refine g_isub ok dX3_worksOut_137 ?_
          obtain ⟨hg, hw⟩ := hw
          refine g_iald ok 49 rfl hg _ rfl dX3_worksOut_138 ?_
          refine g_aload_n ok 2 dX3_worksOut_139 rfl ?_
          refine g_get ok 1 rfl rfl in_X3 24 (by decide) q1383 rfl dX3_worksOut_140 ?_
          refine g_iload_n ok 0 dX3_worksOut_143 rfl ?_
          obtain ⟨hg, hw⟩ := hw
          refine g_iald ok 49 rfl hg _ rfl dX3_worksOut_144 ?_
          obtain ⟨hp, hw⟩ := hw
          refine g_callSI ok [.int x3, .int (C.2.1 49 (Int32.toNatClampNeg (x6 - 1))), .int (C.2.1 49 (Int32.toNatClampNeg x6))] cf_X3_two q1557 (mc_X3_two ok.wo (xL x) C x3 (C.2.1 49 (Int32.toNatClampNeg (x6 - 1))) (C.2.1 49 (Int32.toNatClampNeg x6)) hp) rfl rfl (Nat.le_of_ble_eq_true rfl) ⟨by decide, by decide⟩ ⟨by decide, by decide⟩ dX3_worksOut_145 ?_
          refine g_nmI (fun r7 er7 => ?_)
          have hw := hw r7 er7
          obtain ⟨hg, hw⟩ := hw
          refine g_iast ok 49 rfl hg _ rfl dX3_worksOut_148 (fun C8 eC8 => ?_)
          have hw := hw C8 eC8
          refine g_sub [2, 3, 0, 4, 5] [(0, .ref (ad w 1)), (1, .int i1), (2, .int x6), (3, .int i3), (4, .int i4)] rfl ?_
          exact gw_X3_worksOut_j149 ok (fun C i1 i2 i3 i4 hw => ih C i1 i2 i3 i4 hw) C8 i1 x6 i3 i4 hw
        · have hw := hw.1 c5
          refine g_aload_n ok 1 dX3_worksOut_92 rfl ?_
          refine g_get ok 1 rfl rfl in_X3 24 (by decide) q1383 rfl dX3_worksOut_93 ?_
          refine g_iload_n ok 3 dX3_worksOut_96 rfl ?_
          refine g_iconst (v := 1) ok dX3_worksOut_97 (by decide) ?_
          refine g_isub ok dX3_worksOut_98 ?_
          refine g_aload_n ok 1 dX3_worksOut_99 rfl ?_
          refine g_get ok 1 rfl rfl in_X3 24 (by decide) q1383 rfl dX3_worksOut_100 ?_
          refine g_iload_n ok 3 dX3_worksOut_103 rfl ?_
          refine g_iconst (v := 1) ok dX3_worksOut_104 (by decide) ?_
          refine g_isub ok dX3_worksOut_105 ?_
          obtain ⟨hg, hw⟩ := hw
          refine g_iald ok 49 rfl hg _ rfl dX3_worksOut_106 ?_
          have kj11 : ∀ x12 : Int32, x12 = (if (C.2.1 49 (Int32.toNatClampNeg (i2 - 1))) = 0 then (1 : Int32) else 0) → G w x 6 0 0 (QM w x (fun v C1 => ∃ r : Int32, v = some (.int r) ∧ Post r C1) 0 0) C 115 [(0, .ref (ad w 1)), (1, .int i1), (2, .int i2), (3, .int i3), (4, .int i4)] [.int x12, .int (i2 - 1), .ref (ad w 49)] := by
            intro x12 ex12
            have hw := hw x12 ex12
            obtain ⟨hg, hw⟩ := hw
            refine g_iast ok 49 rfl hg _ rfl dX3_worksOut_115 (fun C13 eC13 => ?_)
            have hw := hw C13 eC13
            refine g_goto (tgt := 149) ok dX3_worksOut_116 (by decide) ?_
            exact gw_X3_worksOut_j149 ok (fun C i1 i2 i3 i4 hw => ih C i1 i2 i3 i4 hw) C13 i1 i2 i3 i4 hw
          refine g_if_ne (tgt := 114) ok dX3_worksOut_107 (by decide) (fun c10 => ?_) (fun c10 => ?_)
          · refine g_iconst (v := 0) ok dX3_worksOut_114 (by decide) ?_
            exact g_sub [1, 2, 3, 4, 5] [(0, .ref (ad w 1)), (1, .int i1), (2, .int i2), (3, .int i3), (4, .int i4)] rfl (kj11 _ (by simp only [if_neg c10]))
          · refine g_iconst (v := 1) ok dX3_worksOut_110 (by decide) ?_
            refine g_goto (tgt := 115) ok dX3_worksOut_111 (by decide) ?_
            exact g_sub [1, 2, 3, 4, 5] [(0, .ref (ad w 1)), (1, .int i1), (2, .int i2), (3, .int i3), (4, .int i4)] rfl (kj11 _ (by simp only [if_pos c10]))
      · have hw := hw.2 c4
        refine g_aload_n ok 1 dX3_worksOut_49 rfl ?_
        refine g_get ok 1 rfl rfl in_X3 24 (by decide) q1383 rfl dX3_worksOut_50 ?_
        refine g_iload_n ok 3 dX3_worksOut_53 rfl ?_
        refine g_iload ok 0 dX3_worksOut_54 rfl ?_
        refine g_sipush (v := 10000) ok dX3_worksOut_56 (by decide) ?_
        obtain ⟨hr, hw⟩ := hw
        have kj15 : ∀ x16 : Int32, x16 = (if 10000 ≤ x3 then (C.2.1 50 (Int32.toNatClampNeg (x3 - 10000))) else x3) → G w x 6 0 0 (QM w x (fun v C1 => ∃ r : Int32, v = some (.int r) ∧ Post r C1) 0 0) C 78 [(0, .ref (ad w 1)), (1, .int i1), (2, .int i2), (3, .int i3), (4, .int i4)] [.int x16, .int i2, .ref (ad w 49)] := by
          intro x16 ex16
          have hw := hw x16 ex16
          obtain ⟨hg, hw⟩ := hw
          refine g_iast ok 49 rfl hg _ rfl dX3_worksOut_78 (fun C17 eC17 => ?_)
          have hw := hw C17 eC17
          refine g_iinc ok 2 (fun z => [(2, .int z), (0, .ref (ad w 1)), (1, .int i1), (3, .int i3), (4, .int i4)]) dX3_worksOut_79 rfl (by decide) (fun _ => rfl) (fun x18 ex18 => ?_)
          have hw := hw x18 ex18
          refine g_goto (tgt := 149) ok dX3_worksOut_82 (by decide) ?_
          refine g_sub [1, 2, 0, 3, 4] [(0, .ref (ad w 1)), (1, .int i1), (2, .int x18), (3, .int i3), (4, .int i4)] rfl ?_
          exact gw_X3_worksOut_j149 ok (fun C i1 i2 i3 i4 hw => ih C i1 i2 i3 i4 hw) C17 i1 x18 i3 i4 hw
        have hw := hr
        refine g_icmp_ge (tgt := 67) ok dX3_worksOut_59 (by decide) (fun c14 => ?_) (fun c14 => ?_)
        · have hw := hw.1 c14
          refine g_aload_n ok 1 dX3_worksOut_67 rfl ?_
          refine g_get ok 1 rfl rfl in_X3 25 (by decide) q1384 rfl dX3_worksOut_68 ?_
          refine g_iload ok 0 dX3_worksOut_71 rfl ?_
          refine g_sipush (v := 10000) ok dX3_worksOut_73 (by decide) ?_
          refine g_isub ok dX3_worksOut_76 ?_
          obtain ⟨hg, hw⟩ := hw
          refine g_iald ok 50 rfl hg _ rfl dX3_worksOut_77 ?_
          exact g_sub [1, 2, 3, 4, 5] [(0, .ref (ad w 1)), (1, .int i1), (2, .int i2), (3, .int i3), (4, .int i4)] rfl (kj15 _ (by simp only [if_pos c14]))
        · have hw := hw.2 c14
          refine g_iload ok 0 dX3_worksOut_62 rfl ?_
          refine g_goto (tgt := 78) ok dX3_worksOut_64 (by decide) ?_
          exact g_sub [1, 2, 3, 4, 5] [(0, .ref (ad w 1)), (1, .int i1), (2, .int i2), (3, .int i3), (4, .int i4)] rfl (kj15 _ (by simp only [if_neg c14]))
set_option maxHeartbeats 4000000 in
set_option maxRecDepth 100000 in
theorem gw_X3_worksOut {w : WD} (wk : wOk w) (l : Launch) (C : CS) (a0 : Int32) {Post : Int32 → CS → Prop} (hw : wp_X3_worksOut Post C a0) : MC w l yX3_worksOut cX3_worksOut 6 (some .int) 1 0 0 [.ref (ad w 1), .int a0] C (fun v C1 => ∃ r : Int32, v = some (.int r) ∧ Post r C1) := by
  unfold wp_X3_worksOut at hw
  refine MC.of wk (by decide) (Nat.le_of_ble_eq_true rfl) (fun x hx ok => ?_)
  subst hx
  show G w x 6 0 0 (QM w x _ 0 0) C 0 [(0, .ref (ad w 1)), (1, .int a0)] []
  refine g_iconst (v := 0) ok dX3_worksOut_0 (by decide) ?_
  refine g_istore_n0 ok [(2, .int 0), (0, .ref (ad w 1)), (1, .int a0)] dX3_worksOut_1 (by decide) rfl ?_
  refine g_aload_n ok 1 dX3_worksOut_2 rfl ?_
  refine g_get ok 1 rfl rfl in_X3 0 (by decide) q1359 rfl dX3_worksOut_3 ?_
  refine g_bipush (v := 76) ok dX3_worksOut_6 (by decide) ?_
  refine g_iconst (v := 2) ok dX3_worksOut_8 (by decide) ?_
  refine g_iload_n ok 2 dX3_worksOut_9 rfl ?_
  refine g_imul ok dX3_worksOut_10 ?_
  refine g_iadd ok dX3_worksOut_11 ?_
  obtain ⟨hg, hw⟩ := hw
  refine g_iald ok 36 rfl hg _ rfl dX3_worksOut_12 ?_
  refine g_sipush (v := 1000) ok dX3_worksOut_13 (by decide) ?_
  refine g_irem ok dX3_worksOut_16 (by decide) ?_
  refine g_istore_n ok (fun z => [(3, .int z), (2, .int 0), (0, .ref (ad w 1)), (1, .int a0)]) dX3_worksOut_17 (by decide) (fun _ => rfl) (fun x1 ex1 => ?_)
  have hw := hw x1 ex1
  refine g_iconst (v := 0) ok dX3_worksOut_18 (by decide) ?_
  refine g_istore0 ok [(4, .int 0), (3, .int x1), (2, .int 0), (0, .ref (ad w 1)), (1, .int a0)] dX3_worksOut_19 (by decide) rfl ?_
  refine g_sub [3, 4, 2, 1, 0] [(0, .ref (ad w 1)), (1, .int a0), (2, .int 0), (3, .int x1), (4, .int 0)] rfl ?_
  obtain ⟨n19, hw⟩ := hw
  exact gw_X3_worksOut_l21 ok n19 C a0 0 x1 0 hw
theorem sp_X3_worksOut (C : CS) (a0 : Int32) (hp : p_X3_worksOut C a0) : wp_X3_worksOut (fun r C1 => r = v_X3_worksOut C a0 ∧ q_X3_worksOut C a0 C1) C a0 := by
  obtain ⟨t, rfl, ht, en, hn, hc, hd⟩ := hp
  refine ⟨by rw [ix76]; exact vp_k (by omega), fun x2 e2 => ?_⟩
  rw [ix76, cl_k (by omega), en] at e2
  subst e2
  have hlen := fun k hk => cRun_len (f := C.2.1 50) hc k hk
  have H : ∀ d k, k + d = txN (C.2.1 36) t → ∀ C1 : CS, frm [49] C C1 → stk (C1.2.1 49) (cRun (C.2.1 50) (txC (C.2.1 36) t) k) → wp_X3_worksOut_l21 (fun r C1 => r = v_X3_worksOut C (nI t) ∧ q_X3_worksOut C (nI t) C1) (d + 1) C1 (nI t) (nI (cRun (C.2.1 50) (txC (C.2.1 36) t) k).length) (nI (txN (C.2.1 36) t)) (nI k) := by
    intro d
    induction d with
    | zero =>
      intro k hk C1 hf hs
      have ek : k = txN (C.2.1 36) t := by omega
      subst ek
      refine ⟨fun _ => ⟨?_, hf⟩, fun c => absurd ?_ c⟩
      · have h1 := hlen _ (Nat.le_refl _)
        rw [hd] at h1
        unfold v_X3_worksOut evR
        rw [cl_k (by omega)]
        generalize cRun (C.2.1 50) (txC (C.2.1 36) t) (txN (C.2.1 36) t) = s at h1 hs
        match s with
        | [a] => exact hs.1
      · rw [nI_leI (by omega) (by omega)]; omega
    | succ d ih =>
      intro k hk C1 hf hs
      have hk2 : k < txN (C.2.1 36) t := by omega
      have hl := hlen k (by omega)
      have hdk := cDep_le (txC (C.2.1 36) t) k
      have h36 : C1.2.1 36 = C.2.1 36 := hf.2.2 36 (by decide)
      have h50 : C1.2.1 50 = C.2.1 50 := hf.2.2 50 (by decide)
      obtain ⟨o1', o2'⟩ := hc k hk2
      have hstep : cRun (C.2.1 50) (txC (C.2.1 36) t) (k + 1) = cStep (C.2.1 50) (cRun (C.2.1 50) (txC (C.2.1 36) t) k) (txC (C.2.1 36) t k) := rfl
      refine ⟨fun c => ?_, fun _ => ⟨by rw [ix104]; exact vp_k (by omega), fun x5 e5 => ?_⟩⟩
      · rw [nI_leI (by omega) (by omega)] at c; omega
      · rw [ix104, cl_k (by omega), h36] at e5
        have e5 : x5 = txC (C.2.1 36) t k := e5
        generalize hS : cRun (C.2.1 50) (txC (C.2.1 36) t) k = S at hs hl hstep ⊢
        rw [← e5] at o1' o2' hstep
        refine ⟨fun c => ⟨fun c2 => ?_, fun c2 => ?_⟩, fun c => ?_⟩
        · have hge := (o1' c).1 c2
          rw [← hl] at hge
          match S, hge with
          | a :: S, _ =>
            have ei : nI (a :: S).length - 1 = nI S.length := nI_pred S.length
            have hv : vp_in (nI (a :: S).length - 1) 96 := by rw [ei]; exact vp_k (by simp at hl; omega)
            refine ⟨hv, fun x14 e14 => ⟨hv, fun C15 e15 x11 e11 => ?_⟩⟩
            rw [ei, cl_k (by simp at hl; omega), hs.1] at e14
            rw [ei, cl_k (by simp at hl; omega)] at e15
            rw [e11, o1, nI_add]
            have e2 : cRun (C.2.1 50) (txC (C.2.1 36) t) (k + 1) = x14 :: S := by rw [hstep, cStep, if_pos c, if_pos c2, e14]
            have h3 := ih (k + 1) (by omega) C15 (by rw [e15]; exact hf.w (by decide)) (by
              rw [e2, e15]
              refine ⟨by simp [wA, up2], stk_up hs.2 (fun i hi => ?_)⟩
              simp [wA, up2, show i ≠ S.length by omega])
            rw [e2] at h3
            exact h3
        · have hge := (o1' c).2 c2
          rw [← hl] at hge
          match S, hge with
          | b :: a :: S, _ =>
            intro x8 e8
            have e8 : x8 = nI (S.length + 1) := by rw [e8, om1]; exact nI_dec
            have ei : x8 - 1 = nI S.length := by rw [e8]; exact nI_pred S.length
            have hS9 : S.length + 2 ≤ 96 := by simp at hl; omega
            have hv : vp_in (x8 - 1) 96 := by rw [ei]; exact vp_k (by omega)
            refine ⟨hv, by rw [e8]; exact vp_k (by omega), ptwo _ _ _ _, fun r9 e9 => ⟨hv, fun C10 e10 x11 e11 => ?_⟩⟩
            rw [ei, cl_k (by omega), e8, cl_k (by omega)] at e9
            have q1 : C1.2.1 49 (S.length + 1) = b := hs.1
            have q2 : C1.2.1 49 S.length = a := hs.2.1
            rw [q1, q2] at e9
            rw [ei, cl_k (by omega)] at e10
            rw [e11, o1, nI_add, e8]
            have e2 : cRun (C.2.1 50) (txC (C.2.1 36) t) (k + 1) = r9 :: S := by rw [hstep, cStep, if_pos c, if_neg c2, e9]
            have h3 := ih (k + 1) (by omega) C10 (by rw [e10]; exact hf.w (by decide)) (by
              rw [e2, e10]
              refine ⟨by simp [wA, up2], stk_up hs.2.2 (fun i hi => ?_)⟩
              simp [wA, up2, show i ≠ S.length by omega])
            rw [e2] at h3
            exact h3
        · refine ⟨⟨fun c3 => ⟨by have := o2' c c3; exact this, trivial⟩, fun _ => trivial⟩, fun x18 e18 => ⟨vp_k (by omega), fun C19 e19 x20 e20 x11 e11 => ?_⟩⟩
          rw [h50] at e18
          rw [cl_k (by omega)] at e19
          rw [e11, o1, nI_add, e20, o1, nI_add]
          have e2 : cRun (C.2.1 50) (txC (C.2.1 36) t) (k + 1) = x18 :: S := by rw [hstep]; unfold cStep; rw [if_neg c, e18]
          have h3 := ih (k + 1) (by omega) C19 (by rw [e19]; exact hf.w (by decide)) (by
            rw [e2, e19]
            refine ⟨by simp [wA, up2], stk_up hs (fun i hi => ?_)⟩
            simp [wA, up2, show i ≠ S.length by omega])
          rw [e2] at h3
          exact h3
  exact ⟨_, H (txN (C.2.1 36) t) 0 (by omega) C (frm.rf _ _) trivial⟩
theorem mc_X3_worksOut {w : WD} (wk : wOk w) (l : Launch) (C : CS) (a0 : Int32) (hp : p_X3_worksOut C a0) : MC w l yX3_worksOut cX3_worksOut 6 (some .int) 1 0 0 [.ref (ad w 1), .int a0] C (pIR (v_X3_worksOut C a0) (q_X3_worksOut C a0)) := MC.postIR (gw_X3_worksOut wk l C a0 (sp_X3_worksOut C a0 hp))
