/-- a set without one of its members -/
def clr (s f : Nat) : Nat := if s / 2 ^ f % 2 = 1 then s - 2 ^ f else s
theorem clr_i : ∀ f, f < 10 → ∀ s, s < 1024 → nI s &&& ((1 <<< (nI f &&& 31)) ^^^ (-1)) = nI (clr s f) := by decide +kernel
theorem shl_i : ∀ n, n < 11 → (1 <<< (nI n &&& 31) : Int32) = nI (2 ^ n) := by decide +kernel
theorem clr_le (s f : Nat) : clr s f ≤ s := by
  unfold clr
  split
  · exact Nat.sub_le _ _
  · exact Nat.le_refl _
theorem fb_lt : ∀ s, s < 1024 → 0 < s → fbit s < 10 ∧ 2 ^ fbit s ≤ s ∧ s / 2 ^ fbit s % 2 = 1 := by decide +kernel
theorem clr_lt {s : Nat} (h : s < 1024) (h0 : 0 < s) : clr s (fbit s) < s := by
  obtain ⟨h1, h2, h3⟩ := fb_lt s h h0
  unfold clr
  rw [if_pos h3]
  have : 0 < 2 ^ fbit s := Nat.pow_pos (by decide)
  omega
theorem fb_ltN {s N : Nat} (h : s < 2 ^ N) (hN : N ≤ 10) (h0 : 0 < s) : fbit s < N := by
  have h10 : s < 1024 := Nat.lt_of_lt_of_le h (Nat.pow_le_pow_right (by decide) hN : 2 ^ N ≤ 2 ^ 10)
  obtain ⟨-, h2, -⟩ := fb_lt s h10 h0
  exact (Nat.pow_lt_pow_iff_right (by decide : 1 < 2)).mp (Nat.lt_of_le_of_lt h2 h)
/-- the best of a set: its first glove has nobody, or one of the others -/
def bfS (vf tab : Nat → Int32) (rest g : Nat) (b : Int32) : Int32 := if rest / 2 ^ g % 2 = 1 then (if vf g < 0 then b else (if vf g + tab (clr rest g) ≤ b then b else vf g + tab (clr rest g))) else b
def bfL (vf tab : Nat → Int32) (rest : Nat) : Nat → Nat → Int32 → Int32
  | 0, _, b => b
  | d + 1, g, b => bfL vf tab rest d (g + 1) (bfS vf tab rest g b)
def bestF (v : Nat → Nat → Int32) (tab : Nat → Int32) (N s : Nat) : Int32 := if s = 0 then 0 else bfL (v (fbit s)) tab (clr s (fbit s)) (N - (fbit s + 1)) (fbit s + 1) (tab (clr s (fbit s)))
theorem bfL_congr {vf vf2 tab tab2 : Nat → Int32} {rest N : Nat} (h1 : ∀ g, g < N → vf g = vf2 g) (h2 : ∀ s, s ≤ rest → tab s = tab2 s) : ∀ d g b, g + d ≤ N → bfL vf tab rest d g b = bfL vf2 tab2 rest d g b := by
  intro d
  induction d with
  | zero => intro g b _; rfl
  | succ d ih =>
    intro g b hg
    have e : bfS vf tab rest g b = bfS vf2 tab2 rest g b := by unfold bfS; rw [h1 g (by omega), h2 _ (clr_le rest g)]
    rw [bfL, bfL, e, ih (g + 1) _ (by omega)]
theorem bestF_congr {v v2 : Nat → Nat → Int32} {tab tab2 : Nat → Int32} {N s : Nat} (hs : s < 2 ^ N) (hN : N ≤ 10) (h1 : ∀ f g, f < g → g < N → v f g = v2 f g) (h2 : ∀ q, q < s → tab q = tab2 q) : bestF v tab N s = bestF v2 tab2 N s := by
  unfold bestF
  by_cases h0 : s = 0
  · rw [if_pos h0, if_pos h0]
  · rw [if_neg h0, if_neg h0]
    have h10 : s < 1024 := Nat.lt_of_lt_of_le hs (Nat.pow_le_pow_right (by decide) hN : 2 ^ N ≤ 2 ^ 10)
    have hc := clr_lt h10 (by omega)
    have hf := fb_ltN hs hN (by omega)
    rw [h2 _ hc]
    -- only places above the first are read
    have key : ∀ d g b, fbit s < g → g + d ≤ N → bfL (v (fbit s)) tab (clr s (fbit s)) d g b = bfL (v2 (fbit s)) tab2 (clr s (fbit s)) d g b := by
      intro d
      induction d with
      | zero => intro g b _ _; rfl
      | succ d ih =>
        intro g b hg hd
        have e : bfS (v (fbit s)) tab (clr s (fbit s)) g b = bfS (v2 (fbit s)) tab2 (clr s (fbit s)) g b := by
          unfold bfS
          rw [h1 _ g hg (by omega), h2 _ (Nat.lt_of_le_of_lt (clr_le _ _) hc)]
        rw [bfL, bfL, e, ih (g + 1) _ (by omega) (by omega)]
    exact key _ _ _ (by omega) (by omega)
/-- the table, set by set -/
def tabI (v : Nat → Nat → Int32) (N : Nat) : Nat → Nat → Int32
  | 0 => fun _ => 0
  | k + 1 => upd (tabI v N k) k (bestF v (tabI v N k) N k)
/-- VALUE of the best pairing of a set -/
def bT (v : Nat → Nat → Int32) (N s : Nat) : Int32 := tabI v N (s + 1) s
theorem tabI_lt (v : Nat → Nat → Int32) (N : Nat) : ∀ k s, s < k → tabI v N k s = bT v N s := by
  intro k
  induction k with
  | zero => intro s h; omega
  | succ k ih =>
    intro s hs
    by_cases h : s = k
    · subst h; rfl
    · rw [tabI, upd, if_neg h, ih s (by omega)]
theorem bT_eq {v : Nat → Nat → Int32} {N s : Nat} (hs : s < 2 ^ N) (hN : N ≤ 10) : bT v N s = bestF v (bT v N) N s := by
  unfold bT
  rw [tabI, upd, if_pos rfl]
  exact bestF_congr hs hN (fun _ _ _ _ => rfl) (fun q hq => tabI_lt v N s q hq)
theorem bT_congr {v v2 : Nat → Nat → Int32} {N : Nat} (hN : N ≤ 10) (h1 : ∀ f g, f < g → g < N → v f g = v2 f g) : ∀ k s, s < k → s < 2 ^ N → bT v N s = bT v2 N s := by
  intro k
  induction k with
  | zero => intro s h; omega
  | succ k ih =>
    intro s hs h2
    rw [bT_eq h2 hN, bT_eq h2 hN]
    exact bestF_congr h2 hN h1 (fun q hq => ih q (by omega) (Nat.lt_trans hq h2))
theorem ix10 (a b : Nat) : (10 * nI a + nI b : Int32) = nI (10 * a + b) := by rw [show (10 : Int32) = nI 10 from rfl, pk_mul, nI_add]
theorem cf_X3_bestFrom : CfV yX3_bestFrom "TwoGuildsModel" cX3_bestFrom 7 (some .int) 1 := ⟨⟨by decide, by decide, by decide⟩, q75, q1589, q1588, qs47⟩
def p_X3_bestFrom (C : CS) (a0 : Int32) : Prop := ∃ N s, gOk C N ∧ a0 = nI s ∧ s < 2 ^ N
def v_X3_bestFrom (C : CS) (a0 : Int32) : Int32 := bestF (fun f g => C.2.1 39 (10 * f + g)) (C.2.1 40) (C.2.1 36 1).toNatClampNeg a0.toNatClampNeg
def wp_X3_bestFrom_l32 (Post : Int32 → CS → Prop) : Nat → CS → Int32 → Int32 → Int32 → Int32 → Prop
  | 0, _, _, _, _, _ => False
  | n + 1, C, i2, i3, i4, i5 => ((C.2.1 36 1) ≤ i5 → 
  Post i4 C) ∧
  (¬ (C.2.1 36 1) ≤ i5 → 
  ((((i3 >>> (i5 &&& 31)) &&& 1) = 1 → 
      vp_in ((10 * i2) + i5) 100 ∧
        ((((C.2.1 39 (Int32.toNatClampNeg ((10 * i2) + i5))) < 0 → 
          True) ∧
          (¬ (C.2.1 39 (Int32.toNatClampNeg ((10 * i2) + i5))) < 0 → 
          vp_in ((10 * i2) + i5) 100 ∧
            (vp_in (i3 &&& ((1 <<< (i5 &&& 31)) ^^^ (-1))) 1024 ∧
            (True)))) ∧
        (True))) ∧
      (¬ ((i3 >>> (i5 &&& 31)) &&& 1) = 1 → 
      True)) ∧
    (∀ x13 : Int32, x13 = (if ((i3 >>> (i5 &&& 31)) &&& 1) = 1 then (if (C.2.1 39 (Int32.toNatClampNeg ((10 * i2) + i5))) < 0 then i4 else (if ((C.2.1 39 (Int32.toNatClampNeg ((10 * i2) + i5))) + (C.2.1 40 (Int32.toNatClampNeg (i3 &&& ((1 <<< (i5 &&& 31)) ^^^ (-1)))))) ≤ i4 then i4 else ((C.2.1 39 (Int32.toNatClampNeg ((10 * i2) + i5))) + (C.2.1 40 (Int32.toNatClampNeg (i3 &&& ((1 <<< (i5 &&& 31)) ^^^ (-1)))))))) else i4) → 
    ∀ x14 : Int32, x14 = (i5 + Int32.ofInt 1) → 
    wp_X3_bestFrom_l32 Post n C i2 i3 x13 x14))
def wp_X3_bestFrom (Post : Int32 → CS → Prop) (C : CS) (a0 : Int32) : Prop :=
  (a0 = 0 → 
    Post 0 C) ∧
    (¬ a0 = 0 → 
    p_X3_firstOf C a0 ∧
      (∀ r2 : Int32, r2 = (v_X3_firstOf a0) → 
      ∀ x3 : Int32, x3 = (a0 &&& ((1 <<< (r2 &&& 31)) ^^^ (-1))) → 
      vp_in x3 1024 ∧
      (∀ x4 : Int32, x4 = (C.2.1 40 (Int32.toNatClampNeg x3)) → 
      ∀ x5 : Int32, x5 = (r2 + 1) → 
      ∃ m32, wp_X3_bestFrom_l32 Post m32 C r2 x3 x4 x5)))
set_option maxHeartbeats 4000000 in
set_option maxRecDepth 100000 in
theorem gw_X3_bestFrom_l32 {w : WD} {x : Cx} (ok : Ok w x cX3_bestFrom 7 yX3_bestFrom.cls (some .int) (rmL 1 0 0)) {Post : Int32 → CS → Prop} : ∀ (n : Nat) (C : CS) (i2 : Int32) (i3 : Int32) (i4 : Int32) (i5 : Int32), wp_X3_bestFrom_l32 Post  n C i2 i3 i4 i5 → G w x 7 0 0 (QM w x (fun v C1 => ∃ r : Int32, v = some (.int r) ∧ Post r C1) 0 0) C 32 [(0, .ref (ad w 1)), (2, .int i2), (3, .int i3), (4, .int i4), (5, .int i5)] [] := by
  intro n
  induction n with
  | zero => intro C i2 i3 i4 i5 hw; exact hw.elim
  | succ n ih =>
    intro C i2 i3 i4 i5 hw
    unfold wp_X3_bestFrom_l32 at hw
    refine g_iload ok 4 dX3_bestFrom_32 rfl ?_
    refine g_aload_n ok 0 dX3_bestFrom_34 rfl ?_
    refine g_get ok 1 rfl rfl in_X3 0 (by decide) q1359 rfl dX3_bestFrom_35 ?_
    refine g_iconst (v := 1) ok dX3_bestFrom_38 (by decide) ?_
    refine g_iald ok 36 rfl (by unfold vp_in; decide) 1 (by decide) dX3_bestFrom_39 ?_
    refine g_icmp_ge (tgt := 118) ok dX3_bestFrom_40 (by decide) (fun c6 => ?_) (fun c6 => ?_)
    · have hw := hw.1 c6
      refine g_iload ok 3 dX3_bestFrom_118 rfl ?_
      exact g_iret ok dX3_bestFrom_120 ⟨_, rfl, hw⟩
    · have hw := hw.2 c6
      refine g_iload_n ok 2 dX3_bestFrom_43 rfl ?_
      refine g_iload ok 4 dX3_bestFrom_44 rfl ?_
      refine g_ishr ok dX3_bestFrom_46 ?_
      refine g_iconst (v := 1) ok dX3_bestFrom_47 (by decide) ?_
      refine g_iand ok dX3_bestFrom_48 ?_
      refine g_iconst (v := 1) ok dX3_bestFrom_49 (by decide) ?_
      obtain ⟨hr, hw⟩ := hw
      have kj12 : ∀ x13 : Int32, x13 = (if ((i3 >>> (i5 &&& 31)) &&& 1) = 1 then (if (C.2.1 39 (Int32.toNatClampNeg ((10 * i2) + i5))) < 0 then i4 else (if ((C.2.1 39 (Int32.toNatClampNeg ((10 * i2) + i5))) + (C.2.1 40 (Int32.toNatClampNeg (i3 &&& ((1 <<< (i5 &&& 31)) ^^^ (-1)))))) ≤ i4 then i4 else ((C.2.1 39 (Int32.toNatClampNeg ((10 * i2) + i5))) + (C.2.1 40 (Int32.toNatClampNeg (i3 &&& ((1 <<< (i5 &&& 31)) ^^^ (-1)))))))) else i4) → G w x 7 0 0 (QM w x (fun v C1 => ∃ r : Int32, v = some (.int r) ∧ Post r C1) 0 0) C 112 [(0, .ref (ad w 1)), (2, .int i2), (3, .int i3), (4, .int x13), (5, .int i5)] [] := by
        intro x13 ex13
        have hw := hw x13 ex13
        refine g_iinc ok 4 (fun z => [(5, .int z), (0, .ref (ad w 1)), (2, .int i2), (3, .int i3), (4, .int x13)]) dX3_bestFrom_112 rfl (by decide) (fun _ => rfl) (fun x14 ex14 => ?_)
        have hw := hw x14 ex14
        refine g_goto (tgt := 32) ok dX3_bestFrom_115 (by decide) ?_
        refine g_sub [1, 2, 3, 4, 0] [(0, .ref (ad w 1)), (2, .int i2), (3, .int i3), (4, .int x13), (5, .int x14)] rfl ?_
        exact ih C i2 i3 x13 x14 hw
      have hw := hr
      refine g_icmp_ne (tgt := 112) ok dX3_bestFrom_50 (by decide) (fun c7 => ?_) (fun c7 => ?_)
      · have hw := hw.2 c7
        exact (kj12 _ (by simp only [if_neg c7]))
      · have hw := hw.1 c7
        refine g_aload_n ok 0 dX3_bestFrom_53 rfl ?_
        refine g_get ok 1 rfl rfl in_X3 4 (by decide) q1363 rfl dX3_bestFrom_54 ?_
        refine g_bipush (v := 10) ok dX3_bestFrom_57 (by decide) ?_
        refine g_iload_n ok 1 dX3_bestFrom_59 rfl ?_
        refine g_imul ok dX3_bestFrom_60 ?_
        refine g_iload ok 4 dX3_bestFrom_61 rfl ?_
        refine g_iadd ok dX3_bestFrom_63 ?_
        obtain ⟨hg, hw⟩ := hw
        refine g_iald ok 39 rfl hg _ rfl dX3_bestFrom_64 ?_
        obtain ⟨hr, hw⟩ := hw
        have kj11 : G w x 7 0 0 (QM w x (fun v C1 => ∃ r : Int32, v = some (.int r) ∧ Post r C1) 0 0) C 112 [(0, .ref (ad w 1)), (2, .int i2), (3, .int i3), (4, .int (if (C.2.1 39 (Int32.toNatClampNeg ((10 * i2) + i5))) < 0 then i4 else (if ((C.2.1 39 (Int32.toNatClampNeg ((10 * i2) + i5))) + (C.2.1 40 (Int32.toNatClampNeg (i3 &&& ((1 <<< (i5 &&& 31)) ^^^ (-1)))))) ≤ i4 then i4 else ((C.2.1 39 (Int32.toNatClampNeg ((10 * i2) + i5))) + (C.2.1 40 (Int32.toNatClampNeg (i3 &&& ((1 <<< (i5 &&& 31)) ^^^ (-1))))))))), (5, .int i5)] [] := by
          exact (kj12 _ (by simp only [if_pos c7]))
        have hw := hr
        refine g_if_lt (tgt := 112) ok dX3_bestFrom_65 (by decide) (fun c8 => ?_) (fun c8 => ?_)
        · have hw := hw.1 c8
          simp only [if_pos c8] at kj11
          exact kj11
        · have hw := hw.2 c8
          refine g_aload_n ok 0 dX3_bestFrom_68 rfl ?_
          refine g_get ok 1 rfl rfl in_X3 4 (by decide) q1363 rfl dX3_bestFrom_69 ?_
          refine g_bipush (v := 10) ok dX3_bestFrom_72 (by decide) ?_
          refine g_iload_n ok 1 dX3_bestFrom_74 rfl ?_
          refine g_imul ok dX3_bestFrom_75 ?_
          refine g_iload ok 4 dX3_bestFrom_76 rfl ?_
          refine g_iadd ok dX3_bestFrom_78 ?_
          obtain ⟨hg, hw⟩ := hw
          refine g_iald ok 39 rfl hg _ rfl dX3_bestFrom_79 ?_
          refine g_aload_n ok 0 dX3_bestFrom_80 rfl ?_
          refine g_get ok 1 rfl rfl in_X3 5 (by decide) q1364 rfl dX3_bestFrom_81 ?_
          refine g_iload_n ok 2 dX3_bestFrom_84 rfl ?_
          refine g_iconst (v := 1) ok dX3_bestFrom_85 (by decide) ?_
          refine g_iload ok 4 dX3_bestFrom_86 rfl ?_
          refine g_ishl ok dX3_bestFrom_88 ?_
          refine g_iconst (v := -1) ok dX3_bestFrom_89 (by decide) ?_
          refine g_ixor ok dX3_bestFrom_90 ?_
          refine g_iand ok dX3_bestFrom_91 ?_
          obtain ⟨hg, hw⟩ := hw
          refine g_iald ok 40 rfl hg _ rfl dX3_bestFrom_92 ?_
          refine g_iadd ok dX3_bestFrom_93 ?_
          refine g_istore0 ok [(6, .int ((C.2.1 39 (Int32.toNatClampNeg ((10 * i2) + i5))) + (C.2.1 40 (Int32.toNatClampNeg (i3 &&& ((1 <<< (i5 &&& 31)) ^^^ (-1))))))), (0, .ref (ad w 1)), (2, .int i2), (3, .int i3), (4, .int i4), (5, .int i5)] dX3_bestFrom_94 (by decide) rfl ?_
          refine g_iload ok 0 dX3_bestFrom_96 rfl ?_
          refine g_iload ok 4 dX3_bestFrom_98 rfl ?_
          have kj10 : G w x 7 0 0 (QM w x (fun v C1 => ∃ r : Int32, v = some (.int r) ∧ Post r C1) 0 0) C 110 [(0, .ref (ad w 1)), (2, .int i2), (3, .int i3), (5, .int i5)] [.int (if ((C.2.1 39 (Int32.toNatClampNeg ((10 * i2) + i5))) + (C.2.1 40 (Int32.toNatClampNeg (i3 &&& ((1 <<< (i5 &&& 31)) ^^^ (-1)))))) ≤ i4 then i4 else ((C.2.1 39 (Int32.toNatClampNeg ((10 * i2) + i5))) + (C.2.1 40 (Int32.toNatClampNeg (i3 &&& ((1 <<< (i5 &&& 31)) ^^^ (-1)))))))] := by
            refine g_istore0 ok [(4, .int (if ((C.2.1 39 (Int32.toNatClampNeg ((10 * i2) + i5))) + (C.2.1 40 (Int32.toNatClampNeg (i3 &&& ((1 <<< (i5 &&& 31)) ^^^ (-1)))))) ≤ i4 then i4 else ((C.2.1 39 (Int32.toNatClampNeg ((10 * i2) + i5))) + (C.2.1 40 (Int32.toNatClampNeg (i3 &&& ((1 <<< (i5 &&& 31)) ^^^ (-1)))))))), (0, .ref (ad w 1)), (2, .int i2), (3, .int i3), (5, .int i5)] dX3_bestFrom_110 (by decide) rfl ?_
            simp only [if_neg c8] at kj11
            exact g_sub [1, 2, 3, 0, 4] [(0, .ref (ad w 1)), (2, .int i2), (3, .int i3), (4, .int (if ((C.2.1 39 (Int32.toNatClampNeg ((10 * i2) + i5))) + (C.2.1 40 (Int32.toNatClampNeg (i3 &&& ((1 <<< (i5 &&& 31)) ^^^ (-1)))))) ≤ i4 then i4 else ((C.2.1 39 (Int32.toNatClampNeg ((10 * i2) + i5))) + (C.2.1 40 (Int32.toNatClampNeg (i3 &&& ((1 <<< (i5 &&& 31)) ^^^ (-1)))))))), (5, .int i5)] rfl kj11
          refine g_icmp_le (tgt := 108) ok dX3_bestFrom_100 (by decide) (fun c9 => ?_) (fun c9 => ?_)
          · refine g_iload ok 4 dX3_bestFrom_108 rfl ?_
            simp only [if_pos c9] at kj10
            exact g_sub [1, 2, 3, 5] [(0, .ref (ad w 1)), (2, .int i2), (3, .int i3), (5, .int i5)] rfl kj10
          · refine g_iload ok 0 dX3_bestFrom_103 rfl ?_
            refine g_goto (tgt := 110) ok dX3_bestFrom_105 (by decide) ?_
            simp only [if_neg c9] at kj10
            exact g_sub [1, 2, 3, 5] [(0, .ref (ad w 1)), (2, .int i2), (3, .int i3), (5, .int i5)] rfl kj10
set_option maxHeartbeats 4000000 in
set_option maxRecDepth 100000 in
theorem gw_X3_bestFrom {w : WD} (wk : wOk w) (l : Launch) (C : CS) (a0 : Int32) {Post : Int32 → CS → Prop} (hw : wp_X3_bestFrom Post C a0) : MC w l yX3_bestFrom cX3_bestFrom 7 (some .int) 1 0 0 [.ref (ad w 1), .int a0] C (fun v C1 => ∃ r : Int32, v = some (.int r) ∧ Post r C1) := by
  unfold wp_X3_bestFrom at hw
  refine MC.of wk (by decide) (Nat.le_of_ble_eq_true rfl) (fun x hx ok => ?_)
  subst hx
  show G w x 7 0 0 (QM w x _ 0 0) C 0 [(0, .ref (ad w 1)), (1, .int a0)] []
  refine g_iload_n ok 1 dX3_bestFrom_0 rfl ?_
  refine g_if_ne (tgt := 6) ok dX3_bestFrom_1 (by decide) (fun c1 => ?_) (fun c1 => ?_)
  · have hw := hw.2 c1
    refine g_iload_n ok 1 dX3_bestFrom_6 rfl ?_
    obtain ⟨hp, hw⟩ := hw
    refine g_callSI ok [.int a0] cf_X3_firstOf q1590 (mc_X3_firstOf ok.wo (xL x) C a0 hp) rfl rfl (Nat.le_of_ble_eq_true rfl) ⟨by decide, by decide⟩ ⟨by decide, by decide⟩ dX3_bestFrom_7 ?_
    refine g_nmI (fun r2 er2 => ?_)
    have hw := hw r2 er2
    refine g_istore_n0 ok [(2, .int r2), (0, .ref (ad w 1)), (1, .int a0)] dX3_bestFrom_10 (by decide) rfl ?_
    refine g_iload_n ok 2 dX3_bestFrom_11 rfl ?_
    refine g_iconst (v := 1) ok dX3_bestFrom_12 (by decide) ?_
    refine g_iload_n ok 0 dX3_bestFrom_13 rfl ?_
    refine g_ishl ok dX3_bestFrom_14 ?_
    refine g_iconst (v := -1) ok dX3_bestFrom_15 (by decide) ?_
    refine g_ixor ok dX3_bestFrom_16 ?_
    refine g_iand ok dX3_bestFrom_17 ?_
    refine g_istore_n ok (fun z => [(3, .int z), (2, .int r2), (0, .ref (ad w 1)), (1, .int a0)]) dX3_bestFrom_18 (by decide) (fun _ => rfl) (fun x3 ex3 => ?_)
    have hw := hw x3 ex3
    refine g_aload_n ok 2 dX3_bestFrom_19 rfl ?_
    refine g_get ok 1 rfl rfl in_X3 5 (by decide) q1364 rfl dX3_bestFrom_20 ?_
    refine g_iload_n ok 0 dX3_bestFrom_23 rfl ?_
    obtain ⟨hg, hw⟩ := hw
    refine g_iald ok 40 rfl hg _ rfl dX3_bestFrom_24 ?_
    refine g_istore ok (fun z => [(4, .int z), (3, .int x3), (2, .int r2), (0, .ref (ad w 1)), (1, .int a0)]) dX3_bestFrom_25 (by decide) (fun _ => rfl) (fun x4 ex4 => ?_)
    have hw := hw x4 ex4
    refine g_iload_n ok 2 dX3_bestFrom_27 rfl ?_
    refine g_iconst (v := 1) ok dX3_bestFrom_28 (by decide) ?_
    refine g_iadd ok dX3_bestFrom_29 ?_
    refine g_istore ok (fun z => [(5, .int z), (4, .int x4), (3, .int x3), (2, .int r2), (0, .ref (ad w 1)), (1, .int a0)]) dX3_bestFrom_30 (by decide) (fun _ => rfl) (fun x5 ex5 => ?_)
    have hw := hw x5 ex5
    refine g_sub [4, 3, 2, 1, 0] [(0, .ref (ad w 1)), (2, .int r2), (3, .int x3), (4, .int x4), (5, .int x5)] rfl ?_
    obtain ⟨n15, hw⟩ := hw
    exact gw_X3_bestFrom_l32 ok n15 C r2 x3 x4 x5 hw
  · have hw := hw.1 c1
    refine g_iconst (v := 0) ok dX3_bestFrom_4 (by decide) ?_
    exact g_iret ok dX3_bestFrom_5 ⟨_, rfl, hw⟩
theorem sp_X3_bestFrom (C : CS) (a0 : Int32) (hp : p_X3_bestFrom C a0) : wp_X3_bestFrom (fun r C1 => r = v_X3_bestFrom C a0 ∧ C1 = C) C a0 := by
  obtain ⟨N, s, ⟨e, hN⟩, rfl, hs⟩ := hp
  have h10 : s < 1024 := Nat.lt_of_lt_of_le hs (Nat.pow_le_pow_right (by decide) hN : 2 ^ N ≤ 2 ^ 10)
  refine ⟨fun c => ⟨?_, rfl⟩, fun c => ?_⟩
  · rw [show (0 : Int32) = nI 0 from rfl, nI_eq (by omega) (by omega)] at c
    unfold v_X3_bestFrom bestF
    rw [cl_k (by omega), if_pos c]
  · rw [show (0 : Int32) = nI 0 from rfl, nI_eq (by omega) (by omega)] at c
    have hf := fb_ltN hs hN (by omega)
    have hc := clr_lt h10 (by omega)
    refine ⟨⟨s, by omega, h10, rfl⟩, fun r2 e2 x3 e3 => ?_⟩
    have e2 : r2 = nI (fbit s) := by rw [e2]; unfold v_X3_firstOf; rw [cl_k (by omega)]
    rw [e2, clr_i _ (by omega) _ h10] at e3
    refine ⟨by rw [e3]; exact vp_k (by omega), fun x4 e4 x5 e5 => ?_⟩
    rw [e3, cl_k (by omega)] at e4
    rw [e2, show (1 : Int32) = nI 1 from rfl, nI_add] at e5
    have H : ∀ d g b, g + d = N → fbit s < g → v_X3_bestFrom C (nI s) = bfL (fun g => C.2.1 39 (10 * fbit s + g)) (C.2.1 40) (clr s (fbit s)) d g b → wp_X3_bestFrom_l32 (fun r C1 => r = v_X3_bestFrom C (nI s) ∧ C1 = C) (d + 1) C (nI (fbit s)) (nI (clr s (fbit s))) b (nI g) := by
      intro d
      induction d with
      | zero =>
        intro g b hg _ hv
        refine ⟨fun _ => ⟨hv.symm, rfl⟩, fun c => absurd ?_ c⟩
        rw [e, nI_leI (by omega) (by omega)]; omega
      | succ d ih =>
        intro g b hg hfg hv
        have hbit : ((nI (clr s (fbit s)) >>> (nI g &&& 31)) &&& 1 : Int32) = nI (clr s (fbit s) / 2 ^ g % 2) := by rw [shr_k (by omega) (by omega), and1 (Nat.lt_of_le_of_lt (Nat.div_le_self _ _) (by omega))]
        have hone : (((nI (clr s (fbit s)) >>> (nI g &&& 31)) &&& 1 : Int32) = 1) ↔ clr s (fbit s) / 2 ^ g % 2 = 1 := by rw [hbit, show (1 : Int32) = nI 1 from rfl, nI_eq (by omega) (by omega)]
        have hcg := clr_le (clr s (fbit s)) g
        refine ⟨fun c => ?_, fun _ => ⟨⟨fun _ => ⟨by rw [ix10]; exact vp_k (by omega), ⟨fun _ => trivial, fun _ => ⟨by rw [ix10]; exact vp_k (by omega), by rw [clr_i _ (by omega) _ (by omega)]; exact vp_k (by omega), trivial⟩⟩, trivial⟩, fun _ => trivial⟩, fun x13 e13 x14 e14 => ?_⟩⟩
        · rw [e, nI_leI (by omega) (by omega)] at c; omega
        · rw [e14, o1, nI_add]
          refine ih (g + 1) x13 (by omega) (by omega) ?_
          rw [hv, bfL]
          congr 1
          rw [e13, bfS, ix10, cl_k (by omega), clr_i _ (by omega) _ (by omega), cl_k (by omega)]
          by_cases hb : clr s (fbit s) / 2 ^ g % 2 = 1
          · rw [if_pos hb, if_pos (hone.mpr hb)]
          · rw [if_neg hb, if_neg (fun z => hb (hone.mp z))]
    rw [e2, e3, e5, e4]
    refine ⟨_, H (N - (fbit s + 1)) (fbit s + 1) _ (by omega) (by omega) ?_⟩
    unfold v_X3_bestFrom bestF
    rw [cl_k (by omega), if_neg c, e, cl_k (by omega)]
theorem mc_X3_bestFrom {w : WD} (wk : wOk w) (l : Launch) (C : CS) (a0 : Int32) (hp : p_X3_bestFrom C a0) : MC w l yX3_bestFrom cX3_bestFrom 7 (some .int) 1 0 0 [.ref (ad w 1), .int a0] C (pI (v_X3_bestFrom C a0) C) := MC.postI (gw_X3_bestFrom wk l C a0 (sp_X3_bestFrom C a0 hp))
