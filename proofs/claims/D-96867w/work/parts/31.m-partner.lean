/-- the first place from g on that is good, -1: none -/
def wA1 (P : Nat → Bool) : Nat → Nat → Int32
  | 0, _ => -1
  | d + 1, g => if P g = true then nI g else wA1 P d (g + 1)
/-- who may be the partner of the first one of a set -/
def wP (v : Nat → Nat → Int32) (tab : Nat → Int32) (s : Nat) (g : Nat) : Bool := decide (clr s (fbit s) / 2 ^ g % 2 = 1) && (decide (¬ v (fbit s) g < 0) && decide (v (fbit s) g + tab (clr (clr s (fbit s)) g) = tab s))
def wth (v : Nat → Nat → Int32) (tab : Nat → Int32) (N s : Nat) : Int32 := wA1 (wP v tab s) (N - (fbit s + 1)) (fbit s + 1)
/-- what is left of a set without its first one and that one's partner -/
def lft (s : Nat) (w : Int32) : Nat := if 0 ≤ w then clr (clr s (fbit s)) w.toNatClampNeg else clr s (fbit s)
def parL (v : Nat → Nat → Int32) (tab : Nat → Int32) (N : Nat) (glove : Int32) : Nat → Nat → Int32 → Int32
  | 0, _, found => found
  | k + 1, s, found => if s = 0 then found else parL v tab N glove k (lft s (wth v tab N s)) (if nI (fbit s) = glove then wth v tab N s else if wth v tab N s = glove then nI (fbit s) else found)
theorem wA1_spec (P : Nat → Bool) : ∀ d g, wA1 P d g = -1 ∨ ∃ k, g ≤ k ∧ k < g + d ∧ wA1 P d g = nI k ∧ P k = true := by
  intro d
  induction d with
  | zero => intro g; exact Or.inl rfl
  | succ d ih =>
    intro g
    rw [wA1]
    by_cases h : P g = true
    · rw [if_pos h]; exact Or.inr ⟨g, by omega, by omega, rfl, h⟩
    · rw [if_neg h]
      rcases ih (g + 1) with h1 | ⟨k, h1, h2, h3, h4⟩
      · exact Or.inl h1
      · exact Or.inr ⟨k, by omega, by omega, h3, h4⟩
theorem wA1_congr {P P2 : Nat → Bool} : ∀ d g, (∀ k, g ≤ k → k < g + d → P k = P2 k) → wA1 P d g = wA1 P2 d g := by
  intro d
  induction d with
  | zero => intro g _; rfl
  | succ d ih => intro g h; rw [wA1, wA1, h g (by omega) (by omega), ih (g + 1) (fun k h1 h2 => h k (by omega) (by omega))]
theorem lft_lt {s : Nat} (h : s < 1024) (h0 : 0 < s) (w : Int32) : lft s w < s := by
  have := clr_lt h h0
  unfold lft
  split
  · exact Nat.lt_of_le_of_lt (clr_le _ _) this
  · exact this
theorem bit_eq {s g : Nat} (hs : s < 1024) (hg : g < 31) : (((nI s >>> (nI g &&& 31)) &&& 1 : Int32) = 1) ↔ s / 2 ^ g % 2 = 1 := by
  rw [shr_k (by omega) hg, and1 (Nat.lt_of_le_of_lt (Nat.div_le_self _ _) (by omega)), show (1 : Int32) = nI 1 from rfl, nI_eq (by omega) (by omega)]
theorem cf_X3_partner : CfV yX3_partner "TwoGuildsModel" cX3_partner 9 (some .int) 1 := ⟨⟨by decide, by decide, by decide⟩, q75, q1596, q1594, q1595⟩
def p_X3_partner (C : CS) (a0 : Int32) : Prop := rowD (C.2.1 36)
def parR (r : Nat → Int32) (glove : Int32) : Int32 := parL (vv r) (bestR r) (r 1).toNatClampNeg glove (allN r + 1) (allN r) (-1)
def v_X3_partner (C : CS) (a0 : Int32) : Int32 := if v_X3_isGlove C a0 = 0 then -1000000001 else v_X3_told0 (parR (C.2.1 36) a0)
def q_X3_partner (C : CS) (a0 : Int32) (C1 : CS) : Prop := frm [39, 40, 49, 50] C C1
def wp_X3_partner_l55 (Post : Int32 → CS → Prop) (R22 : CS → Int32 → Int32 → Int32 → Prop) : Nat → CS → Int32 → Int32 → Int32 → Int32 → Int32 → Int32 → Int32 → Prop
  | 0, _, _, _, _, _, _, _, _ => False
  | n + 1, C, i1, i2, i3, i4, i5, i6, i7 => (i7 ≤ i4 → 
  ∀ x15 : Int32, x15 = (if i4 = i1 then i6 else (if i6 = i1 then i4 else i3)) → 
    ∀ x18 : Int32, x18 = (if 0 ≤ i6 then (i5 &&& ((1 <<< (i6 &&& 31)) ^^^ (-1))) else i5) → 
    R22 C i1 x18 x15) ∧
  (¬ i7 ≤ i4 → 
  ((((i5 >>> (i7 &&& 31)) &&& 1) = 1 → 
      vp_in ((10 * i4) + i7) 100 ∧
        (True)) ∧
      (¬ ((i5 >>> (i7 &&& 31)) &&& 1) = 1 → 
      True)) ∧
    (∀ x23 : Int32, x23 = (if ((i5 >>> (i7 &&& 31)) &&& 1) = 1 then (if (C.2.1 39 (Int32.toNatClampNeg ((10 * i4) + i7))) < 0 then (0 : Int32) else 1) else 0) → 
    ((x23 = 0 → 
      True) ∧
      (¬ x23 = 0 → 
      vp_in ((10 * i4) + i7) 100 ∧
        (vp_in (i5 &&& ((1 <<< (i7 &&& 31)) ^^^ (-1))) 1024 ∧
        (vp_in i2 1024 ∧
        (True))))) ∧
    (∀ x28 : Int32, x28 = (if x23 = 0 then i6 else (if ((C.2.1 39 (Int32.toNatClampNeg ((10 * i4) + i7))) + (C.2.1 40 (Int32.toNatClampNeg (i5 &&& ((1 <<< (i7 &&& 31)) ^^^ (-1)))))) = (C.2.1 40 (Int32.toNatClampNeg i2)) then i7 else i6)) → 
    ∀ x29 : Int32, x29 = (i7 + Int32.ofInt (-1)) → 
    wp_X3_partner_l55 Post R22 n C i1 i2 i3 i4 i5 x28 x29)))
def wp_X3_partner_l22 (Post : Int32 → CS → Prop) : Nat → CS → Int32 → Int32 → Int32 → Prop
  | 0, _, _, _, _ => False
  | n + 1, C, i1, i2, i3 => (i2 = 0 → 
  ∀ r6 : Int32, r6 = (v_X3_told0 i3) → 
    Post r6 C) ∧
  (¬ i2 = 0 → 
  p_X3_firstOf C i2 ∧
    (∀ r7 : Int32, r7 = (v_X3_firstOf i2) → 
    ∀ x8 : Int32, x8 = (i2 &&& ((1 <<< (r7 &&& 31)) ^^^ (-1))) → 
    ∀ x9 : Int32, x9 = ((C.2.1 36 1) - 1) → 
    ∃ m55, wp_X3_partner_l55 Post (fun C i1 i2 i3 => wp_X3_partner_l22 Post n C i1 i2 i3) m55 C i1 i2 i3 r7 x8 (-1) x9))
def wp_X3_partner (Post : Int32 → CS → Prop) (C : CS) (a0 : Int32) : Prop :=
  ∀ r1 : Int32, r1 = (v_X3_isGlove C a0) → 
    (r1 = 0 → 
    Post (-1000000001) C) ∧
    (¬ r1 = 0 → 
    p_X3_findBests C ∧
      (∀ C3 : CS, q_X3_findBests C C3 → 
      ∀ r4 : Int32, r4 = (v_X3_all C3) → 
      ∃ m22, wp_X3_partner_l22 Post m22 C3 a0 r4 (-1)))
set_option maxHeartbeats 4000000 in
set_option maxRecDepth 100000 in
theorem gw_X3_partner_l55 {w : WD} {x : Cx} (ok : Ok w x cX3_partner 9 yX3_partner.cls (some .int) (rmL 4 0 0)) {Post : Int32 → CS → Prop} {R22 : CS → Int32 → Int32 → Int32 → Prop} (hR22 : ∀ C (i1 : Int32) (i2 : Int32) (i3 : Int32), R22 C i1 i2 i3 → G w x 9 0 0 (QM w x (fun v C1 => ∃ r : Int32, v = some (.int r) ∧ Post r C1) 0 0) C 22 [(0, .ref (ad w 1)), (1, .int i1), (2, .int i2), (3, .int i3)] []) : ∀ (n : Nat) (C : CS) (i1 : Int32) (i2 : Int32) (i3 : Int32) (i4 : Int32) (i5 : Int32) (i6 : Int32) (i7 : Int32), wp_X3_partner_l55 Post R22 n C i1 i2 i3 i4 i5 i6 i7 → G w x 9 0 0 (QM w x (fun v C1 => ∃ r : Int32, v = some (.int r) ∧ Post r C1) 0 0) C 55 [(0, .ref (ad w 1)), (1, .int i1), (2, .int i2), (3, .int i3), (4, .int i4), (5, .int i5), (6, .int i6), (7, .int i7)] [] := by
  intro n
  induction n with
  | zero => intro C i1 i2 i3 i4 i5 i6 i7 hw; exact hw.elim
  | succ n ih =>
    intro C i1 i2 i3 i4 i5 i6 i7 hw
    unfold wp_X3_partner_l55 at hw
    refine g_iload ok 7 dX3_partner_55 rfl ?_
    refine g_iload ok 4 dX3_partner_57 rfl ?_
    refine g_icmp_le (tgt := 153) ok dX3_partner_59 (by decide) (fun c10 => ?_) (fun c10 => ?_)
    · have hw := hw.1 c10
      refine g_iload ok 4 dX3_partner_153 rfl ?_
      refine g_iload_n ok 1 dX3_partner_155 rfl ?_
      have kj14 : ∀ x15 : Int32, x15 = (if i4 = i1 then i6 else (if i6 = i1 then i4 else i3)) → G w x 9 0 0 (QM w x (fun v C1 => ∃ r : Int32, v = some (.int r) ∧ Post r C1) 0 0) C 176 [(0, .ref (ad w 1)), (1, .int i1), (5, .int i5), (6, .int i6)] [.int x15] := by
        intro x15 ex15
        have hw := hw x15 ex15
        refine g_istore_n0 ok [(3, .int x15), (0, .ref (ad w 1)), (1, .int i1), (5, .int i5), (6, .int i6)] dX3_partner_176 (by decide) rfl ?_
        refine g_iload ok 4 dX3_partner_177 rfl ?_
        have kj17 : ∀ x18 : Int32, x18 = (if 0 ≤ i6 then (i5 &&& ((1 <<< (i6 &&& 31)) ^^^ (-1))) else i5) → G w x 9 0 0 (QM w x (fun v C1 => ∃ r : Int32, v = some (.int r) ∧ Post r C1) 0 0) C 196 [(0, .ref (ad w 1)), (1, .int i1), (3, .int x15)] [.int x18] := by
          intro x18 ex18
          have hw := hw x18 ex18
          refine g_istore_n0 ok [(2, .int x18), (0, .ref (ad w 1)), (1, .int i1), (3, .int x15)] dX3_partner_196 (by decide) rfl ?_
          refine g_goto (tgt := 22) ok dX3_partner_197 (by decide) ?_
          refine g_sub [1, 2, 0, 3] [(0, .ref (ad w 1)), (1, .int i1), (2, .int x18), (3, .int x15)] rfl ?_
          exact hR22 C i1 x18 x15 hw
        refine g_if_ge (tgt := 187) ok dX3_partner_179 (by decide) (fun c16 => ?_) (fun c16 => ?_)
        · refine g_iload ok 3 dX3_partner_187 rfl ?_
          refine g_iconst (v := 1) ok dX3_partner_189 (by decide) ?_
          refine g_iload ok 4 dX3_partner_190 rfl ?_
          refine g_ishl ok dX3_partner_192 ?_
          refine g_iconst (v := -1) ok dX3_partner_193 (by decide) ?_
          refine g_ixor ok dX3_partner_194 ?_
          refine g_iand ok dX3_partner_195 ?_
          exact g_sub [1, 2, 0] [(0, .ref (ad w 1)), (1, .int i1), (3, .int x15)] rfl (kj17 _ (by simp only [if_pos c16]))
        · refine g_iload ok 3 dX3_partner_182 rfl ?_
          refine g_goto (tgt := 196) ok dX3_partner_184 (by decide) ?_
          exact g_sub [1, 2, 0] [(0, .ref (ad w 1)), (1, .int i1), (3, .int x15)] rfl (kj17 _ (by simp only [if_neg c16]))
      refine g_icmp_ne (tgt := 164) ok dX3_partner_156 (by decide) (fun c11 => ?_) (fun c11 => ?_)
      · refine g_iload ok 6 dX3_partner_164 rfl ?_
        refine g_iload_n ok 1 dX3_partner_166 rfl ?_
        have kj13 : G w x 9 0 0 (QM w x (fun v C1 => ∃ r : Int32, v = some (.int r) ∧ Post r C1) 0 0) C 176 [(0, .ref (ad w 1)), (1, .int i1), (5, .int i5), (6, .int i6)] [.int (if i6 = i1 then i4 else i3)] := by
          exact (kj14 _ (by simp only [if_neg c11]))
        refine g_icmp_ne (tgt := 175) ok dX3_partner_167 (by decide) (fun c12 => ?_) (fun c12 => ?_)
        · refine g_iload_n ok 3 dX3_partner_175 rfl ?_
          simp only [if_neg c12] at kj13
          exact g_sub [0, 1, 5, 6] [(0, .ref (ad w 1)), (1, .int i1), (5, .int i5), (6, .int i6)] rfl kj13
        · refine g_iload ok 4 dX3_partner_170 rfl ?_
          refine g_goto (tgt := 176) ok dX3_partner_172 (by decide) ?_
          simp only [if_pos c12] at kj13
          exact g_sub [0, 1, 5, 6] [(0, .ref (ad w 1)), (1, .int i1), (5, .int i5), (6, .int i6)] rfl kj13
      · refine g_iload ok 6 dX3_partner_159 rfl ?_
        refine g_goto (tgt := 176) ok dX3_partner_161 (by decide) ?_
        exact g_sub [0, 1, 5, 6] [(0, .ref (ad w 1)), (1, .int i1), (5, .int i5), (6, .int i6)] rfl (kj14 _ (by simp only [if_pos c11]))
    · have hw := hw.2 c10
      refine g_iload ok 5 dX3_partner_62 rfl ?_
      refine g_iload ok 7 dX3_partner_64 rfl ?_
      refine g_ishr ok dX3_partner_66 ?_
      refine g_iconst (v := 1) ok dX3_partner_67 (by decide) ?_
      refine g_iand ok dX3_partner_68 ?_
      refine g_iconst (v := 1) ok dX3_partner_69 (by decide) ?_
      obtain ⟨hr, hw⟩ := hw
      have kj22 : ∀ x23 : Int32, x23 = (if ((i5 >>> (i7 &&& 31)) &&& 1) = 1 then (if (C.2.1 39 (Int32.toNatClampNeg ((10 * i4) + i7))) < 0 then (0 : Int32) else 1) else 0) → G w x 9 0 0 (QM w x (fun v C1 => ∃ r : Int32, v = some (.int r) ∧ Post r C1) 0 0) C 94 [(0, .ref (ad w 1)), (1, .int i1), (2, .int i2), (3, .int i3), (4, .int i4), (5, .int i5), (6, .int i6), (7, .int i7)] [.int x23] := by
        intro x23 ex23
        have hw := hw x23 ex23
        refine g_istore0 ok [(8, .int x23), (0, .ref (ad w 1)), (1, .int i1), (2, .int i2), (3, .int i3), (4, .int i4), (5, .int i5), (6, .int i6), (7, .int i7)] dX3_partner_94 (by decide) rfl ?_
        refine g_iload ok 0 dX3_partner_96 rfl ?_
        obtain ⟨hr, hw⟩ := hw
        have kj27 : ∀ x28 : Int32, x28 = (if x23 = 0 then i6 else (if ((C.2.1 39 (Int32.toNatClampNeg ((10 * i4) + i7))) + (C.2.1 40 (Int32.toNatClampNeg (i5 &&& ((1 <<< (i7 &&& 31)) ^^^ (-1)))))) = (C.2.1 40 (Int32.toNatClampNeg i2)) then i7 else i6)) → G w x 9 0 0 (QM w x (fun v C1 => ∃ r : Int32, v = some (.int r) ∧ Post r C1) 0 0) C 145 [(0, .ref (ad w 1)), (1, .int i1), (2, .int i2), (3, .int i3), (4, .int i4), (5, .int i5), (7, .int i7)] [.int x28] := by
          intro x28 ex28
          have hw := hw x28 ex28
          refine g_istore0 ok [(6, .int x28), (0, .ref (ad w 1)), (1, .int i1), (2, .int i2), (3, .int i3), (4, .int i4), (5, .int i5), (7, .int i7)] dX3_partner_145 (by decide) rfl ?_
          refine g_iinc ok 7 (fun z => [(7, .int z), (6, .int x28), (0, .ref (ad w 1)), (1, .int i1), (2, .int i2), (3, .int i3), (4, .int i4), (5, .int i5)]) dX3_partner_147 rfl (by decide) (fun _ => rfl) (fun x29 ex29 => ?_)
          have hw := hw x29 ex29
          refine g_goto (tgt := 55) ok dX3_partner_150 (by decide) ?_
          refine g_sub [2, 3, 4, 5, 6, 7, 1, 0] [(0, .ref (ad w 1)), (1, .int i1), (2, .int i2), (3, .int i3), (4, .int i4), (5, .int i5), (6, .int x28), (7, .int x29)] rfl ?_
          exact ih C i1 i2 i3 i4 i5 x28 x29 hw
        have hw := hr
        refine g_if_eq (tgt := 143) ok dX3_partner_98 (by decide) (fun c24 => ?_) (fun c24 => ?_)
        · have hw := hw.1 c24
          refine g_iload ok 7 dX3_partner_143 rfl ?_
          exact g_sub [1, 2, 3, 4, 5, 6, 8] [(0, .ref (ad w 1)), (1, .int i1), (2, .int i2), (3, .int i3), (4, .int i4), (5, .int i5), (7, .int i7)] rfl (kj27 _ (by simp only [if_pos c24]))
        · have hw := hw.2 c24
          refine g_aload_n ok 1 dX3_partner_101 rfl ?_
          refine g_get ok 1 rfl rfl in_X3 4 (by decide) q1363 rfl dX3_partner_102 ?_
          refine g_bipush (v := 10) ok dX3_partner_105 (by decide) ?_
          refine g_iload ok 5 dX3_partner_107 rfl ?_
          refine g_imul ok dX3_partner_109 ?_
          refine g_iload ok 8 dX3_partner_110 rfl ?_
          refine g_iadd ok dX3_partner_112 ?_
          obtain ⟨hg, hw⟩ := hw
          refine g_iald ok 39 rfl hg _ rfl dX3_partner_113 ?_
          refine g_aload_n ok 1 dX3_partner_114 rfl ?_
          refine g_get ok 1 rfl rfl in_X3 5 (by decide) q1364 rfl dX3_partner_115 ?_
          refine g_iload ok 6 dX3_partner_118 rfl ?_
          refine g_iconst (v := 1) ok dX3_partner_120 (by decide) ?_
          refine g_iload ok 8 dX3_partner_121 rfl ?_
          refine g_ishl ok dX3_partner_123 ?_
          refine g_iconst (v := -1) ok dX3_partner_124 (by decide) ?_
          refine g_ixor ok dX3_partner_125 ?_
          refine g_iand ok dX3_partner_126 ?_
          obtain ⟨hg, hw⟩ := hw
          refine g_iald ok 40 rfl hg _ rfl dX3_partner_127 ?_
          refine g_iadd ok dX3_partner_128 ?_
          refine g_aload_n ok 1 dX3_partner_129 rfl ?_
          refine g_get ok 1 rfl rfl in_X3 5 (by decide) q1364 rfl dX3_partner_130 ?_
          refine g_iload_n ok 3 dX3_partner_133 rfl ?_
          obtain ⟨hg, hw⟩ := hw
          refine g_iald ok 40 rfl hg _ rfl dX3_partner_134 ?_
          have kj26 : G w x 9 0 0 (QM w x (fun v C1 => ∃ r : Int32, v = some (.int r) ∧ Post r C1) 0 0) C 145 [(0, .ref (ad w 1)), (1, .int i1), (2, .int i2), (3, .int i3), (4, .int i4), (5, .int i5), (7, .int i7)] [.int (if ((C.2.1 39 (Int32.toNatClampNeg ((10 * i4) + i7))) + (C.2.1 40 (Int32.toNatClampNeg (i5 &&& ((1 <<< (i7 &&& 31)) ^^^ (-1)))))) = (C.2.1 40 (Int32.toNatClampNeg i2)) then i7 else i6)] := by
            exact (kj27 _ (by simp only [if_neg c24]))
          refine g_icmp_ne (tgt := 143) ok dX3_partner_135 (by decide) (fun c25 => ?_) (fun c25 => ?_)
          · refine g_iload ok 7 dX3_partner_143 rfl ?_
            simp only [if_neg c25] at kj26
            exact g_sub [1, 2, 3, 4, 5, 6, 8] [(0, .ref (ad w 1)), (1, .int i1), (2, .int i2), (3, .int i3), (4, .int i4), (5, .int i5), (7, .int i7)] rfl kj26
          · refine g_iload ok 8 dX3_partner_138 rfl ?_
            refine g_goto (tgt := 145) ok dX3_partner_140 (by decide) ?_
            simp only [if_pos c25] at kj26
            exact g_sub [1, 2, 3, 4, 5, 6, 8] [(0, .ref (ad w 1)), (1, .int i1), (2, .int i2), (3, .int i3), (4, .int i4), (5, .int i5), (7, .int i7)] rfl kj26
      have hw := hr
      refine g_icmp_ne (tgt := 93) ok dX3_partner_70 (by decide) (fun c19 => ?_) (fun c19 => ?_)
      · have hw := hw.2 c19
        refine g_iconst (v := 0) ok dX3_partner_93 (by decide) ?_
        exact (kj22 _ (by simp only [if_neg c19]))
      · have hw := hw.1 c19
        refine g_aload_n ok 0 dX3_partner_73 rfl ?_
        refine g_get ok 1 rfl rfl in_X3 4 (by decide) q1363 rfl dX3_partner_74 ?_
        refine g_bipush (v := 10) ok dX3_partner_77 (by decide) ?_
        refine g_iload ok 4 dX3_partner_79 rfl ?_
        refine g_imul ok dX3_partner_81 ?_
        refine g_iload ok 7 dX3_partner_82 rfl ?_
        refine g_iadd ok dX3_partner_84 ?_
        obtain ⟨hg, hw⟩ := hw
        refine g_iald ok 39 rfl hg _ rfl dX3_partner_85 ?_
        have kj21 : G w x 9 0 0 (QM w x (fun v C1 => ∃ r : Int32, v = some (.int r) ∧ Post r C1) 0 0) C 94 [(0, .ref (ad w 1)), (1, .int i1), (2, .int i2), (3, .int i3), (4, .int i4), (5, .int i5), (6, .int i6), (7, .int i7)] [.int (if (C.2.1 39 (Int32.toNatClampNeg ((10 * i4) + i7))) < 0 then (0 : Int32) else 1)] := by
          exact (kj22 _ (by simp only [if_pos c19]))
        refine g_if_lt (tgt := 93) ok dX3_partner_86 (by decide) (fun c20 => ?_) (fun c20 => ?_)
        · refine g_iconst (v := 0) ok dX3_partner_93 (by decide) ?_
          simp only [if_pos c20] at kj21
          exact kj21
        · refine g_iconst (v := 1) ok dX3_partner_89 (by decide) ?_
          refine g_goto (tgt := 94) ok dX3_partner_90 (by decide) ?_
          simp only [if_neg c20] at kj21
          exact kj21
set_option maxHeartbeats 4000000 in
set_option maxRecDepth 100000 in
theorem gw_X3_partner_l22 {w : WD} {x : Cx} (ok : Ok w x cX3_partner 9 yX3_partner.cls (some .int) (rmL 4 0 0)) {Post : Int32 → CS → Prop} : ∀ (n : Nat) (C : CS) (i1 : Int32) (i2 : Int32) (i3 : Int32), wp_X3_partner_l22 Post  n C i1 i2 i3 → G w x 9 0 0 (QM w x (fun v C1 => ∃ r : Int32, v = some (.int r) ∧ Post r C1) 0 0) C 22 [(0, .ref (ad w 1)), (1, .int i1), (2, .int i2), (3, .int i3)] [] := by
  intro n
  induction n with
  | zero => intro C i1 i2 i3 hw; exact hw.elim
  | succ n ih =>
    intro C i1 i2 i3 hw
    unfold wp_X3_partner_l22 at hw
    refine g_iload_n ok 2 dX3_partner_22 rfl ?_
    refine g_if_eq (tgt := 200) ok dX3_partner_23 (by decide) (fun c5 => ?_) (fun c5 => ?_)
    · have hw := hw.1 c5
      refine g_iload_n ok 3 dX3_partner_200 rfl ?_
      refine g_callSI ok [.int i3] cf_X3_told0 q1597 (mc_X3_told0 ok.wo (xL x) C i3) rfl rfl (Nat.le_of_ble_eq_true rfl) ⟨by decide, by decide⟩ ⟨by decide, by decide⟩ dX3_partner_201 ?_
      refine g_nmI (fun r6 er6 => ?_)
      have hw := hw r6 er6
      exact g_iret ok dX3_partner_204 ⟨_, rfl, hw⟩
    · have hw := hw.2 c5
      refine g_iload_n ok 2 dX3_partner_26 rfl ?_
      obtain ⟨hp, hw⟩ := hw
      refine g_callSI ok [.int i2] cf_X3_firstOf q1590 (mc_X3_firstOf ok.wo (xL x) C i2 hp) rfl rfl (Nat.le_of_ble_eq_true rfl) ⟨by decide, by decide⟩ ⟨by decide, by decide⟩ dX3_partner_27 ?_
      refine g_nmI (fun r7 er7 => ?_)
      have hw := hw r7 er7
      refine g_istore0 ok [(4, .int r7), (0, .ref (ad w 1)), (1, .int i1), (2, .int i2), (3, .int i3)] dX3_partner_30 (by decide) rfl ?_
      refine g_iload_n ok 3 dX3_partner_32 rfl ?_
      refine g_iconst (v := 1) ok dX3_partner_33 (by decide) ?_
      refine g_iload ok 0 dX3_partner_34 rfl ?_
      refine g_ishl ok dX3_partner_36 ?_
      refine g_iconst (v := -1) ok dX3_partner_37 (by decide) ?_
      refine g_ixor ok dX3_partner_38 ?_
      refine g_iand ok dX3_partner_39 ?_
      refine g_istore ok (fun z => [(5, .int z), (4, .int r7), (0, .ref (ad w 1)), (1, .int i1), (2, .int i2), (3, .int i3)]) dX3_partner_40 (by decide) (fun _ => rfl) (fun x8 ex8 => ?_)
      have hw := hw x8 ex8
      refine g_iconst (v := -1) ok dX3_partner_42 (by decide) ?_
      refine g_istore0 ok [(6, .int (-1)), (5, .int x8), (4, .int r7), (0, .ref (ad w 1)), (1, .int i1), (2, .int i2), (3, .int i3)] dX3_partner_43 (by decide) rfl ?_
      refine g_aload_n ok 3 dX3_partner_45 rfl ?_
      refine g_get ok 1 rfl rfl in_X3 0 (by decide) q1359 rfl dX3_partner_46 ?_
      refine g_iconst (v := 1) ok dX3_partner_49 (by decide) ?_
      refine g_iald ok 36 rfl (by unfold vp_in; decide) 1 (by decide) dX3_partner_50 ?_
      refine g_iconst (v := 1) ok dX3_partner_51 (by decide) ?_
      refine g_isub ok dX3_partner_52 ?_
      refine g_istore ok (fun z => [(7, .int z), (6, .int (-1)), (5, .int x8), (4, .int r7), (0, .ref (ad w 1)), (1, .int i1), (2, .int i2), (3, .int i3)]) dX3_partner_53 (by decide) (fun _ => rfl) (fun x9 ex9 => ?_)
      have hw := hw x9 ex9
      refine g_sub [4, 5, 6, 7, 3, 2, 1, 0] [(0, .ref (ad w 1)), (1, .int i1), (2, .int i2), (3, .int i3), (4, .int r7), (5, .int x8), (6, .int (-1)), (7, .int x9)] rfl ?_
      obtain ⟨n30, hw⟩ := hw
      exact gw_X3_partner_l55 ok (fun C i1 i2 i3 hw => ih C i1 i2 i3 hw) n30 C i1 i2 i3 r7 x8 (-1) x9 hw
set_option maxHeartbeats 4000000 in
set_option maxRecDepth 100000 in
theorem gw_X3_partner {w : WD} (wk : wOk w) (l : Launch) (C : CS) (a0 : Int32) {Post : Int32 → CS → Prop} (hw : wp_X3_partner Post C a0) : MC w l yX3_partner cX3_partner 9 (some .int) 4 0 0 [.ref (ad w 1), .int a0] C (fun v C1 => ∃ r : Int32, v = some (.int r) ∧ Post r C1) := by
  unfold wp_X3_partner at hw
  refine MC.of wk (by decide) (Nat.le_of_ble_eq_true rfl) (fun x hx ok => ?_)
  subst hx
  show G w x 9 0 0 (QM w x _ 0 0) C 0 [(0, .ref (ad w 1)), (1, .int a0)] []
  refine g_aload_n ok 0 dX3_partner_0 rfl ?_
  refine g_iload_n ok 1 dX3_partner_1 rfl ?_
  refine g_callVI ok [.int a0] cf_X3_isGlove q1491 (mc_X3_isGlove ok.wo (xL x) C a0) (recvF ok 1 rfl rfl) rfl rfl (Nat.le_of_ble_eq_true rfl) ⟨by decide, by decide⟩ ⟨by decide, by decide⟩ dX3_partner_2 ?_
  refine g_nmI (fun r1 er1 => ?_)
  have hw := hw r1 er1
  refine g_if_ne (tgt := 11) ok dX3_partner_5 (by decide) (fun c2 => ?_) (fun c2 => ?_)
  · have hw := hw.2 c2
    refine g_aload_n ok 0 dX3_partner_11 rfl ?_
    obtain ⟨hp, hw⟩ := hw
    refine g_callVVR ok [] cf_X3_findBests q1582 (mc_X3_findBests ok.wo (xL x) C hp) (recvF ok 1 rfl rfl) rfl rfl (Nat.le_of_ble_eq_true rfl) ⟨by decide, by decide⟩ ⟨by decide, by decide⟩ dX3_partner_12 (fun C3 eC3 => ?_)
    have hw := hw C3 eC3
    refine g_aload_n ok 0 dX3_partner_15 rfl ?_
    refine g_callVI ok [] cf_X3_all q1578 (mc_X3_all ok.wo (xL x) C3) (recvF ok 1 rfl rfl) rfl rfl (Nat.le_of_ble_eq_true rfl) ⟨by decide, by decide⟩ ⟨by decide, by decide⟩ dX3_partner_16 ?_
    refine g_nmI (fun r4 er4 => ?_)
    have hw := hw r4 er4
    refine g_istore_n0 ok [(2, .int r4), (0, .ref (ad w 1)), (1, .int a0)] dX3_partner_19 (by decide) rfl ?_
    refine g_iconst (v := -1) ok dX3_partner_20 (by decide) ?_
    refine g_istore_n0 ok [(3, .int (-1)), (2, .int r4), (0, .ref (ad w 1)), (1, .int a0)] dX3_partner_21 (by decide) rfl ?_
    refine g_sub [2, 3, 1, 0] [(0, .ref (ad w 1)), (1, .int a0), (2, .int r4), (3, .int (-1))] rfl ?_
    obtain ⟨n31, hw⟩ := hw
    exact gw_X3_partner_l22 ok n31 C3 a0 r4 (-1) hw
  · have hw := hw.1 c2
    refine g_ldc (v := -1000000001) ok q1477 dX3_partner_8 ?_
    exact g_iret ok dX3_partner_10 ⟨_, rfl, hw⟩
theorem sp_X3_partner (C : CS) (a0 : Int32) (hp : p_X3_partner C a0) : wp_X3_partner (fun r C1 => r = v_X3_partner C a0 ∧ q_X3_partner C a0 C1) C a0 := by
  intro r1 e1
  refine ⟨fun c => ⟨by unfold v_X3_partner; rw [← e1, if_pos c], frm.rf _ _⟩, fun c => ⟨hp, fun C3 e3 r4 e4 => ?_⟩⟩
  have hv : v_X3_partner C a0 = v_X3_told0 (parR (C.2.1 36) a0) := by unfold v_X3_partner; rw [← e1, if_neg c]
  obtain ⟨N, e, hN⟩ := hp.1
  obtain ⟨f3, b3⟩ := e3
  have h36 : C3.2.1 36 = C.2.1 36 := f3.2.2 36 (by decide)
  have h1 : C3.2.1 36 1 = nI N := by rw [h36]; exact e
  have pw : 2 ^ N ≤ 1024 := (Nat.pow_le_pow_right (by decide) hN : 2 ^ N ≤ 2 ^ 10)
  have pp : 0 < 2 ^ N := Nat.pow_pos (by decide)
  rw [all_v (C := C3) (N := N) ⟨h1, hN⟩] at e4
  rw [e, cl_k (by omega)] at b3
  obtain ⟨b39, b40⟩ := b3
  have hN1 : (C.2.1 36 1).toNatClampNeg = N := by rw [e, cl_k (by omega)]
  have hb40 : ∀ s, s < 2 ^ N → C3.2.1 40 s = bestR (C.2.1 36) s := by intro s hs; unfold bestR; rw [hN1]; exact b40 s hs
  have H : ∀ k s found, s < k → s < 2 ^ N → v_X3_partner C a0 = v_X3_told0 (parL (vv (C.2.1 36)) (bestR (C.2.1 36)) N a0 k s found) → wp_X3_partner_l22 (fun r C1 => r = v_X3_partner C a0 ∧ q_X3_partner C a0 C1) (k + 1) C3 a0 (nI s) found := by
    intro k
    induction k with
    | zero => intro s found h; omega
    | succ k ih =>
      intro s found hk hs hvv
      refine ⟨fun c r6 e6 => ⟨?_, f3⟩, fun c => ⟨?_, fun r7 e7 x8 e8 x9 e9 => ?_⟩⟩
      · rw [show (0 : Int32) = nI 0 from rfl, nI_eq (by omega) (by omega)] at c
        rw [hvv, parL, if_pos c, e6]
      · rw [show (0 : Int32) = nI 0 from rfl, nI_eq (by omega) (by omega)] at c
        exact ⟨s, by omega, by omega, rfl⟩
      · rw [show (0 : Int32) = nI 0 from rfl, nI_eq (by omega) (by omega)] at c
        have hf := fb_ltN hs hN (by omega)
        have hc := clr_lt (s := s) (by omega) (by omega)
        have e7 : r7 = nI (fbit s) := by rw [e7]; unfold v_X3_firstOf; rw [cl_k (by omega)]
        rw [e7, clr_i _ (by omega) _ (by omega)] at e8
        rw [h1] at e9
        -- downwards from the last one
        have H2 : ∀ d g, fbit s < g → g ≤ N → g = fbit s + 1 + d → wp_X3_partner_l55 (fun r C1 => r = v_X3_partner C a0 ∧ q_X3_partner C a0 C1) (fun D i1 i2 i3 => wp_X3_partner_l22 (fun r C1 => r = v_X3_partner C a0 ∧ q_X3_partner C a0 C1) (k + 1) D i1 i2 i3) (d + 1) C3 a0 (nI s) found (nI (fbit s)) (nI (clr s (fbit s))) (wA1 (wP (vv (C.2.1 36)) (bestR (C.2.1 36)) s) (N - g) g) (nI g - 1) := by
          intro d
          induction d with
          | zero =>
            intro g hg hgN hgd
            have eg : g = fbit s + 1 := by omega
            subst eg
            rw [nI_pred]
            refine ⟨fun _ x15 e15 x18 e18 => ?_, fun c => absurd (Int32.le_refl _) c⟩
            have hwe : wA1 (wP (vv (C.2.1 36)) (bestR (C.2.1 36)) s) (N - (fbit s + 1)) (fbit s + 1) = wth (vv (C.2.1 36)) (bestR (C.2.1 36)) N s := rfl
            rw [hwe] at e15 e18
            have e18' : x18 = nI (lft s (wth (vv (C.2.1 36)) (bestR (C.2.1 36)) N s)) := by
              rw [e18]
              unfold lft
              rcases wA1_spec (wP (vv (C.2.1 36)) (bestR (C.2.1 36)) s) (N - (fbit s + 1)) (fbit s + 1) with h | ⟨j, h2, h3, h4, -⟩
              · rw [hwe] at h
                rw [h, if_neg nn1, if_neg nn1]
              · rw [hwe] at h4
                rw [h4, if_pos (nI_pos' (by omega)), if_pos (nI_pos' (by omega)), clr_i _ (by omega) _ (by omega), cl_k (by omega)]
            have hl := lft_lt (s := s) (by omega) (by omega) (wth (vv (C.2.1 36)) (bestR (C.2.1 36)) N s)
            show wp_X3_partner_l22 _ (k + 1) C3 a0 x18 x15
            rw [e18']
            refine ih _ x15 (by omega) (by omega) ?_
            rw [hvv, parL, if_neg c, e15]
          | succ d ihd =>
            intro g hg hgN hgd
            have eg : g = (g - 1) + 1 := by omega
            rw [eg, nI_pred]
            have ix : vp_in ((10 * nI (fbit s)) + nI (g - 1)) 100 := by rw [ix10]; exact vp_k (by omega)
            have hcc := clr_le (clr s (fbit s)) (g - 1)
            refine ⟨fun cc => ?_, fun _ => ⟨⟨fun _ => ⟨ix, trivial⟩, fun _ => trivial⟩, fun x23 e23 => ⟨⟨fun _ => trivial, fun _ => ⟨ix, by rw [clr_i _ (by omega) _ (by omega)]; exact vp_k (by omega), vp_k (by omega), trivial⟩⟩, fun x28 e28 x29 e29 => ?_⟩⟩⟩
            · rw [nI_leI (by omega) (by omega)] at cc; omega
            · have hq : x29 = nI (g - 1) - 1 := by rw [e29, om1, Int32.sub_eq_add_neg]
              have hval : C3.2.1 39 (10 * fbit s + (g - 1)) = vv (C.2.1 36) (fbit s) (g - 1) := b39 _ _ (by omega) (by omega) (by omega)
              rw [ix10, cl_k (by omega), hval] at e23 e28
              rw [clr_i _ (by omega) _ (by omega), cl_k (by omega), cl_k (by omega), hb40 _ (by omega), hb40 _ hs] at e28
              have hw : x28 = wA1 (wP (vv (C.2.1 36)) (bestR (C.2.1 36)) s) (N - (g - 1)) (g - 1) := by
                rw [show N - (g - 1) = (N - g) + 1 by omega, wA1, show g - 1 + 1 = g by omega, e28, ← eg]
                have hb := bit_eq (s := clr s (fbit s)) (g := g - 1) (by omega) (by omega)
                by_cases b1 : clr s (fbit s) / 2 ^ (g - 1) % 2 = 1
                · rw [if_pos (hb.mpr b1)] at e23
                  by_cases b2 : vv (C.2.1 36) (fbit s) (g - 1) < 0
                  · rw [if_pos b2] at e23
                    have : ¬ wP (vv (C.2.1 36)) (bestR (C.2.1 36)) s (g - 1) = true := by unfold wP; simp [b2]
                    rw [if_neg this, if_pos e23]
                  · rw [if_neg b2] at e23
                    have e0 : ¬ x23 = 0 := by rw [e23]; decide
                    rw [if_neg e0]
                    by_cases b3' : vv (C.2.1 36) (fbit s) (g - 1) + bestR (C.2.1 36) (clr (clr s (fbit s)) (g - 1)) = bestR (C.2.1 36) s
                    · have : wP (vv (C.2.1 36)) (bestR (C.2.1 36)) s (g - 1) = true := by unfold wP; simp [b1, b2, b3']
                      rw [if_pos b3', if_pos this]
                    · have : ¬ wP (vv (C.2.1 36)) (bestR (C.2.1 36)) s (g - 1) = true := by unfold wP; simp [b3']
                      rw [if_neg b3', if_neg this]
                · rw [if_neg (fun z => b1 (hb.mp z))] at e23
                  have : ¬ wP (vv (C.2.1 36)) (bestR (C.2.1 36)) s (g - 1) = true := by unfold wP; simp [b1]
                  rw [if_neg this, if_pos e23]
              rw [hq, hw]
              exact ihd (g - 1) (by omega) (by omega) (by omega)
        have h2 := H2 (N - (fbit s + 1)) N (by omega) (Nat.le_refl _) (by omega)
        rw [show N - N = 0 by omega, wA1] at h2
        rw [e7, e8, e9]
        exact ⟨_, h2⟩
  rw [e4]
  refine ⟨_, H (2 ^ N) (2 ^ N - 1) (-1) (by omega) (by omega) ?_⟩
  rw [hv]
  unfold parR allN
  rw [hN1, show 2 ^ N - 1 + 1 = 2 ^ N by omega]
theorem mc_X3_partner {w : WD} (wk : wOk w) (l : Launch) (C : CS) (a0 : Int32) (hp : p_X3_partner C a0) : MC w l yX3_partner cX3_partner 9 (some .int) 4 0 0 [.ref (ad w 1), .int a0] C (pIR (v_X3_partner C a0) (q_X3_partner C a0)) := MC.postIR (gw_X3_partner wk l C a0 (sp_X3_partner C a0 hp))
