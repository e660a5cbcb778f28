/-! what fits, what pairs: the gloves and the row say the same -/
theorem nearD : ∀ s, s < 10 → ∀ t, t < 10 → (if 1 < v_J5_abs (nI s - nI t) then (0 : Int32) else 1) = v_X3_in (nI s - nI t) (-1) 1 := by decide
theorem sameZ : ∀ s, s < 10 → ∀ t, t < 10 → (if nI s = nI t then (1 : Int32) else 0) = if nI s - nI t = 0 then (1 : Int32) else 0 := by decide
theorem kd_is {C : CS} {a : Nat} (h : isGl C a) : kdN C a = 0 ∨ kdN C a = 1 ∨ kdN C a = 2 ∨ kdN C a = 3 ∨ kdN C a = 4 ∨ kdN C a = 5 := by
  obtain ⟨c, n, -, h2, h3⟩ := h.tag
  omega
set_option maxRecDepth 100000 in
theorem fits_eq {C : CS} {a b i k : Nat} {r : Nat → Int32} (ha : glR C a r i) (hb : glR C b r k) (hi : i < 10) (hk : k < 10) : v_GL_fits C a b = v_X3_doesFit (rowC r) (nI i) (nI k) := by
  obtain ⟨o0, -, o2, o3, o4, -⟩ := ofn (rowC r) hi
  obtain ⟨u0, -, u2, u3, u4, -⟩ := ofn (rowC r) hk
  have o0 : v_X3_of (rowC r) (nI i) 0 = r (16 + 6 * i) := o0
  have o2 : v_X3_of (rowC r) (nI i) 2 = r (16 + 6 * i + 2) := o2
  have o3 : v_X3_of (rowC r) (nI i) 3 = r (16 + 6 * i + 3) := o3
  have o4 : v_X3_of (rowC r) (nI i) 4 = r (16 + 6 * i + 4) := o4
  have u0 : v_X3_of (rowC r) (nI k) 0 = r (16 + 6 * k) := u0
  have u2 : v_X3_of (rowC r) (nI k) 2 = r (16 + 6 * k + 2) := u2
  have u3 : v_X3_of (rowC r) (nI k) 3 = r (16 + 6 * k + 3) := u3
  have u4 : v_X3_of (rowC r) (nI k) 4 = r (16 + 6 * k + 4) := u4
  obtain ⟨g1, g2, -, g4, g5, g6, -, -, ⟨s, hs, es⟩, -⟩ := ha
  obtain ⟨f1, f2, -, f4, f5, f6, -, -, ⟨t, ht, et⟩, -⟩ := hb
  have near := nearD s (by omega) t (by omega)
  have same := sameZ s (by omega) t (by omega)
  unfold v_GL_fits v_X3_doesFit v_X7_fits v_X8_fits v_X5_fits v_X6_fits v_X4_fits v_X9_fits v_GL_turns
  rw [o0, o2, o3, o4, u0, u2, u3, u4, ← g2, ← f2, ← g5, ← f5, ← g6, ← f6, g4, f4, es, et, near, same]
  have tb : (if kdG C b = 4 then (0 : Int32) else 1) = if (if kdN C b = 4 then (1 : Int32) else 0) = 0 then 1 else 0 := by
    unfold kdG
    rcases kd_is f1 with h | h | h | h | h | h <;> rw [h] <;> decide
  rw [tb]
  have ka : kdG C a = nI (kdN C a) := rfl
  rw [ka]
  have w50 : (if (if 50 ≤ cDI C 43 a then (0 : Int32) else if 50 ≤ cDI C 43 b then 0 else 1) = 0 then (0 : Int32) else 1) = if 50 ≤ cDI C 43 a then (0 : Int32) else if 50 ≤ cDI C 43 b then 0 else 1 := by
    by_cases c1 : (50 : Int32) ≤ cDI C 43 a
    · rw [if_pos c1]; rfl
    · rw [if_neg c1]
      by_cases c2 : (50 : Int32) ≤ cDI C 43 b
      · rw [if_pos c2]; rfl
      · rw [if_neg c2]; rfl
  have w50' : (if (if (if nI s - nI t = 0 then (1 : Int32) else 0) = 0 then (0 : Int32) else if 50 ≤ cDI C 43 a then 0 else if 50 ≤ cDI C 43 b then 0 else 1) = 0 then (0 : Int32) else if cDI C 42 b < cDI C 42 a / 2 then 0 else 1) = if (if nI s - nI t = 0 then (1 : Int32) else 0) = 0 then (0 : Int32) else if (if 50 ≤ cDI C 43 a then (0 : Int32) else if 50 ≤ cDI C 43 b then 0 else 1) = 0 then (0 : Int32) else if cDI C 42 b < cDI C 42 a / 2 then 0 else 1 := by
    by_cases c0 : (if nI s - nI t = 0 then (1 : Int32) else 0) = 0
    · rw [if_pos c0, if_pos c0, if_pos rfl]
    · rw [if_neg c0, if_neg c0]
  rcases kd_is g1 with h | h | h | h | h | h <;> rw [h]
  · rw [if_pos (show  (0 : Nat) = 0 by decide), if_neg (show ¬ nI 0 = 1 by decide), if_neg (show ¬ nI 0 = 2 by decide), if_neg (show ¬ nI 0 = 3 by decide), if_neg (show ¬ nI 0 = 4 by decide), if_neg (show ¬ nI 0 = 5 by decide)]
  · rw [if_neg (show ¬ (1 : Nat) = 0 by decide), if_pos (show  (1 : Nat) = 1 by decide), if_pos (show  nI 1 = 1 by decide), w50]
  · rw [if_neg (show ¬ (2 : Nat) = 0 by decide), if_neg (show ¬ (2 : Nat) = 1 by decide), if_pos (show  (2 : Nat) = 2 by decide), if_neg (show ¬ nI 2 = 1 by decide), if_pos (show  nI 2 = 2 by decide)]
  · rw [if_neg (show ¬ (3 : Nat) = 0 by decide), if_neg (show ¬ (3 : Nat) = 1 by decide), if_neg (show ¬ (3 : Nat) = 2 by decide), if_pos (show  (3 : Nat) = 3 by decide), if_neg (show ¬ nI 3 = 1 by decide), if_neg (show ¬ nI 3 = 2 by decide), if_pos (show  nI 3 = 3 by decide), w50']
  · rw [if_neg (show ¬ (4 : Nat) = 0 by decide), if_neg (show ¬ (4 : Nat) = 1 by decide), if_neg (show ¬ (4 : Nat) = 2 by decide), if_neg (show ¬ (4 : Nat) = 3 by decide), if_pos (show  (4 : Nat) = 4 by decide), if_neg (show ¬ nI 4 = 1 by decide), if_neg (show ¬ nI 4 = 2 by decide), if_neg (show ¬ nI 4 = 3 by decide), if_pos (show  nI 4 = 4 by decide)]
  · rw [if_neg (show ¬ (5 : Nat) = 0 by decide), if_neg (show ¬ (5 : Nat) = 1 by decide), if_neg (show ¬ (5 : Nat) = 2 by decide), if_neg (show ¬ (5 : Nat) = 3 by decide), if_neg (show ¬ (5 : Nat) = 4 by decide), if_neg (show ¬ nI 5 = 1 by decide), if_neg (show ¬ nI 5 = 2 by decide), if_neg (show ¬ nI 5 = 3 by decide), if_neg (show ¬ nI 5 = 4 by decide), if_pos (show  nI 5 = 5 by decide)]
theorem pairs_eq {C : CS} {a b i k : Nat} {r : Nat → Int32} (ha : glR C a r i) (hb : glR C b r k) (hi : i < 10) (hk : k < 10) (hab : b = a ↔ i = k) : v_X4_pairs C a b = ipR r i k := by
  have e1 := fits_eq ha hb hi hk
  have e2 := fits_eq hb ha hk hi
  obtain ⟨o0, o1, -, -, -, o5⟩ := ofn (rowC r) hi
  obtain ⟨u0, u1, -, -, -, u5⟩ := ofn (rowC r) hk
  have o0 : v_X3_of (rowC r) (nI i) 0 = r (16 + 6 * i) := o0
  have o1 : v_X3_of (rowC r) (nI i) 1 = r (16 + 6 * i + 1) := o1
  have o5 : v_X3_of (rowC r) (nI i) 5 = r (16 + 6 * i + 5) := o5
  have u0 : v_X3_of (rowC r) (nI k) 0 = r (16 + 6 * k) := u0
  have u1 : v_X3_of (rowC r) (nI k) 1 = r (16 + 6 * k + 1) := u1
  have u5 : v_X3_of (rowC r) (nI k) 5 = r (16 + 6 * k + 5) := u5
  obtain ⟨g1, g2, g3, -, -, -, g7, -⟩ := ha
  obtain ⟨f1, f2, f3, -, -, -, f7, -⟩ := hb
  unfold ipR v_X4_pairs v_X3_isPair v_GL_isLike v_X17_isLike v_GL_turns
  rw [o0, o1, o5, u0, u1, u5, ← g2, ← f2, ← g3, ← f3, ← g7, ← f7, ← e1, ← e2]
  have ta : (kdG C a = 4) ↔ kdN C a = 4 := by
    unfold kdG
    rcases kd_is g1 with h | h | h | h | h | h <;> rw [h] <;> decide
  have tb : (kdG C b = 4) ↔ kdN C b = 4 := by
    unfold kdG
    rcases kd_is f1 with h | h | h | h | h | h <;> rw [h] <;> decide
  by_cases c0 : b = a
  · rw [if_pos c0, if_pos (show nI i = nI k by rw [hab.mp c0])]
  · rw [if_neg c0, if_neg (fun h => c0 (hab.mpr ((nI_eq (by omega) (by omega)).mp h)))]
    by_cases c1 : cDI C 44 a = 0
    · rw [if_pos c1, if_pos c1]
      by_cases c2 : cDI C 44 b = 0
      · rw [if_pos c2, if_pos c2]
        by_cases c3 : cDI C 40 a = cDI C 40 b
        · rw [if_pos c3, if_pos c3]
          by_cases c4 : kdN C a = 4
          · rw [if_pos c4, if_pos (ta.mpr c4)]
            by_cases z1 : v_GL_fits C a b = 0 <;> by_cases z2 : v_GL_fits C b a = 0 <;> simp [z1, z2]
          · rw [if_neg c4, if_neg (fun h => c4 (ta.mp h))]
            by_cases c5 : kdN C b = 4
            · rw [if_pos c5, if_pos (tb.mpr c5)]
              by_cases z1 : v_GL_fits C a b = 0 <;> by_cases z2 : v_GL_fits C b a = 0 <;> simp [z1, z2]
            · rw [if_neg c5, if_neg (fun h => c5 (tb.mp h))]
              rfl
        · rw [if_neg c3, if_neg c3]
          by_cases z1 : v_GL_fits C a b = 0 <;> by_cases z2 : v_GL_fits C b a = 0 <;> simp [z1, z2]
      · rw [if_neg c2, if_neg c2]; simp
    · rw [if_neg c1, if_neg c1]; simp
theorem held_w (v : Int32) : v_X0_heldIn v 0 999 = v_X3_within v 0 999 ∧ v_X0_heldIn v 0 20 = v_X3_within v 0 20 ∧ v_X0_heldIn v 0 99 = v_X3_within v 0 99 := by
  have H : ∀ m : Int32, (0 : Int32) < m → v_J5_max 0 (v_J5_min m v) = v_X3_within v 0 m := by
    intro m hm
    unfold v_J5_max v_J5_min v_X3_within
    by_cases c1 : v < m
    · rw [if_pos c1]
      have c2 : v ≤ m := Int32.le_of_lt c1
      by_cases c3 : (0 : Int32) ≤ v
      · rw [if_pos c3, if_pos c2]
        by_cases c4 : 0 < v
        · rw [if_pos c4]
        · rw [if_neg c4]; exact Int32.le_antisymm c3 (Int32.not_lt.mp c4)
      · rw [if_neg c3, if_neg (fun h => c3 (Int32.le_of_lt h))]
    · rw [if_neg c1, if_pos hm]
      have c3 : (0 : Int32) ≤ v := Int32.le_of_lt (Int32.lt_of_lt_of_le hm (Int32.not_lt.mp c1))
      rw [if_pos c3]
      by_cases c4 : v ≤ m
      · rw [if_pos c4]; exact Int32.le_antisymm (Int32.not_lt.mp c1) c4
      · rw [if_neg c4]
  exact ⟨H 999 (by decide), H 20 (by decide), H 99 (by decide)⟩
theorem max0_w (v : Int32) : v_X3_within (v_J5_max 0 v) 0 999 = v_X3_within v 0 999 := by
  unfold v_J5_max
  by_cases c : 0 < v
  · rw [if_pos c]
  · rw [if_neg c]
    unfold v_X3_within
    by_cases c2 : (0 : Int32) ≤ v
    · rw [if_pos c2, if_pos (by decide), if_pos (by decide)]
      have : v = 0 := Int32.le_antisymm (Int32.not_lt.mp c) c2
      subst this
      rw [if_pos (by decide)]
    · rw [if_neg c2, if_pos (by decide), if_pos (by decide)]
theorem fok_0 {A f : Nat → Int32} (h0 : A 97 = f 0) (h1 : A 98 = f 1) (h2 : A 119 = f 2) : fok 0 A f := by
  intro z hz
  have e : nmK 0 z = if z = 97 then 0 else if z = 98 then 1 else if z = 119 then 2 else -1 := rfl
  rw [e] at hz ⊢
  by_cases c1 : z = 97
  · subst c1; exact h0
  · rw [if_neg c1] at hz ⊢
    by_cases c2 : z = 98
    · subst c2; exact h1
    · rw [if_neg c2] at hz ⊢
      by_cases c3 : z = 119
      · subst c3; exact h2
      · rw [if_neg c3] at hz; exact absurd (by decide) hz
theorem fok_1 {A f : Nat → Int32} (h0 : A 120 = f 0) (h1 : A 112 = f 1) : fok 1 A f := by
  intro z hz
  have e : nmK 1 z = if z = 120 then 0 else if z = 112 then 1 else -1 := rfl
  rw [e] at hz ⊢
  by_cases c1 : z = 120
  · subst c1; exact h0
  · rw [if_neg c1] at hz ⊢
    by_cases c2 : z = 112
    · subst c2; exact h1
    · rw [if_neg c2] at hz; exact absurd (by decide) hz
theorem fok_2 {A f : Nat → Int32} (h0 : A 100 = f 0) (h1 : A 108 = f 1) : fok 2 A f := by
  intro z hz
  have e : nmK 2 z = if z = 100 then 0 else if z = 108 then 1 else -1 := rfl
  rw [e] at hz ⊢
  by_cases c1 : z = 100
  · subst c1; exact h0
  · rw [if_neg c1] at hz ⊢
    by_cases c2 : z = 108
    · subst c2; exact h1
    · rw [if_neg c2] at hz; exact absurd (by decide) hz
