/-! what the grammar writes can be worked out -/
def tvOk (t : TS) : Prop := t.2.2.1 = 2 → ∃ m, m < 10000 ∧ t.2.2.2.1 = nI m
theorem spF_all {P : Int32 → Bool} {tp : Nat → Int32} {L : Nat} : ∀ d p i, p ≤ i → i < spF P tp L d p → P (tp i) = true
  | 0, p, i, h1, h2 => by rw [spF] at h2; omega
  | d + 1, p, i, h1, h2 => by
    rw [spF] at h2
    by_cases c : p < L ∧ P (tp p) = true
    · rw [if_pos c] at h2
      by_cases e : i = p
      · rw [e]; exact c.2
      · exact spF_all d (p + 1) i (by omega) h2
    · rw [if_neg c] at h2; omega
theorem isF_n {x : Int32} (h : isF x = true) : ∃ m, x = nI m ∧ 48 ≤ m ∧ m ≤ 57 := by
  unfold isF at h
  simp only [Bool.and_eq_true, decide_eq_true_eq] at h
  exact nI_btw (lo := 48) (hi := 57) (Int32.not_lt.mp h.1) (Int32.not_lt.mp h.2) (by decide)
theorem numV_n {tp : Nat → Int32} {q : Nat} : ∀ k, k ≤ 4 → (∀ i, i < k → isF (tp (q + i)) = true) → ∃ m, m < 10 ^ k ∧ numV tp q k = nI m
  | 0, _, _ => ⟨0, by decide, rfl⟩
  | k + 1, hk, h => by
    obtain ⟨m, h1, h2⟩ := numV_n (tp := tp) (q := q) k (by omega) (fun i hi => h i (by omega))
    obtain ⟨c, h3, h4, h5⟩ := isF_n (h k (by omega))
    refine ⟨10 * m + c - 48, ?_, ?_⟩
    · rw [Nat.pow_succ]; omega
    · rw [numV, if_pos (by omega), h2, h3, show (10 : Int32) = nI 10 from rfl, pk_mul, nI_add, show (48 : Int32) = nI 48 from rfl, pk_sub (by omega)]
theorem goT_v (tp : Nat → Int32) (L p : Nat) (v e : Int32) : tvOk (goT tp L p v e) := by
  unfold goT
  generalize spn isSp tp L p = q
  simp only []
  by_cases h1 : q = L
  · rw [if_pos h1]; intro z; exact absurd (show (0 : Int32) = 2 from z) (by decide)
  · rw [if_neg h1]
    by_cases h2 : isL (tp q) = true
    · rw [if_pos h2]
      intro z
      replace z : (if nI q = e then (4 : Int32) else 1) = 2 := z
      split at z <;> exact absurd z (by decide)
    · rw [if_neg h2]
      by_cases h3 : isF (tp q) = true
      · rw [if_pos h3]
        intro z
        replace z : (if nI q = e then (4 : Int32) else if spn isF tp L q - q ≤ 4 then 2 else 4) = 2 := z
        split at z
        · exact absurd z (by decide)
        · split at z
          · rename_i h4
            obtain ⟨m, hm1, hm2⟩ := numV_n (tp := tp) (q := q) (spn isF tp L q - q) h4 (fun i hi => spF_all (L := L) (L - q) q (q + i) (by omega) (by unfold spn at hi; omega))
            refine ⟨m, ?_, hm2⟩
            have : 10 ^ (spn isF tp L q - q) ≤ 10 ^ 4 := Nat.pow_le_pow_right (by decide) h4
            omega
          · exact absurd z (by decide)
      · rw [if_neg h3]; intro z; exact absurd (show (3 : Int32) = 2 from z) (by decide)
def okL (nf : Nat) : Nat → List Int32 → Prop
  | _, [] => True
  | d, x :: c => ((x < 0 → (x = -10 → 1 ≤ d) ∧ (¬ x = -10 → 2 ≤ d)) ∧ (¬ x < 0 → 10000 ≤ x → vp_in (x - 10000) nf)) ∧ okL nf (dStep d x) c
def dL (d : Nat) (c : List Int32) : Nat := c.foldl dStep d
theorem okL_app {nf : Nat} : ∀ {c1 c2 : List Int32} {d : Nat}, okL nf d c1 → okL nf (dL d c1) c2 → okL nf d (c1 ++ c2)
  | [], _, _, _, h => h
  | x :: c1, c2, d, h1, h2 => ⟨h1.1, okL_app (c1 := c1) h1.2 h2⟩
theorem dL_app (d : Nat) (c1 c2 : List Int32) : dL d (c1 ++ c2) = dL (dL d c1) c2 := by unfold dL; rw [List.foldl_append]
/-- signs of one part: they leave one number more -/
def one (nf : Nat) (c : List Int32) : Prop := ∀ d, okL nf d c ∧ dL d c = d + 1
theorem one_not {nf : Nat} {c : List Int32} (h : one nf c) : one nf (c ++ [-10]) := by
  intro d
  have h1 := h d
  refine ⟨okL_app h1.1 ⟨⟨fun _ => ⟨fun _ => by omega, fun z => absurd rfl z⟩, fun z => absurd (by decide) z⟩, trivial⟩, ?_⟩
  rw [dL_app, h1.2]
  show dStep (d + 1) (-10) = d + 1
  unfold dStep
  rw [if_pos (by decide), if_pos rfl]
theorem one_two {nf : Nat} {c c2 : List Int32} {s : Int32} (h : one nf c) (h2 : one nf c2) (hs : s < 0) (h10 : ¬ s = -10) : one nf (c ++ c2 ++ [s]) := by
  intro d
  have h1 := h d
  have h3 := h2 (d + 1)
  have e : dL d (c ++ c2) = d + 2 := by rw [dL_app, h1.2, h3.2]
  refine ⟨okL_app (okL_app h1.1 (by rw [h1.2]; exact h3.1)) ⟨⟨fun _ => ⟨fun z => absurd z h10, fun _ => by omega⟩, fun z => absurd hs z⟩, trivial⟩, ?_⟩
  rw [dL_app, e]
  show dStep (d + 2) s = d + 1
  unfold dStep
  rw [if_pos hs, if_neg h10]
  rfl
theorem sg_neg (t : TS) (h : ¬ sgT t = 0) : sgT t < 0 := by
  have e : sgT t = v_X3_signHere (tokW t.2.2.1 t.2.2.2.1) := rfl
  unfold v_X3_signHere at e
  generalize sgT t = s at *
  repeat' (split at e)
  all_goals first | (subst e; decide) | exact absurd e h
theorem nmK_nf (key x : Int32) (hk : key = 0 ∨ key = 1 ∨ key = 2) : nmK key x < 0 ∨ ∃ m, m < nfK key ∧ nmK key x = nI m := by
  have e : nmK key x = v_X3_nameOf (keyW key) x := rfl
  unfold v_X3_nameOf at e
  have e15 : (keyW key).1 1 15 = key := rfl
  rw [e15] at e
  generalize nmK key x = s at *
  rcases hk with hk | hk | hk <;> subst hk
  all_goals
    repeat' (split at e)
  all_goals first | (subst e; exact Or.inl (by decide)) | (subst e; exact Or.inr ⟨0, by decide, rfl⟩) | (subst e; exact Or.inr ⟨1, by decide, rfl⟩) | (subst e; exact Or.inr ⟨2, by decide, rfl⟩) | contradiction
theorem pt_one {key : Int32} (hk : key = 0 ∨ key = 1 ∨ key = 2) {t : TS} {x : Int32} (hv : tvOk t) (h : ptT key t = some x) : one (nfK key) [x] := by
  have hx : ¬ x < 0 ∧ (10000 ≤ x → vp_in (x - 10000) (nfK key)) := by
    unfold ptT at h
    by_cases c : t.2.2.1 = 2
    · rw [if_pos c] at h
      cases h
      obtain ⟨m, h1, h2⟩ := hv c
      rw [h2]
      refine ⟨fun z => ?_, fun z => ?_⟩
      · have z2 := Int32.not_le.mpr z
        rw [show (0 : Int32) = nI 0 from rfl, nI_leI (by omega) (by omega)] at z2
        omega
      · rw [show (10000 : Int32) = nI 10000 from rfl, nI_leI (by omega) (by omega)] at z
        omega
    · rw [if_neg c] at h
      by_cases c2 : t.2.2.1 = 1 ∧ t.1 = t.2.1 + 1 ∧ ¬ nmK key t.2.2.2.1 < 0
      · rw [if_pos c2] at h
        cases h
        rcases nmK_nf key t.2.2.2.1 hk with y | ⟨m, y1, y2⟩
        · exact absurd y c2.2.2
        · have : nfK key ≤ 3 := by unfold nfK; split <;> omega
          rw [y2, show (10000 : Int32) = nI 10000 from rfl, nI_add]
          refine ⟨fun z => ?_, fun z => ?_⟩
          · have z2 := Int32.not_le.mpr z
            rw [show (0 : Int32) = nI 0 from rfl, nI_leI (by omega) (by omega)] at z2
            omega
          · rw [pk_sub (by omega), show 10000 + m - 10000 = m by omega]
            exact vp_in_nI y1 (by omega)
      · rw [if_neg c2] at h; cases h
  intro d
  refine ⟨⟨⟨fun z => absurd z hx.1, fun _ z => hx.2 z⟩, trivial⟩, ?_⟩
  show dStep d x = d + 1
  unfold dStep
  rw [if_neg hx.1]

theorem rd_one {tp : Nat → Int32} {L : Nat} {key : Int32} (hk : key = 0 ∨ key = 1 ∨ key = 2) : ∀ (n k : Nat) (left : Option (List Int32 × Nat)) (nots pars : Nat) (t : TS) (c : List Int32) (a : Nat) (t2 : TS), tvOk t → (∀ c0 a0, left = some (c0, a0) → one (nfK key) c0) → rd tp L key n k left nots pars t = some (true, c, a, t2) → tvOk t2 ∧ one (nfK key) c
  | 0, _, _, _, _, _, _, _, _, _, _, h => by cases h
  | n + 1, k, none, nots, pars, t, c, a, t2, hv, hl, hr => by
    rw [rd] at hr
    have hs : tvOk (stp tp L t) := goT_v _ _ _ _ _
    have hn : ∀ c0 a0, (none : Option (List Int32 × Nat)) = some (c0, a0) → one (nfK key) c0 := fun _ _ z => by cases z
    by_cases c6 : k = 6
    · rw [if_pos c6] at hr
      rcases hx : ptT key t with _ | x
      · simp only [hx] at hr
        by_cases cN : t.2.2.1 = 3 ∧ t.2.2.2.1 = 33 ∧ nots < 8
        · rw [if_pos cN] at hr
          rcases hq : rd tp L key n 6 none (nots + 1) pars (stp tp L t) with _ | ⟨b, c2, a2, t3⟩
          · simp only [hq] at hr; cases hr
          · cases b with
            | false => simp only [hq] at hr; cases hr
            | true =>
              have ih := rd_one hk n _ _ _ _ _ _ _ _ hs hn hq
              simp only [hq] at hr; cases hr
              exact ⟨ih.1, one_not ih.2⟩
        · rw [if_neg cN] at hr
          by_cases cO : t.2.2.1 = 3 ∧ t.2.2.2.1 = 40 ∧ pars < 8
          · rw [if_pos cO] at hr
            rcases hq : rd tp L key n 1 none nots (pars + 1) (stp tp L t) with _ | ⟨b, c2, a2, t3⟩
            · simp only [hq] at hr; cases hr
            · cases b with
              | false => simp only [hq] at hr; cases hr
              | true =>
                have ih := rd_one hk n _ _ _ _ _ _ _ _ hs hn hq
                simp only [hq] at hr
                by_cases c41 : t3.2.2.1 = 3 ∧ t3.2.2.2.1 = 41
                · rw [if_pos c41] at hr; cases hr
                  exact ⟨goT_v _ _ _ _ _, ih.2⟩
                · rw [if_neg c41] at hr; cases hr
          · rw [if_neg cO] at hr; cases hr
      · simp only [hx] at hr; cases hr
        exact ⟨hs, pt_one hk hv hx⟩
    · rw [if_neg c6] at hr
      rcases hq : rd tp L key n (k + 1) none nots pars t with _ | ⟨b, c2, a2, t3⟩
      · simp only [hq] at hr; cases hr
      · cases b with
        | false => simp only [hq] at hr; cases hr
        | true =>
          have ih := rd_one hk n _ _ _ _ _ _ _ _ hv hn hq
          simp only [hq] at hr
          exact rd_one hk n _ _ _ _ _ _ _ _ ih.1 (fun c0 a0 z => by cases z; exact ih.2) hr
  | n + 1, k, some (c0, a0), nots, pars, t, c, a, t2, hv, hl, hr => by
    rw [rd] at hr
    have hs : tvOk (stp tp L t) := goT_v _ _ _ _ _
    have hn : ∀ c0 a0, (none : Option (List Int32 × Nat)) = some (c0, a0) → one (nfK key) c0 := fun _ _ z => by cases z
    by_cases cs : ¬ sgT t = 0 ∧ rk (sgT t) = k
    · rw [if_pos cs] at hr
      rcases hq : rd tp L key n (k + 1) none nots pars (stp tp L t) with _ | ⟨b, c2, a2, t3⟩
      · simp only [hq] at hr; cases hr
      · cases b with
        | false => simp only [hq] at hr; cases hr
        | true =>
          have ih := rd_one hk n _ _ _ _ _ _ _ _ hs hn hq
          have h2 := one_two (hl _ _ rfl) ih.2 (sg_neg t cs.1) (sg_5 t cs.1).2.2.1
          simp only [hq] at hr
          by_cases c3 : k = 3
          · rw [if_pos c3] at hr; cases hr
            exact ⟨ih.1, h2⟩
          · rw [if_neg c3] at hr
            exact rd_one hk n _ _ _ _ _ _ _ _ ih.1 (fun c0 a0 z => by cases z; exact h2) hr
    · rw [if_neg cs] at hr; cases hr
      exact ⟨hv, hl _ _ rfl⟩
/-- the row's signs are those of a list -/
theorem okL_at {nf : Nat} {f : Nat → Int32} : ∀ (c : List Int32) (s : Nat), (∀ i, i < c.length → f (s + i) = c.getD i 0) → okL nf (cDep f s) c → (∀ k, s ≤ k → k < s + c.length → ((f k < 0 → (f k = -10 → 1 ≤ cDep f k) ∧ (¬ f k = -10 → 2 ≤ cDep f k)) ∧ (¬ f k < 0 → 10000 ≤ f k → vp_in (f k - 10000) nf))) ∧ cDep f (s + c.length) = dL (cDep f s) c
  | [], s, _, _ => ⟨fun k h1 h2 => by simp at h2; omega, rfl⟩
  | x :: c, s, hf, h => by
    have e0 : f s = x := hf 0 (by simp)
    have e1 : cDep f (s + 1) = dStep (cDep f s) x := by rw [cDep, e0]
    have ih := okL_at (nf := nf) (f := f) c (s + 1) (fun i hi => by have := hf (i + 1) (by simp; omega); rw [show s + 1 + i = s + (i + 1) by omega, this]; rfl) (by rw [e1]; exact h.2)
    rw [List.length_cons]
    refine ⟨fun k h1 h2 => ?_, ?_⟩
    · by_cases c : k = s
      · rw [c, e0]; exact h.1
      · exact ih.1 k (by omega) (by omega)
    · rw [show s + (c.length + 1) = s + 1 + c.length by omega, ih.2, e1]; rfl
theorem one_cOk {nf : Nat} {f : Nat → Int32} {c : List Int32} (h : one nf c) (hf : ∀ i, i < c.length → f i = c.getD i 0) : cOk nf f c.length ∧ cDep f c.length = 1 := by
  have k := okL_at (nf := nf) (f := f) c 0 (fun i hi => by rw [Nat.zero_add]; exact hf i hi) (h 0).1
  rw [Nat.zero_add] at k
  exact ⟨fun i hi => k.1 i (Nat.zero_le _) hi, by rw [k.2]; exact (h 0).2⟩

