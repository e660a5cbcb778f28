theorem rd_ok {tp : Nat → Int32} {L : Nat} {key : Int32} : ∀ (n k : Nat) (left : Option (List Int32 × Nat)) (nots pars : Nat) (t : TS) (r : Bool × List Int32 × Nat × TS), tsOk L t → rd tp L key n k left nots pars t = some r → tsOk L r.2.2.2 ∧ t.2.1 ≤ r.2.2.2.2.1 ∧ (left = none → r.1 = true → t.2.1 < r.2.2.2.2.1)
  | 0, _, _, _, _, _, _, _, h => by cases h
  | n + 1, k, none, nots, pars, t, r, ht, hr => by
    rw [rd] at hr
    have hs := stp_ok (tp := tp) ht
    by_cases c6 : k = 6
    · rw [if_pos c6] at hr
      rcases hx : ptT key t with _ | x
      · simp only [hx] at hr
        by_cases cN : t.2.2.1 = 3 ∧ t.2.2.2.1 = 33 ∧ nots < 8
        · rw [if_pos cN] at hr
          have h1 := ht.2.2 (by rw [cN.1]; decide)
          rcases hq : rd tp L key n 6 none (nots + 1) pars (stp tp L t) with _ | ⟨b, c, a2, t2⟩
          · simp only [hq] at hr; cases hr
          · have ih := rd_ok n _ _ _ _ _ _ hs.1 hq
            have ih2 : (stp tp L t).2.1 ≤ t2.2.1 := ih.2.1
            have ih1 : tsOk L t2 := ih.1
            cases b with
            | false => simp only [hq] at hr; cases hr; exact ⟨ih1, (by show t.2.1 ≤ t2.2.1; omega), fun _ _ => (by show t.2.1 < t2.2.1; omega)⟩
            | true => simp only [hq] at hr; cases hr; exact ⟨ih1, (by show t.2.1 ≤ t2.2.1; omega), fun _ _ => (by show t.2.1 < t2.2.1; omega)⟩
        · rw [if_neg cN] at hr
          by_cases cO : t.2.2.1 = 3 ∧ t.2.2.2.1 = 40 ∧ pars < 8
          · rw [if_pos cO] at hr
            have h1 := ht.2.2 (by rw [cO.1]; decide)
            rcases hq : rd tp L key n 1 none nots (pars + 1) (stp tp L t) with _ | ⟨b, c, a2, t2⟩
            · simp only [hq] at hr; cases hr
            · have ih := rd_ok n _ _ _ _ _ _ hs.1 hq
              have ih2 : (stp tp L t).2.1 ≤ t2.2.1 := ih.2.1
              have ih1 : tsOk L t2 := ih.1
              cases b with
              | false => simp only [hq] at hr; cases hr; exact ⟨ih1, (by show t.2.1 ≤ t2.2.1; omega), fun _ _ => (by show t.2.1 < t2.2.1; omega)⟩
              | true =>
                simp only [hq] at hr
                by_cases c41 : t2.2.2.1 = 3 ∧ t2.2.2.2.1 = 41
                · rw [if_pos c41] at hr; cases hr
                  have h2 := stp_ok (tp := tp) ih1
                  have h3 := ih1.1
                  exact ⟨h2.1, (by show t.2.1 ≤ (stp tp L t2).2.1; omega), fun _ _ => (by show t.2.1 < (stp tp L t2).2.1; omega)⟩
                · rw [if_neg c41] at hr; cases hr
                  exact ⟨ih1, (by show t.2.1 ≤ t2.2.1; omega), fun _ _ => (by show t.2.1 < t2.2.1; omega)⟩
          · rw [if_neg cO] at hr; cases hr
            exact ⟨ht, Nat.le_refl _, fun _ z => by cases z⟩
      · simp only [hx] at hr; cases hr
        have h0 : ¬ t.2.2.1 = 0 := by
          intro z
          unfold ptT at hx
          rw [z, if_neg (by decide), if_neg (fun y => absurd y.1 (by decide))] at hx
          cases hx
        have h1 := ht.2.2 h0
        exact ⟨hs.1, (by show t.2.1 ≤ (stp tp L t).2.1; omega), fun _ _ => (by show t.2.1 < (stp tp L t).2.1; omega)⟩
    · rw [if_neg c6] at hr
      rcases hq : rd tp L key n (k + 1) none nots pars t with _ | ⟨b, c, a2, t2⟩
      · simp only [hq] at hr; cases hr
      · have ih := rd_ok n _ _ _ _ _ _ ht hq
        cases b with
        | false => simp only [hq] at hr; cases hr; exact ih
        | true =>
          simp only [hq] at hr
          have ih1 : tsOk L t2 := ih.1
          have ih2 : t.2.1 < t2.2.1 := ih.2.2 rfl rfl
          have k2 := rd_ok n _ _ _ _ _ _ ih1 hr
          exact ⟨k2.1, by omega, fun _ _ => by omega⟩
  | n + 1, k, some (c, a), nots, pars, t, r, ht, hr => by
    rw [rd] at hr
    have hs := stp_ok (tp := tp) ht
    by_cases cs : ¬ sgT t = 0 ∧ rk (sgT t) = k
    · rw [if_pos cs] at hr
      have h1 := ht.2.2 (by rw [(sg_5 t cs.1).2.2.2.1]; decide)
      rcases hq : rd tp L key n (k + 1) none nots pars (stp tp L t) with _ | ⟨b, c2, a2, t2⟩
      · simp only [hq] at hr; cases hr
      · have ih := rd_ok n _ _ _ _ _ _ hs.1 hq
        have ih2 : (stp tp L t).2.1 ≤ t2.2.1 := ih.2.1
        have ih1 : tsOk L t2 := ih.1
        cases b with
        | false => simp only [hq] at hr; cases hr; exact ⟨ih1, (by show t.2.1 ≤ t2.2.1; omega), fun z => by cases z⟩
        | true =>
          simp only [hq] at hr
          by_cases c3 : k = 3
          · rw [if_pos c3] at hr; cases hr
            exact ⟨ih1, (by show t.2.1 ≤ t2.2.1; omega), fun z => by cases z⟩
          · rw [if_neg c3] at hr
            have k2 := rd_ok n _ _ _ _ _ _ ih1 hr
            exact ⟨k2.1, by omega, fun z => by cases z⟩
    · rw [if_neg cs] at hr; cases hr
      exact ⟨ht, Nat.le_refl _, fun z => by cases z⟩
theorem rd_tot {tp : Nat → Int32} {L : Nat} {key : Int32} : ∀ (n k : Nat) (left : Option (List Int32 × Nat)) (nots pars : Nat) (t : TS), tsOk L t → 1 ≤ k → k ≤ 6 → (left = none → 8 * (L - t.2.1) + (8 - k) ≤ n) → (¬ left = none → 8 * (L - t.2.1) + 1 ≤ n) → k ≤ 5 ∨ left = none → ∃ r, rd tp L key n k left nots pars t = some r
  | 0, k, left, _, _, t, _, _, _, h1, h2, _ => by
    by_cases c : left = none
    · have := h1 c; omega
    · have := h2 c; omega
  | n + 1, k, none, nots, pars, t, ht, hk1, hk6, h1, _, _ => by
    have h1 := h1 rfl
    rw [rd]
    have hs := stp_ok (tp := tp) ht
    have hL1 := ht.2.1
    by_cases c6 : k = 6
    · rw [if_pos c6]
      rcases hx : ptT key t with _ | x
      · simp only []
        by_cases cN : t.2.2.1 = 3 ∧ t.2.2.2.1 = 33 ∧ nots < 8
        · rw [if_pos cN]
          have h2 := ht.2.2 (by rw [cN.1]; decide)
          obtain ⟨r, hr⟩ := rd_tot (tp := tp) (key := key) n 6 none (nots + 1) pars (stp tp L t) hs.1 (by omega) (by omega) (fun _ => by omega) (fun z => absurd rfl z) (Or.inr rfl)
          rw [hr]
          obtain ⟨b, c, a, t2⟩ := r
          cases b
          · exact ⟨_, rfl⟩
          · exact ⟨_, rfl⟩
        · rw [if_neg cN]
          by_cases cO : t.2.2.1 = 3 ∧ t.2.2.2.1 = 40 ∧ pars < 8
          · rw [if_pos cO]
            have h2 := ht.2.2 (by rw [cO.1]; decide)
            obtain ⟨r, hr⟩ := rd_tot (tp := tp) (key := key) n 1 none nots (pars + 1) (stp tp L t) hs.1 (by omega) (by omega) (fun _ => by omega) (fun z => absurd rfl z) (Or.inr rfl)
            rw [hr]
            obtain ⟨b, c, a, t2⟩ := r
            cases b
            · exact ⟨_, rfl⟩
            · simp only []
              by_cases c41 : t2.2.2.1 = 3 ∧ t2.2.2.2.1 = 41
              · rw [if_pos c41]; exact ⟨_, rfl⟩
              · rw [if_neg c41]; exact ⟨_, rfl⟩
          · rw [if_neg cO]; exact ⟨_, rfl⟩
      · exact ⟨_, rfl⟩
    · rw [if_neg c6]
      obtain ⟨r, hr⟩ := rd_tot (tp := tp) (key := key) n (k + 1) none nots pars t ht (by omega) (by omega) (fun _ => by omega) (fun z => absurd rfl z) (Or.inr rfl)
      have k := rd_ok n _ _ _ _ _ _ ht hr
      rw [hr]
      obtain ⟨b, c, a, t2⟩ := r
      cases b
      · exact ⟨_, rfl⟩
      · have k1 : tsOk L t2 := k.1
        have k2 : t.2.1 < t2.2.1 := k.2.2 rfl rfl
        have k3 := k1.1
        have k4 := k1.2.1
        exact rd_tot (tp := tp) (key := key) n _ (some (c, a)) nots pars t2 k1 hk1 hk6 (fun z => by cases z) (fun _ => by omega) (Or.inl (by omega))
  | n + 1, k, some (c, a), nots, pars, t, ht, hk1, hk6, _, h1, hk => by
    have h1 := h1 (fun z => by cases z)
    have hk5 : k ≤ 5 := hk.resolve_right (fun z => by cases z)
    rw [rd]
    have hs := stp_ok (tp := tp) ht
    have hL1 := ht.2.1
    by_cases cs : ¬ sgT t = 0 ∧ rk (sgT t) = k
    · rw [if_pos cs]
      have h2 := ht.2.2 (by rw [(sg_5 t cs.1).2.2.2.1]; decide)
      obtain ⟨r, hr⟩ := rd_tot (tp := tp) (key := key) n (k + 1) none nots pars (stp tp L t) hs.1 (by omega) (by omega) (fun _ => by omega) (fun z => absurd rfl z) (Or.inr rfl)
      have k := rd_ok n _ _ _ _ _ _ hs.1 hr
      rw [hr]
      obtain ⟨b, c2, a2, t2⟩ := r
      cases b
      · exact ⟨_, rfl⟩
      · have k1 : tsOk L t2 := k.1
        have k2 : (stp tp L t).2.1 < t2.2.1 := k.2.2 rfl rfl
        have k3 := k1.1
        have k4 := k1.2.1
        simp only []
        split
        · exact ⟨_, rfl⟩
        · exact rd_tot (tp := tp) (key := key) n _ (some _) nots pars t2 k1 hk1 hk6 (fun z => by cases z) (fun _ => by omega) (Or.inl (by omega))
    · rw [if_neg cs]; exact ⟨_, rfl⟩

