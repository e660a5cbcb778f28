theorem tRow_old {r : Nat → Int32} {T w a : Nat} {c : List Int32} (hT : T < 14) (hc : c.length ≤ 96) {i : Nat} (h5 : i ≠ 5) (h1 : i ≠ 76 + 2 * T) (h2 : i ≠ 77 + 2 * T) (h3 : i < 104 + 96 * T) : tRow r T w c a i = r i := by
  unfold tRow
  rw [if_neg h5, if_neg h1, if_neg h2, if_neg (by omega)]
theorem tRow_key {r : Nat → Int32} {T w a : Nat} {c : List Int32} : tRow r T w c a (76 + 2 * T) = nI (1000 * w + c.length) := by
  unfold tRow
  rw [if_neg (by omega), if_pos rfl]
theorem tx_new {r : Nat → Int32} {T w a : Nat} {c : List Int32} (hT : T < 14) (hw : w < 3) (hc : c.length < 96) : tRow r T w c a (76 + 2 * T) / 1000 = nI w ∧ txN (tRow r T w c a) T = c.length ∧ tRow r T w c a (76 + 2 * T) - tRow r T w c a (76 + 2 * T) / 1000 * 1000 = nI c.length := by
  have e1 : tRow r T w c a (76 + 2 * T) / 1000 = nI w := by
    rw [tRow_key, show (1000 : Int32) = nI 1000 from rfl, pk_div (by omega) (by decide) (by decide), show (1000 * w + c.length) / 1000 = w by omega]
  have e2 : tRow r T w c a (76 + 2 * T) - tRow r T w c a (76 + 2 * T) / 1000 * 1000 = nI c.length := by
    rw [tRow_key, show (1000 : Int32) = nI 1000 from rfl, pk_rem (by omega) (by decide) (by decide), show (1000 * w + c.length) % 1000 = c.length by omega]
  refine ⟨e1, ?_, e2⟩
  unfold txN
  rw [e2, cl_k (by omega)]
theorem tx_oldN {r : Nat → Int32} {T w a t : Nat} {c : List Int32} (hT : T < 14) (hc : c.length ≤ 96) (ht : t < T) : tRow r T w c a (76 + 2 * t) = r (76 + 2 * t) ∧ txN (tRow r T w c a) t = txN r t ∧ ∀ k, k < 96 → txC (tRow r T w c a) t k = txC r t k := by
  have e1 : tRow r T w c a (76 + 2 * t) = r (76 + 2 * t) := tRow_old hT hc (by omega) (by omega) (by omega) (by omega)
  refine ⟨e1, by unfold txN; rw [e1], fun k hk => ?_⟩
  unfold txC
  exact tRow_old hT hc (by omega) (by omega) (by omega) (by omega)
theorem cDep_eq {f g : Nat → Int32} : ∀ {n : Nat}, (∀ k, k < n → g k = f k) → cDep g n = cDep f n
  | 0, _ => rfl
  | n + 1, h => by rw [cDep, cDep, cDep_eq (fun k hk => h k (by omega)), h n (by omega)]
theorem cOk_eq {nf : Nat} {f g : Nat → Int32} {n : Nat} (h : ∀ k, k < n → g k = f k) (ho : cOk nf f n) : cOk nf g n := by
  intro k hk
  have := ho k hk
  rw [h k hk, cDep_eq (fun q hq => h q (by omega))]
  exact this
theorem tx_newC {r : Nat → Int32} {T w a : Nat} {c : List Int32} (hT : T < 14) {i : Nat} (hi : i < c.length) : txC (tRow r T w c a) T i = c.getD i 0 := by
  unfold txC tRow
  rw [if_neg (by omega), if_neg (by omega), if_neg (by omega), if_pos (by omega), show 104 + 96 * T + i - (104 + 96 * T) = i by omega]
theorem txs_row {r : Nat → Int32} {T w a : Nat} {c : List Int32} (h : txsOk r) (h5 : r 5 = nI T) (hT : T < 14) (hw : w < 3) (hc : c.length < 96) (h1 : one (nfK (nI w)) c) : txsOk (tRow r T w c a) := by
  obtain ⟨T2, e, hT2, ho⟩ := h
  have eT : T2 = T := by
    rw [e] at h5
    exact (nI_eq (by omega) (by omega)).mp h5
  subst eT
  refine ⟨T2 + 1, by unfold tRow; rw [if_pos rfl], by omega, fun t ht => ?_⟩
  by_cases c1 : t = T2
  · subst c1
    have k := tx_new (r := r) (a := a) hT hw hc
    rw [k.1]
    have kk := one_cOk h1 (f := txC (tRow r t w c a) t) (fun i hi => tx_newC hT hi)
    unfold txOk
    rw [k.2.1]
    exact ⟨k.2.2, by omega, kk.1, kk.2⟩
  · have k := tx_oldN (r := r) (w := w) (a := a) (c := c) hT (by omega) (show t < T2 by omega)
    have o := ho t (by omega)
    rw [k.1]
    unfold txOk at o ⊢
    rw [k.1, k.2.1]
    have hf : ∀ q, q < txN r t → txC (tRow r T2 w c a) t q = txC r t q := fun q hq => k.2.2 q (by omega)
    exact ⟨o.1, o.2.1, cOk_eq hf o.2.2.1, by rw [cDep_eq hf]; exact o.2.2.2⟩
/-- a text that is one: its key, its signs -/
theorem txR_one {tp : Nat → Int32} {L : Nat} {v : Int32} {w a : Nat} {c : List Int32} (h : txR tp L v = Sum.inr (w, c, a)) : w < 3 ∧ one (nfK (nI w)) c := by
  unfold txR at h
  rcases hk : (if (goT tp L 0 v (-1)).2.2.1 = 1 then kyL tp (goT tp L 0 v (-1)).2.1 (goT tp L 0 v (-1)).1 3 0 else none) with _ | w2
  · rw [hk] at h; cases h
  · rw [hk] at h
    have hw : w2 < 3 := by
      split at hk
      · have := kyL_lt hk; omega
      · cases hk
    replace h : (match eT tp L (nI w2) (stp tp L (goT tp L 0 v (-1))) with
      | some (b, c, a, t) => if b = true ∧ t.2.2.1 = 0 then Sum.inr (w2, c, a) else Sum.inl t.2.1
      | none => Sum.inl 0) = (Sum.inr (w, c, a) : Nat ⊕ (Nat × List Int32 × Nat)) := h
    rcases he : eT tp L (nI w2) (stp tp L (goT tp L 0 v (-1))) with _ | ⟨b, c2, a2, t2⟩
    · rw [he] at h; cases h
    · rw [he] at h
      replace h : (if b = true ∧ t2.2.2.1 = 0 then Sum.inr (w2, c2, a2) else Sum.inl t2.2.1) = (Sum.inr (w, c, a) : Nat ⊕ (Nat × List Int32 × Nat)) := h
      by_cases cc : b = true ∧ t2.2.2.1 = 0
      · rw [if_pos cc] at h
        cases h
        refine ⟨hw, ?_⟩
        rw [cc.1] at he
        have hkey : nI w = 0 ∨ nI w = 1 ∨ nI w = 2 := by
          rcases (show w = 0 ∨ w = 1 ∨ w = 2 by omega) with y | y | y
          · exact Or.inl (by rw [y]; rfl)
          · exact Or.inr (Or.inl (by rw [y]; rfl))
          · exact Or.inr (Or.inr (by rw [y]; rfl))
        exact (rd_one hkey _ _ _ _ _ _ _ _ _ (goT_v _ _ _ _ _) (fun _ _ z => by cases z) he).2
      · rw [if_neg cc] at h; cases h
theorem rd_len {tp : Nat → Int32} {L : Nat} {key : Int32} : ∀ (n k : Nat) (left : Option (List Int32 × Nat)) (nots pars : Nat) (t : TS) (c : List Int32) (a : Nat) (t2 : TS), tsOk L t → rd tp L key n k left nots pars t = some (true, c, a, t2) → (left = none → c.length + t.2.1 ≤ t2.2.1 ∧ a + t.2.1 ≤ t2.2.1) ∧ ∀ c0 a0, left = some (c0, a0) → c.length + t.2.1 ≤ c0.length + t2.2.1 ∧ a + t.2.1 ≤ a0 + t2.2.1
  | 0, _, _, _, _, _, _, _, _, _, h => by cases h
  | n + 1, k, none, nots, pars, t, c, a, t2, hv, hr => by
    refine ⟨fun _ => ?_, fun _ _ z => by cases z⟩
    rw [rd] at hr
    have hs := stp_ok (tp := tp) hv
    by_cases c6 : k = 6
    · rw [if_pos c6] at hr
      rcases hx : ptT key t with _ | x
      · simp only [hx] at hr
        by_cases cN : t.2.2.1 = 3 ∧ t.2.2.2.1 = 33 ∧ nots < 8
        · rw [if_pos cN] at hr
          have h1 := hv.2.2 (by rw [cN.1]; decide)
          rcases hq : rd tp L key n 6 none (nots + 1) pars (stp tp L t) with _ | ⟨b, c2, a2, t3⟩
          · simp only [hq] at hr; cases hr
          · cases b with
            | false => simp only [hq] at hr; cases hr
            | true =>
              have ih := (rd_len n _ _ _ _ _ _ _ _ hs.1 hq).1 rfl
              simp only [hq] at hr; cases hr
              rw [List.length_append]; simp only [List.length_singleton]; omega
        · rw [if_neg cN] at hr
          by_cases cO : t.2.2.1 = 3 ∧ t.2.2.2.1 = 40 ∧ pars < 8
          · rw [if_pos cO] at hr
            have h1 := hv.2.2 (by rw [cO.1]; decide)
            rcases hq : rd tp L key n 1 none nots (pars + 1) (stp tp L t) with _ | ⟨b, c2, a2, t3⟩
            · simp only [hq] at hr; cases hr
            · cases b with
              | false => simp only [hq] at hr; cases hr
              | true =>
                have ih := (rd_len n _ _ _ _ _ _ _ _ hs.1 hq).1 rfl
                have h3 : tsOk L t3 := (rd_ok n _ _ _ _ _ _ hs.1 hq).1
                have h4 := stp_ok (tp := tp) h3
                have h5 := h3.1
                simp only [hq] at hr
                by_cases c41 : t3.2.2.1 = 3 ∧ t3.2.2.2.1 = 41
                · rw [if_pos c41] at hr; cases hr
                  omega
                · rw [if_neg c41] at hr; cases hr
          · rw [if_neg cO] at hr; cases hr
      · simp only [hx] at hr; cases hr
        have h0 : ¬ t.2.2.1 = 0 := by
          intro z
          unfold ptT at hx
          rw [z, if_neg (by decide), if_neg (fun y => absurd y.1 (by decide))] at hx
          cases hx
        have h1 := hv.2.2 h0
        simp only [List.length_singleton]; omega
    · rw [if_neg c6] at hr
      rcases hq : rd tp L key n (k + 1) none nots pars t with _ | ⟨b, c2, a2, t3⟩
      · simp only [hq] at hr; cases hr
      · cases b with
        | false => simp only [hq] at hr; cases hr
        | true =>
          have ih := (rd_len n _ _ _ _ _ _ _ _ hv hq).1 rfl
          have h3 : tsOk L t3 := (rd_ok n _ _ _ _ _ _ hv hq).1
          simp only [hq] at hr
          have ih2 := (rd_len n _ _ _ _ _ _ _ _ h3 hr).2 _ _ rfl
          omega
  | n + 1, k, some (c0, a0), nots, pars, t, c, a, t2, hv, hr => by
    refine ⟨fun z => (by cases z), fun c1 a1 z => ?_⟩
    cases z
    rw [rd] at hr
    have hs := stp_ok (tp := tp) hv
    by_cases cs : ¬ sgT t = 0 ∧ rk (sgT t) = k
    · rw [if_pos cs] at hr
      have h1 := hv.2.2 (by rw [(sg_5 t cs.1).2.2.2.1]; decide)
      rcases hq : rd tp L key n (k + 1) none nots pars (stp tp L t) with _ | ⟨b, c2, a2, t3⟩
      · simp only [hq] at hr; cases hr
      · cases b with
        | false => simp only [hq] at hr; cases hr
        | true =>
          have ih := (rd_len n _ _ _ _ _ _ _ _ hs.1 hq).1 rfl
          have h3 : tsOk L t3 := (rd_ok n _ _ _ _ _ _ hs.1 hq).1
          simp only [hq] at hr
          by_cases c3 : k = 3
          · rw [if_pos c3] at hr; cases hr
            simp only [List.length_append, List.length_singleton]; omega
          · rw [if_neg c3] at hr
            have ih2 := (rd_len n _ _ _ _ _ _ _ _ h3 hr).2 _ _ rfl
            simp only [List.length_append, List.length_singleton] at ih2; omega
    · rw [if_neg cs] at hr; cases hr
      exact ⟨by omega, by omega⟩

