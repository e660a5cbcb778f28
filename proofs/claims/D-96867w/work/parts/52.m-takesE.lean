/-- the token here -/
def tkC (C : CS) : TS := ((C.1 1 10).toNatClampNeg, (C.1 1 11).toNatClampNeg, C.1 1 12, C.1 1 13, C.1 1 14)
theorem tkC_eq {C : CS} {t : TS} {L : Nat} (hL : L ≤ 96) (h : tkOk C t) (hs : tsOk L t) : tkC C = t := by
  have h1 := hs.1
  have h2 := hs.2.1
  unfold tkC
  rw [h.1, h.2.1, h.2.2.1, h.2.2.2.1, h.2.2.2.2, cl_k (by omega), cl_k (by omega)]
def eT (tp : Nat → Int32) (L : Nat) (key : Int32) (t : TS) : Option (Bool × List Int32 × Nat × TS) := rd tp L key (8 * L + 8) 1 none 0 0 t
def eC (C : CS) : Option (Bool × List Int32 × Nat × TS) := eT (C.2.1 43) (C.1 1 9).toNatClampNeg (C.1 1 15) (tkC C)
def eOk : Option (Bool × List Int32 × Nat × TS) → Bool
  | some (true, _, _, t) => if t.2.2.1 = 0 then true else false
  | _ => false
def v_X3_takesE (C : CS) : Int32 := if eOk (eC C) = true then 1 else 0
theorem vb_X3_takesE (C : CS) : v_X3_takesE C = 0 ∨ v_X3_takesE C = 1 := by
  unfold v_X3_takesE
  split
  · exact Or.inr rfl
  · exact Or.inl rfl
def q_X3_takesE (C C1 : CS) : Prop := pEq C C1 ∧ ∀ r, eC C = some r → C1.1 1 11 = nI r.2.2.2.2.1 ∧ (eOk (eC C) = true → C1.1 1 19 = nI r.2.1.length ∧ stk (C1.2.1 46) r.2.1.reverse ∧ C1.1 1 20 = nI r.2.2.1 ∧ r.2.1.length < 96 ∧ r.2.2.1 ≤ 96)
theorem sp_X3_takesE (C : CS) (hp : p_X3_takesE C) : wp_X3_takesE (fun r C1 => r = v_X3_takesE C ∧ q_X3_takesE C C1) C := by
  obtain ⟨L, t, h9, hL, ht, hs, hpos⟩ := hp
  have eE : eC C = eT (C.2.1 43) L (C.1 1 15) t := by
    unfold eC
    rw [h9, cl_k (by omega), tkC_eq hL ht hs]
  obtain ⟨r, hr⟩ := rd_tot (tp := C.2.1 43) (key := C.1 1 15) (8 * L + 8) 1 none 0 0 t hs (by omega) (by omega) (fun _ => by omega) (fun z => absurd rfl z) (Or.inr rfl)
  have eE2 : eC C = some r := eE.trans hr
  intro C1 e1 C2 e2 C3 e3 C4 e4
  obtain ⟨m, hm⟩ := (y_all (Post := fun r C1 => r = v_X3_takesE C ∧ q_X3_takesE C C1) hL h9 (8 * L + 8)).1 1 0 0 t r hr (by omega) (by omega) (by omega)
  have h4 : syS C L C4 (List.replicate 0 (-10) ++ []) [] 0 t := by
    have hs3 : pEq C C3 := by rw [e3, e2, e1]; exact ((((pEq.rf C).wi 19 0 (by decide)).wi 20 0 (by decide)).wi 22 0 (by decide))
    have ht3 : tkOk C3 t := by rw [e3, e2, e1]; exact tk_wi (tk_wi (tk_wi ht _ _ (by decide)) _ _ (by decide)) _ _ (by decide)
    rw [e4]
    refine sy_wa (S := []) (O := []) ⟨hs3, ⟨?_, trivial, ?_, trivial⟩, ?_, ht3, hs, hpos, Nat.zero_le _⟩ _ _
    · rw [e3, wI_s]; rfl
    · rw [e3, wI_n _ _ _ _ (by decide), e2, wI_n _ _ _ _ (by decide), e1, wI_s]; rfl
    · rw [e3, wI_n _ _ _ _ (by decide), e2, wI_s]; rfl
  have h48 : C4.2.1 48 0 = 0 := by
    rw [e4, wA_row]; unfold upd; exact if_pos rfl
  refine ⟨1 + m, hm C4 [] 0 [] 0 h4 (Or.inl rfl) trivial rfl (fun _ => h48) (Or.inl h48) 1 ?_⟩
  obtain ⟨b, c, a, t2⟩ := r
  cases b with
  | false =>
    refine rsm_f.mpr (fun X hX hf => ?_)
    have ev : eOk (eC C) = false := by rw [eE2]; rfl
    refine ⟨by unfold v_X3_takesE; rw [ev]; rfl, hX, fun r hr2 => ?_⟩
    rw [eE2] at hr2
    cases hr2
    exact ⟨hf, fun z => by rw [ev] at z; cases z⟩
  | true =>
    refine rsm_t.mpr (fun C5 W O hd => ?_)
    by_cases c0 : t2.2.2.1 = 0
    · have ev : eOk (eC C) = true := by rw [eE2]; show (if t2.2.2.1 = 0 then true else false) = true; rw [if_pos c0]
      have e12 := hd.1.2.2.2.1.2.2.1
      rw [wp_X3_takesE_l28]
      refine ⟨fun _ => ⟨fun _ => ⟨sy_setp hL hd.1 _, fun D q => ⟨fun _ => ?_, fun z => absurd rfl z⟩⟩, fun z => absurd (e12.trans c0) z⟩, fun z => absurd rfl z⟩
      have g := sy_set (l := 0) (S0 := []) hL hd.1 (by omega) trivial (fun o ho => ⟨(hd.2.2.1 o ho).1, Nat.zero_le _⟩) q
      refine ⟨by unfold v_X3_takesE; rw [if_pos ev], g.1.1, fun r hr2 => ?_⟩
      rw [eE2] at hr2
      cases hr2
      have eO : W.reverse ++ O = c.reverse := by
        have e := hd.2.1
        rw [List.reverse_nil, List.nil_append, List.replicate_zero, List.append_nil] at e
        rw [← e]
        simp
      have gs := g.1.2.1
      rw [eO] at gs
      have hlen := sy_len hL g.1
      rw [eO, List.length_reverse] at hlen
      have g7 := g.1.2.2.2.2.2.2
      have g5 := g.1.2.2.2.2.1.1
      have g6 := g.1.2.2.2.2.1.2.1
      refine ⟨g.1.2.2.2.1.2.1, fun _ => ⟨by rw [gs.2.2.1, List.length_reverse], gs.2.2.2, ?_, ?_, ?_⟩⟩
      · rw [g.1.2.2.1]; show nI (0 + a) = nI a; rw [Nat.zero_add]
      · show c.length < 96; rw [List.length_nil] at hlen; omega
      · show a ≤ 96; omega
    · have ev : eOk (eC C) = false := by rw [eE2]; show (if t2.2.2.1 = 0 then true else false) = false; rw [if_neg c0]
      refine y_end (p := 0) hL hd.1 (by omega) hd.2.2.2.2.2 (fun _ _ => rfl) (fun z => absurd z c0) (fun X hX hf => ?_)
      refine ⟨by unfold v_X3_takesE; rw [ev]; rfl, hX, fun r hr2 => ?_⟩
      rw [eE2] at hr2
      cases hr2
      exact ⟨hf, fun z => by rw [ev] at z; cases z⟩
theorem mc_X3_takesE {w : WD} (wk : wOk w) (l : Launch) (C : CS)  (hp : p_X3_takesE C ) : MC w l yX3_takesE cX3_takesE 5 (some .boolean) 3 0 0 [.ref (ad w 1)] C (pIR (v_X3_takesE C ) (q_X3_takesE C )) := MC.postIR (gw_X3_takesE wk l C  (sp_X3_takesE C  hp))

