/-! the levels of the grammar with two sides -/
theorem cf_X0_either : CfV yX0_either "TwoGuilds" cX0_either 2 (some (.object "TwoGuilds$Worth")) 0 := ⟨⟨by decide, by decide, by decide⟩, q72, q1037, q1036, qs24⟩
theorem cf_X0_both : CfV yX0_both "TwoGuilds" cX0_both 2 (some (.object "TwoGuilds$Worth")) 0 := ⟨⟨by decide, by decide, by decide⟩, q72, q1041, q1040, qs25⟩
theorem cf_X0_test : CfV yX0_test "TwoGuilds" cX0_test 3 (some (.object "TwoGuilds$Worth")) 0 := ⟨⟨by decide, by decide, by decide⟩, q72, q1045, q1044, qs26⟩
theorem cf_X0_plus : CfV yX0_plus "TwoGuilds" cX0_plus 3 (some (.object "TwoGuilds$Worth")) 0 := ⟨⟨by decide, by decide, by decide⟩, q72, q1049, q1048, qs27⟩
theorem cf_X0_times : CfV yX0_times "TwoGuilds" cX0_times 3 (some (.object "TwoGuilds$Worth")) 0 := ⟨⟨by decide, by decide, by decide⟩, q72, q1053, q1052, qs28⟩
theorem cf_X0_part : CfV yX0_part "TwoGuilds" cX0_part 3 (some (.object "TwoGuilds$Worth")) 0 := ⟨⟨by decide, by decide, by decide⟩, q72, q1057, q1056, qs29⟩
theorem two_tr {C : CS} {key : Int32} {d b1 b2 e E : Nat} {ch : Int32} {c1 c2 : List Int32} (hd : isDy C 10 d) (h0 : cDI C 100 d = ch) (h1 : cDR C 101 d = some b1) (h2 : cDR C 102 d = some b2) (t1 : trC C key e b1 c1) (t2 : trC C key e b2 c2) (hs : ¬ sgI ch = 0) (hE : e + 1 ≤ E) : trC C key E d (c1 ++ c2 ++ [sgI ch]) := by
  refine trC.mono (d := e + 1) (Or.inr (Or.inr (Or.inr ⟨hd, b1, b2, c1, c2, h1, h2, t1, t2, by rw [h0]; exact hs, ?_⟩))) E hE
  rw [h0, List.append_assoc]
theorem sgC {t : TS} (h3 : t.2.2.1 = 3) (hs : ¬ sgT t = 0) : sgT t = sgI t.2.2.2.1 ∧ ¬ sgI t.2.2.2.1 = 0 := by
  have e : sgT t = sgI t.2.2.2.1 := by rw [sgT_eq, if_pos h3]
  exact ⟨e, by rw [← e]; exact hs⟩
/-- the world behind new Two(ch, b1, b2) -/
def twC (C : CS) (d : Nat) (ch : Int32) (b1 b2 : Nat) : CS := wDR (wDR (wDI C 100 d ch) 101 d (some b1)) 102 d (some b2)
theorem tw_D {C : CS} {d b b1 b2 : Nat} {ch : Int32} (hb : b ≠ d) : cT (twC C d ch b1 b2) b = cT C b ∧ sameD (twC C d ch b1 b2) C b := ⟨rfl, ((sD_I hb).tr (sD_R hb)).tr (sD_R hb)⟩
theorem tw_v {C : CS} {d b1 b2 : Nat} {ch : Int32} : cDI (twC C d ch b1 b2) 100 d = ch ∧ cDR (twC C d ch b1 b2) 101 d = some b1 ∧ cDR (twC C d ch b1 b2) 102 d = some b2 := by
  refine ⟨?_, ?_, ?_⟩
  · show up2 C.2.2.2.2.2.2.1 100 d ch 100 d = ch
    unfold up2
    simp
  · show up2 (up2 C.2.2.2.2.2.2.2.1 101 d (some b1)) 102 d (some b2) 101 d = some b1
    unfold up2
    simp
  · show up2 (up2 C.2.2.2.2.2.2.2.1 101 d (some b1)) 102 d (some b2) 102 d = some b2
    unfold up2
    simp
set_option maxHeartbeats 4000000 in
set_option maxRecDepth 100000 in
theorem lp_X0_either {w : WD} {x : Cx} {rm : Room} (ok : Ok w x cX0_either 2 "TwoGuilds" wtT rm) {tp : Nat → Int32} {L : Nat} {key : Int32} {Q : State → Prop} : ∀ m, (∀ q, q < m → PG w (xL x) tp L key yX0_both cX0_both 2 2 q) → m + 12 ≤ rm.frames → 40 * (m + 12) ≤ rm.locals → ∀ (C : CS) (t : TS) (nots pars b : Nat) (c : List Int32) (a1 d0 e0 : Nat) (r : Bool × List Int32 × Nat × TS) (p0 : Nat), C.2.1 43 = tp → pS C key L t nots pars (b + a1) → trC C key e0 d0 c → e0 ≤ t.2.1 - p0 → p0 ≤ t.2.1 → rd tp L key m 1 (some (c, a1)) nots pars t = some r →
    (r.1 = true → r.2.2.2.2.1 - p0 ≤ rm.cells ∧ 3 * (r.2.2.2.2.1 - p0) ≤ rm.slots) → (r.1 = false → r.2.2.2.2.1 - p0 + 1 ≤ rm.cells ∧ 3 * (r.2.2.2.2.1 - p0) + 7 ≤ rm.slots) →
    (r.1 = true → ∀ C1 d1, pE C C1 → pS C1 key L r.2.2.2 nots pars (b + r.2.2.1) → (∃ e, e ≤ r.2.2.2.2.1 - p0 ∧ trC C1 key e d1 r.2.1) → G w x 2 (r.2.2.2.2.1 - p0) (3 * (r.2.2.2.2.1 - p0)) Q C1 36 [(1, .ref d1), (0, .ref (ad w 0))] []) →
    (r.1 = false → ∀ C1 e pc lv st, pOkF C r e C1 → GT w x 2 (r.2.2.2.2.1 - p0 + 1) (3 * (r.2.2.2.2.1 - p0) + 7) Q C1 pc lv st e (fun _ => True)) →
    G w x 2 (t.2.1 - p0) (3 * (t.2.1 - p0)) Q C 5 [(1, .ref d0), (0, .ref (ad w 0))] [] := by
  intro m
  induction m with
  | zero => intro _ _ _ C t nots pars b c a1 d0 e0 r p0 _ _ _ _ _ h; cases h
  | succ m ih =>
    intro IH hf hl C t nots pars b c a1 d0 e0 r p0 etp hp ht he hp0 hr rS rF kS kF
    have hok := rd_ok _ _ _ _ _ _ _ hp.2.2.1 hr
    have hmono : t.2.1 ≤ r.2.2.2.2.1 := hok.2.1
    rw [rd] at hr
    have hsl := (sg_lv t).1
    have capT : t.2.1 - p0 ≤ rm.cells ∧ 3 * (t.2.1 - p0) ≤ rm.slots := by
      cases hb : r.1 with
      | true => have := rS hb; omega
      | false => have := rF hb; omega
    have stop : ¬ (¬ sgT t = 0 ∧ rk (sgT t) = 1) → G w x 2 (t.2.1 - p0) (3 * (t.2.1 - p0)) Q C 36 [(1, .ref d0), (0, .ref (ad w 0))] [] := by
      intro hn
      rw [if_neg hn] at hr
      have hr := (Option.some.inj hr).symm
      subst hr
      exact kS rfl C d0 (pE.rf C) hp ⟨e0, he, ht⟩
    have take : (¬ sgT t = 0 ∧ rk (sgT t) = 1) → G w x 2 (t.2.1 - p0) (3 * (t.2.1 - p0)) Q C 14 [(1, .ref d0), (0, .ref (ad w 0))] [] := by
      intro hy
      have h3 : t.2.2.1 = 3 := (hsl.mp hy).1
      obtain ⟨sg1, sg2⟩ := sgC h3 hy.1
      rw [if_pos hy, sg1] at hr
      have hlt : t.2.1 < t.1 := hp.2.2.1.2.2 (by rw [h3]; decide)
      have hst := stp_ok (tp := tp) hp.2.2.1
      have hval : C.1 0 16 = t.2.2.2.1 := hp.2.1.2.2.2 (Or.inr (Or.inr h3))
      obtain ⟨r2, hr2⟩ : ∃ r2, rd tp L key m 2 none nots pars (stp tp L t) = some r2 := by
        cases hh : rd tp L key m 2 none nots pars (stp tp L t) with
        | none => rw [hh] at hr; cases hr
        | some r2 => exact ⟨r2, rfl⟩
      rw [hr2] at hr
      have hok2 := rd_ok _ _ _ _ _ _ _ hst.1 hr2
      have hm2 : (stp tp L t).2.1 ≤ r2.2.2.2.2.1 := hok2.2.1
      obtain ⟨b2, c2, a2, t2⟩ := r2
      simp only at hm2 hok2
      have rel : (b2 = true → rd tp L key m 1 (some (c ++ c2 ++ [sgI t.2.2.2.1], a1 + a2)) nots pars t2 = some r) ∧ (b2 = false → r = (false, c2, a2, t2)) := by
        cases b2 with
        | true => exact ⟨fun _ => hr, (fun z => by cases z)⟩
        | false => exact ⟨(fun z => by cases z), fun _ => (Option.some.inj hr).symm⟩
      have hle2 : t2.2.1 ≤ r.2.2.2.2.1 := by
        cases b2 with
        | true => exact (rd_ok _ _ _ _ _ _ _ hok2.1 (rel.1 rfl)).2.1
        | false => rw [rel.2 rfl]; exact Nat.le_refl _
      have capN : t2.2.1 - p0 ≤ rm.cells ∧ 3 * (t2.2.1 - p0) ≤ rm.slots := by
        cases hb : r.1 with
        | true => have := rS hb; omega
        | false => have := rF hb; omega
      have hch : 124 = t.2.2.2.1 := (hsl.mp hy).2.symm
      refine g_aload_n ok 1 dX0_either_14 rfl ?_
      refine g_callV ok [] cf_X0_goesOn q938 (mc_X0_goesOn ok.wo (xL x) C t L (hp.pre (Or.inr (Or.inr h3)))) (recvF ok 0 rfl rfl) rfl rfl (Nat.le_of_ble_eq_true rfl) ⟨by omega, by omega⟩ ⟨by omega, by omega⟩ dX0_either_15 (resVR fun C1 hq => ?_)
      obtain ⟨hp1, e1⟩ := hp.go hq
      rw [etp] at hp1
      refine g_newD ok 10 (by decide) rfl in_X10 tyX10 tyX10_ok nv_10 q1099 q1100 q88 ⟨?_, ?_⟩ dX0_either_18 (fun d hd => ?_)
      · have := capN; omega
      · have := capN; omega
      refine g_dup ok dX0_either_21 rfl ?_
      refine g_bipush (v := 124) ok dX0_either_22 (by decide) ?_
      refine g_aload_n ok 0 dX0_either_24 rfl ?_
      refine g_aload_n ok 1 dX0_either_25 rfl ?_
      have pe3 : pE C (nwC C1 d 10) := e1.nw (e1.noT hd) rfl rfl rfl rfl rfl (fun b hb => nw_D hb)
      refine g_prs ok (IH m (Nat.lt_succ_self m) (nwC C1 d 10) (stp tp L t) nots pars (b + a1) (b2, c2, a2, t2) (by show C1.2.1 43 = tp; rw [e1.1]; exact etp) hp1 hr2) cf_X0_both q1038 (Nat.le_of_ble_eq_true rfl) ⟨by omega, by omega⟩ (fun _ => ⟨by show _ + (t2.2.1 - _) ≤ _; omega, by show _ + 3 * (t2.2.1 - _) ≤ _; omega⟩) (fun z => ?_) dX0_either_26 (fun z e2 C4 h4 => ?_) (fun z e2 C4 h4 => ?_)
      · have z : b2 = false := z
        have := rF (by rw [rel.2 z])
        rw [rel.2 z] at this
        simp only at this
        exact ⟨by show _ + (t2.2.1 - _ + 1) ≤ _; omega, by show _ + (3 * (t2.2.1 - _) + 7) ≤ _; omega⟩
      · have z : b2 = true := z
        obtain ⟨pe4, hp4, e, he4, ht4⟩ := h4
        simp only at hp4 he4 ht4
        have td : cT C4 d = some (10, 0) := (pe4.2.2.2.2.2 d _ (nwC_T C1 d 10)).1
        refine g_callI ok [.int 124, .ref d0, .ref e2] cfI_X10_init q1101 (mc_X10_init ok.wo (xL x) C4 d 124 d0 e2 ⟨0, td⟩) rfl rfl (Nat.le_of_ble_eq_true rfl) ⟨by omega, by omega⟩ ⟨by show _ + (t2.2.1 - _) + 0 ≤ _; omega, by show _ + 3 * (t2.2.1 - _) + 0 ≤ _; omega⟩ dX0_either_29 (resV ?_)
        show G w x 2 _ _ Q (twC C4 d 124 d0 e2) _ _ _
        have pe0 : pE C C4 := pe3.tr pe4
        have pe5 : pE C (twC C4 d 124 d0 e2) := pe0.nw (e1.noT hd) rfl rfl rfl rfl rfl (fun b hb => tw_D hb)
        have kx : ∀ b, b ≠ d → cT (twC C4 d 124 d0 e2) b = cT C4 b ∧ sameD (twC C4 d 124 d0 e2) C4 b := fun b hb => tw_D hb
        have q0 := trC.keep pe5.keepX _ _ _ ht
        have q2 : trC (twC C4 d 124 d0 e2) key e e2 c2 := trC_off td (((pe4.2.2.2.2.2 d _ (nwC_T C1 d 10)).2.2.1 101).trans (if_pos rfl)) ht4 (fun b hb => tw_D hb)
        have qn : trC (twC C4 d 124 d0 e2) key (t2.2.1 - p0) d (c ++ c2 ++ [sgI t.2.2.2.1]) := by
          have := two_tr (C := twC C4 d 124 d0 e2) (key := key) (d := d) (e := t2.2.1 - p0 - 1) (E := t2.2.1 - p0) (ch := 124) ⟨0, td⟩ tw_v.1 tw_v.2.1 tw_v.2.2 (q0.mono _ (by omega)) (q2.mono _ (by omega)) (by rw [hch]; exact sg2) (by omega)
          rw [hch] at this
          rw [hch]
          exact this
        refine g_astore_n ok [(1, .ref d), (0, .ref (ad w 0))] dX0_either_32 (by decide) rfl ?_
        refine g_goto (tgt := 5) ok dX0_either_33 (by decide) ?_
        refine g_widen (t2.2.1 - p0) (3 * (t2.2.1 - p0)) (by show _ + (t2.2.1 - _) + 0 ≤ _; omega) (by show _ + 3 * (t2.2.1 - _) + 0 ≤ _; omega) ?_
        exact ih (fun q hq => IH q (by omega)) (by omega) (by omega) _ t2 nots pars b _ (a1 + a2) d (t2.2.1 - p0) r p0 (by show C4.2.1 43 = tp; rw [pe0.1]; exact etp) (by have := hp4; rw [Nat.add_assoc] at this; exact this) qn (Nat.le_refl _) (by omega) (rel.1 z) rS rF (fun y C5 d5 p5 => kS y C5 d5 (pe5.tr p5)) (fun y C5 e5 pc5 lv5 st5 p5 => kF y C5 e5 pc5 lv5 st5 (by obtain ⟨C6, p6, p7⟩ := p5; exact ⟨C6, pe5.tr p6, p7⟩))
      · have z : b2 = false := z
        have rr := rel.2 z
        subst rr
        refine gt_widen (c1 := t2.2.1 - p0 + 1) (s1 := 3 * (t2.2.1 - p0) + 7) (by show _ + (t2.2.1 - _ + 1) ≤ _; omega) (by show _ + (3 * (t2.2.1 - _) + 7) ≤ _; omega) (kF rfl C4 e2 _ _ _ ?_)
        obtain ⟨C6, p6, p7⟩ := h4
        exact ⟨C6, pe3.tr p6, p7⟩
    -- the signs
    refine g_aload_n ok 1 dX0_either_5 rfl ?_
    refine g_bipush (v := 124) ok dX0_either_6 (by decide) ?_
    refine g_callV ok [.int 124] cf_X0_isSign q1085 (mc_X0_isSign ok.wo (xL x) C 124) (recvF ok 0 rfl rfl) rfl rfl (Nat.le_of_ble_eq_true rfl) ⟨by omega, by omega⟩ ⟨by omega, by omega⟩ dX0_either_8 (resI ?_)
    refine g_if_eq (tgt := 36) ok dX0_either_11 (by decide) (fun z0 => stop (fun hy => ?_)) (fun z0 => take (hsl.mpr ?_))
    · exact (isSg hp.2.1 124).mp z0 (hsl.mp hy)
    · have y : t.2.2.1 = 3 ∧ t.2.2.2.1 = 124 := Classical.byContradiction fun u => z0 ((isSg hp.2.1 124).mpr u)
      exact y
set_option maxHeartbeats 4000000 in
set_option maxRecDepth 100000 in
theorem pg_X0_either {w : WD} (wk : wOk w) {l : Launch} {tp : Nat → Int32} {L : Nat} {key : Int32} (n : Nat) (IH : ∀ q, q ≤ n → PG w l tp L key yX0_both cX0_both 2 2 q) : PG w l tp L key yX0_either cX0_either 2 1 (n + 1) := by
  intro C t nots pars a r etp hp hr
  have hok := rd_ok _ _ _ _ _ _ _ hp.2.2.1 hr
  rw [rd, if_neg (by decide)] at hr
  obtain ⟨r2, hr2⟩ : ∃ r2, rd tp L key n 2 none nots pars t = some r2 := by
    cases hh : rd tp L key n 2 none nots pars t with
    | none => rw [hh] at hr; cases hr
    | some r2 => exact ⟨r2, rfl⟩
  rw [hr2] at hr
  have hok2 := rd_ok _ _ _ _ _ _ _ hp.2.2.1 hr2
  obtain ⟨b2, c2, a2, t2⟩ := r2
  simp only at hok2
  have hm2 : t.2.1 ≤ t2.2.1 := hok2.2.1
  have rel : (b2 = true → rd tp L key n 1 (some (c2, a2)) nots pars t2 = some r) ∧ (b2 = false → r = (false, c2, a2, t2)) := by
    cases b2 with
    | true => exact ⟨fun _ => hr, (fun z => by cases z)⟩
    | false => exact ⟨(fun z => by cases z), fun _ => (Option.some.inj hr).symm⟩
  have hle2 : t2.2.1 ≤ r.2.2.2.2.1 := by
    cases b2 with
    | true => exact (rd_ok _ _ _ _ _ _ _ hok2.1 (rel.1 rfl)).2.1
    | false => rw [rel.2 rfl]; exact Nat.le_refl _
  have key2 : ∀ (x : Cx) (rm : Room) (Q : State → Prop), xL x = l → Ok w x cX0_either 2 "TwoGuilds" wtT rm → n + 13 ≤ rm.frames → 40 * (n + 13) ≤ rm.locals → (r.1 = true → r.2.2.2.2.1 - t.2.1 ≤ rm.cells ∧ 3 * (r.2.2.2.2.1 - t.2.1) ≤ rm.slots) → (r.1 = false → r.2.2.2.2.1 - t.2.1 + 1 ≤ rm.cells ∧ 3 * (r.2.2.2.2.1 - t.2.1) + 7 ≤ rm.slots) →
      (r.1 = true → ∀ C1 d1, pOkS C key L t nots pars a r d1 C1 → G w x 2 (r.2.2.2.2.1 - t.2.1) (3 * (r.2.2.2.2.1 - t.2.1)) Q C1 36 [(1, .ref d1), (0, .ref (ad w 0))] []) →
      (r.1 = false → ∀ C1 e pc lv st, pOkF C r e C1 → GT w x 2 (r.2.2.2.2.1 - t.2.1 + 1) (3 * (r.2.2.2.2.1 - t.2.1) + 7) Q C1 pc lv st e (fun _ => True)) →
      G w x 2 0 0 Q C 0 [(0, .ref (ad w 0))] [] := by
    intro x rm Q hx ok hf hl rS rF kS kF
    subst hx
    have capN : t2.2.1 - t.2.1 ≤ rm.cells ∧ 3 * (t2.2.1 - t.2.1) ≤ rm.slots := by
      cases hb : r.1 with
      | true => have := rS hb; omega
      | false => have := rF hb; omega
    refine g_aload_n ok 0 dX0_either_0 rfl ?_
    refine g_prs ok (IH n (Nat.le_refl n) C t nots pars a (b2, c2, a2, t2) etp hp hr2) cf_X0_both q1038 (Nat.le_of_ble_eq_true rfl) ⟨by omega, by omega⟩ (fun _ => ⟨by show 0 + (t2.2.1 - _) ≤ _; omega, by show 0 + 3 * (t2.2.1 - _) ≤ _; omega⟩) (fun z => ?_) dX0_either_1 (fun z e2 C4 h4 => ?_) (fun z e2 C4 h4 => ?_)
    · have z : b2 = false := z
      have := rF (by rw [rel.2 z])
      rw [rel.2 z] at this
      simp only at this
      exact ⟨by show 0 + (t2.2.1 - _ + 1) ≤ _; omega, by show 0 + (3 * (t2.2.1 - _) + 7) ≤ _; omega⟩
    · have z : b2 = true := z
      obtain ⟨pe4, hp4, e, he4, ht4⟩ := h4
      simp only at hp4 he4 ht4
      refine g_astore_n ok [(1, .ref e2), (0, .ref (ad w 0))] dX0_either_4 (by decide) rfl ?_
      refine g_widen (t2.2.1 - t.2.1) (3 * (t2.2.1 - t.2.1)) (by show 0 + (t2.2.1 - _) ≤ _; omega) (by show 0 + 3 * (t2.2.1 - _) ≤ _; omega) ?_
      exact lp_X0_either ok n (fun q hq => IH q (by omega)) (by omega) (by omega) C4 t2 nots pars a c2 a2 e2 e r t.2.1 (by rw [pe4.1]; exact etp) hp4 ht4 he4 hm2 (rel.1 z) rS rF (fun y C5 d5 p5 s5 q5 => kS y C5 d5 ⟨pe4.tr p5, s5, q5⟩) (fun y C5 e5 pc5 lv5 st5 p5 => kF y C5 e5 pc5 lv5 st5 (by obtain ⟨C6, p6, p7⟩ := p5; exact ⟨C6, pe4.tr p6, p7⟩))
    · have z : b2 = false := z
      have rr := rel.2 z
      subst rr
      exact gt_widen (c1 := t2.2.1 - t.2.1 + 1) (s1 := 3 * (t2.2.1 - t.2.1) + 7) (by show 0 + (t2.2.1 - _ + 1) ≤ _; omega) (by show 0 + (3 * (t2.2.1 - _) + 7) ≤ _; omega) (kF rfl C4 e2 _ _ _ h4)
  refine ⟨fun hb => ?_, fun hb => ?_⟩
  · refine MC.of wk (by decide) (Nat.le_of_ble_eq_true rfl) (fun x hx ok => ?_)
    refine key2 x _ _ hx ok (by show n + 13 ≤ n + 1 + 12; omega) (by show 40 * (n + 13) ≤ 40 * (n + 1 + 12); omega) (fun _ => ⟨Nat.le_refl _, Nat.le_refl _⟩) (fun z => by rw [hb] at z; cases z) (fun _ C1 d1 h1 => ?_) (fun z => by rw [hb] at z; cases z)
    refine g_aload_n ok 0 dX0_either_36 rfl ?_
    exact g_aret ok dX0_either_37 ⟨d1, rfl, h1⟩
  · refine MT.of wk (by decide) (Nat.le_of_ble_eq_true rfl) (fun x hx ok ht => ?_)
    exact key2 x _ _ hx ok (by show n + 13 ≤ n + 1 + 12; omega) (by show 40 * (n + 13) ≤ 40 * (n + 1 + 12); omega) (fun z => by rw [hb] at z; cases z) (fun _ => ⟨Nat.le_refl _, Nat.le_refl _⟩) (fun z => by rw [hb] at z; cases z) (fun _ C1 e pc lv st h1 => gt_leave ok ht (fun _ _ _ => h1))
set_option maxHeartbeats 4000000 in
set_option maxRecDepth 100000 in
theorem lp_X0_both {w : WD} {x : Cx} {rm : Room} (ok : Ok w x cX0_both 2 "TwoGuilds" wtT rm) {tp : Nat → Int32} {L : Nat} {key : Int32} {Q : State → Prop} : ∀ m, (∀ q, q < m → PG w (xL x) tp L key yX0_test cX0_test 3 3 q) → m + 12 ≤ rm.frames → 40 * (m + 12) ≤ rm.locals → ∀ (C : CS) (t : TS) (nots pars b : Nat) (c : List Int32) (a1 d0 e0 : Nat) (r : Bool × List Int32 × Nat × TS) (p0 : Nat), C.2.1 43 = tp → pS C key L t nots pars (b + a1) → trC C key e0 d0 c → e0 ≤ t.2.1 - p0 → p0 ≤ t.2.1 → rd tp L key m 2 (some (c, a1)) nots pars t = some r →
    (r.1 = true → r.2.2.2.2.1 - p0 ≤ rm.cells ∧ 3 * (r.2.2.2.2.1 - p0) ≤ rm.slots) → (r.1 = false → r.2.2.2.2.1 - p0 + 1 ≤ rm.cells ∧ 3 * (r.2.2.2.2.1 - p0) + 7 ≤ rm.slots) →
    (r.1 = true → ∀ C1 d1, pE C C1 → pS C1 key L r.2.2.2 nots pars (b + r.2.2.1) → (∃ e, e ≤ r.2.2.2.2.1 - p0 ∧ trC C1 key e d1 r.2.1) → G w x 2 (r.2.2.2.2.1 - p0) (3 * (r.2.2.2.2.1 - p0)) Q C1 36 [(1, .ref d1), (0, .ref (ad w 0))] []) →
    (r.1 = false → ∀ C1 e pc lv st, pOkF C r e C1 → GT w x 2 (r.2.2.2.2.1 - p0 + 1) (3 * (r.2.2.2.2.1 - p0) + 7) Q C1 pc lv st e (fun _ => True)) →
    G w x 2 (t.2.1 - p0) (3 * (t.2.1 - p0)) Q C 5 [(1, .ref d0), (0, .ref (ad w 0))] [] := by
  intro m
  induction m with
  | zero => intro _ _ _ C t nots pars b c a1 d0 e0 r p0 _ _ _ _ _ h; cases h
  | succ m ih =>
    intro IH hf hl C t nots pars b c a1 d0 e0 r p0 etp hp ht he hp0 hr rS rF kS kF
    have hok := rd_ok _ _ _ _ _ _ _ hp.2.2.1 hr
    have hmono : t.2.1 ≤ r.2.2.2.2.1 := hok.2.1
    rw [rd] at hr
    have hsl := (sg_lv t).2.1
    have capT : t.2.1 - p0 ≤ rm.cells ∧ 3 * (t.2.1 - p0) ≤ rm.slots := by
      cases hb : r.1 with
      | true => have := rS hb; omega
      | false => have := rF hb; omega
    have stop : ¬ (¬ sgT t = 0 ∧ rk (sgT t) = 2) → G w x 2 (t.2.1 - p0) (3 * (t.2.1 - p0)) Q C 36 [(1, .ref d0), (0, .ref (ad w 0))] [] := by
      intro hn
      rw [if_neg hn] at hr
      have hr := (Option.some.inj hr).symm
      subst hr
      exact kS rfl C d0 (pE.rf C) hp ⟨e0, he, ht⟩
    have take : (¬ sgT t = 0 ∧ rk (sgT t) = 2) → G w x 2 (t.2.1 - p0) (3 * (t.2.1 - p0)) Q C 14 [(1, .ref d0), (0, .ref (ad w 0))] [] := by
      intro hy
      have h3 : t.2.2.1 = 3 := (hsl.mp hy).1
      obtain ⟨sg1, sg2⟩ := sgC h3 hy.1
      rw [if_pos hy, sg1] at hr
      have hlt : t.2.1 < t.1 := hp.2.2.1.2.2 (by rw [h3]; decide)
      have hst := stp_ok (tp := tp) hp.2.2.1
      have hval : C.1 0 16 = t.2.2.2.1 := hp.2.1.2.2.2 (Or.inr (Or.inr h3))
      obtain ⟨r2, hr2⟩ : ∃ r2, rd tp L key m 3 none nots pars (stp tp L t) = some r2 := by
        cases hh : rd tp L key m 3 none nots pars (stp tp L t) with
        | none => rw [hh] at hr; cases hr
        | some r2 => exact ⟨r2, rfl⟩
      rw [hr2] at hr
      have hok2 := rd_ok _ _ _ _ _ _ _ hst.1 hr2
      have hm2 : (stp tp L t).2.1 ≤ r2.2.2.2.2.1 := hok2.2.1
      obtain ⟨b2, c2, a2, t2⟩ := r2
      simp only at hm2 hok2
      have rel : (b2 = true → rd tp L key m 2 (some (c ++ c2 ++ [sgI t.2.2.2.1], a1 + a2)) nots pars t2 = some r) ∧ (b2 = false → r = (false, c2, a2, t2)) := by
        cases b2 with
        | true => exact ⟨fun _ => hr, (fun z => by cases z)⟩
        | false => exact ⟨(fun z => by cases z), fun _ => (Option.some.inj hr).symm⟩
      have hle2 : t2.2.1 ≤ r.2.2.2.2.1 := by
        cases b2 with
        | true => exact (rd_ok _ _ _ _ _ _ _ hok2.1 (rel.1 rfl)).2.1
        | false => rw [rel.2 rfl]; exact Nat.le_refl _
      have capN : t2.2.1 - p0 ≤ rm.cells ∧ 3 * (t2.2.1 - p0) ≤ rm.slots := by
        cases hb : r.1 with
        | true => have := rS hb; omega
        | false => have := rF hb; omega
      have hch : 38 = t.2.2.2.1 := (hsl.mp hy).2.symm
      refine g_aload_n ok 1 dX0_both_14 rfl ?_
      refine g_callV ok [] cf_X0_goesOn q938 (mc_X0_goesOn ok.wo (xL x) C t L (hp.pre (Or.inr (Or.inr h3)))) (recvF ok 0 rfl rfl) rfl rfl (Nat.le_of_ble_eq_true rfl) ⟨by omega, by omega⟩ ⟨by omega, by omega⟩ dX0_both_15 (resVR fun C1 hq => ?_)
      obtain ⟨hp1, e1⟩ := hp.go hq
      rw [etp] at hp1
      refine g_newD ok 10 (by decide) rfl in_X10 tyX10 tyX10_ok nv_10 q1099 q1100 q88 ⟨?_, ?_⟩ dX0_both_18 (fun d hd => ?_)
      · have := capN; omega
      · have := capN; omega
      refine g_dup ok dX0_both_21 rfl ?_
      refine g_bipush (v := 38) ok dX0_both_22 (by decide) ?_
      refine g_aload_n ok 0 dX0_both_24 rfl ?_
      refine g_aload_n ok 1 dX0_both_25 rfl ?_
      have pe3 : pE C (nwC C1 d 10) := e1.nw (e1.noT hd) rfl rfl rfl rfl rfl (fun b hb => nw_D hb)
      refine g_prs ok (IH m (Nat.lt_succ_self m) (nwC C1 d 10) (stp tp L t) nots pars (b + a1) (b2, c2, a2, t2) (by show C1.2.1 43 = tp; rw [e1.1]; exact etp) hp1 hr2) cf_X0_test q1042 (Nat.le_of_ble_eq_true rfl) ⟨by omega, by omega⟩ (fun _ => ⟨by show _ + (t2.2.1 - _) ≤ _; omega, by show _ + 3 * (t2.2.1 - _) ≤ _; omega⟩) (fun z => ?_) dX0_both_26 (fun z e2 C4 h4 => ?_) (fun z e2 C4 h4 => ?_)
      · have z : b2 = false := z
        have := rF (by rw [rel.2 z])
        rw [rel.2 z] at this
        simp only at this
        exact ⟨by show _ + (t2.2.1 - _ + 1) ≤ _; omega, by show _ + (3 * (t2.2.1 - _) + 7) ≤ _; omega⟩
      · have z : b2 = true := z
        obtain ⟨pe4, hp4, e, he4, ht4⟩ := h4
        simp only at hp4 he4 ht4
        have td : cT C4 d = some (10, 0) := (pe4.2.2.2.2.2 d _ (nwC_T C1 d 10)).1
        refine g_callI ok [.int 38, .ref d0, .ref e2] cfI_X10_init q1101 (mc_X10_init ok.wo (xL x) C4 d 38 d0 e2 ⟨0, td⟩) rfl rfl (Nat.le_of_ble_eq_true rfl) ⟨by omega, by omega⟩ ⟨by show _ + (t2.2.1 - _) + 0 ≤ _; omega, by show _ + 3 * (t2.2.1 - _) + 0 ≤ _; omega⟩ dX0_both_29 (resV ?_)
        show G w x 2 _ _ Q (twC C4 d 38 d0 e2) _ _ _
        have pe0 : pE C C4 := pe3.tr pe4
        have pe5 : pE C (twC C4 d 38 d0 e2) := pe0.nw (e1.noT hd) rfl rfl rfl rfl rfl (fun b hb => tw_D hb)
        have kx : ∀ b, b ≠ d → cT (twC C4 d 38 d0 e2) b = cT C4 b ∧ sameD (twC C4 d 38 d0 e2) C4 b := fun b hb => tw_D hb
        have q0 := trC.keep pe5.keepX _ _ _ ht
        have q2 : trC (twC C4 d 38 d0 e2) key e e2 c2 := trC_off td (((pe4.2.2.2.2.2 d _ (nwC_T C1 d 10)).2.2.1 101).trans (if_pos rfl)) ht4 (fun b hb => tw_D hb)
        have qn : trC (twC C4 d 38 d0 e2) key (t2.2.1 - p0) d (c ++ c2 ++ [sgI t.2.2.2.1]) := by
          have := two_tr (C := twC C4 d 38 d0 e2) (key := key) (d := d) (e := t2.2.1 - p0 - 1) (E := t2.2.1 - p0) (ch := 38) ⟨0, td⟩ tw_v.1 tw_v.2.1 tw_v.2.2 (q0.mono _ (by omega)) (q2.mono _ (by omega)) (by rw [hch]; exact sg2) (by omega)
          rw [hch] at this
          rw [hch]
          exact this
        refine g_astore_n ok [(1, .ref d), (0, .ref (ad w 0))] dX0_both_32 (by decide) rfl ?_
        refine g_goto (tgt := 5) ok dX0_both_33 (by decide) ?_
        refine g_widen (t2.2.1 - p0) (3 * (t2.2.1 - p0)) (by show _ + (t2.2.1 - _) + 0 ≤ _; omega) (by show _ + 3 * (t2.2.1 - _) + 0 ≤ _; omega) ?_
        exact ih (fun q hq => IH q (by omega)) (by omega) (by omega) _ t2 nots pars b _ (a1 + a2) d (t2.2.1 - p0) r p0 (by show C4.2.1 43 = tp; rw [pe0.1]; exact etp) (by have := hp4; rw [Nat.add_assoc] at this; exact this) qn (Nat.le_refl _) (by omega) (rel.1 z) rS rF (fun y C5 d5 p5 => kS y C5 d5 (pe5.tr p5)) (fun y C5 e5 pc5 lv5 st5 p5 => kF y C5 e5 pc5 lv5 st5 (by obtain ⟨C6, p6, p7⟩ := p5; exact ⟨C6, pe5.tr p6, p7⟩))
      · have z : b2 = false := z
        have rr := rel.2 z
        subst rr
        refine gt_widen (c1 := t2.2.1 - p0 + 1) (s1 := 3 * (t2.2.1 - p0) + 7) (by show _ + (t2.2.1 - _ + 1) ≤ _; omega) (by show _ + (3 * (t2.2.1 - _) + 7) ≤ _; omega) (kF rfl C4 e2 _ _ _ ?_)
        obtain ⟨C6, p6, p7⟩ := h4
        exact ⟨C6, pe3.tr p6, p7⟩
    -- the signs
    refine g_aload_n ok 1 dX0_both_5 rfl ?_
    refine g_bipush (v := 38) ok dX0_both_6 (by decide) ?_
    refine g_callV ok [.int 38] cf_X0_isSign q1085 (mc_X0_isSign ok.wo (xL x) C 38) (recvF ok 0 rfl rfl) rfl rfl (Nat.le_of_ble_eq_true rfl) ⟨by omega, by omega⟩ ⟨by omega, by omega⟩ dX0_both_8 (resI ?_)
    refine g_if_eq (tgt := 36) ok dX0_both_11 (by decide) (fun z0 => stop (fun hy => ?_)) (fun z0 => take (hsl.mpr ?_))
    · exact (isSg hp.2.1 38).mp z0 (hsl.mp hy)
    · have y : t.2.2.1 = 3 ∧ t.2.2.2.1 = 38 := Classical.byContradiction fun u => z0 ((isSg hp.2.1 38).mpr u)
      exact y
set_option maxHeartbeats 4000000 in
set_option maxRecDepth 100000 in
theorem pg_X0_both {w : WD} (wk : wOk w) {l : Launch} {tp : Nat → Int32} {L : Nat} {key : Int32} (n : Nat) (IH : ∀ q, q ≤ n → PG w l tp L key yX0_test cX0_test 3 3 q) : PG w l tp L key yX0_both cX0_both 2 2 (n + 1) := by
  intro C t nots pars a r etp hp hr
  have hok := rd_ok _ _ _ _ _ _ _ hp.2.2.1 hr
  rw [rd, if_neg (by decide)] at hr
  obtain ⟨r2, hr2⟩ : ∃ r2, rd tp L key n 3 none nots pars t = some r2 := by
    cases hh : rd tp L key n 3 none nots pars t with
    | none => rw [hh] at hr; cases hr
    | some r2 => exact ⟨r2, rfl⟩
  rw [hr2] at hr
  have hok2 := rd_ok _ _ _ _ _ _ _ hp.2.2.1 hr2
  obtain ⟨b2, c2, a2, t2⟩ := r2
  simp only at hok2
  have hm2 : t.2.1 ≤ t2.2.1 := hok2.2.1
  have rel : (b2 = true → rd tp L key n 2 (some (c2, a2)) nots pars t2 = some r) ∧ (b2 = false → r = (false, c2, a2, t2)) := by
    cases b2 with
    | true => exact ⟨fun _ => hr, (fun z => by cases z)⟩
    | false => exact ⟨(fun z => by cases z), fun _ => (Option.some.inj hr).symm⟩
  have hle2 : t2.2.1 ≤ r.2.2.2.2.1 := by
    cases b2 with
    | true => exact (rd_ok _ _ _ _ _ _ _ hok2.1 (rel.1 rfl)).2.1
    | false => rw [rel.2 rfl]; exact Nat.le_refl _
  have key2 : ∀ (x : Cx) (rm : Room) (Q : State → Prop), xL x = l → Ok w x cX0_both 2 "TwoGuilds" wtT rm → n + 13 ≤ rm.frames → 40 * (n + 13) ≤ rm.locals → (r.1 = true → r.2.2.2.2.1 - t.2.1 ≤ rm.cells ∧ 3 * (r.2.2.2.2.1 - t.2.1) ≤ rm.slots) → (r.1 = false → r.2.2.2.2.1 - t.2.1 + 1 ≤ rm.cells ∧ 3 * (r.2.2.2.2.1 - t.2.1) + 7 ≤ rm.slots) →
      (r.1 = true → ∀ C1 d1, pOkS C key L t nots pars a r d1 C1 → G w x 2 (r.2.2.2.2.1 - t.2.1) (3 * (r.2.2.2.2.1 - t.2.1)) Q C1 36 [(1, .ref d1), (0, .ref (ad w 0))] []) →
      (r.1 = false → ∀ C1 e pc lv st, pOkF C r e C1 → GT w x 2 (r.2.2.2.2.1 - t.2.1 + 1) (3 * (r.2.2.2.2.1 - t.2.1) + 7) Q C1 pc lv st e (fun _ => True)) →
      G w x 2 0 0 Q C 0 [(0, .ref (ad w 0))] [] := by
    intro x rm Q hx ok hf hl rS rF kS kF
    subst hx
    have capN : t2.2.1 - t.2.1 ≤ rm.cells ∧ 3 * (t2.2.1 - t.2.1) ≤ rm.slots := by
      cases hb : r.1 with
      | true => have := rS hb; omega
      | false => have := rF hb; omega
    refine g_aload_n ok 0 dX0_both_0 rfl ?_
    refine g_prs ok (IH n (Nat.le_refl n) C t nots pars a (b2, c2, a2, t2) etp hp hr2) cf_X0_test q1042 (Nat.le_of_ble_eq_true rfl) ⟨by omega, by omega⟩ (fun _ => ⟨by show 0 + (t2.2.1 - _) ≤ _; omega, by show 0 + 3 * (t2.2.1 - _) ≤ _; omega⟩) (fun z => ?_) dX0_both_1 (fun z e2 C4 h4 => ?_) (fun z e2 C4 h4 => ?_)
    · have z : b2 = false := z
      have := rF (by rw [rel.2 z])
      rw [rel.2 z] at this
      simp only at this
      exact ⟨by show 0 + (t2.2.1 - _ + 1) ≤ _; omega, by show 0 + (3 * (t2.2.1 - _) + 7) ≤ _; omega⟩
    · have z : b2 = true := z
      obtain ⟨pe4, hp4, e, he4, ht4⟩ := h4
      simp only at hp4 he4 ht4
      refine g_astore_n ok [(1, .ref e2), (0, .ref (ad w 0))] dX0_both_4 (by decide) rfl ?_
      refine g_widen (t2.2.1 - t.2.1) (3 * (t2.2.1 - t.2.1)) (by show 0 + (t2.2.1 - _) ≤ _; omega) (by show 0 + 3 * (t2.2.1 - _) ≤ _; omega) ?_
      exact lp_X0_both ok n (fun q hq => IH q (by omega)) (by omega) (by omega) C4 t2 nots pars a c2 a2 e2 e r t.2.1 (by rw [pe4.1]; exact etp) hp4 ht4 he4 hm2 (rel.1 z) rS rF (fun y C5 d5 p5 s5 q5 => kS y C5 d5 ⟨pe4.tr p5, s5, q5⟩) (fun y C5 e5 pc5 lv5 st5 p5 => kF y C5 e5 pc5 lv5 st5 (by obtain ⟨C6, p6, p7⟩ := p5; exact ⟨C6, pe4.tr p6, p7⟩))
    · have z : b2 = false := z
      have rr := rel.2 z
      subst rr
      exact gt_widen (c1 := t2.2.1 - t.2.1 + 1) (s1 := 3 * (t2.2.1 - t.2.1) + 7) (by show 0 + (t2.2.1 - _ + 1) ≤ _; omega) (by show 0 + (3 * (t2.2.1 - _) + 7) ≤ _; omega) (kF rfl C4 e2 _ _ _ h4)
  refine ⟨fun hb => ?_, fun hb => ?_⟩
  · refine MC.of wk (by decide) (Nat.le_of_ble_eq_true rfl) (fun x hx ok => ?_)
    refine key2 x _ _ hx ok (by show n + 13 ≤ n + 1 + 12; omega) (by show 40 * (n + 13) ≤ 40 * (n + 1 + 12); omega) (fun _ => ⟨Nat.le_refl _, Nat.le_refl _⟩) (fun z => by rw [hb] at z; cases z) (fun _ C1 d1 h1 => ?_) (fun z => by rw [hb] at z; cases z)
    refine g_aload_n ok 0 dX0_both_36 rfl ?_
    exact g_aret ok dX0_both_37 ⟨d1, rfl, h1⟩
  · refine MT.of wk (by decide) (Nat.le_of_ble_eq_true rfl) (fun x hx ok ht => ?_)
    exact key2 x _ _ hx ok (by show n + 13 ≤ n + 1 + 12; omega) (by show 40 * (n + 13) ≤ 40 * (n + 1 + 12); omega) (fun z => by rw [hb] at z; cases z) (fun _ => ⟨Nat.le_refl _, Nat.le_refl _⟩) (fun z => by rw [hb] at z; cases z) (fun _ C1 e pc lv st h1 => gt_leave ok ht (fun _ _ _ => h1))
set_option maxHeartbeats 4000000 in
set_option maxRecDepth 100000 in
theorem lp_X0_test {w : WD} {x : Cx} {rm : Room} (ok : Ok w x cX0_test 3 "TwoGuilds" wtT rm) {tp : Nat → Int32} {L : Nat} {key : Int32} {Q : State → Prop} : ∀ m, (∀ q, q < m → PG w (xL x) tp L key yX0_plus cX0_plus 3 4 q) → m + 12 ≤ rm.frames → 40 * (m + 12) ≤ rm.locals → ∀ (C : CS) (t : TS) (nots pars b : Nat) (c : List Int32) (a1 d0 e0 : Nat) (r : Bool × List Int32 × Nat × TS) (p0 : Nat), C.2.1 43 = tp → pS C key L t nots pars (b + a1) → trC C key e0 d0 c → e0 ≤ t.2.1 - p0 → p0 ≤ t.2.1 → rd tp L key m 3 (some (c, a1)) nots pars t = some r →
    (r.1 = true → r.2.2.2.2.1 - p0 ≤ rm.cells ∧ 3 * (r.2.2.2.2.1 - p0) ≤ rm.slots) → (r.1 = false → r.2.2.2.2.1 - p0 + 1 ≤ rm.cells ∧ 3 * (r.2.2.2.2.1 - p0) + 7 ≤ rm.slots) →
    (r.1 = true → ∀ C1 d1, pE C C1 → pS C1 key L r.2.2.2 nots pars (b + r.2.2.1) → (∃ e, e ≤ r.2.2.2.2.1 - p0 ∧ trC C1 key e d1 r.2.1) → G w x 3 (r.2.2.2.2.1 - p0) (3 * (r.2.2.2.2.1 - p0)) Q C1 55 [(1, .ref d1), (0, .ref (ad w 0))] []) →
    (r.1 = false → ∀ C1 e pc lv st, pOkF C r e C1 → GT w x 3 (r.2.2.2.2.1 - p0 + 1) (3 * (r.2.2.2.2.1 - p0) + 7) Q C1 pc lv st e (fun _ => True)) →
    G w x 3 (t.2.1 - p0) (3 * (t.2.1 - p0)) Q C 5 [(1, .ref d0), (0, .ref (ad w 0))] [] := by
  intro m
  induction m with
  | zero => intro _ _ _ C t nots pars b c a1 d0 e0 r p0 _ _ _ _ _ h; cases h
  | succ m ih =>
    intro IH hf hl C t nots pars b c a1 d0 e0 r p0 etp hp ht he hp0 hr rS rF kS kF
    have hok := rd_ok _ _ _ _ _ _ _ hp.2.2.1 hr
    have hmono : t.2.1 ≤ r.2.2.2.2.1 := hok.2.1
    rw [rd] at hr
    have hsl := (sg_lv t).2.2.1
    have capT : t.2.1 - p0 ≤ rm.cells ∧ 3 * (t.2.1 - p0) ≤ rm.slots := by
      cases hb : r.1 with
      | true => have := rS hb; omega
      | false => have := rF hb; omega
    have stop : ¬ (¬ sgT t = 0 ∧ rk (sgT t) = 3) → G w x 3 (t.2.1 - p0) (3 * (t.2.1 - p0)) Q C 55 [(1, .ref d0), (0, .ref (ad w 0))] [] := by
      intro hn
      rw [if_neg hn] at hr
      have hr := (Option.some.inj hr).symm
      subst hr
      exact kS rfl C d0 (pE.rf C) hp ⟨e0, he, ht⟩
    have take : (¬ sgT t = 0 ∧ rk (sgT t) = 3) → G w x 3 (t.2.1 - p0) (3 * (t.2.1 - p0)) Q C 32 [(1, .ref d0), (0, .ref (ad w 0))] [] := by
      intro hy
      have h3 : t.2.2.1 = 3 := (hsl.mp hy).1
      obtain ⟨sg1, sg2⟩ := sgC h3 hy.1
      rw [if_pos hy, sg1] at hr
      have hlt : t.2.1 < t.1 := hp.2.2.1.2.2 (by rw [h3]; decide)
      have hst := stp_ok (tp := tp) hp.2.2.1
      have hval : C.1 0 16 = t.2.2.2.1 := hp.2.1.2.2.2 (Or.inr (Or.inr h3))
      obtain ⟨r2, hr2⟩ : ∃ r2, rd tp L key m 4 none nots pars (stp tp L t) = some r2 := by
        cases hh : rd tp L key m 4 none nots pars (stp tp L t) with
        | none => rw [hh] at hr; cases hr
        | some r2 => exact ⟨r2, rfl⟩
      rw [hr2] at hr
      have hok2 := rd_ok _ _ _ _ _ _ _ hst.1 hr2
      have hm2 : (stp tp L t).2.1 ≤ r2.2.2.2.2.1 := hok2.2.1
      obtain ⟨b2, c2, a2, t2⟩ := r2
      simp only at hm2 hok2
      have rel : (b2 = true → r = (true, c ++ c2 ++ [sgI t.2.2.2.1], a1 + a2, t2)) ∧ (b2 = false → r = (false, c2, a2, t2)) := by
        cases b2 with
        | true => exact ⟨fun _ => (Option.some.inj hr).symm, (fun z => by cases z)⟩
        | false => exact ⟨(fun z => by cases z), fun _ => (Option.some.inj hr).symm⟩
      have hle2 : t2.2.1 ≤ r.2.2.2.2.1 := by
        cases b2 with
        | true => rw [rel.1 rfl]; exact Nat.le_refl _
        | false => rw [rel.2 rfl]; exact Nat.le_refl _
      have capN : t2.2.1 - p0 ≤ rm.cells ∧ 3 * (t2.2.1 - p0) ≤ rm.slots := by
        cases hb : r.1 with
        | true => have := rS hb; omega
        | false => have := rF hb; omega
      have hch : (C.1 0 16) = t.2.2.2.1 := hval
      refine g_aload_n ok 1 dX0_test_32 rfl ?_
      refine g_get ok 0 rfl rfl in_X0 16 (by decide) q198 rfl dX0_test_33 ?_
      refine g_istore_n0 ok [(2, .int (C.1 0 16)), (1, .ref d0), (0, .ref (ad w 0))] dX0_test_36 (by decide) rfl ?_
      refine g_aload_n ok 2 dX0_test_37 rfl ?_
      refine g_callV ok [] cf_X0_goesOn q938 (mc_X0_goesOn ok.wo (xL x) C t L (hp.pre (Or.inr (Or.inr h3)))) (recvF ok 0 rfl rfl) rfl rfl (Nat.le_of_ble_eq_true rfl) ⟨by omega, by omega⟩ ⟨by omega, by omega⟩ dX0_test_38 (resVR fun C1 hq => ?_)
      obtain ⟨hp1, e1⟩ := hp.go hq
      rw [etp] at hp1
      refine g_newD ok 10 (by decide) rfl in_X10 tyX10 tyX10_ok nv_10 q1099 q1100 q88 ⟨?_, ?_⟩ dX0_test_41 (fun d hd => ?_)
      · have := capN; omega
      · have := capN; omega
      refine g_dup ok dX0_test_44 rfl ?_
      refine g_iload_n ok 0 dX0_test_45 rfl ?_
      refine g_aload_n ok 1 dX0_test_46 rfl ?_
      refine g_aload_n ok 2 dX0_test_47 rfl ?_
      have pe3 : pE C (nwC C1 d 10) := e1.nw (e1.noT hd) rfl rfl rfl rfl rfl (fun b hb => nw_D hb)
      refine g_prs ok (IH m (Nat.lt_succ_self m) (nwC C1 d 10) (stp tp L t) nots pars (b + a1) (b2, c2, a2, t2) (by show C1.2.1 43 = tp; rw [e1.1]; exact etp) hp1 hr2) cf_X0_plus q1046 (Nat.le_of_ble_eq_true rfl) ⟨by omega, by omega⟩ (fun _ => ⟨by show _ + (t2.2.1 - _) ≤ _; omega, by show _ + 3 * (t2.2.1 - _) ≤ _; omega⟩) (fun z => ?_) dX0_test_48 (fun z e2 C4 h4 => ?_) (fun z e2 C4 h4 => ?_)
      · have z : b2 = false := z
        have := rF (by rw [rel.2 z])
        rw [rel.2 z] at this
        simp only at this
        exact ⟨by show _ + (t2.2.1 - _ + 1) ≤ _; omega, by show _ + (3 * (t2.2.1 - _) + 7) ≤ _; omega⟩
      · have z : b2 = true := z
        obtain ⟨pe4, hp4, e, he4, ht4⟩ := h4
        simp only at hp4 he4 ht4
        have td : cT C4 d = some (10, 0) := (pe4.2.2.2.2.2 d _ (nwC_T C1 d 10)).1
        refine g_callI ok [.int (C.1 0 16), .ref d0, .ref e2] cfI_X10_init q1101 (mc_X10_init ok.wo (xL x) C4 d (C.1 0 16) d0 e2 ⟨0, td⟩) rfl rfl (Nat.le_of_ble_eq_true rfl) ⟨by omega, by omega⟩ ⟨by show _ + (t2.2.1 - _) + 0 ≤ _; omega, by show _ + 3 * (t2.2.1 - _) + 0 ≤ _; omega⟩ dX0_test_51 (resV ?_)
        show G w x 3 _ _ Q (twC C4 d (C.1 0 16) d0 e2) _ _ _
        have pe0 : pE C C4 := pe3.tr pe4
        have pe5 : pE C (twC C4 d (C.1 0 16) d0 e2) := pe0.nw (e1.noT hd) rfl rfl rfl rfl rfl (fun b hb => tw_D hb)
        have kx : ∀ b, b ≠ d → cT (twC C4 d (C.1 0 16) d0 e2) b = cT C4 b ∧ sameD (twC C4 d (C.1 0 16) d0 e2) C4 b := fun b hb => tw_D hb
        have q0 := trC.keep pe5.keepX _ _ _ ht
        have q2 : trC (twC C4 d (C.1 0 16) d0 e2) key e e2 c2 := trC_off td (((pe4.2.2.2.2.2 d _ (nwC_T C1 d 10)).2.2.1 101).trans (if_pos rfl)) ht4 (fun b hb => tw_D hb)
        have qn : trC (twC C4 d (C.1 0 16) d0 e2) key (t2.2.1 - p0) d (c ++ c2 ++ [sgI t.2.2.2.1]) := by
          have := two_tr (C := twC C4 d (C.1 0 16) d0 e2) (key := key) (d := d) (e := t2.2.1 - p0 - 1) (E := t2.2.1 - p0) (ch := (C.1 0 16)) ⟨0, td⟩ tw_v.1 tw_v.2.1 tw_v.2.2 (q0.mono _ (by omega)) (q2.mono _ (by omega)) (by rw [hch]; exact sg2) (by omega)
          rw [hch] at this
          rw [hch]
          exact this
        refine g_astore_n ok [(1, .ref d), (2, .int (C.1 0 16)), (0, .ref (ad w 0))] dX0_test_54 (by decide) rfl ?_
        refine g_sub [0, 2] [(1, .ref d), (0, .ref (ad w 0))] rfl ?_
        rw [rel.1 z] at kS rS
        refine g_widen (t2.2.1 - p0) (3 * (t2.2.1 - p0)) (by show _ + (t2.2.1 - _) + 0 ≤ _; omega) (by show _ + 3 * (t2.2.1 - _) + 0 ≤ _; omega) ?_
        exact kS rfl _ d pe5 (by have := hp4; rw [Nat.add_assoc] at this; exact this) ⟨_, Nat.le_refl _, qn⟩
      · have z : b2 = false := z
        have rr := rel.2 z
        subst rr
        refine gt_widen (c1 := t2.2.1 - p0 + 1) (s1 := 3 * (t2.2.1 - p0) + 7) (by show _ + (t2.2.1 - _ + 1) ≤ _; omega) (by show _ + (3 * (t2.2.1 - _) + 7) ≤ _; omega) (kF rfl C4 e2 _ _ _ ?_)
        obtain ⟨C6, p6, p7⟩ := h4
        exact ⟨C6, pe3.tr p6, p7⟩
    -- the signs
    refine g_aload_n ok 1 dX0_test_5 rfl ?_
    refine g_bipush (v := 60) ok dX0_test_6 (by decide) ?_
    refine g_callV ok [.int 60] cf_X0_isSign q1085 (mc_X0_isSign ok.wo (xL x) C 60) (recvF ok 0 rfl rfl) rfl rfl (Nat.le_of_ble_eq_true rfl) ⟨by omega, by omega⟩ ⟨by omega, by omega⟩ dX0_test_8 (resI ?_)
    refine g_if_ne (tgt := 32) ok dX0_test_11 (by decide) (fun z0 => take (hsl.mpr ?_)) (fun z0 => ?_)
    · have y : t.2.2.1 = 3 ∧ t.2.2.2.1 = 60 := Classical.byContradiction fun u => z0 ((isSg hp.2.1 60).mpr u)
      exact ⟨y.1, Or.inl y.2⟩
    refine g_aload_n ok 1 dX0_test_14 rfl ?_
    refine g_bipush (v := 61) ok dX0_test_15 (by decide) ?_
    refine g_callV ok [.int 61] cf_X0_isSign q1085 (mc_X0_isSign ok.wo (xL x) C 61) (recvF ok 0 rfl rfl) rfl rfl (Nat.le_of_ble_eq_true rfl) ⟨by omega, by omega⟩ ⟨by omega, by omega⟩ dX0_test_17 (resI ?_)
    refine g_if_ne (tgt := 32) ok dX0_test_20 (by decide) (fun z1 => take (hsl.mpr ?_)) (fun z1 => ?_)
    · have y : t.2.2.1 = 3 ∧ t.2.2.2.1 = 61 := Classical.byContradiction fun u => z1 ((isSg hp.2.1 61).mpr u)
      exact ⟨y.1, Or.inr (Or.inl y.2)⟩
    refine g_aload_n ok 1 dX0_test_23 rfl ?_
    refine g_bipush (v := 62) ok dX0_test_24 (by decide) ?_
    refine g_callV ok [.int 62] cf_X0_isSign q1085 (mc_X0_isSign ok.wo (xL x) C 62) (recvF ok 0 rfl rfl) rfl rfl (Nat.le_of_ble_eq_true rfl) ⟨by omega, by omega⟩ ⟨by omega, by omega⟩ dX0_test_26 (resI ?_)
    refine g_if_eq (tgt := 55) ok dX0_test_29 (by decide) (fun z2 => stop (fun hy => ?_)) (fun z2 => take (hsl.mpr ?_))
    · obtain ⟨y1, y2⟩ := hsl.mp hy
      rcases y2 with y3 | y4 | y5
      · exact (isSg hp.2.1 60).mp z0 ⟨y1, y3⟩
      · exact (isSg hp.2.1 61).mp z1 ⟨y1, y4⟩
      · exact (isSg hp.2.1 62).mp z2 ⟨y1, y5⟩
    · have y : t.2.2.1 = 3 ∧ t.2.2.2.1 = 62 := Classical.byContradiction fun u => z2 ((isSg hp.2.1 62).mpr u)
      exact ⟨y.1, Or.inr (Or.inr y.2)⟩
set_option maxHeartbeats 4000000 in
set_option maxRecDepth 100000 in
theorem pg_X0_test {w : WD} (wk : wOk w) {l : Launch} {tp : Nat → Int32} {L : Nat} {key : Int32} (n : Nat) (IH : ∀ q, q ≤ n → PG w l tp L key yX0_plus cX0_plus 3 4 q) : PG w l tp L key yX0_test cX0_test 3 3 (n + 1) := by
  intro C t nots pars a r etp hp hr
  have hok := rd_ok _ _ _ _ _ _ _ hp.2.2.1 hr
  rw [rd, if_neg (by decide)] at hr
  obtain ⟨r2, hr2⟩ : ∃ r2, rd tp L key n 4 none nots pars t = some r2 := by
    cases hh : rd tp L key n 4 none nots pars t with
    | none => rw [hh] at hr; cases hr
    | some r2 => exact ⟨r2, rfl⟩
  rw [hr2] at hr
  have hok2 := rd_ok _ _ _ _ _ _ _ hp.2.2.1 hr2
  obtain ⟨b2, c2, a2, t2⟩ := r2
  simp only at hok2
  have hm2 : t.2.1 ≤ t2.2.1 := hok2.2.1
  have rel : (b2 = true → rd tp L key n 3 (some (c2, a2)) nots pars t2 = some r) ∧ (b2 = false → r = (false, c2, a2, t2)) := by
    cases b2 with
    | true => exact ⟨fun _ => hr, (fun z => by cases z)⟩
    | false => exact ⟨(fun z => by cases z), fun _ => (Option.some.inj hr).symm⟩
  have hle2 : t2.2.1 ≤ r.2.2.2.2.1 := by
    cases b2 with
    | true => exact (rd_ok _ _ _ _ _ _ _ hok2.1 (rel.1 rfl)).2.1
    | false => rw [rel.2 rfl]; exact Nat.le_refl _
  have key2 : ∀ (x : Cx) (rm : Room) (Q : State → Prop), xL x = l → Ok w x cX0_test 3 "TwoGuilds" wtT rm → n + 13 ≤ rm.frames → 40 * (n + 13) ≤ rm.locals → (r.1 = true → r.2.2.2.2.1 - t.2.1 ≤ rm.cells ∧ 3 * (r.2.2.2.2.1 - t.2.1) ≤ rm.slots) → (r.1 = false → r.2.2.2.2.1 - t.2.1 + 1 ≤ rm.cells ∧ 3 * (r.2.2.2.2.1 - t.2.1) + 7 ≤ rm.slots) →
      (r.1 = true → ∀ C1 d1, pOkS C key L t nots pars a r d1 C1 → G w x 3 (r.2.2.2.2.1 - t.2.1) (3 * (r.2.2.2.2.1 - t.2.1)) Q C1 55 [(1, .ref d1), (0, .ref (ad w 0))] []) →
      (r.1 = false → ∀ C1 e pc lv st, pOkF C r e C1 → GT w x 3 (r.2.2.2.2.1 - t.2.1 + 1) (3 * (r.2.2.2.2.1 - t.2.1) + 7) Q C1 pc lv st e (fun _ => True)) →
      G w x 3 0 0 Q C 0 [(0, .ref (ad w 0))] [] := by
    intro x rm Q hx ok hf hl rS rF kS kF
    subst hx
    have capN : t2.2.1 - t.2.1 ≤ rm.cells ∧ 3 * (t2.2.1 - t.2.1) ≤ rm.slots := by
      cases hb : r.1 with
      | true => have := rS hb; omega
      | false => have := rF hb; omega
    refine g_aload_n ok 0 dX0_test_0 rfl ?_
    refine g_prs ok (IH n (Nat.le_refl n) C t nots pars a (b2, c2, a2, t2) etp hp hr2) cf_X0_plus q1046 (Nat.le_of_ble_eq_true rfl) ⟨by omega, by omega⟩ (fun _ => ⟨by show 0 + (t2.2.1 - _) ≤ _; omega, by show 0 + 3 * (t2.2.1 - _) ≤ _; omega⟩) (fun z => ?_) dX0_test_1 (fun z e2 C4 h4 => ?_) (fun z e2 C4 h4 => ?_)
    · have z : b2 = false := z
      have := rF (by rw [rel.2 z])
      rw [rel.2 z] at this
      simp only at this
      exact ⟨by show 0 + (t2.2.1 - _ + 1) ≤ _; omega, by show 0 + (3 * (t2.2.1 - _) + 7) ≤ _; omega⟩
    · have z : b2 = true := z
      obtain ⟨pe4, hp4, e, he4, ht4⟩ := h4
      simp only at hp4 he4 ht4
      refine g_astore_n ok [(1, .ref e2), (0, .ref (ad w 0))] dX0_test_4 (by decide) rfl ?_
      refine g_widen (t2.2.1 - t.2.1) (3 * (t2.2.1 - t.2.1)) (by show 0 + (t2.2.1 - _) ≤ _; omega) (by show 0 + 3 * (t2.2.1 - _) ≤ _; omega) ?_
      exact lp_X0_test ok n (fun q hq => IH q (by omega)) (by omega) (by omega) C4 t2 nots pars a c2 a2 e2 e r t.2.1 (by rw [pe4.1]; exact etp) hp4 ht4 he4 hm2 (rel.1 z) rS rF (fun y C5 d5 p5 s5 q5 => kS y C5 d5 ⟨pe4.tr p5, s5, q5⟩) (fun y C5 e5 pc5 lv5 st5 p5 => kF y C5 e5 pc5 lv5 st5 (by obtain ⟨C6, p6, p7⟩ := p5; exact ⟨C6, pe4.tr p6, p7⟩))
    · have z : b2 = false := z
      have rr := rel.2 z
      subst rr
      exact gt_widen (c1 := t2.2.1 - t.2.1 + 1) (s1 := 3 * (t2.2.1 - t.2.1) + 7) (by show 0 + (t2.2.1 - _ + 1) ≤ _; omega) (by show 0 + (3 * (t2.2.1 - _) + 7) ≤ _; omega) (kF rfl C4 e2 _ _ _ h4)
  refine ⟨fun hb => ?_, fun hb => ?_⟩
  · refine MC.of wk (by decide) (Nat.le_of_ble_eq_true rfl) (fun x hx ok => ?_)
    refine key2 x _ _ hx ok (by show n + 13 ≤ n + 1 + 12; omega) (by show 40 * (n + 13) ≤ 40 * (n + 1 + 12); omega) (fun _ => ⟨Nat.le_refl _, Nat.le_refl _⟩) (fun z => by rw [hb] at z; cases z) (fun _ C1 d1 h1 => ?_) (fun z => by rw [hb] at z; cases z)
    refine g_aload_n ok 0 dX0_test_55 rfl ?_
    exact g_aret ok dX0_test_56 ⟨d1, rfl, h1⟩
  · refine MT.of wk (by decide) (Nat.le_of_ble_eq_true rfl) (fun x hx ok ht => ?_)
    exact key2 x _ _ hx ok (by show n + 13 ≤ n + 1 + 12; omega) (by show 40 * (n + 13) ≤ 40 * (n + 1 + 12); omega) (fun z => by rw [hb] at z; cases z) (fun _ => ⟨Nat.le_refl _, Nat.le_refl _⟩) (fun z => by rw [hb] at z; cases z) (fun _ C1 e pc lv st h1 => gt_leave ok ht (fun _ _ _ => h1))
set_option maxHeartbeats 4000000 in
set_option maxRecDepth 100000 in
theorem lp_X0_plus {w : WD} {x : Cx} {rm : Room} (ok : Ok w x cX0_plus 3 "TwoGuilds" wtT rm) {tp : Nat → Int32} {L : Nat} {key : Int32} {Q : State → Prop} : ∀ m, (∀ q, q < m → PG w (xL x) tp L key yX0_times cX0_times 3 5 q) → m + 12 ≤ rm.frames → 40 * (m + 12) ≤ rm.locals → ∀ (C : CS) (t : TS) (nots pars b : Nat) (c : List Int32) (a1 d0 e0 : Nat) (r : Bool × List Int32 × Nat × TS) (p0 : Nat), C.2.1 43 = tp → pS C key L t nots pars (b + a1) → trC C key e0 d0 c → e0 ≤ t.2.1 - p0 → p0 ≤ t.2.1 → rd tp L key m 4 (some (c, a1)) nots pars t = some r →
    (r.1 = true → r.2.2.2.2.1 - p0 ≤ rm.cells ∧ 3 * (r.2.2.2.2.1 - p0) ≤ rm.slots) → (r.1 = false → r.2.2.2.2.1 - p0 + 1 ≤ rm.cells ∧ 3 * (r.2.2.2.2.1 - p0) + 7 ≤ rm.slots) →
    (r.1 = true → ∀ C1 d1, pE C C1 → pS C1 key L r.2.2.2 nots pars (b + r.2.2.1) → (∃ e, e ≤ r.2.2.2.2.1 - p0 ∧ trC C1 key e d1 r.2.1) → G w x 3 (r.2.2.2.2.1 - p0) (3 * (r.2.2.2.2.1 - p0)) Q C1 49 [(1, .ref d1), (0, .ref (ad w 0))] []) →
    (r.1 = false → ∀ C1 e pc lv st, pOkF C r e C1 → GT w x 3 (r.2.2.2.2.1 - p0 + 1) (3 * (r.2.2.2.2.1 - p0) + 7) Q C1 pc lv st e (fun _ => True)) →
    G w x 3 (t.2.1 - p0) (3 * (t.2.1 - p0)) Q C 5 [(1, .ref d0), (0, .ref (ad w 0))] [] := by
  intro m
  induction m with
  | zero => intro _ _ _ C t nots pars b c a1 d0 e0 r p0 _ _ _ _ _ h; cases h
  | succ m ih =>
    intro IH hf hl C t nots pars b c a1 d0 e0 r p0 etp hp ht he hp0 hr rS rF kS kF
    have hok := rd_ok _ _ _ _ _ _ _ hp.2.2.1 hr
    have hmono : t.2.1 ≤ r.2.2.2.2.1 := hok.2.1
    rw [rd] at hr
    have hsl := (sg_lv t).2.2.2.1
    have capT : t.2.1 - p0 ≤ rm.cells ∧ 3 * (t.2.1 - p0) ≤ rm.slots := by
      cases hb : r.1 with
      | true => have := rS hb; omega
      | false => have := rF hb; omega
    have stop : ¬ (¬ sgT t = 0 ∧ rk (sgT t) = 4) → G w x 3 (t.2.1 - p0) (3 * (t.2.1 - p0)) Q C 49 [(1, .ref d0), (0, .ref (ad w 0))] [] := by
      intro hn
      rw [if_neg hn] at hr
      have hr := (Option.some.inj hr).symm
      subst hr
      exact kS rfl C d0 (pE.rf C) hp ⟨e0, he, ht⟩
    have take : (¬ sgT t = 0 ∧ rk (sgT t) = 4) → G w x 3 (t.2.1 - p0) (3 * (t.2.1 - p0)) Q C 23 [(1, .ref d0), (0, .ref (ad w 0))] [] := by
      intro hy
      have h3 : t.2.2.1 = 3 := (hsl.mp hy).1
      obtain ⟨sg1, sg2⟩ := sgC h3 hy.1
      rw [if_pos hy, sg1] at hr
      have hlt : t.2.1 < t.1 := hp.2.2.1.2.2 (by rw [h3]; decide)
      have hst := stp_ok (tp := tp) hp.2.2.1
      have hval : C.1 0 16 = t.2.2.2.1 := hp.2.1.2.2.2 (Or.inr (Or.inr h3))
      obtain ⟨r2, hr2⟩ : ∃ r2, rd tp L key m 5 none nots pars (stp tp L t) = some r2 := by
        cases hh : rd tp L key m 5 none nots pars (stp tp L t) with
        | none => rw [hh] at hr; cases hr
        | some r2 => exact ⟨r2, rfl⟩
      rw [hr2] at hr
      have hok2 := rd_ok _ _ _ _ _ _ _ hst.1 hr2
      have hm2 : (stp tp L t).2.1 ≤ r2.2.2.2.2.1 := hok2.2.1
      obtain ⟨b2, c2, a2, t2⟩ := r2
      simp only at hm2 hok2
      have rel : (b2 = true → rd tp L key m 4 (some (c ++ c2 ++ [sgI t.2.2.2.1], a1 + a2)) nots pars t2 = some r) ∧ (b2 = false → r = (false, c2, a2, t2)) := by
        cases b2 with
        | true => exact ⟨fun _ => hr, (fun z => by cases z)⟩
        | false => exact ⟨(fun z => by cases z), fun _ => (Option.some.inj hr).symm⟩
      have hle2 : t2.2.1 ≤ r.2.2.2.2.1 := by
        cases b2 with
        | true => exact (rd_ok _ _ _ _ _ _ _ hok2.1 (rel.1 rfl)).2.1
        | false => rw [rel.2 rfl]; exact Nat.le_refl _
      have capN : t2.2.1 - p0 ≤ rm.cells ∧ 3 * (t2.2.1 - p0) ≤ rm.slots := by
        cases hb : r.1 with
        | true => have := rS hb; omega
        | false => have := rF hb; omega
      have hch : (C.1 0 16) = t.2.2.2.1 := hval
      refine g_aload_n ok 1 dX0_plus_23 rfl ?_
      refine g_get ok 0 rfl rfl in_X0 16 (by decide) q198 rfl dX0_plus_24 ?_
      refine g_istore_n0 ok [(2, .int (C.1 0 16)), (1, .ref d0), (0, .ref (ad w 0))] dX0_plus_27 (by decide) rfl ?_
      refine g_aload_n ok 2 dX0_plus_28 rfl ?_
      refine g_callV ok [] cf_X0_goesOn q938 (mc_X0_goesOn ok.wo (xL x) C t L (hp.pre (Or.inr (Or.inr h3)))) (recvF ok 0 rfl rfl) rfl rfl (Nat.le_of_ble_eq_true rfl) ⟨by omega, by omega⟩ ⟨by omega, by omega⟩ dX0_plus_29 (resVR fun C1 hq => ?_)
      obtain ⟨hp1, e1⟩ := hp.go hq
      rw [etp] at hp1
      refine g_newD ok 10 (by decide) rfl in_X10 tyX10 tyX10_ok nv_10 q1099 q1100 q88 ⟨?_, ?_⟩ dX0_plus_32 (fun d hd => ?_)
      · have := capN; omega
      · have := capN; omega
      refine g_dup ok dX0_plus_35 rfl ?_
      refine g_iload_n ok 0 dX0_plus_36 rfl ?_
      refine g_aload_n ok 1 dX0_plus_37 rfl ?_
      refine g_aload_n ok 2 dX0_plus_38 rfl ?_
      have pe3 : pE C (nwC C1 d 10) := e1.nw (e1.noT hd) rfl rfl rfl rfl rfl (fun b hb => nw_D hb)
      refine g_prs ok (IH m (Nat.lt_succ_self m) (nwC C1 d 10) (stp tp L t) nots pars (b + a1) (b2, c2, a2, t2) (by show C1.2.1 43 = tp; rw [e1.1]; exact etp) hp1 hr2) cf_X0_times q1050 (Nat.le_of_ble_eq_true rfl) ⟨by omega, by omega⟩ (fun _ => ⟨by show _ + (t2.2.1 - _) ≤ _; omega, by show _ + 3 * (t2.2.1 - _) ≤ _; omega⟩) (fun z => ?_) dX0_plus_39 (fun z e2 C4 h4 => ?_) (fun z e2 C4 h4 => ?_)
      · have z : b2 = false := z
        have := rF (by rw [rel.2 z])
        rw [rel.2 z] at this
        simp only at this
        exact ⟨by show _ + (t2.2.1 - _ + 1) ≤ _; omega, by show _ + (3 * (t2.2.1 - _) + 7) ≤ _; omega⟩
      · have z : b2 = true := z
        obtain ⟨pe4, hp4, e, he4, ht4⟩ := h4
        simp only at hp4 he4 ht4
        have td : cT C4 d = some (10, 0) := (pe4.2.2.2.2.2 d _ (nwC_T C1 d 10)).1
        refine g_callI ok [.int (C.1 0 16), .ref d0, .ref e2] cfI_X10_init q1101 (mc_X10_init ok.wo (xL x) C4 d (C.1 0 16) d0 e2 ⟨0, td⟩) rfl rfl (Nat.le_of_ble_eq_true rfl) ⟨by omega, by omega⟩ ⟨by show _ + (t2.2.1 - _) + 0 ≤ _; omega, by show _ + 3 * (t2.2.1 - _) + 0 ≤ _; omega⟩ dX0_plus_42 (resV ?_)
        show G w x 3 _ _ Q (twC C4 d (C.1 0 16) d0 e2) _ _ _
        have pe0 : pE C C4 := pe3.tr pe4
        have pe5 : pE C (twC C4 d (C.1 0 16) d0 e2) := pe0.nw (e1.noT hd) rfl rfl rfl rfl rfl (fun b hb => tw_D hb)
        have kx : ∀ b, b ≠ d → cT (twC C4 d (C.1 0 16) d0 e2) b = cT C4 b ∧ sameD (twC C4 d (C.1 0 16) d0 e2) C4 b := fun b hb => tw_D hb
        have q0 := trC.keep pe5.keepX _ _ _ ht
        have q2 : trC (twC C4 d (C.1 0 16) d0 e2) key e e2 c2 := trC_off td (((pe4.2.2.2.2.2 d _ (nwC_T C1 d 10)).2.2.1 101).trans (if_pos rfl)) ht4 (fun b hb => tw_D hb)
        have qn : trC (twC C4 d (C.1 0 16) d0 e2) key (t2.2.1 - p0) d (c ++ c2 ++ [sgI t.2.2.2.1]) := by
          have := two_tr (C := twC C4 d (C.1 0 16) d0 e2) (key := key) (d := d) (e := t2.2.1 - p0 - 1) (E := t2.2.1 - p0) (ch := (C.1 0 16)) ⟨0, td⟩ tw_v.1 tw_v.2.1 tw_v.2.2 (q0.mono _ (by omega)) (q2.mono _ (by omega)) (by rw [hch]; exact sg2) (by omega)
          rw [hch] at this
          rw [hch]
          exact this
        refine g_astore_n ok [(1, .ref d), (2, .int (C.1 0 16)), (0, .ref (ad w 0))] dX0_plus_45 (by decide) rfl ?_
        refine g_goto (tgt := 5) ok dX0_plus_46 (by decide) ?_
        refine g_sub [0, 2] [(1, .ref d), (0, .ref (ad w 0))] rfl ?_
        refine g_widen (t2.2.1 - p0) (3 * (t2.2.1 - p0)) (by show _ + (t2.2.1 - _) + 0 ≤ _; omega) (by show _ + 3 * (t2.2.1 - _) + 0 ≤ _; omega) ?_
        exact ih (fun q hq => IH q (by omega)) (by omega) (by omega) _ t2 nots pars b _ (a1 + a2) d (t2.2.1 - p0) r p0 (by show C4.2.1 43 = tp; rw [pe0.1]; exact etp) (by have := hp4; rw [Nat.add_assoc] at this; exact this) qn (Nat.le_refl _) (by omega) (rel.1 z) rS rF (fun y C5 d5 p5 => kS y C5 d5 (pe5.tr p5)) (fun y C5 e5 pc5 lv5 st5 p5 => kF y C5 e5 pc5 lv5 st5 (by obtain ⟨C6, p6, p7⟩ := p5; exact ⟨C6, pe5.tr p6, p7⟩))
      · have z : b2 = false := z
        have rr := rel.2 z
        subst rr
        refine gt_widen (c1 := t2.2.1 - p0 + 1) (s1 := 3 * (t2.2.1 - p0) + 7) (by show _ + (t2.2.1 - _ + 1) ≤ _; omega) (by show _ + (3 * (t2.2.1 - _) + 7) ≤ _; omega) (kF rfl C4 e2 _ _ _ ?_)
        obtain ⟨C6, p6, p7⟩ := h4
        exact ⟨C6, pe3.tr p6, p7⟩
    -- the signs
    refine g_aload_n ok 1 dX0_plus_5 rfl ?_
    refine g_bipush (v := 43) ok dX0_plus_6 (by decide) ?_
    refine g_callV ok [.int 43] cf_X0_isSign q1085 (mc_X0_isSign ok.wo (xL x) C 43) (recvF ok 0 rfl rfl) rfl rfl (Nat.le_of_ble_eq_true rfl) ⟨by omega, by omega⟩ ⟨by omega, by omega⟩ dX0_plus_8 (resI ?_)
    refine g_if_ne (tgt := 23) ok dX0_plus_11 (by decide) (fun z0 => take (hsl.mpr ?_)) (fun z0 => ?_)
    · have y : t.2.2.1 = 3 ∧ t.2.2.2.1 = 43 := Classical.byContradiction fun u => z0 ((isSg hp.2.1 43).mpr u)
      exact ⟨y.1, Or.inl y.2⟩
    refine g_aload_n ok 1 dX0_plus_14 rfl ?_
    refine g_bipush (v := 45) ok dX0_plus_15 (by decide) ?_
    refine g_callV ok [.int 45] cf_X0_isSign q1085 (mc_X0_isSign ok.wo (xL x) C 45) (recvF ok 0 rfl rfl) rfl rfl (Nat.le_of_ble_eq_true rfl) ⟨by omega, by omega⟩ ⟨by omega, by omega⟩ dX0_plus_17 (resI ?_)
    refine g_if_eq (tgt := 49) ok dX0_plus_20 (by decide) (fun z1 => stop (fun hy => ?_)) (fun z1 => take (hsl.mpr ?_))
    · obtain ⟨y1, y2⟩ := hsl.mp hy
      rcases y2 with y3 | y4
      · exact (isSg hp.2.1 43).mp z0 ⟨y1, y3⟩
      · exact (isSg hp.2.1 45).mp z1 ⟨y1, y4⟩
    · have y : t.2.2.1 = 3 ∧ t.2.2.2.1 = 45 := Classical.byContradiction fun u => z1 ((isSg hp.2.1 45).mpr u)
      exact ⟨y.1, Or.inr y.2⟩
set_option maxHeartbeats 4000000 in
set_option maxRecDepth 100000 in
theorem pg_X0_plus {w : WD} (wk : wOk w) {l : Launch} {tp : Nat → Int32} {L : Nat} {key : Int32} (n : Nat) (IH : ∀ q, q ≤ n → PG w l tp L key yX0_times cX0_times 3 5 q) : PG w l tp L key yX0_plus cX0_plus 3 4 (n + 1) := by
  intro C t nots pars a r etp hp hr
  have hok := rd_ok _ _ _ _ _ _ _ hp.2.2.1 hr
  rw [rd, if_neg (by decide)] at hr
  obtain ⟨r2, hr2⟩ : ∃ r2, rd tp L key n 5 none nots pars t = some r2 := by
    cases hh : rd tp L key n 5 none nots pars t with
    | none => rw [hh] at hr; cases hr
    | some r2 => exact ⟨r2, rfl⟩
  rw [hr2] at hr
  have hok2 := rd_ok _ _ _ _ _ _ _ hp.2.2.1 hr2
  obtain ⟨b2, c2, a2, t2⟩ := r2
  simp only at hok2
  have hm2 : t.2.1 ≤ t2.2.1 := hok2.2.1
  have rel : (b2 = true → rd tp L key n 4 (some (c2, a2)) nots pars t2 = some r) ∧ (b2 = false → r = (false, c2, a2, t2)) := by
    cases b2 with
    | true => exact ⟨fun _ => hr, (fun z => by cases z)⟩
    | false => exact ⟨(fun z => by cases z), fun _ => (Option.some.inj hr).symm⟩
  have hle2 : t2.2.1 ≤ r.2.2.2.2.1 := by
    cases b2 with
    | true => exact (rd_ok _ _ _ _ _ _ _ hok2.1 (rel.1 rfl)).2.1
    | false => rw [rel.2 rfl]; exact Nat.le_refl _
  have key2 : ∀ (x : Cx) (rm : Room) (Q : State → Prop), xL x = l → Ok w x cX0_plus 3 "TwoGuilds" wtT rm → n + 13 ≤ rm.frames → 40 * (n + 13) ≤ rm.locals → (r.1 = true → r.2.2.2.2.1 - t.2.1 ≤ rm.cells ∧ 3 * (r.2.2.2.2.1 - t.2.1) ≤ rm.slots) → (r.1 = false → r.2.2.2.2.1 - t.2.1 + 1 ≤ rm.cells ∧ 3 * (r.2.2.2.2.1 - t.2.1) + 7 ≤ rm.slots) →
      (r.1 = true → ∀ C1 d1, pOkS C key L t nots pars a r d1 C1 → G w x 3 (r.2.2.2.2.1 - t.2.1) (3 * (r.2.2.2.2.1 - t.2.1)) Q C1 49 [(1, .ref d1), (0, .ref (ad w 0))] []) →
      (r.1 = false → ∀ C1 e pc lv st, pOkF C r e C1 → GT w x 3 (r.2.2.2.2.1 - t.2.1 + 1) (3 * (r.2.2.2.2.1 - t.2.1) + 7) Q C1 pc lv st e (fun _ => True)) →
      G w x 3 0 0 Q C 0 [(0, .ref (ad w 0))] [] := by
    intro x rm Q hx ok hf hl rS rF kS kF
    subst hx
    have capN : t2.2.1 - t.2.1 ≤ rm.cells ∧ 3 * (t2.2.1 - t.2.1) ≤ rm.slots := by
      cases hb : r.1 with
      | true => have := rS hb; omega
      | false => have := rF hb; omega
    refine g_aload_n ok 0 dX0_plus_0 rfl ?_
    refine g_prs ok (IH n (Nat.le_refl n) C t nots pars a (b2, c2, a2, t2) etp hp hr2) cf_X0_times q1050 (Nat.le_of_ble_eq_true rfl) ⟨by omega, by omega⟩ (fun _ => ⟨by show 0 + (t2.2.1 - _) ≤ _; omega, by show 0 + 3 * (t2.2.1 - _) ≤ _; omega⟩) (fun z => ?_) dX0_plus_1 (fun z e2 C4 h4 => ?_) (fun z e2 C4 h4 => ?_)
    · have z : b2 = false := z
      have := rF (by rw [rel.2 z])
      rw [rel.2 z] at this
      simp only at this
      exact ⟨by show 0 + (t2.2.1 - _ + 1) ≤ _; omega, by show 0 + (3 * (t2.2.1 - _) + 7) ≤ _; omega⟩
    · have z : b2 = true := z
      obtain ⟨pe4, hp4, e, he4, ht4⟩ := h4
      simp only at hp4 he4 ht4
      refine g_astore_n ok [(1, .ref e2), (0, .ref (ad w 0))] dX0_plus_4 (by decide) rfl ?_
      refine g_widen (t2.2.1 - t.2.1) (3 * (t2.2.1 - t.2.1)) (by show 0 + (t2.2.1 - _) ≤ _; omega) (by show 0 + 3 * (t2.2.1 - _) ≤ _; omega) ?_
      exact lp_X0_plus ok n (fun q hq => IH q (by omega)) (by omega) (by omega) C4 t2 nots pars a c2 a2 e2 e r t.2.1 (by rw [pe4.1]; exact etp) hp4 ht4 he4 hm2 (rel.1 z) rS rF (fun y C5 d5 p5 s5 q5 => kS y C5 d5 ⟨pe4.tr p5, s5, q5⟩) (fun y C5 e5 pc5 lv5 st5 p5 => kF y C5 e5 pc5 lv5 st5 (by obtain ⟨C6, p6, p7⟩ := p5; exact ⟨C6, pe4.tr p6, p7⟩))
    · have z : b2 = false := z
      have rr := rel.2 z
      subst rr
      exact gt_widen (c1 := t2.2.1 - t.2.1 + 1) (s1 := 3 * (t2.2.1 - t.2.1) + 7) (by show 0 + (t2.2.1 - _ + 1) ≤ _; omega) (by show 0 + (3 * (t2.2.1 - _) + 7) ≤ _; omega) (kF rfl C4 e2 _ _ _ h4)
  refine ⟨fun hb => ?_, fun hb => ?_⟩
  · refine MC.of wk (by decide) (Nat.le_of_ble_eq_true rfl) (fun x hx ok => ?_)
    refine key2 x _ _ hx ok (by show n + 13 ≤ n + 1 + 12; omega) (by show 40 * (n + 13) ≤ 40 * (n + 1 + 12); omega) (fun _ => ⟨Nat.le_refl _, Nat.le_refl _⟩) (fun z => by rw [hb] at z; cases z) (fun _ C1 d1 h1 => ?_) (fun z => by rw [hb] at z; cases z)
    refine g_aload_n ok 0 dX0_plus_49 rfl ?_
    exact g_aret ok dX0_plus_50 ⟨d1, rfl, h1⟩
  · refine MT.of wk (by decide) (Nat.le_of_ble_eq_true rfl) (fun x hx ok ht => ?_)
    exact key2 x _ _ hx ok (by show n + 13 ≤ n + 1 + 12; omega) (by show 40 * (n + 13) ≤ 40 * (n + 1 + 12); omega) (fun z => by rw [hb] at z; cases z) (fun _ => ⟨Nat.le_refl _, Nat.le_refl _⟩) (fun z => by rw [hb] at z; cases z) (fun _ C1 e pc lv st h1 => gt_leave ok ht (fun _ _ _ => h1))
set_option maxHeartbeats 4000000 in
set_option maxRecDepth 100000 in
theorem lp_X0_times {w : WD} {x : Cx} {rm : Room} (ok : Ok w x cX0_times 3 "TwoGuilds" wtT rm) {tp : Nat → Int32} {L : Nat} {key : Int32} {Q : State → Prop} : ∀ m, (∀ q, q < m → PG w (xL x) tp L key yX0_part cX0_part 3 6 q) → m + 12 ≤ rm.frames → 40 * (m + 12) ≤ rm.locals → ∀ (C : CS) (t : TS) (nots pars b : Nat) (c : List Int32) (a1 d0 e0 : Nat) (r : Bool × List Int32 × Nat × TS) (p0 : Nat), C.2.1 43 = tp → pS C key L t nots pars (b + a1) → trC C key e0 d0 c → e0 ≤ t.2.1 - p0 → p0 ≤ t.2.1 → rd tp L key m 5 (some (c, a1)) nots pars t = some r →
    (r.1 = true → r.2.2.2.2.1 - p0 ≤ rm.cells ∧ 3 * (r.2.2.2.2.1 - p0) ≤ rm.slots) → (r.1 = false → r.2.2.2.2.1 - p0 + 1 ≤ rm.cells ∧ 3 * (r.2.2.2.2.1 - p0) + 7 ≤ rm.slots) →
    (r.1 = true → ∀ C1 d1, pE C C1 → pS C1 key L r.2.2.2 nots pars (b + r.2.2.1) → (∃ e, e ≤ r.2.2.2.2.1 - p0 ∧ trC C1 key e d1 r.2.1) → G w x 3 (r.2.2.2.2.1 - p0) (3 * (r.2.2.2.2.1 - p0)) Q C1 49 [(1, .ref d1), (0, .ref (ad w 0))] []) →
    (r.1 = false → ∀ C1 e pc lv st, pOkF C r e C1 → GT w x 3 (r.2.2.2.2.1 - p0 + 1) (3 * (r.2.2.2.2.1 - p0) + 7) Q C1 pc lv st e (fun _ => True)) →
    G w x 3 (t.2.1 - p0) (3 * (t.2.1 - p0)) Q C 5 [(1, .ref d0), (0, .ref (ad w 0))] [] := by
  intro m
  induction m with
  | zero => intro _ _ _ C t nots pars b c a1 d0 e0 r p0 _ _ _ _ _ h; cases h
  | succ m ih =>
    intro IH hf hl C t nots pars b c a1 d0 e0 r p0 etp hp ht he hp0 hr rS rF kS kF
    have hok := rd_ok _ _ _ _ _ _ _ hp.2.2.1 hr
    have hmono : t.2.1 ≤ r.2.2.2.2.1 := hok.2.1
    rw [rd] at hr
    have hsl := (sg_lv t).2.2.2.2
    have capT : t.2.1 - p0 ≤ rm.cells ∧ 3 * (t.2.1 - p0) ≤ rm.slots := by
      cases hb : r.1 with
      | true => have := rS hb; omega
      | false => have := rF hb; omega
    have stop : ¬ (¬ sgT t = 0 ∧ rk (sgT t) = 5) → G w x 3 (t.2.1 - p0) (3 * (t.2.1 - p0)) Q C 49 [(1, .ref d0), (0, .ref (ad w 0))] [] := by
      intro hn
      rw [if_neg hn] at hr
      have hr := (Option.some.inj hr).symm
      subst hr
      exact kS rfl C d0 (pE.rf C) hp ⟨e0, he, ht⟩
    have take : (¬ sgT t = 0 ∧ rk (sgT t) = 5) → G w x 3 (t.2.1 - p0) (3 * (t.2.1 - p0)) Q C 23 [(1, .ref d0), (0, .ref (ad w 0))] [] := by
      intro hy
      have h3 : t.2.2.1 = 3 := (hsl.mp hy).1
      obtain ⟨sg1, sg2⟩ := sgC h3 hy.1
      rw [if_pos hy, sg1] at hr
      have hlt : t.2.1 < t.1 := hp.2.2.1.2.2 (by rw [h3]; decide)
      have hst := stp_ok (tp := tp) hp.2.2.1
      have hval : C.1 0 16 = t.2.2.2.1 := hp.2.1.2.2.2 (Or.inr (Or.inr h3))
      obtain ⟨r2, hr2⟩ : ∃ r2, rd tp L key m 6 none nots pars (stp tp L t) = some r2 := by
        cases hh : rd tp L key m 6 none nots pars (stp tp L t) with
        | none => rw [hh] at hr; cases hr
        | some r2 => exact ⟨r2, rfl⟩
      rw [hr2] at hr
      have hok2 := rd_ok _ _ _ _ _ _ _ hst.1 hr2
      have hm2 : (stp tp L t).2.1 ≤ r2.2.2.2.2.1 := hok2.2.1
      obtain ⟨b2, c2, a2, t2⟩ := r2
      simp only at hm2 hok2
      have rel : (b2 = true → rd tp L key m 5 (some (c ++ c2 ++ [sgI t.2.2.2.1], a1 + a2)) nots pars t2 = some r) ∧ (b2 = false → r = (false, c2, a2, t2)) := by
        cases b2 with
        | true => exact ⟨fun _ => hr, (fun z => by cases z)⟩
        | false => exact ⟨(fun z => by cases z), fun _ => (Option.some.inj hr).symm⟩
      have hle2 : t2.2.1 ≤ r.2.2.2.2.1 := by
        cases b2 with
        | true => exact (rd_ok _ _ _ _ _ _ _ hok2.1 (rel.1 rfl)).2.1
        | false => rw [rel.2 rfl]; exact Nat.le_refl _
      have capN : t2.2.1 - p0 ≤ rm.cells ∧ 3 * (t2.2.1 - p0) ≤ rm.slots := by
        cases hb : r.1 with
        | true => have := rS hb; omega
        | false => have := rF hb; omega
      have hch : (C.1 0 16) = t.2.2.2.1 := hval
      refine g_aload_n ok 1 dX0_times_23 rfl ?_
      refine g_get ok 0 rfl rfl in_X0 16 (by decide) q198 rfl dX0_times_24 ?_
      refine g_istore_n0 ok [(2, .int (C.1 0 16)), (1, .ref d0), (0, .ref (ad w 0))] dX0_times_27 (by decide) rfl ?_
      refine g_aload_n ok 2 dX0_times_28 rfl ?_
      refine g_callV ok [] cf_X0_goesOn q938 (mc_X0_goesOn ok.wo (xL x) C t L (hp.pre (Or.inr (Or.inr h3)))) (recvF ok 0 rfl rfl) rfl rfl (Nat.le_of_ble_eq_true rfl) ⟨by omega, by omega⟩ ⟨by omega, by omega⟩ dX0_times_29 (resVR fun C1 hq => ?_)
      obtain ⟨hp1, e1⟩ := hp.go hq
      rw [etp] at hp1
      refine g_newD ok 10 (by decide) rfl in_X10 tyX10 tyX10_ok nv_10 q1099 q1100 q88 ⟨?_, ?_⟩ dX0_times_32 (fun d hd => ?_)
      · have := capN; omega
      · have := capN; omega
      refine g_dup ok dX0_times_35 rfl ?_
      refine g_iload_n ok 0 dX0_times_36 rfl ?_
      refine g_aload_n ok 1 dX0_times_37 rfl ?_
      refine g_aload_n ok 2 dX0_times_38 rfl ?_
      have pe3 : pE C (nwC C1 d 10) := e1.nw (e1.noT hd) rfl rfl rfl rfl rfl (fun b hb => nw_D hb)
      refine g_prs ok (IH m (Nat.lt_succ_self m) (nwC C1 d 10) (stp tp L t) nots pars (b + a1) (b2, c2, a2, t2) (by show C1.2.1 43 = tp; rw [e1.1]; exact etp) hp1 hr2) cf_X0_part q1054 (Nat.le_of_ble_eq_true rfl) ⟨by omega, by omega⟩ (fun _ => ⟨by show _ + (t2.2.1 - _) ≤ _; omega, by show _ + 3 * (t2.2.1 - _) ≤ _; omega⟩) (fun z => ?_) dX0_times_39 (fun z e2 C4 h4 => ?_) (fun z e2 C4 h4 => ?_)
      · have z : b2 = false := z
        have := rF (by rw [rel.2 z])
        rw [rel.2 z] at this
        simp only at this
        exact ⟨by show _ + (t2.2.1 - _ + 1) ≤ _; omega, by show _ + (3 * (t2.2.1 - _) + 7) ≤ _; omega⟩
      · have z : b2 = true := z
        obtain ⟨pe4, hp4, e, he4, ht4⟩ := h4
        simp only at hp4 he4 ht4
        have td : cT C4 d = some (10, 0) := (pe4.2.2.2.2.2 d _ (nwC_T C1 d 10)).1
        refine g_callI ok [.int (C.1 0 16), .ref d0, .ref e2] cfI_X10_init q1101 (mc_X10_init ok.wo (xL x) C4 d (C.1 0 16) d0 e2 ⟨0, td⟩) rfl rfl (Nat.le_of_ble_eq_true rfl) ⟨by omega, by omega⟩ ⟨by show _ + (t2.2.1 - _) + 0 ≤ _; omega, by show _ + 3 * (t2.2.1 - _) + 0 ≤ _; omega⟩ dX0_times_42 (resV ?_)
        show G w x 3 _ _ Q (twC C4 d (C.1 0 16) d0 e2) _ _ _
        have pe0 : pE C C4 := pe3.tr pe4
        have pe5 : pE C (twC C4 d (C.1 0 16) d0 e2) := pe0.nw (e1.noT hd) rfl rfl rfl rfl rfl (fun b hb => tw_D hb)
        have kx : ∀ b, b ≠ d → cT (twC C4 d (C.1 0 16) d0 e2) b = cT C4 b ∧ sameD (twC C4 d (C.1 0 16) d0 e2) C4 b := fun b hb => tw_D hb
        have q0 := trC.keep pe5.keepX _ _ _ ht
        have q2 : trC (twC C4 d (C.1 0 16) d0 e2) key e e2 c2 := trC_off td (((pe4.2.2.2.2.2 d _ (nwC_T C1 d 10)).2.2.1 101).trans (if_pos rfl)) ht4 (fun b hb => tw_D hb)
        have qn : trC (twC C4 d (C.1 0 16) d0 e2) key (t2.2.1 - p0) d (c ++ c2 ++ [sgI t.2.2.2.1]) := by
          have := two_tr (C := twC C4 d (C.1 0 16) d0 e2) (key := key) (d := d) (e := t2.2.1 - p0 - 1) (E := t2.2.1 - p0) (ch := (C.1 0 16)) ⟨0, td⟩ tw_v.1 tw_v.2.1 tw_v.2.2 (q0.mono _ (by omega)) (q2.mono _ (by omega)) (by rw [hch]; exact sg2) (by omega)
          rw [hch] at this
          rw [hch]
          exact this
        refine g_astore_n ok [(1, .ref d), (2, .int (C.1 0 16)), (0, .ref (ad w 0))] dX0_times_45 (by decide) rfl ?_
        refine g_goto (tgt := 5) ok dX0_times_46 (by decide) ?_
        refine g_sub [0, 2] [(1, .ref d), (0, .ref (ad w 0))] rfl ?_
        refine g_widen (t2.2.1 - p0) (3 * (t2.2.1 - p0)) (by show _ + (t2.2.1 - _) + 0 ≤ _; omega) (by show _ + 3 * (t2.2.1 - _) + 0 ≤ _; omega) ?_
        exact ih (fun q hq => IH q (by omega)) (by omega) (by omega) _ t2 nots pars b _ (a1 + a2) d (t2.2.1 - p0) r p0 (by show C4.2.1 43 = tp; rw [pe0.1]; exact etp) (by have := hp4; rw [Nat.add_assoc] at this; exact this) qn (Nat.le_refl _) (by omega) (rel.1 z) rS rF (fun y C5 d5 p5 => kS y C5 d5 (pe5.tr p5)) (fun y C5 e5 pc5 lv5 st5 p5 => kF y C5 e5 pc5 lv5 st5 (by obtain ⟨C6, p6, p7⟩ := p5; exact ⟨C6, pe5.tr p6, p7⟩))
      · have z : b2 = false := z
        have rr := rel.2 z
        subst rr
        refine gt_widen (c1 := t2.2.1 - p0 + 1) (s1 := 3 * (t2.2.1 - p0) + 7) (by show _ + (t2.2.1 - _ + 1) ≤ _; omega) (by show _ + (3 * (t2.2.1 - _) + 7) ≤ _; omega) (kF rfl C4 e2 _ _ _ ?_)
        obtain ⟨C6, p6, p7⟩ := h4
        exact ⟨C6, pe3.tr p6, p7⟩
    -- the signs
    refine g_aload_n ok 1 dX0_times_5 rfl ?_
    refine g_bipush (v := 42) ok dX0_times_6 (by decide) ?_
    refine g_callV ok [.int 42] cf_X0_isSign q1085 (mc_X0_isSign ok.wo (xL x) C 42) (recvF ok 0 rfl rfl) rfl rfl (Nat.le_of_ble_eq_true rfl) ⟨by omega, by omega⟩ ⟨by omega, by omega⟩ dX0_times_8 (resI ?_)
    refine g_if_ne (tgt := 23) ok dX0_times_11 (by decide) (fun z0 => take (hsl.mpr ?_)) (fun z0 => ?_)
    · have y : t.2.2.1 = 3 ∧ t.2.2.2.1 = 42 := Classical.byContradiction fun u => z0 ((isSg hp.2.1 42).mpr u)
      exact ⟨y.1, Or.inl y.2⟩
    refine g_aload_n ok 1 dX0_times_14 rfl ?_
    refine g_bipush (v := 47) ok dX0_times_15 (by decide) ?_
    refine g_callV ok [.int 47] cf_X0_isSign q1085 (mc_X0_isSign ok.wo (xL x) C 47) (recvF ok 0 rfl rfl) rfl rfl (Nat.le_of_ble_eq_true rfl) ⟨by omega, by omega⟩ ⟨by omega, by omega⟩ dX0_times_17 (resI ?_)
    refine g_if_eq (tgt := 49) ok dX0_times_20 (by decide) (fun z1 => stop (fun hy => ?_)) (fun z1 => take (hsl.mpr ?_))
    · obtain ⟨y1, y2⟩ := hsl.mp hy
      rcases y2 with y3 | y4
      · exact (isSg hp.2.1 42).mp z0 ⟨y1, y3⟩
      · exact (isSg hp.2.1 47).mp z1 ⟨y1, y4⟩
    · have y : t.2.2.1 = 3 ∧ t.2.2.2.1 = 47 := Classical.byContradiction fun u => z1 ((isSg hp.2.1 47).mpr u)
      exact ⟨y.1, Or.inr y.2⟩
set_option maxHeartbeats 4000000 in
set_option maxRecDepth 100000 in
theorem pg_X0_times {w : WD} (wk : wOk w) {l : Launch} {tp : Nat → Int32} {L : Nat} {key : Int32} (n : Nat) (IH : ∀ q, q ≤ n → PG w l tp L key yX0_part cX0_part 3 6 q) : PG w l tp L key yX0_times cX0_times 3 5 (n + 1) := by
  intro C t nots pars a r etp hp hr
  have hok := rd_ok _ _ _ _ _ _ _ hp.2.2.1 hr
  rw [rd, if_neg (by decide)] at hr
  obtain ⟨r2, hr2⟩ : ∃ r2, rd tp L key n 6 none nots pars t = some r2 := by
    cases hh : rd tp L key n 6 none nots pars t with
    | none => rw [hh] at hr; cases hr
    | some r2 => exact ⟨r2, rfl⟩
  rw [hr2] at hr
  have hok2 := rd_ok _ _ _ _ _ _ _ hp.2.2.1 hr2
  obtain ⟨b2, c2, a2, t2⟩ := r2
  simp only at hok2
  have hm2 : t.2.1 ≤ t2.2.1 := hok2.2.1
  have rel : (b2 = true → rd tp L key n 5 (some (c2, a2)) nots pars t2 = some r) ∧ (b2 = false → r = (false, c2, a2, t2)) := by
    cases b2 with
    | true => exact ⟨fun _ => hr, (fun z => by cases z)⟩
    | false => exact ⟨(fun z => by cases z), fun _ => (Option.some.inj hr).symm⟩
  have hle2 : t2.2.1 ≤ r.2.2.2.2.1 := by
    cases b2 with
    | true => exact (rd_ok _ _ _ _ _ _ _ hok2.1 (rel.1 rfl)).2.1
    | false => rw [rel.2 rfl]; exact Nat.le_refl _
  have key2 : ∀ (x : Cx) (rm : Room) (Q : State → Prop), xL x = l → Ok w x cX0_times 3 "TwoGuilds" wtT rm → n + 13 ≤ rm.frames → 40 * (n + 13) ≤ rm.locals → (r.1 = true → r.2.2.2.2.1 - t.2.1 ≤ rm.cells ∧ 3 * (r.2.2.2.2.1 - t.2.1) ≤ rm.slots) → (r.1 = false → r.2.2.2.2.1 - t.2.1 + 1 ≤ rm.cells ∧ 3 * (r.2.2.2.2.1 - t.2.1) + 7 ≤ rm.slots) →
      (r.1 = true → ∀ C1 d1, pOkS C key L t nots pars a r d1 C1 → G w x 3 (r.2.2.2.2.1 - t.2.1) (3 * (r.2.2.2.2.1 - t.2.1)) Q C1 49 [(1, .ref d1), (0, .ref (ad w 0))] []) →
      (r.1 = false → ∀ C1 e pc lv st, pOkF C r e C1 → GT w x 3 (r.2.2.2.2.1 - t.2.1 + 1) (3 * (r.2.2.2.2.1 - t.2.1) + 7) Q C1 pc lv st e (fun _ => True)) →
      G w x 3 0 0 Q C 0 [(0, .ref (ad w 0))] [] := by
    intro x rm Q hx ok hf hl rS rF kS kF
    subst hx
    have capN : t2.2.1 - t.2.1 ≤ rm.cells ∧ 3 * (t2.2.1 - t.2.1) ≤ rm.slots := by
      cases hb : r.1 with
      | true => have := rS hb; omega
      | false => have := rF hb; omega
    refine g_aload_n ok 0 dX0_times_0 rfl ?_
    refine g_prs ok (IH n (Nat.le_refl n) C t nots pars a (b2, c2, a2, t2) etp hp hr2) cf_X0_part q1054 (Nat.le_of_ble_eq_true rfl) ⟨by omega, by omega⟩ (fun _ => ⟨by show 0 + (t2.2.1 - _) ≤ _; omega, by show 0 + 3 * (t2.2.1 - _) ≤ _; omega⟩) (fun z => ?_) dX0_times_1 (fun z e2 C4 h4 => ?_) (fun z e2 C4 h4 => ?_)
    · have z : b2 = false := z
      have := rF (by rw [rel.2 z])
      rw [rel.2 z] at this
      simp only at this
      exact ⟨by show 0 + (t2.2.1 - _ + 1) ≤ _; omega, by show 0 + (3 * (t2.2.1 - _) + 7) ≤ _; omega⟩
    · have z : b2 = true := z
      obtain ⟨pe4, hp4, e, he4, ht4⟩ := h4
      simp only at hp4 he4 ht4
      refine g_astore_n ok [(1, .ref e2), (0, .ref (ad w 0))] dX0_times_4 (by decide) rfl ?_
      refine g_widen (t2.2.1 - t.2.1) (3 * (t2.2.1 - t.2.1)) (by show 0 + (t2.2.1 - _) ≤ _; omega) (by show 0 + 3 * (t2.2.1 - _) ≤ _; omega) ?_
      exact lp_X0_times ok n (fun q hq => IH q (by omega)) (by omega) (by omega) C4 t2 nots pars a c2 a2 e2 e r t.2.1 (by rw [pe4.1]; exact etp) hp4 ht4 he4 hm2 (rel.1 z) rS rF (fun y C5 d5 p5 s5 q5 => kS y C5 d5 ⟨pe4.tr p5, s5, q5⟩) (fun y C5 e5 pc5 lv5 st5 p5 => kF y C5 e5 pc5 lv5 st5 (by obtain ⟨C6, p6, p7⟩ := p5; exact ⟨C6, pe4.tr p6, p7⟩))
    · have z : b2 = false := z
      have rr := rel.2 z
      subst rr
      exact gt_widen (c1 := t2.2.1 - t.2.1 + 1) (s1 := 3 * (t2.2.1 - t.2.1) + 7) (by show 0 + (t2.2.1 - _ + 1) ≤ _; omega) (by show 0 + (3 * (t2.2.1 - _) + 7) ≤ _; omega) (kF rfl C4 e2 _ _ _ h4)
  refine ⟨fun hb => ?_, fun hb => ?_⟩
  · refine MC.of wk (by decide) (Nat.le_of_ble_eq_true rfl) (fun x hx ok => ?_)
    refine key2 x _ _ hx ok (by show n + 13 ≤ n + 1 + 12; omega) (by show 40 * (n + 13) ≤ 40 * (n + 1 + 12); omega) (fun _ => ⟨Nat.le_refl _, Nat.le_refl _⟩) (fun z => by rw [hb] at z; cases z) (fun _ C1 d1 h1 => ?_) (fun z => by rw [hb] at z; cases z)
    refine g_aload_n ok 0 dX0_times_49 rfl ?_
    exact g_aret ok dX0_times_50 ⟨d1, rfl, h1⟩
  · refine MT.of wk (by decide) (Nat.le_of_ble_eq_true rfl) (fun x hx ok ht => ?_)
    exact key2 x _ _ hx ok (by show n + 13 ≤ n + 1 + 12; omega) (by show 40 * (n + 13) ≤ 40 * (n + 1 + 12); omega) (fun z => by rw [hb] at z; cases z) (fun _ => ⟨Nat.le_refl _, Nat.le_refl _⟩) (fun z => by rw [hb] at z; cases z) (fun _ C1 e pc lv st h1 => gt_leave ok ht (fun _ _ _ => h1))
