/-! System.arraycopy between things; a row of its own -/
def pcy (C : CS) (o1 o2 : Option Nat) (s d n : Nat) : Prop := ((tgO C o1 = 104 ∧ tgO C o2 = 104 ∧ ∀ i, i < n → fits .short (.int (atS C o1 (s + i))) = true) ∨ (tgO C o1 = 105 ∧ tgO C o2 = 105)) ∧ s + n ≤ lnO C o1 ∧ d + n ≤ lnO C o2 ∧ lnO C o1 ≤ 24 ∧ lnO C o2 ≤ 24
def cyO (C : CS) (o1 o2 : Option Nat) (s d n : Nat) : CS := match o1, o2 with
  | some a0, some a => if tgO C (some a) = 104 then cyS C a0 a s d n else cyF C a0 a s d n
  | _, _ => C
theorem g_cpO {w : WD} {x : Cx} {cc : ByteArray} {nL : Nat} {own : String} {ret : Option FieldType} {rm : Room} {cells slots : Nat} {Q : State → Prop} {C : CS} {pc : Nat} {lv : List (Nat × Value)} {st : List Value} (ok : Ok w x cc nL own ret rm) {o1 o2 : Option Nat} {s d n : Nat} {i1 i2 i3 : Int32} (h : i1 = nI s ∧ i2 = nI d ∧ i3 = nI n ∧ pcy C o1 o2 s d n) {index : Nat} (ql : Cond.methodLink own index arraycopyName ∈ lw_all) (hR : 1 ≤ rm.frames ∧ 30 ≤ rm.locals) (hw : (st.map fun v => v.category).sum ≤ 8) (dd : decode cc pc = .ok (.invokestatic index, 3))
    (kk : ∀ C1, C1 = cyO C o1 o2 s d n → G w x nL cells slots Q C1 (pc + 3) lv st) : G w x nL cells slots Q C pc lv (.int i3 :: .int i2 :: va_rf o2 :: .int i1 :: va_rf o1 :: st) := by
  obtain ⟨e1, e2, e3, ht, hs, hd, b1, b2⟩ := h
  rw [e1, e2, e3]
  rcases ht with ⟨t1, t2, hf⟩ | ⟨t1, t2⟩
  · obtain ⟨a1, rfl, f1⟩ := tgO.get t1 (by decide)
    obtain ⟨a2, rfl, f2⟩ := tgO.get t2 (by decide)
    refine g_cpS ok (h0 := f1) (ha := f2) hs hd hf (by omega) (by omega) ql hR hw dd (fun C1 e => kk C1 ?_)
    rw [e]
    show _ = if tgO C (some a2) = 104 then _ else _
    rw [if_pos t2]
  · obtain ⟨a1, rfl, f1⟩ := tgO.get t1 (by decide)
    obtain ⟨a2, rfl, f2⟩ := tgO.get t2 (by decide)
    refine g_cpF ok (h0 := f1) (ha := f2) hs hd (by omega) (by omega) ql hR hw dd (fun C1 e => kk C1 ?_)
    rw [e]
    show _ = if tgO C (some a2) = 104 then _ else _
    rw [if_neg (by rw [t2]; decide)]
/-- the same, elsewhere -/
theorem tgO_new {C C1 : CS} {o : Option Nat} {a : Nat} (ha : cT C a = none) (ho : tgO C o ≠ 0) (h : ∀ b, b ≠ a → cT C1 b = cT C b) : tgO C1 o = tgO C o ∧ lnO C1 o = lnO C o ∧ ∃ b, o = some b ∧ b ≠ a := by
  obtain ⟨b, rfl, e⟩ := tgO.get rfl ho
  have hb : b ≠ a := fun z => by rw [z] at e; have e : cT C a = _ := e; rw [ha] at e; cases e
  have e2 : cT C1 b = _ := (h b hb).trans e
  obtain ⟨q1, q2⟩ := tgO.of e2
  exact ⟨q1, q2, b, rfl, hb⟩
theorem nwS_T {C : CS} {a n b : Nat} (h : b ≠ a) : cT (nwS C a n) b = cT C b := if_neg h
theorem nwF_T {C : CS} {a n b : Nat} (h : b ≠ a) : cT (nwF C a n) b = cT C b := if_neg h
theorem nwS_a {C : CS} {a n : Nat} : cT (nwS C a n) a = some (104, n) := if_pos rfl
theorem nwF_a {C : CS} {a n : Nat} : cT (nwF C a n) a = some (105, n) := if_pos rfl
theorem nwS_at {C : CS} {a n b : Nat} (h : b ≠ a) (i : Nat) : atS (nwS C a n) (some b) i = atS C (some b) i := if_neg h
def agW (C : CS) (o : Option Nat) (a : Nat) : CS := cyO (if tgO C o = 104 then nwS C a (lnO C o) else nwF C a (lnO C o)) o (some a) 0 0 (lnO C o)
theorem cf_X0_again : CfS yX0_again cX0_again 3 (some (.object "java/lang/Object")) 1 := ⟨⟨by decide, by decide, by decide⟩, q72, q1259, q1258⟩
def p_X0_again (C : CS) (a0 : Option Nat) : Prop := ∃ f, rwC C a0 f
def q_X0_again (C : CS) (a0 : Option Nat) (a : Nat) (C1 : CS) : Prop := cT C a = none ∧ C1 = agW C a0 a
def wp_X0_again (Post : Nat → CS → Prop) (C : CS) (a0 : (Option Nat)) : Prop :=
  p_X0_lengthOf C a0 ∧
    (∀ r2 : Int32, r2 = (v_X0_lengthOf C a0) → 
    thO C a0 ∧
    (∀ r4 : Int32, r4 = (isO C a0 104) → 
    (r4 = 0 → 
    ∃ (n6 : Nat), (r2 = nI n6 ∧ n6 ≤ 24) ∧
      (∀ d8 : Nat, 
      cT C d8 = none → 
      ∀ C9 : CS, C9 = (nwF C d8 n6) → 
      ∃ (g10 : Nat) (g11 : Nat) (g12 : Nat), (0 = nI g10 ∧ 0 = nI g11 ∧ r2 = nI g12 ∧ pcy C9 a0 (some d8) g10 g11 g12) ∧
      (∀ C14 : CS, C14 = (cyO C9 a0 (some d8) g10 g11 g12) → 
      Post d8 C14))) ∧
    (¬ r4 = 0 → 
    ∃ (n15 : Nat), (r2 = nI n15 ∧ n15 ≤ 24) ∧
      (∀ d17 : Nat, 
      cT C d17 = none → 
      ∀ C18 : CS, C18 = (nwS C d17 n15) → 
      ∃ (g19 : Nat) (g20 : Nat) (g21 : Nat), (0 = nI g19 ∧ 0 = nI g20 ∧ r2 = nI g21 ∧ pcy C18 a0 (some d17) g19 g20 g21) ∧
      (∀ C23 : CS, C23 = (cyO C18 a0 (some d17) g19 g20 g21) → 
      Post d17 C23)))))
set_option maxHeartbeats 4000000 in
set_option maxRecDepth 100000 in
theorem gw_X0_again {w : WD} (wk : wOk w) (l : Launch) (C : CS) (a0 : (Option Nat)) {Post : Nat → CS → Prop} (hw : wp_X0_again Post C a0) : MC w l yX0_again cX0_again 3 (some (.object "java/lang/Object")) 3 1 24 [va_rf a0] C (pRR Post) := by
  unfold wp_X0_again at hw
  refine MC.of wk (by decide) (by cases a0 <;> exact Nat.le_of_ble_eq_true rfl) (fun x hx ok => ?_)
  subst hx
  rw [show lv_args 0 [va_rf a0] = [(0, va_rf a0)] from by cases a0 <;> rfl]
  show G w x 3 0 0 (QM w x _ 1 24) C 0 [(0, va_rf a0)] []
  refine g_oload_n ok 0 dX0_again_0 rfl ?_
  obtain ⟨hp1, hw⟩ := hw
  refine g_callS ok [va_rf a0] cf_X0_lengthOf q803 (mc_X0_lengthOf ok.wo (xL x) C a0 hp1) rfl rfl (Nat.le_of_ble_eq_true rfl) ⟨by decide, by decide⟩ ⟨by decide, by decide⟩ dX0_again_1 (resI ?_)
  refine g_nmI (fun r2 er2 => ?_)
  have hw := hw r2 er2
  refine g_istore_n0 ok [(1, .int r2), (0, va_rf a0)] dX0_again_4 (by decide) (by generalize a0 = o9; cases o9 <;> rfl) ?_
  refine g_oload_n ok 1 dX0_again_5 rfl ?_
  obtain ⟨hf3, hw⟩ := hw
  refine g_inst (o := a0) ok hf3 (t := 104) (by decide) q806 dX0_again_6 ?_
  refine g_nmI (fun r4 er4 => ?_)
  have hw := hw r4 er4
  refine g_if_eq (tgt := 18) ok dX0_again_9 (by decide) (fun c5 => ?_) (fun c5 => ?_)
  · have hw := hw.1 c5
    refine g_iload_n ok 0 dX0_again_18 rfl ?_
    obtain ⟨n6, hc7, hw⟩ := hw
    refine g_newF24 ok hc7 ⟨by show 0 + 1 ≤ 1; omega, by show 0 + 24 ≤ 24; omega⟩ dX0_again_19 (fun d8 hd8 => ?_)
    refine g_nmC (fun C9 eC9 => ?_)
    have hw := hw d8 hd8 C9 eC9
    refine g_astore_n ok [(2, .ref d8), (1, .int r2), (0, va_rf a0)] dX0_again_21 (by decide) rfl ?_
    refine g_oload_n ok 2 dX0_again_22 rfl ?_
    refine g_iconst (v := 0) ok dX0_again_23 (by decide) ?_
    refine g_aload_n ok 0 dX0_again_24 rfl ?_
    refine g_iconst (v := 0) ok dX0_again_25 (by decide) ?_
    refine g_iload_n ok 1 dX0_again_26 rfl ?_
    obtain ⟨g10, g11, g12, hy13, hw⟩ := hw
    refine g_cpO (o1 := a0) (o2 := (some d8)) ok hy13 q1248 ⟨by decide, by decide⟩ (Nat.le_of_ble_eq_true rfl) dX0_again_27 (fun C14 eC14 => ?_)
    have hw := hw C14 eC14
    refine g_aload_n ok 0 dX0_again_30 rfl ?_
    exact g_aret ok dX0_again_31 ⟨_, rfl, hw⟩
  · have hw := hw.2 c5
    refine g_iload_n ok 0 dX0_again_12 rfl ?_
    obtain ⟨n15, hc16, hw⟩ := hw
    refine g_newS24 ok hc16 ⟨by show 0 + 1 ≤ 1; omega, by show 0 + 24 ≤ 24; omega⟩ dX0_again_13 (fun d17 hd17 => ?_)
    refine g_nmC (fun C18 eC18 => ?_)
    have hw := hw d17 hd17 C18 eC18
    refine g_goto (tgt := 21) ok dX0_again_15 (by decide) ?_
    refine g_astore_n ok [(2, .ref d17), (1, .int r2), (0, va_rf a0)] dX0_again_21 (by decide) rfl ?_
    refine g_oload_n ok 2 dX0_again_22 rfl ?_
    refine g_iconst (v := 0) ok dX0_again_23 (by decide) ?_
    refine g_aload_n ok 0 dX0_again_24 rfl ?_
    refine g_iconst (v := 0) ok dX0_again_25 (by decide) ?_
    refine g_iload_n ok 1 dX0_again_26 rfl ?_
    obtain ⟨g19, g20, g21, hy22, hw⟩ := hw
    refine g_cpO (o1 := a0) (o2 := (some d17)) ok hy22 q1248 ⟨by decide, by decide⟩ (Nat.le_of_ble_eq_true rfl) dX0_again_27 (fun C23 eC23 => ?_)
    have hw := hw C23 eC23
    refine g_aload_n ok 0 dX0_again_30 rfl ?_
    exact g_aret ok dX0_again_31 ⟨_, rfl, hw⟩
theorem sp_X0_again (C : CS) (a0 : Option Nat) (hp : p_X0_again C a0) : wp_X0_again (q_X0_again C a0) C a0 := by
  obtain ⟨f, hr⟩ := hp
  have hl := hr.1
  refine ⟨hr.r, fun r e => ?_⟩
  have e : r = nI (lnO C a0) := e
  refine ⟨hr.r.th, fun r2 e2 => ⟨fun c => ?_, fun c => ?_⟩⟩
  · rw [e2, isO0, sub_S] at c
    have t5 : tgO C a0 = 105 := hr.r.resolve_left c
    refine ⟨lnO C a0, ⟨e, hl⟩, fun d hd C1 e1 => ?_⟩
    obtain ⟨q1, q2, b, rfl, hb⟩ := tgO_new (C1 := C1) (o := a0) hd (by rw [t5]; decide) (fun b hb => by rw [e1]; exact nwF_T hb)
    obtain ⟨w1, w2⟩ := tgO.of (C := C1) (a := d) (t := 105) (n := lnO C (some b)) (by rw [e1]; exact nwF_a)
    refine ⟨0, 0, lnO C (some b), ⟨rfl, rfl, e, Or.inr ⟨by rw [q1]; exact t5, w1⟩, by rw [q2]; omega, by rw [w2]; omega, by rw [q2]; exact hl, by rw [w2]; exact hl⟩, fun C2 e3 => ⟨hd, ?_⟩⟩
    rw [e3]
    unfold agW
    rw [if_neg c, e1]
  · rw [e2, isO0] at c
    have t4 : tgO C a0 = 104 := (sub_S _).mp (Classical.byContradiction c)
    refine ⟨lnO C a0, ⟨e, hl⟩, fun d hd C1 e1 => ?_⟩
    obtain ⟨q1, q2, b, rfl, hb⟩ := tgO_new (C1 := C1) (o := a0) hd (by rw [t4]; decide) (fun b hb => by rw [e1]; exact nwS_T hb)
    obtain ⟨w1, w2⟩ := tgO.of (C := C1) (a := d) (t := 104) (n := lnO C (some b)) (by rw [e1]; exact nwS_a)
    refine ⟨0, 0, lnO C (some b), ⟨rfl, rfl, e, Or.inl ⟨by rw [q1]; exact t4, w1, fun i hi => ?_⟩, by rw [q2]; omega, by rw [w2]; omega, by rw [q2]; exact hl, by rw [w2]; exact hl⟩, fun C2 e3 => ⟨hd, ?_⟩⟩
    · rw [e1, nwS_at hb, Nat.zero_add]
      rcases hr.2 with ⟨-, z⟩ | ⟨z, -⟩
      · rw [(z i hi).1]; exact (z i hi).2
      · rw [t4] at z; exact absurd z (by decide)
    · rw [e3]
      unfold agW
      rw [if_pos t4, e1]
theorem mc_X0_again {w : WD} (wk : wOk w) (l : Launch) (C : CS) (a0 : (Option Nat)) (hp : p_X0_again C a0) : MC w l yX0_again cX0_again 3 (some (.object "java/lang/Object")) 3 1 24 [va_rf a0] C (pRR (q_X0_again C a0)) :=  (gw_X0_again wk l C a0 (sp_X0_again C a0 hp))
