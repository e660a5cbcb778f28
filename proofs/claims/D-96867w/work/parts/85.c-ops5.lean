/-- one glove of a table is another one, or otherwise -/
theorem TR.one {C C1 : CS} {j k : Nat} {r r1 : Nat → Int32} (h : TR C j r) (e1 : C1.1 j = C.1 j) (f2 : ∀ i, i < 10 → C1.2.1 (15 + 4 * (j - 2)) i = C.2.1 (15 + 4 * (j - 2)) i) (f3 : ∀ i, i < 10 → C1.2.1 (16 + 4 * (j - 2)) i = C.2.1 (16 + 4 * (j - 2)) i) (f5 : ∀ i, i < 14 → cG C1 (18 + 4 * (j - 2)) i = cG C (18 + 4 * (j - 2)) i) (hx : keepX C C1) (hk : k < 10) (hr : ∀ i, (i < 16 + 6 * k ∨ 22 + 6 * k ≤ i) → r1 i = r i)
    (ho : ∀ k2 a, k2 < 10 → k2 ≠ k → cG C (17 + 4 * (j - 2)) k2 = some a → cG C1 (17 + 4 * (j - 2)) k2 = some a ∧ keepG C C1 a) (hn : ∃ a, cG C1 (17 + 4 * (j - 2)) k = some a ∧ glR C1 a r1 k) : TR C1 j r1 := by
  obtain ⟨t0, t1, t2, t3, t4, t5⟩ := h.n
  refine ⟨⟨by rw [e1, hr _ (by omega)]; exact t0, by rw [e1, hr _ (by omega)]; exact t1, by rw [e1, hr _ (by omega)]; exact t2, by rw [e1, hr _ (by omega)]; exact t3, by rw [e1, hr _ (by omega)]; exact t4, by rw [e1, hr _ (by omega)]; exact t5⟩, ?_, h.w.keep (hr _ (by omega)) (fun i _ _ => hr _ (by omega)) f2 f3, h.t.keep (hr _ (by omega)) (fun i _ => hr _ (by omega)) f5 hx⟩
  obtain ⟨N, e, hN, hg⟩ := h.g
  refine ⟨N, by rw [hr _ (by omega)]; exact e, hN, fun k2 hk2 => ?_⟩
  by_cases c : k2 = k
  · subst c; exact hn
  · obtain ⟨a, q1, q2⟩ := hg k2 hk2
    obtain ⟨z1, z2⟩ := ho k2 a (by omega) c q1
    exact ⟨a, z1, (q2.keep z2).row (fun i _ _ => hr _ (by omega))⟩
theorem cf_X0_turns : CfV yX0_turns "TwoGuilds" cX0_turns 4 (some .int) 2 := ⟨⟨by decide, by decide, by decide⟩, q72, q565, q563, q564⟩
def p_X0_turns (C : CS) (a0 a1 : Int32) : Prop := opP C
def v_X0_turns (C : CS) (a0 a1 : Int32) : Int32 := v_X3_turns C a0 a1
def q_X0_turns (C : CS) (a0 a1 : Int32) (C1 : CS) : Prop := tOp C C1 ((n_X3_turns C a0 a1).2.1 36)
def wp_X0_turns (Post : Int32 → CS → Prop) (C : CS) (a0 : Int32) (a1 : Int32) : Prop :=
  p_X0_isGlove C a0 ∧
    (∀ r2 : Int32, r2 = (v_X0_isGlove C a0) → 
    (r2 = 0 → 
    Post (-1000000001) C) ∧
    (¬ r2 = 0 → 
    ∀ r4 : Int32, r4 = (v_X0_isIn (Int32.toInt64 a1) 0 5) → 
      (r4 = 0 → 
      Post (-1000000001) C) ∧
      (¬ r4 = 0 → 
      isTb (cN C) ∧
        (vp_in a0 10 ∧
        (∃ d8 : Nat, (cG C (17 + 4 * ((cN C) - 2)) (Int32.toNatClampNeg a0)) = some d8 ∧
        (∃ (g9 : Nat), p_X0_made C a1 g9 ∧
        (∀ d11 : Nat, 
        ∀ C12 : CS, q_X0_made C a1 g9 d11 C12 → 
        isGl C12 d11 ∧
        (p_X4_like C12 d11 d8 ∧
        (∀ d15 : Nat, 
        ∀ C16 : CS, q_X4_like C12 d11 d8 d15 C16 → 
        isGl C16 d15 ∧
        (∀ C18 : CS, C18 = (wG C16 (17 + 4 * ((cN C) - 2)) (Int32.toNatClampNeg a0) (some d15)) → 
        p_GL_kind C18 d8 ∧
        (∀ r20 : Int32, r20 = (v_GL_kind C18 d8) → 
        Post r20 C18)))))))))))
set_option maxHeartbeats 4000000 in
set_option maxRecDepth 100000 in
theorem gw_X0_turns {w : WD} (wk : wOk w) (l : Launch) (C : CS) (a0 : Int32) (a1 : Int32) {Post : Int32 → CS → Prop} (hw : wp_X0_turns Post C a0 a1) : MC w l yX0_turns cX0_turns 4 (some .int) 6 1 8 [.ref (ad w 0), .int a0, .int a1] C (fun v C1 => ∃ r : Int32, v = some (.int r) ∧ Post r C1) := by
  unfold wp_X0_turns at hw
  refine MC.of wk (by decide) (Nat.le_of_ble_eq_true rfl) (fun x hx ok => ?_)
  subst hx
  show G w x 4 0 0 (QM w x _ 1 8) C 0 [(0, .ref (ad w 0)), (1, .int a0), (2, .int a1)] []
  refine g_aload_n ok 0 dX0_turns_0 rfl ?_
  refine g_iload_n ok 1 dX0_turns_1 rfl ?_
  obtain ⟨hp1, hw⟩ := hw
  refine g_callV ok [.int a0] cf_X0_isGlove q411 (mc_X0_isGlove ok.wo (xL x) C a0 hp1) (recvF ok 0 rfl rfl) rfl rfl (Nat.le_of_ble_eq_true rfl) ⟨by decide, by decide⟩ ⟨by decide, by decide⟩ dX0_turns_2 (resI ?_)
  refine g_nmI (fun r2 er2 => ?_)
  have hw := hw r2 er2
  refine g_if_eq (tgt := 20) ok dX0_turns_5 (by decide) (fun c3 => ?_) (fun c3 => ?_)
  · have hw := hw.1 c3
    refine g_ldc (v := -1000000001) ok q274 dX0_turns_20 ?_
    refine g_widen 1 8 (by omega) (by omega) ?_
    exact g_iret ok dX0_turns_22 ⟨_, rfl, hw⟩
  · have hw := hw.2 c3
    refine g_iload_n ok 2 dX0_turns_8 rfl ?_
    refine g_i2l ok dX0_turns_9 ?_
    refine g_lconst (v := 0) ok dX0_turns_10 (by decide) ?_
    refine g_ldc2 (v := 5) ok q268 dX0_turns_11 ?_
    refine g_callS ok [.long (Int32.toInt64 a1), .long 0, .long 5] cf_X0_isIn q269 (mc_X0_isIn ok.wo (xL x) C (Int32.toInt64 a1) 0 5) rfl rfl (Nat.le_of_ble_eq_true rfl) ⟨by decide, by decide⟩ ⟨by decide, by decide⟩ dX0_turns_14 (resI ?_)
    refine g_nmI (fun r4 er4 => ?_)
    have hw := hw r4 er4
    refine g_if_ne (tgt := 23) ok dX0_turns_17 (by decide) (fun c5 => ?_) (fun c5 => ?_)
    · have hw := hw.2 c5
      refine g_aload_n ok 0 dX0_turns_23 rfl ?_
      refine g_get ok 0 rfl rfl in_X0 0 (by decide) q180 rfl dX0_turns_24 ?_
      obtain ⟨hf6, hw⟩ := hw
      refine g_get ok (cN C) (fObjT hf6) rfl in_X1 8 (by decide) q140 rfl dX0_turns_27 ?_
      refine g_iload_n ok 1 dX0_turns_30 rfl ?_
      obtain ⟨hf7, hw⟩ := hw
      obtain ⟨d8, ed8, hw⟩ := hw
      refine g_rald (v := .ref d8) ok _ (fRefG hf6) (Or.inl rfl) hf7 (congrArg va_rf ed8) dX0_turns_31 ?_
      refine g_astore_n ok [(3, .ref d8), (0, .ref (ad w 0)), (1, .int a0), (2, .int a1)] dX0_turns_32 (by decide) rfl ?_
      refine g_aload_n ok 1 dX0_turns_33 rfl ?_
      refine g_get ok 0 rfl rfl in_X0 0 (by decide) q180 rfl dX0_turns_34 ?_
      refine g_get ok (cN C) (fObjT hf6) rfl in_X1 8 (by decide) q140 rfl dX0_turns_37 ?_
      refine g_iload_n ok 2 dX0_turns_40 rfl ?_
      refine g_aload_n ok 1 dX0_turns_41 rfl ?_
      refine g_iload_n ok 3 dX0_turns_42 rfl ?_
      obtain ⟨g9, hp10, hw⟩ := hw
      refine g_callV ok [.int a1] cf_X0_made q280 (mc_X0_made ok.wo (xL x) C a1 g9 hp10) (recvF ok 0 rfl rfl) rfl rfl (Nat.le_of_ble_eq_true rfl) ⟨by decide, by decide⟩ ⟨by show 0 + 1 ≤ 1; omega, by show 0 + 8 ≤ 8; omega⟩ dX0_turns_43 (resRR fun d11 C12 eC12 => ?_)
      have hw := hw d11 C12 eC12
      refine g_aload_n ok 0 dX0_turns_46 rfl ?_
      obtain ⟨hf14, hw⟩ := hw
      obtain ⟨hp13, hw⟩ := hw
      refine g_callG ok [.ref d8] cfG_X4_like q566 (mc_X4_like ok.wo (xL x) C12 d11 d8 hp13) hf14 rfl rfl (Nat.le_of_ble_eq_true rfl) ⟨by decide, by decide⟩ ⟨by decide, by decide⟩ dX0_turns_47 (resRR fun d15 C16 eC16 => ?_)
      have hw := hw d15 C16 eC16
      obtain ⟨hf17, hw⟩ := hw
      refine g_gast ok (fRefG hf6) hf7 hf17 dX0_turns_50 (fun C18 eC18 => ?_)
      have hw := hw C18 eC18
      refine g_aload_n ok 0 dX0_turns_51 rfl ?_
      obtain ⟨hp19, hw⟩ := hw
      refine g_GL_kind ok hp19 q415 ⟨by decide, by decide⟩ (Nat.le_of_ble_eq_true rfl) ⟨by decide, by decide⟩ dX0_turns_52 ?_
      refine g_nmI (fun r20 er20 => ?_)
      have hw := hw r20 er20
      exact g_iret ok dX0_turns_55 ⟨_, rfl, hw⟩
    · have hw := hw.1 c5
      refine g_ldc (v := -1000000001) ok q274 dX0_turns_20 ?_
      refine g_widen 1 8 (by omega) (by omega) ?_
      exact g_iret ok dX0_turns_22 ⟨_, rfl, hw⟩
theorem g6k (k : Nat) (h : k < 10) : (16 + 6 * nI k : Int32) = nI (16 + 6 * k) := by
  have : ∀ k, k < 10 → (16 + 6 * nI k : Int32) = nI (16 + 6 * k) := by decide
  exact this k h
theorem glR.i {C : CS} {a k : Nat} {r : Nat → Int32} (h : glR C a r k) : glI r k := h.2.2.2.2.2.2.2
theorem glR.b5 {C : CS} {a k : Nat} {r : Nat → Int32} (h : glR C a r k) : cDI C 44 a = 0 ∨ cDI C 44 a = 1 := by
  obtain ⟨-, -, -, -, -, -, g7, -, -, -, -, l, hl, el⟩ := h
  rw [g7, el]
  have : l = 0 ∨ l = 1 := by omega
  rcases this with h | h <;> subst h
  · exact Or.inl rfl
  · exact Or.inr rfl
theorem sp_X0_turns (C : CS) (a0 a1 : Int32) (hp : p_X0_turns C a0 a1) : wp_X0_turns (fun x C1 => x = v_X0_turns C a0 a1 ∧ q_X0_turns C a0 a1 C1) C a0 a1 := by
  have hp : opP C := hp
  unfold v_X0_turns v_X3_turns q_X0_turns n_X3_turns
  refine ⟨⟨hp.1.1, trivial⟩, fun r2 e2 => ⟨fun c => ?_, fun c => ?_⟩⟩
  all_goals rw [e2, hp.isG] at c
  · rw [if_pos c, if_pos c]; exact ⟨rfl, tOp.rf hp⟩
  rw [if_neg c, if_neg c]
  obtain ⟨k, b, hk, e, hb, hg⟩ := hp.gl c
  subst e
  refine fun r4 e4 => ⟨fun c4 => ?_, fun c4 => ?_⟩
  all_goals rw [e4, isIn0 _ 5 5 rfl] at c4
  · rw [if_pos c4, if_pos c4]; exact ⟨rfl, tOp.rf hp⟩
  rw [if_neg c4, if_neg c4]
  obtain ⟨m, hm, rfl⟩ := in_nI (m := 5) (by decide) c4
  have hj := hp.1.1
  refine ⟨hj, vp_k hk, b, by rw [cl_k (by omega)]; exact hb, m, ⟨hm, rfl⟩, fun d C12 h12 => ?_⟩
  obtain ⟨hd, e12⟩ := h12
  obtain ⟨bc, bn, bt, b4, b9⟩ := hg.1
  have bd : b ≠ d := fun h => by rw [h] at bt; rw [show C.2.2.2.2.2.1 d = none from hd] at bt; cases bt
  have gd : isGl C12 d := ⟨4 + m, 0, by rw [e12]; exact nwC_T C d _, by omega, by omega⟩
  have gb : isGl C12 b := hg.1.keep (by rw [e12]; exact nwC_Tn bd)
  have kb : ∀ q, cDI C12 q b = cDI C q b := fun q => by rw [e12]; exact nwC_In q bd
  refine ⟨gd, ⟨gd, gb, by rw [kb]; exact hg.b5⟩, fun d15 C16 h16 => ?_⟩
  obtain ⟨rfl, l1, l2, l3, l4, l5, l6, l7, l8, l9⟩ := h16
  have gd16 : isGl C16 d15 := gd.keep (by show C16.2.2.2.2.2.1 _ = _; rw [l6])
  refine ⟨gd16, fun C18 e18 => ?_⟩
  rw [cl_k (by omega)] at e18
  have t18 : C18.2.2.2.2.2.1 = C12.2.2.2.2.2.1 := by rw [e18]; exact l6
  have T18 : ∀ a tg, cT C a = some tg → cT C18 a = some tg := by
    intro a tg h
    show C18.2.2.2.2.2.1 a = _
    rw [t18, e12]
    exact (nwC_Tn (fun hh => by rw [hh, hd] at h; cases h)).trans h
  have gb18 : isGl C18 b := by exact ⟨bc, bn, T18 b _ bt, b4, b9⟩
  refine ⟨gb18, fun r20 e20 => ?_⟩
  have G18 : ∀ x y, cG C18 x y = if x = 17 + 4 * (cN C - 2) ∧ y = k then some d15 else cG C x y := by
    intro x y
    rw [e18]
    show (if x = 17 + 4 * (cN C - 2) ∧ y = k then some d15 else C16.2.2.1 x y) = _
    rw [l3, e12]
    rfl
  have G1 : cG C18 (17 + 4 * (cN C - 2)) k = some d15 := by rw [G18, if_pos ⟨rfl, rfl⟩]
  have o18 : ∀ q a, a ≠ d15 → cDI C18 q a = cDI C q a := fun q a ha => by
    rw [e18]
    show cDI C16 q a = _
    rw [l9 q a ha, e12]
    exact nwC_In q ha
  have n18 : ∀ q, q < 5 → cDI C18 (40 + q) d15 = cDI C (40 + q) b := fun q hq => by
    rw [e18]
    show cDI C16 (40 + q) d15 = _
    rw [l8 q hq, kb]
  have x18 : C18.2.2.2.2.2.2.2 = C12.2.2.2.2.2.2.2 := by rw [e18]; exact l7
  have s18 : ∀ a, a ≠ d15 → sameD C18 C a := by
    intro a ha
    refine ⟨fun q => o18 q a ha, fun q => ?_, fun i => ?_, fun i => ?_⟩
    · rw [x18, e12]; exact nwC_Rn (tg := 4 + m) q ha
    · rw [x18, e12]; rfl
    · rw [x18, e12]; rfl
  have gd18 : isGl C18 d15 := gd.keep (by show C18.2.2.2.2.2.1 _ = _; rw [t18])
  have tE18 : tE (cN C) C C18 := by
    refine ⟨fun i _ => by rw [e18]; show C16.1 i = _; rw [l1, e12]; rfl, fun i _ _ _ => by rw [e18]; show C16.2.1 i = _; rw [l2, e12]; rfl, fun i hi => ?_, by rw [e18]; show C16.2.2.2.1 = _; rw [l4, e12]; rfl, by rw [e18]; show C16.2.2.2.2.1 = _; rw [l5, e12]; rfl, T18, fun a tg h _ => s18 a (fun hh => by rw [hh, hd] at h; cases h), fun i a hi h => ?_⟩
    · funext y
      have := G18 i y
      rw [if_neg (fun h => hi h.1)] at this
      exact this
    · rw [G18] at h
      by_cases c : i = k
      · rw [if_pos ⟨rfl, c⟩] at h
        cases h
        exact Or.inl hd
      · rw [if_neg (fun hh => c hh.2)] at h
        exact Or.inr ⟨i, hi, h⟩
  refine ⟨?_, ?_, tE18, hp.2.put hj hk hd gd18 T18 G1 (fun j2 k2 hj2 hk2 hn => ?_)⟩
  · unfold v_X3_becomes
    rw [e20, g6k k hk, cl_k (by omega), ← hg.2.1]
    exact kdG.keep ((T18 b _ bt).trans bt.symm)
  · unfold n_X3_becomes
    rw [g6k k hk, cl_k (by omega), upd_w]
    refine hp.1.2.one (by rw [e18]; show C16.1 _ = _; rw [l1, e12]; rfl) (fun i _ => by rw [e18]; show C16.2.1 _ _ = _; rw [l2, e12]; rfl) (fun i _ => by rw [e18]; show C16.2.1 _ _ = _; rw [l2, e12]; rfl) (fun i _ => by rw [G18, if_neg (by omega)]) (tE18.keepX hj hp.2) hk (fun i hi => upd_n (by omega)) (fun k2 a hk2 hne ha => ⟨by rw [G18, if_neg (fun h => hne h.2)]; exact ha, ?_⟩) ⟨d15, G1, gd18, ?_, ?_, ?_, ?_, ?_, ?_, ?_⟩
    · obtain ⟨ac, an, at', -⟩ := hp.2.1 _ _ _ hj hk2 ha
      have ad : a ≠ d15 := fun h => by rw [h] at at'; rw [show C.2.2.2.2.2.1 d15 = none from hd] at at'; cases at'
      exact ⟨(T18 a _ at').trans at'.symm, fun q _ => o18 _ a ad⟩
    · rw [upd_s]
      show nI _ = _
      rw [kdN_t (c := 4 + m) (n := 0) (by show C18.2.2.2.2.2.1 d15 = _; rw [t18, e12]; exact nwC_T C d15 _)]
      congr 1
      omega
    · rw [n18 0 (by omega), upd_n (by omega)]; exact hg.2.2.1
    · rw [n18 1 (by omega), upd_n (by omega)]; exact hg.2.2.2.1
    · rw [n18 2 (by omega), upd_n (by omega)]; exact hg.2.2.2.2.1
    · rw [n18 3 (by omega), upd_n (by omega)]; exact hg.2.2.2.2.2.1
    · rw [n18 4 (by omega), upd_n (by omega)]; exact hg.2.2.2.2.2.2.1
    · obtain ⟨i1, i2, i3, i4, i5⟩ := hg.i
      exact ⟨by rw [upd_n (by omega)]; exact i1, by rw [upd_n (by omega)]; exact i2, by rw [upd_n (by omega)]; exact i3, by rw [upd_n (by omega)]; exact i4, by rw [upd_n (by omega)]; exact i5⟩
  · rw [G18, if_neg (fun h => hn ⟨?_, h.2⟩)]
    unfold isTb at hj2 hj
    omega
theorem mc_X0_turns {w : WD} (wk : wOk w) (l : Launch) (C : CS) (a0 : Int32) (a1 : Int32) (hp : p_X0_turns C a0 a1) : MC w l yX0_turns cX0_turns 4 (some .int) 6 1 8 [.ref (ad w 0), .int a0, .int a1] C (pIR (v_X0_turns C a0 a1) (q_X0_turns C a0 a1)) := MC.postIR (gw_X0_turns wk l C a0 a1 (sp_X0_turns C a0 a1 hp))
theorem cf_X0_set : CfV yX0_set "TwoGuilds" cX0_set 6 (some .int) 3 := ⟨⟨by decide, by decide, by decide⟩, q72, q579, q577, q578⟩
def p_X0_set (C : CS) (a0 a1 a2 : Int32) : Prop := opP C
def v_X0_set (C : CS) (a0 a1 a2 : Int32) : Int32 := v_X3_set C a0 a1 a2
def q_X0_set (C : CS) (a0 a1 a2 : Int32) (C1 : CS) : Prop := tOp C C1 ((n_X3_set C a0 a1 a2).2.1 36)
def wp_X0_set (Post : Int32 → CS → Prop) (C : CS) (a0 : Int32) (a1 : Int32) (a2 : Int32) : Prop :=
  p_X0_isGlove C a0 ∧
    (∀ r2 : Int32, r2 = (v_X0_isGlove C a0) → 
    (r2 = 0 → 
    Post (-1000000001) C) ∧
    (¬ r2 = 0 → 
    ∀ r4 : Int32, r4 = (v_X0_isIn (Int32.toInt64 a1) 1 5) → 
      (r4 = 0 → 
      Post (-1000000001) C) ∧
      (¬ r4 = 0 → 
      ∀ x12 : Int64, x12 = (if a1 = 1 then (1 : Int64) else (if a1 = 5 then (1 : Int64) else (if a1 = 2 then (9 : Int64) else 99))) → 
        ∀ r13 : Int32, r13 = (v_X0_isIn (Int32.toInt64 a2) 0 x12) → 
        (r13 = 0 → 
        Post (-1000000001) C) ∧
        (¬ r13 = 0 → 
        p_X0_told C a0 a1 ∧
          (∀ r16 : Int32, r16 = (v_X0_told C a0 a1) → 
          isTb (cN C) ∧
          (vp_in a0 10 ∧
          (∃ d19 : Nat, (cG C (17 + 4 * ((cN C) - 2)) (Int32.toNatClampNeg a0)) = some d19 ∧
          (((a1 = 1 → 
            True) ∧
            (¬ a1 = 1 → 
            isGl C d19 ∧
              (True))) ∧
          (∀ x23 : Int32, x23 = (if a1 = 1 then a2 else (cDI C 40 d19)) → 
          isGl C d19 ∧
          (∀ C25 : CS, C25 = (wDI C 40 d19 x23) → 
          ((a1 = 2 → 
            True) ∧
            (¬ a1 = 2 → 
            isGl C25 d19 ∧
              (True))) ∧
          (∀ x29 : Int32, x29 = (if a1 = 2 then a2 else (cDI C25 41 d19)) → 
          isGl C25 d19 ∧
          (∀ C31 : CS, C31 = (wDI C25 41 d19 x29) → 
          ((a1 = 3 → 
            True) ∧
            (¬ a1 = 3 → 
            isGl C31 d19 ∧
              (True))) ∧
          (∀ x35 : Int32, x35 = (if a1 = 3 then a2 else (cDI C31 42 d19)) → 
          isGl C31 d19 ∧
          (∀ C37 : CS, C37 = (wDI C31 42 d19 x35) → 
          ((a1 = 4 → 
            True) ∧
            (¬ a1 = 4 → 
            isGl C37 d19 ∧
              (True))) ∧
          (∀ x41 : Int32, x41 = (if a1 = 4 then a2 else (cDI C37 43 d19)) → 
          isGl C37 d19 ∧
          (∀ C43 : CS, C43 = (wDI C37 43 d19 x41) → 
          ((a1 = 5 → 
            True) ∧
            (¬ a1 = 5 → 
            isGl C43 d19 ∧
              (True))) ∧
          (∀ x49 : Int32, x49 = (if a1 = 5 then (if a2 = 1 then (1 : Int32) else 0) else (cDI C43 44 d19)) → 
          isGl C43 d19 ∧
          ((x49 = 0 ∨ x49 = 1) ∧
          (∀ C52 : CS, C52 = (wDI C43 44 d19 x49) → 
          Post r16 C52)))))))))))))))))))
set_option maxHeartbeats 4000000 in
set_option maxRecDepth 100000 in
theorem gw_X0_set {w : WD} (wk : wOk w) (l : Launch) (C : CS) (a0 : Int32) (a1 : Int32) (a2 : Int32) {Post : Int32 → CS → Prop} (hw : wp_X0_set Post C a0 a1 a2) : MC w l yX0_set cX0_set 6 (some .int) 7 0 0 [.ref (ad w 0), .int a0, .int a1, .int a2] C (fun v C1 => ∃ r : Int32, v = some (.int r) ∧ Post r C1) := by
  unfold wp_X0_set at hw
  refine MC.of wk (by decide) (Nat.le_of_ble_eq_true rfl) (fun x hx ok => ?_)
  subst hx
  show G w x 6 0 0 (QM w x _ 0 0) C 0 [(0, .ref (ad w 0)), (1, .int a0), (2, .int a1), (3, .int a2)] []
  refine g_aload_n ok 0 dX0_set_0 rfl ?_
  refine g_iload_n ok 1 dX0_set_1 rfl ?_
  obtain ⟨hp1, hw⟩ := hw
  refine g_callV ok [.int a0] cf_X0_isGlove q411 (mc_X0_isGlove ok.wo (xL x) C a0 hp1) (recvF ok 0 rfl rfl) rfl rfl (Nat.le_of_ble_eq_true rfl) ⟨by decide, by decide⟩ ⟨by decide, by decide⟩ dX0_set_2 (resI ?_)
  refine g_nmI (fun r2 er2 => ?_)
  have hw := hw r2 er2
  refine g_if_eq (tgt := 57) ok dX0_set_5 (by decide) (fun c3 => ?_) (fun c3 => ?_)
  · have hw := hw.1 c3
    refine g_ldc (v := -1000000001) ok q274 dX0_set_57 ?_
    exact g_iret ok dX0_set_59 ⟨_, rfl, hw⟩
  · have hw := hw.2 c3
    refine g_iload_n ok 2 dX0_set_8 rfl ?_
    refine g_i2l ok dX0_set_9 ?_
    refine g_lconst (v := 1) ok dX0_set_10 (by decide) ?_
    refine g_ldc2 (v := 5) ok q268 dX0_set_11 ?_
    refine g_callS ok [.long (Int32.toInt64 a1), .long 1, .long 5] cf_X0_isIn q269 (mc_X0_isIn ok.wo (xL x) C (Int32.toInt64 a1) 1 5) rfl rfl (Nat.le_of_ble_eq_true rfl) ⟨by decide, by decide⟩ ⟨by decide, by decide⟩ dX0_set_14 (resI ?_)
    refine g_nmI (fun r4 er4 => ?_)
    have hw := hw r4 er4
    refine g_if_eq (tgt := 57) ok dX0_set_17 (by decide) (fun c5 => ?_) (fun c5 => ?_)
    · have hw := hw.1 c5
      refine g_ldc (v := -1000000001) ok q274 dX0_set_57 ?_
      exact g_iret ok dX0_set_59 ⟨_, rfl, hw⟩
    · have hw := hw.2 c5
      refine g_iload_n ok 3 dX0_set_20 rfl ?_
      refine g_i2l ok dX0_set_21 ?_
      refine g_lconst (v := 0) ok dX0_set_22 (by decide) ?_
      refine g_iload_n ok 2 dX0_set_23 rfl ?_
      refine g_iconst (v := 1) ok dX0_set_24 (by decide) ?_
      have kj11 : ∀ x12 : Int64, x12 = (if a1 = 1 then (1 : Int64) else (if a1 = 5 then (1 : Int64) else (if a1 = 2 then (9 : Int64) else 99))) → G w x 6 0 0 (QM w x (fun v C1 => ∃ r : Int32, v = some (.int r) ∧ Post r C1) 0 0) C 51 [(0, .ref (ad w 0)), (1, .int a0), (2, .int a1), (3, .int a2)] [.long x12, .long 0, .long (Int32.toInt64 a2)] := by
        intro x12 ex12
        have hw := hw x12 ex12
        refine g_callS ok [.long (Int32.toInt64 a2), .long 0, .long x12] cf_X0_isIn q269 (mc_X0_isIn ok.wo (xL x) C (Int32.toInt64 a2) 0 x12) rfl rfl (Nat.le_of_ble_eq_true rfl) ⟨by decide, by decide⟩ ⟨by decide, by decide⟩ dX0_set_51 (resI ?_)
        refine g_nmI (fun r13 er13 => ?_)
        have hw := hw r13 er13
        refine g_if_ne (tgt := 60) ok dX0_set_54 (by decide) (fun c14 => ?_) (fun c14 => ?_)
        · have hw := hw.2 c14
          refine g_aload_n ok 0 dX0_set_60 rfl ?_
          refine g_iload_n ok 1 dX0_set_61 rfl ?_
          refine g_iload_n ok 2 dX0_set_62 rfl ?_
          obtain ⟨hp15, hw⟩ := hw
          refine g_callV ok [.int a0, .int a1] cf_X0_told q580 (mc_X0_told ok.wo (xL x) C a0 a1 hp15) (recvF ok 0 rfl rfl) rfl rfl (Nat.le_of_ble_eq_true rfl) ⟨by decide, by decide⟩ ⟨by decide, by decide⟩ dX0_set_63 (resI ?_)
          refine g_nmI (fun r16 er16 => ?_)
          have hw := hw r16 er16
          refine g_istore0 ok [(4, .int r16), (0, .ref (ad w 0)), (1, .int a0), (2, .int a1), (3, .int a2)] dX0_set_66 (by decide) rfl ?_
          refine g_aload_n ok 1 dX0_set_68 rfl ?_
          refine g_get ok 0 rfl rfl in_X0 0 (by decide) q180 rfl dX0_set_69 ?_
          obtain ⟨hf17, hw⟩ := hw
          refine g_get ok (cN C) (fObjT hf17) rfl in_X1 8 (by decide) q140 rfl dX0_set_72 ?_
          refine g_iload_n ok 2 dX0_set_75 rfl ?_
          obtain ⟨hf18, hw⟩ := hw
          obtain ⟨d19, ed19, hw⟩ := hw
          refine g_rald (v := .ref d19) ok _ (fRefG hf17) (Or.inl rfl) hf18 (congrArg va_rf ed19) dX0_set_76 ?_
          refine g_astore ok [(5, .ref d19), (4, .int r16), (0, .ref (ad w 0)), (1, .int a0), (2, .int a1), (3, .int a2)] dX0_set_77 (by decide) rfl ?_
          refine g_aload ok 0 dX0_set_79 rfl ?_
          refine g_iload_n ok 4 dX0_set_81 rfl ?_
          refine g_iconst (v := 1) ok dX0_set_82 (by decide) ?_
          obtain ⟨hr, hw⟩ := hw
          have kj22 : ∀ x23 : Int32, x23 = (if a1 = 1 then a2 else (cDI C 40 d19)) → G w x 6 0 0 (QM w x (fun v C1 => ∃ r : Int32, v = some (.int r) ∧ Post r C1) 0 0) C 95 [(2, .int a1), (3, .int a2), (4, .int r16), (5, .ref d19)] [.int x23, .ref d19] := by
            intro x23 ex23
            have hw := hw x23 ex23
            obtain ⟨hf24, hw⟩ := hw
            refine g_gput ok hf24 0 (by decide) q291 rfl rfl dX0_set_95 (fun C25 eC25 => ?_)
            have hw := hw C25 eC25
            refine g_aload ok 3 dX0_set_98 rfl ?_
            refine g_iload_n ok 0 dX0_set_100 rfl ?_
            refine g_iconst (v := 2) ok dX0_set_101 (by decide) ?_
            obtain ⟨hr, hw⟩ := hw
            have kj28 : ∀ x29 : Int32, x29 = (if a1 = 2 then a2 else (cDI C25 41 d19)) → G w x 6 0 0 (QM w x (fun v C1 => ∃ r : Int32, v = some (.int r) ∧ Post r C1) 0 0) C25 114 [(2, .int a1), (3, .int a2), (4, .int r16), (5, .ref d19)] [.int x29, .ref d19] := by
              intro x29 ex29
              have hw := hw x29 ex29
              obtain ⟨hf30, hw⟩ := hw
              refine g_gput ok hf30 1 (by decide) q296 rfl rfl dX0_set_114 (fun C31 eC31 => ?_)
              have hw := hw C31 eC31
              refine g_aload ok 3 dX0_set_117 rfl ?_
              refine g_iload_n ok 0 dX0_set_119 rfl ?_
              refine g_iconst (v := 3) ok dX0_set_120 (by decide) ?_
              obtain ⟨hr, hw⟩ := hw
              have kj34 : ∀ x35 : Int32, x35 = (if a1 = 3 then a2 else (cDI C31 42 d19)) → G w x 6 0 0 (QM w x (fun v C1 => ∃ r : Int32, v = some (.int r) ∧ Post r C1) 0 0) C31 133 [(2, .int a1), (3, .int a2), (4, .int r16), (5, .ref d19)] [.int x35, .ref d19] := by
                intro x35 ex35
                have hw := hw x35 ex35
                obtain ⟨hf36, hw⟩ := hw
                refine g_gput ok hf36 2 (by decide) q301 rfl rfl dX0_set_133 (fun C37 eC37 => ?_)
                have hw := hw C37 eC37
                refine g_aload ok 3 dX0_set_136 rfl ?_
                refine g_iload_n ok 0 dX0_set_138 rfl ?_
                refine g_iconst (v := 4) ok dX0_set_139 (by decide) ?_
                obtain ⟨hr, hw⟩ := hw
                have kj40 : ∀ x41 : Int32, x41 = (if a1 = 4 then a2 else (cDI C37 43 d19)) → G w x 6 0 0 (QM w x (fun v C1 => ∃ r : Int32, v = some (.int r) ∧ Post r C1) 0 0) C37 152 [(2, .int a1), (3, .int a2), (4, .int r16), (5, .ref d19)] [.int x41, .ref d19] := by
                  intro x41 ex41
                  have hw := hw x41 ex41
                  obtain ⟨hf42, hw⟩ := hw
                  refine g_gput ok hf42 3 (by decide) q307 rfl rfl dX0_set_152 (fun C43 eC43 => ?_)
                  have hw := hw C43 eC43
                  refine g_aload ok 3 dX0_set_155 rfl ?_
                  refine g_iload_n ok 0 dX0_set_157 rfl ?_
                  refine g_iconst (v := 5) ok dX0_set_158 (by decide) ?_
                  obtain ⟨hr, hw⟩ := hw
                  have kj48 : ∀ x49 : Int32, x49 = (if a1 = 5 then (if a2 = 1 then (1 : Int32) else 0) else (cDI C43 44 d19)) → G w x 6 0 0 (QM w x (fun v C1 => ∃ r : Int32, v = some (.int r) ∧ Post r C1) 0 0) C43 180 [(4, .int r16)] [.int x49, .ref d19] := by
                    intro x49 ex49
                    have hw := hw x49 ex49
                    obtain ⟨hf50, hw⟩ := hw
                    obtain ⟨hb51, hw⟩ := hw
                    refine g_gput ok hf50 4 (by decide) q310 (nb_of hb51) (fb_of hb51) dX0_set_180 (fun C52 eC52 => ?_)
                    have hw := hw C52 eC52
                    refine g_iload ok 0 dX0_set_183 rfl ?_
                    exact g_iret ok dX0_set_185 ⟨_, rfl, hw⟩
                  have hw := hr
                  refine g_icmp_ne (tgt := 175) ok dX0_set_159 (by decide) (fun c44 => ?_) (fun c44 => ?_)
                  · have hw := hw.2 c44
                    refine g_aload ok 3 dX0_set_175 rfl ?_
                    obtain ⟨hf45, hw⟩ := hw
                    refine g_gget ok hf45 4 (by decide) q310 (Or.inl rfl) dX0_set_177 ?_
                    exact g_sub [2] [(4, .int r16)] rfl (kj48 _ (by simp only [if_neg c44]))
                  · have hw := hw.1 c44
                    refine g_iload_n ok 1 dX0_set_162 rfl ?_
                    refine g_iconst (v := 1) ok dX0_set_163 (by decide) ?_
                    have kj47 : G w x 6 0 0 (QM w x (fun v C1 => ∃ r : Int32, v = some (.int r) ∧ Post r C1) 0 0) C43 180 [(4, .int r16)] [.int (if a2 = 1 then (1 : Int32) else 0), .ref d19] := by
                      exact (kj48 _ (by simp only [if_pos c44]))
                    refine g_icmp_ne (tgt := 171) ok dX0_set_164 (by decide) (fun c46 => ?_) (fun c46 => ?_)
                    · refine g_iconst (v := 0) ok dX0_set_171 (by decide) ?_
                      refine g_goto (tgt := 180) ok dX0_set_172 (by decide) ?_
                      simp only [if_neg c46] at kj47
                      exact g_sub [2] [(4, .int r16)] rfl kj47
                    · refine g_iconst (v := 1) ok dX0_set_167 (by decide) ?_
                      refine g_goto (tgt := 180) ok dX0_set_168 (by decide) ?_
                      simp only [if_pos c46] at kj47
                      exact g_sub [2] [(4, .int r16)] rfl kj47
                have hw := hr
                refine g_icmp_ne (tgt := 147) ok dX0_set_140 (by decide) (fun c38 => ?_) (fun c38 => ?_)
                · have hw := hw.2 c38
                  refine g_aload ok 3 dX0_set_147 rfl ?_
                  obtain ⟨hf39, hw⟩ := hw
                  refine g_gget ok hf39 3 (by decide) q307 (Or.inl rfl) dX0_set_149 ?_
                  exact (kj40 _ (by simp only [if_neg c38]))
                · have hw := hw.1 c38
                  refine g_iload_n ok 1 dX0_set_143 rfl ?_
                  refine g_goto (tgt := 152) ok dX0_set_144 (by decide) ?_
                  exact (kj40 _ (by simp only [if_pos c38]))
              have hw := hr
              refine g_icmp_ne (tgt := 128) ok dX0_set_121 (by decide) (fun c32 => ?_) (fun c32 => ?_)
              · have hw := hw.2 c32
                refine g_aload ok 3 dX0_set_128 rfl ?_
                obtain ⟨hf33, hw⟩ := hw
                refine g_gget ok hf33 2 (by decide) q301 (Or.inl rfl) dX0_set_130 ?_
                exact (kj34 _ (by simp only [if_neg c32]))
              · have hw := hw.1 c32
                refine g_iload_n ok 1 dX0_set_124 rfl ?_
                refine g_goto (tgt := 133) ok dX0_set_125 (by decide) ?_
                exact (kj34 _ (by simp only [if_pos c32]))
            have hw := hr
            refine g_icmp_ne (tgt := 109) ok dX0_set_102 (by decide) (fun c26 => ?_) (fun c26 => ?_)
            · have hw := hw.2 c26
              refine g_aload ok 3 dX0_set_109 rfl ?_
              obtain ⟨hf27, hw⟩ := hw
              refine g_gget ok hf27 1 (by decide) q296 (Or.inl rfl) dX0_set_111 ?_
              exact (kj28 _ (by simp only [if_neg c26]))
            · have hw := hw.1 c26
              refine g_iload_n ok 1 dX0_set_105 rfl ?_
              refine g_goto (tgt := 114) ok dX0_set_106 (by decide) ?_
              exact (kj28 _ (by simp only [if_pos c26]))
          have hw := hr
          refine g_icmp_ne (tgt := 90) ok dX0_set_83 (by decide) (fun c20 => ?_) (fun c20 => ?_)
          · have hw := hw.2 c20
            refine g_aload ok 0 dX0_set_90 rfl ?_
            obtain ⟨hf21, hw⟩ := hw
            refine g_gget ok hf21 0 (by decide) q291 (Or.inl rfl) dX0_set_92 ?_
            exact g_sub [4, 5, 1, 0] [(2, .int a1), (3, .int a2), (4, .int r16), (5, .ref d19)] rfl (kj22 _ (by simp only [if_neg c20]))
          · have hw := hw.1 c20
            refine g_iload_n ok 5 dX0_set_86 rfl ?_
            refine g_goto (tgt := 95) ok dX0_set_87 (by decide) ?_
            exact g_sub [4, 5, 1, 0] [(2, .int a1), (3, .int a2), (4, .int r16), (5, .ref d19)] rfl (kj22 _ (by simp only [if_pos c20]))
        · have hw := hw.1 c14
          refine g_ldc (v := -1000000001) ok q274 dX0_set_57 ?_
          exact g_iret ok dX0_set_59 ⟨_, rfl, hw⟩
      refine g_icmp_eq (tgt := 33) ok dX0_set_25 (by decide) (fun c6 => ?_) (fun c6 => ?_)
      · refine g_lconst (v := 1) ok dX0_set_33 (by decide) ?_
        refine g_goto (tgt := 51) ok dX0_set_34 (by decide) ?_
        exact (kj11 _ (by simp only [if_pos c6]))
      · refine g_iload_n ok 2 dX0_set_28 rfl ?_
        refine g_iconst (v := 5) ok dX0_set_29 (by decide) ?_
        have kj10 : G w x 6 0 0 (QM w x (fun v C1 => ∃ r : Int32, v = some (.int r) ∧ Post r C1) 0 0) C 51 [(0, .ref (ad w 0)), (1, .int a0), (2, .int a1), (3, .int a2)] [.long (if a1 = 5 then (1 : Int64) else (if a1 = 2 then (9 : Int64) else 99)), .long 0, .long (Int32.toInt64 a2)] := by
          exact (kj11 _ (by simp only [if_neg c6]))
        refine g_icmp_ne (tgt := 37) ok dX0_set_30 (by decide) (fun c7 => ?_) (fun c7 => ?_)
        · refine g_iload_n ok 2 dX0_set_37 rfl ?_
          refine g_iconst (v := 2) ok dX0_set_38 (by decide) ?_
          have kj9 : G w x 6 0 0 (QM w x (fun v C1 => ∃ r : Int32, v = some (.int r) ∧ Post r C1) 0 0) C 51 [(0, .ref (ad w 0)), (1, .int a0), (2, .int a1), (3, .int a2)] [.long (if a1 = 2 then (9 : Int64) else 99), .long 0, .long (Int32.toInt64 a2)] := by
            simp only [if_neg c7] at kj10
            exact kj10
          refine g_icmp_ne (tgt := 48) ok dX0_set_39 (by decide) (fun c8 => ?_) (fun c8 => ?_)
          · refine g_ldc2 (v := 99) ok q273 dX0_set_48 ?_
            simp only [if_neg c8] at kj9
            exact kj9
          · refine g_ldc2 (v := 9) ok q272 dX0_set_42 ?_
            refine g_goto (tgt := 51) ok dX0_set_45 (by decide) ?_
            simp only [if_pos c8] at kj9
            exact kj9
        · refine g_lconst (v := 1) ok dX0_set_33 (by decide) ?_
          refine g_goto (tgt := 51) ok dX0_set_34 (by decide) ?_
          simp only [if_pos c7] at kj10
          exact kj10
theorem in15 {a : Int32} (h : ¬ v_X3_in a 1 5 = 0) : ∃ m, m < 5 ∧ a = nI (m + 1) := by
  obtain ⟨h1, h2⟩ := in_iff.mp h
  obtain ⟨k, q1, q2⟩ := nI_of2 (M := nI 5) (n := 5) (nI_toInt (by decide)) (Int32.not_lt.mpr (Int32.le_trans (show (0 : Int32) ≤ 1 by decide) h1)) h2
  subst q2
  rcases Nat.eq_zero_or_pos k with h | h
  · subst h; exact absurd h1 (by decide)
  · exact ⟨k - 1, by omega, by congr 1; omega⟩
theorem most_le : ∀ m, m < 5 → ∃ M, v_X3_mostOf (nI (m + 1)) = nI M ∧ M ≤ 99 ∧ (m = 0 → M = 1) ∧ (m = 1 → M = 9) ∧ (m = 4 → M = 1) := by
  intro m hm
  have : m = 0 ∨ m = 1 ∨ m = 2 ∨ m = 3 ∨ m = 4 := by omega
  rcases this with h | h | h | h | h <;> subst h
  · exact ⟨1, by decide, by decide, by decide, by decide, by decide⟩
  · exact ⟨9, by decide, by decide, by decide, by decide, by decide⟩
  · exact ⟨99, by decide, by decide, by decide, by decide, by decide⟩
  · exact ⟨99, by decide, by decide, by decide, by decide, by decide⟩
  · exact ⟨1, by decide, by decide, by decide, by decide, by decide⟩
theorem sp_X0_set (C : CS) (a0 a1 a2 : Int32) (hp : p_X0_set C a0 a1 a2) : wp_X0_set (fun x C1 => x = v_X0_set C a0 a1 a2 ∧ q_X0_set C a0 a1 a2 C1) C a0 a1 a2 := by
  have hp : opP C := hp
  unfold v_X0_set v_X3_set q_X0_set n_X3_set
  refine ⟨⟨hp.1.1, trivial⟩, fun r2 e2 => ⟨fun c => ?_, fun c => ?_⟩⟩
  all_goals rw [e2, hp.isG] at c
  · rw [if_pos c, if_pos c]; exact ⟨rfl, tOp.rf hp⟩
  rw [if_neg c, if_neg c]
  have cG0 := c
  obtain ⟨k, b, hk, e, hb, hg⟩ := hp.gl c
  refine fun r4 e4 => ⟨fun c4 => ?_, fun c4 => ?_⟩
  all_goals rw [e4, isIn_eq (b := 1) (B := 1) (c := 5) (D := 5) rfl rfl] at c4
  · rw [if_pos c4, if_pos c4]; exact ⟨rfl, tOp.rf hp⟩
  rw [if_neg c4, if_neg c4]
  intro x12 e12 r13 e13
  have e12 : x12 = (v_X3_mostOf a1).toInt64 := by
    rw [e12]
    unfold v_X3_mostOf
    by_cases q1 : a1 = 1
    · rw [if_pos q1, if_pos q1]; rfl
    · rw [if_neg q1, if_neg q1]
      by_cases q5 : a1 = 5
      · rw [if_pos q5, if_pos q5]; rfl
      · rw [if_neg q5, if_neg q5]
        by_cases q2 : a1 = 2
        · rw [if_pos q2, if_pos q2]; rfl
        · rw [if_neg q2, if_neg q2]; rfl
  rw [isIn0 a2 (v_X3_mostOf a1) x12 e12] at e13
  refine ⟨fun c5 => ?_, fun c5 => ?_⟩
  all_goals rw [e13] at c5
  · rw [if_pos c5, if_pos c5]; exact ⟨rfl, tOp.rf hp⟩
  rw [if_neg c5, if_neg c5]
  obtain ⟨m, hm, rfl⟩ := in15 c4
  obtain ⟨M, eM, hM, h0, h1, h4⟩ := most_le m hm
  rw [eM] at c5
  obtain ⟨v, hv, rfl⟩ := in_nI (m := M) (by omega) c5
  subst e
  have hj := hp.1.1
  have gk : ∀ D : CS, D.2.2.2.2.2.1 = C.2.2.2.2.2.1 → isGl D b := fun D h => hg.1.keep (by show D.2.2.2.2.2.1 b = _; rw [h])
  have io : ∀ i, i < 5 → (nI (m + 1) = nI (i + 1) ↔ m = i) := fun i hi => by rw [nI_eq (by omega) (by omega)]; omega
  refine ⟨hp, fun r16 e16 => ⟨hj, vp_k hk, b, by rw [cl_k (by omega)]; exact hb, ⟨fun _ => trivial, fun _ => ⟨hg.1, trivial⟩⟩, fun x23 e23 => ⟨hg.1, fun C25 e25 => ?_⟩⟩⟩
  have g25 := gk C25 (by rw [e25]; rfl)
  refine ⟨⟨fun _ => trivial, fun _ => ⟨g25, trivial⟩⟩, fun x29 e29 => ⟨g25, fun C31 e31 => ?_⟩⟩
  have g31 := gk C31 (by rw [e31, e25]; rfl)
  refine ⟨⟨fun _ => trivial, fun _ => ⟨g31, trivial⟩⟩, fun x35 e35 => ⟨g31, fun C37 e37 => ?_⟩⟩
  have g37 := gk C37 (by rw [e37, e31, e25]; rfl)
  refine ⟨⟨fun _ => trivial, fun _ => ⟨g37, trivial⟩⟩, fun x41 e41 => ⟨g37, fun C43 e43 => ?_⟩⟩
  have g43 := gk C43 (by rw [e43, e37, e31, e25]; rfl)
  have a25 : ∀ q, q ≠ 40 → cDI C25 q b = cDI C q b := fun q h => by rw [e25]; exact wDI_n (fun z => h z.1)
  have a31 : ∀ q, q ≠ 40 → q ≠ 41 → cDI C31 q b = cDI C q b := fun q h h2 => by rw [e31, wDI_n (fun z => h2 z.1)]; exact a25 q h
  have a37 : ∀ q, q ≠ 40 → q ≠ 41 → q ≠ 42 → cDI C37 q b = cDI C q b := fun q h h2 h3 => by rw [e37, wDI_n (fun z => h3 z.1)]; exact a31 q h h2
  have a43 : cDI C43 44 b = cDI C 44 b := by rw [e43, wDI_n (fun z => absurd z.1 (by decide))]; exact a37 44 (by decide) (by decide) (by decide)
  have z23 : x23 = if m = 0 then nI v else cDI C 40 b := by
    rw [e23]
    by_cases q : m = 0
    · rw [if_pos q, if_pos (show nI (m + 1) = 1 from (io 0 (by omega)).mpr q)]
    · rw [if_neg q, if_neg (show ¬ nI (m + 1) = 1 from fun z => q ((io 0 (by omega)).mp z))]
  have z29 : x29 = if m = 1 then nI v else cDI C 41 b := by
    rw [e29, a25 41 (by decide)]
    by_cases q : m = 1
    · rw [if_pos q, if_pos (show nI (m + 1) = 2 from (io 1 (by omega)).mpr q)]
    · rw [if_neg q, if_neg (show ¬ nI (m + 1) = 2 from fun z => q ((io 1 (by omega)).mp z))]
  have z35 : x35 = if m = 2 then nI v else cDI C 42 b := by
    rw [e35, a31 42 (by decide) (by decide)]
    by_cases q : m = 2
    · rw [if_pos q, if_pos (show nI (m + 1) = 3 from (io 2 (by omega)).mpr q)]
    · rw [if_neg q, if_neg (show ¬ nI (m + 1) = 3 from fun z => q ((io 2 (by omega)).mp z))]
  have z41 : x41 = if m = 3 then nI v else cDI C 43 b := by
    rw [e41, a37 43 (by decide) (by decide) (by decide)]
    by_cases q : m = 3
    · rw [if_pos q, if_pos (show nI (m + 1) = 4 from (io 3 (by omega)).mpr q)]
    · rw [if_neg q, if_neg (show ¬ nI (m + 1) = 4 from fun z => q ((io 3 (by omega)).mp z))]
  refine ⟨⟨fun _ => trivial, fun _ => ⟨g43, trivial⟩⟩, fun x49 e49 => ⟨g43, ?_⟩⟩
  have z49 : x49 = if m = 4 then nI v else cDI C 44 b := by
    rw [e49, a43]
    by_cases q : m = 4
    · rw [if_pos q, if_pos (show nI (m + 1) = 5 from (io 4 (by omega)).mpr q)]
      have : v = 0 ∨ v = 1 := by have := h4 q; omega
      rcases this with h | h <;> subst h <;> rfl
    · rw [if_neg q, if_neg (show ¬ nI (m + 1) = 5 from fun z => q ((io 4 (by omega)).mp z))]
  have b49 : x49 = 0 ∨ x49 = 1 := by
    rw [z49]
    by_cases q : m = 4
    · rw [if_pos q]
      have : v = 0 ∨ v = 1 := by have := h4 q; omega
      rcases this with h | h <;> subst h
      · exact Or.inl rfl
      · exact Or.inr rfl
    · rw [if_neg q]; exact hg.b5
  refine ⟨b49, fun C52 e52 => ⟨?_, ?_⟩⟩
  · rw [e16]
    unfold v_X0_told v_X3_told v_X3_becomes
    have i6 : ¬ v_X3_in (nI (m + 1)) 0 6 = 0 := in_iff.mpr ⟨nI_pos' (by omega), (nI_leI (b := 6) (by omega) (by omega)).mpr (by omega)⟩
    rw [if_neg cG0, if_neg i6, if_neg (show ¬ (6 : Int32) ≤ nI (m + 1) from fun z => absurd ((nI_leI (a := 6) (by omega) (by omega)).mp z) (by omega))]
    unfold v_X3_of
    rfl
  · have d52 : dE (cN C) C C52 := by
      rw [e52, e43, e37, e31, e25]
      exact (((((dE.rf _ C).wDI hk hb _ _).wDI hk hb _ _).wDI hk hb _ _).wDI hk hb _ _).wDI hk hb _ _
    refine ⟨?_, d52.tE, d52.gd hp.2⟩
    have f52 : ∀ q, q < 5 → cDI C52 (40 + q) b = if m = q then nI v else cDI C (40 + q) b := by
      intro q hq
      have : q = 0 ∨ q = 1 ∨ q = 2 ∨ q = 3 ∨ q = 4 := by omega
      rcases this with h | h | h | h | h <;> subst h
      · rw [e52, wDI_n (by omega), e43, wDI_n (by omega), e37, wDI_n (by omega), e31, wDI_n (by omega), e25, wDI_s, z23]
      · rw [e52, wDI_n (by omega), e43, wDI_n (by omega), e37, wDI_n (by omega), e31, wDI_s, z29]
      · rw [e52, wDI_n (by omega), e43, wDI_n (by omega), e37, wDI_s, z35]
      · rw [e52, wDI_n (by omega), e43, wDI_s, z41]
      · rw [e52, wDI_s, z49]
    have hi : Int32.toNatClampNeg (16 + 6 * nI k + nI (m + 1)) = 16 + 6 * k + (m + 1) := by rw [g6k k hk, nI_add, cl_k (by omega)]
    unfold n_X3_becomes
    rw [hi, upd_w]
    have cd : C52.2.2.2.2.2.1 = C.2.2.2.2.2.1 := d52.2.2.2.2.2.1
    have G52 : ∀ x y, cG C52 x y = cG C x y := fun x y => by show C52.2.2.1 x y = _; rw [d52.2.2.1]
    have R : ∀ q, q < 5 → upd (C.2.1 36) (16 + 6 * k + (m + 1)) (nI v) (16 + 6 * k + (q + 1)) = if m = q then nI v else C.2.1 36 (16 + 6 * k + (q + 1)) := by
      intro q hq
      by_cases z : m = q
      · rw [if_pos z, z, upd_s]
      · rw [if_neg z, upd_n (by omega)]
    refine hp.1.2.one (by rw [e52, e43, e37, e31, e25]; rfl) (fun i _ => by rw [d52.2.1 _ (by omega)]) (fun i _ => by rw [d52.2.1 _ (by omega)]) (fun i _ => G52 _ _) (d52.keepX hj hp.2) hk (fun i hi => upd_n (by omega)) (fun k2 a hk2 hne ha => ⟨by rw [G52]; exact ha, ?_⟩) ⟨b, by rw [G52]; exact hb, gk C52 cd, ?_, ?_, ?_, ?_, ?_, ?_, ?_⟩
    · have ab : a ≠ b := fun h => hne (hp.2.2 _ _ _ _ a hj hj hk2 hk ha (by rw [h]; exact hb)).2
      refine ⟨by show C52.2.2.2.2.2.1 a = _; rw [cd], fun q _ => ?_⟩
      rw [e52, wDI_n (fun h => ab h.2), e43, wDI_n (fun h => ab h.2), e37, wDI_n (fun h => ab h.2), e31, wDI_n (fun h => ab h.2), e25, wDI_n (fun h => ab h.2)]
    · rw [kdG.keep (by show C52.2.2.2.2.2.1 b = _; rw [cd]), upd_n (by omega)]; exact hg.2.1
    · rw [f52 0 (by omega), show 16 + 6 * k + 1 = 16 + 6 * k + (0 + 1) from rfl, R 0 (by omega), hg.2.2.1]
    · rw [f52 1 (by omega), show 16 + 6 * k + 2 = 16 + 6 * k + (1 + 1) from rfl, R 1 (by omega), hg.2.2.2.1]
    · rw [f52 2 (by omega), show 16 + 6 * k + 3 = 16 + 6 * k + (2 + 1) from rfl, R 2 (by omega), hg.2.2.2.2.1]
    · rw [f52 3 (by omega), show 16 + 6 * k + 4 = 16 + 6 * k + (3 + 1) from rfl, R 3 (by omega), hg.2.2.2.2.2.1]
    · rw [f52 4 (by omega), show 16 + 6 * k + 5 = 16 + 6 * k + (4 + 1) from rfl, R 4 (by omega), hg.2.2.2.2.2.2.1]
    · obtain ⟨i1, i2, i3, i4, i5⟩ := hg.i
      refine ⟨?_, ?_, ?_, ?_, ?_⟩
      · rw [show 16 + 6 * k + 1 = 16 + 6 * k + (0 + 1) from rfl, R 0 (by omega)]
        by_cases z : m = 0
        · rw [if_pos z]; exact ⟨v, by have := h0 z; omega, rfl⟩
        · rw [if_neg z]; exact i1
      · rw [show 16 + 6 * k + 2 = 16 + 6 * k + (1 + 1) from rfl, R 1 (by omega)]
        by_cases z : m = 1
        · rw [if_pos z]; exact ⟨v, by have := h1 z; omega, rfl⟩
        · rw [if_neg z]; exact i2
      · rw [show 16 + 6 * k + 3 = 16 + 6 * k + (2 + 1) from rfl, R 2 (by omega)]
        by_cases z : m = 2
        · rw [if_pos z]; exact ⟨v, by omega, rfl⟩
        · rw [if_neg z]; exact i3
      · rw [show 16 + 6 * k + 4 = 16 + 6 * k + (3 + 1) from rfl, R 3 (by omega)]
        by_cases z : m = 3
        · rw [if_pos z]; exact ⟨v, by omega, rfl⟩
        · rw [if_neg z]; exact i4
      · rw [show 16 + 6 * k + 5 = 16 + 6 * k + (4 + 1) from rfl, R 4 (by omega)]
        by_cases z : m = 4
        · rw [if_pos z]; exact ⟨v, by have := h4 z; omega, rfl⟩
        · rw [if_neg z]; exact i5
theorem mc_X0_set {w : WD} (wk : wOk w) (l : Launch) (C : CS) (a0 : Int32) (a1 : Int32) (a2 : Int32) (hp : p_X0_set C a0 a1 a2) : MC w l yX0_set cX0_set 6 (some .int) 7 0 0 [.ref (ad w 0), .int a0, .int a1, .int a2] C (pIR (v_X0_set C a0 a1 a2) (q_X0_set C a0 a1 a2)) := MC.postIR (gw_X0_set wk l C a0 a1 a2 (sp_X0_set C a0 a1 a2 hp))
