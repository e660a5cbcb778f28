theorem u2s {α : Type} {f : Nat → Nat → α} {j k : Nat} {v : α} : up2 f j k v j k = v := if_pos ⟨rfl, rfl⟩
theorem u2n {α : Type} {f : Nat → Nat → α} {j k a b : Nat} {v : α} (h : ¬ (a = j ∧ b = k)) : up2 f j k v a b = f a b := if_neg h
def TRw (C : CS) (j : Nat) (r : Nat → Int32) : Prop := ∃ W, r 4 = nI W ∧ W ≤ 10 ∧ ∀ k, k < W → ∃ p q, p < 5 ∧ q < 5 ∧ C.2.1 (15 + 4 * (j - 2)) k = nI p ∧ C.2.1 (16 + 4 * (j - 2)) k = nI q ∧ r (6 + k) = nI (10 * p + q)
def TRt (C : CS) (j : Nat) (r : Nat → Int32) : Prop := ∃ T, r 5 = nI T ∧ T ≤ 14 ∧ ∀ t, t < T → ∃ a, cG C (18 + 4 * (j - 2)) t = some a ∧ txA C a r t
def TRg (C : CS) (j : Nat) (r : Nat → Int32) : Prop := ∃ N, r 1 = nI N ∧ N ≤ 10 ∧ ∀ k, k < N → ∃ a, cG C (17 + 4 * (j - 2)) k = some a ∧ glR C a r k
def TRn (C : CS) (j : Nat) (r : Nat → Int32) : Prop := C.1 j 5 = r 0 ∧ C.1 j 0 = r 1 ∧ C.1 j 3 = r 2 ∧ C.1 j 4 = r 3 ∧ C.1 j 2 = r 4 ∧ C.1 j 1 = r 5
theorem TR.w {C : CS} {j : Nat} {r : Nat → Int32} (h : TR C j r) : TRw C j r := h.2.2.1
theorem TR.t {C : CS} {j : Nat} {r : Nat → Int32} (h : TR C j r) : TRt C j r := h.2.2.2
theorem TR.g {C : CS} {j : Nat} {r : Nat → Int32} (h : TR C j r) : TRg C j r := h.2.1
theorem TR.n {C : CS} {j : Nat} {r : Nat → Int32} (h : TR C j r) : TRn C j r := h.1
theorem TRw.keep {C C1 : CS} {j : Nat} {r r1 : Nat → Int32} (h : TRw C j r) (e4 : r1 4 = r 4) (ew : ∀ i, 6 ≤ i → i < 16 → r1 i = r i) (f2 : ∀ i, i < 10 → C1.2.1 (15 + 4 * (j - 2)) i = C.2.1 (15 + 4 * (j - 2)) i) (f3 : ∀ i, i < 10 → C1.2.1 (16 + 4 * (j - 2)) i = C.2.1 (16 + 4 * (j - 2)) i) : TRw C1 j r1 := by
  obtain ⟨W, b1, b2, b3⟩ := h
  refine ⟨W, e4.trans b1, b2, fun k hk => ?_⟩
  obtain ⟨p, q, z1, z2, z3, z4, z5⟩ := b3 k hk
  exact ⟨p, q, z1, z2, (f2 k (by omega)).trans z3, (f3 k (by omega)).trans z4, (ew _ (by omega) (by omega)).trans z5⟩
theorem txA.row {C : CS} {a t : Nat} {r r1 : Nat → Int32} (h : txA C a r t) (et : ∀ i, 76 ≤ i → r1 i = r i) : txA C a r1 t := by
  obtain ⟨x1, x2, x3, b, c, d, x4, x5, x6, x7, x8⟩ := h
  have y1 : r1 (76 + 2 * t) = r (76 + 2 * t) := et _ (by omega)
  have y2 : txN r1 t = txN r t := by unfold txN; rw [y1]
  refine ⟨x1, by rw [y1]; exact x2, by rw [et _ (by omega)]; exact x3, b, c, d, x4, x5, x6, by rw [y2]; exact x7, fun k hk => ?_⟩
  rw [← x8 k hk]
  exact et _ (by omega)
theorem TRt.keep {C C1 : CS} {j : Nat} {r r1 : Nat → Int32} (h : TRt C j r) (e5 : r1 5 = r 5) (et : ∀ i, 76 ≤ i → r1 i = r i) (f5 : ∀ i, i < 14 → cG C1 (18 + 4 * (j - 2)) i = cG C (18 + 4 * (j - 2)) i) (hx : keepX C C1) : TRt C1 j r1 := by
  obtain ⟨T, c1, c2, c3⟩ := h
  refine ⟨T, e5.trans c1, c2, fun t ht => ?_⟩
  obtain ⟨a, q1, q2⟩ := c3 t ht
  exact ⟨a, (f5 t (by omega)).trans q1, (q2.keep hx).row et⟩
theorem glR.row {C : CS} {a k : Nat} {r r1 : Nat → Int32} (h : glR C a r k) (e : ∀ i, 16 + 6 * k ≤ i → i < 22 + 6 * k → r1 i = r i) : glR C a r1 k := by
  obtain ⟨y1, y2, y3, y4, y5, y6, y7, v1, v2, v3, v4, v5⟩ := h
  have e0 := e (16 + 6 * k) (by omega) (by omega)
  have e1 := e (16 + 6 * k + 1) (by omega) (by omega)
  have e2 := e (16 + 6 * k + 2) (by omega) (by omega)
  have e3 := e (16 + 6 * k + 3) (by omega) (by omega)
  have e4 := e (16 + 6 * k + 4) (by omega) (by omega)
  have e5 := e (16 + 6 * k + 5) (by omega) (by omega)
  exact ⟨y1, by rw [e0]; exact y2, by rw [e1]; exact y3, by rw [e2]; exact y4, by rw [e3]; exact y5, by rw [e4]; exact y6, by rw [e5]; exact y7, by rw [e1]; exact v1, by rw [e2]; exact v2, by rw [e3]; exact v3, by rw [e4]; exact v4, by rw [e5]; exact v5⟩
theorem TR.gN {C : CS} {j N : Nat} {r : Nat → Int32} (h : TR C j r) (e : r 1 = nI N) (hN : N ≤ 10) : ∀ k, k < N → ∃ a, cG C (17 + 4 * (j - 2)) k = some a ∧ glR C a r k := by
  obtain ⟨N2, e2, h2, h3⟩ := h.g
  have : N2 = N := (nI_eq (by omega) (by omega)).mp (e2.symm.trans e)
  subst this
  exact h3
/-- another glove stands in a place -/
theorem GD.put {C C1 : CS} {j k d : Nat} (hg : GD C) (hj : isTb j) (hk : k < 10) (hd : cT C d = none) (hd1 : isGl C1 d) (hT : ∀ a tg, cT C a = some tg → cT C1 a = some tg) (e1 : cG C1 (17 + 4 * (j - 2)) k = some d)
    (e2 : ∀ j2 k2, isTb j2 → k2 < 10 → ¬ (j2 = j ∧ k2 = k) → cG C1 (17 + 4 * (j2 - 2)) k2 = cG C (17 + 4 * (j2 - 2)) k2) : GD C1 := by
  obtain ⟨g1, g2⟩ := hg
  have hno : ∀ j2 k2, isTb j2 → k2 < 10 → ¬ cG C (17 + 4 * (j2 - 2)) k2 = some d := fun j2 k2 h1 h2 h3 => by
    obtain ⟨c, n, q, -⟩ := g1 j2 k2 d h1 h2 h3
    rw [show cT C d = some (c, n) from q] at hd
    cases hd
  refine ⟨fun j2 k2 a h1 h2 h3 => ?_, fun j2 k2 j3 k3 a h1 h2 h3 h4 h5 h6 => ?_⟩
  · by_cases c : j2 = j ∧ k2 = k
    · rw [c.1, c.2, e1] at h3
      cases h3
      exact hd1
    · rw [e2 j2 k2 h1 h2 c] at h3
      obtain ⟨c, n, q1, q2⟩ := g1 j2 k2 a h1 h2 h3
      exact ⟨c, n, hT a _ q1, q2⟩
  · by_cases c : j2 = j ∧ k2 = k
    · by_cases c3 : j3 = j ∧ k3 = k
      · exact ⟨c.1.trans c3.1.symm, c.2.trans c3.2.symm⟩
      · rw [c.1, c.2, e1] at h5
        cases h5
        rw [e2 j3 k3 h2 h4 c3] at h6
        exact absurd h6 (hno j3 k3 h2 h4)
    · rw [e2 j2 k2 h1 h3 c] at h5
      by_cases c3 : j3 = j ∧ k3 = k
      · rw [c3.1, c3.2, e1] at h6
        cases h6
        exact absurd h5 (hno j2 k2 h1 h3)
      · rw [e2 j3 k3 h2 h4 c3] at h6
        exact g2 j2 k2 j3 k3 a h1 h2 h3 h4 h5 h6
theorem kdN_t {C : CS} {a c n : Nat} (h : cT C a = some (c, n)) : kdN C a = c - 4 := by
  unfold kdN
  rw [show C.2.2.2.2.2.1 a = some (c, n) from h]
theorem cf_X0_comes : CfV yX0_comes "TwoGuilds" cX0_comes 6 none 4 := ⟨⟨by decide, by decide, by decide⟩, q72, q279, q278, qs0⟩
def p_X0_comes (C : CS) (a0 a1 a2 a3 : Int32) (r : Nat → Int32) (N : Nat) : Prop := tbOk C r ∧ GD C ∧ r 1 = nI N ∧ N < 10 ∧ (∃ m, m ≤ 5 ∧ a0 = nI m) ∧ (∃ m, m ≤ 1 ∧ a1 = nI m) ∧ (∃ m, m ≤ 9 ∧ a2 = nI m) ∧ ∃ m, m ≤ 99 ∧ a3 = nI m
def q_X0_comes (C : CS) (a0 a1 a2 a3 : Int32) (r : Nat → Int32) (N : Nat) (C1 : CS) : Prop := TR C1 (cN C) (comR r N a0 a1 a2 a3) ∧ tE (cN C) C C1 ∧ GD C1
def wp_X0_comes (Post : CS → Prop) (C : CS) (a0 : Int32) (a1 : Int32) (a2 : Int32) (a3 : Int32) : Prop :=
  ∃ (g1 : Nat), p_X0_made C a0 g1 ∧
    (∀ d3 : Nat, 
    ∀ C4 : CS, q_X0_made C a0 g1 d3 C4 → 
    isGl C4 d3 ∧
    (∀ C6 : CS, C6 = (wDI C4 40 d3 a1) → 
    isGl C6 d3 ∧
    (∀ C8 : CS, C8 = (wDI C6 41 d3 a2) → 
    isGl C8 d3 ∧
    (∀ C10 : CS, C10 = (wDI C8 42 d3 a3) → 
    isTb (cN C10) ∧
    (vp_in (C10.1 (cN C10) 0) 10 ∧
    (isGl C10 d3 ∧
    (∀ C14 : CS, C14 = (wG C10 (17 + 4 * ((cN C10) - 2)) (Int32.toNatClampNeg (C10.1 (cN C10) 0)) (some d3)) → 
    isTb (cN C14) ∧
    (∀ C16 : CS, C16 = (wI C14 (cN C14) 0 ((C14.1 (cN C14) 0) + 1)) → 
    Post C16))))))))
set_option maxHeartbeats 4000000 in
set_option maxRecDepth 100000 in
theorem gw_X0_comes {w : WD} (wk : wOk w) (l : Launch) (C : CS) (a0 : Int32) (a1 : Int32) (a2 : Int32) (a3 : Int32) {Post : CS → Prop} (hw : wp_X0_comes Post C a0 a1 a2 a3) : MC w l yX0_comes cX0_comes 6 none 5 1 8 [.ref (ad w 0), .int a0, .int a1, .int a2, .int a3] C (fun v C1 => v = none ∧ Post C1) := by
  unfold wp_X0_comes at hw
  refine MC.of wk (by decide) (Nat.le_of_ble_eq_true rfl) (fun x hx ok => ?_)
  subst hx
  show G w x 6 0 0 (QM w x _ 1 8) C 0 [(0, .ref (ad w 0)), (1, .int a0), (2, .int a1), (3, .int a2), (4, .int a3)] []
  refine g_aload_n ok 0 dX0_comes_0 rfl ?_
  refine g_iload_n ok 1 dX0_comes_1 rfl ?_
  obtain ⟨g1, hp2, hw⟩ := hw
  refine g_callV ok [.int a0] cf_X0_made q280 (mc_X0_made ok.wo (xL x) C a0 g1 hp2) (recvF ok 0 rfl rfl) rfl rfl (Nat.le_of_ble_eq_true rfl) ⟨by decide, by decide⟩ ⟨by show 0 + 1 ≤ 1; omega, by show 0 + 8 ≤ 8; omega⟩ dX0_comes_2 (resRR fun d3 C4 eC4 => ?_)
  have hw := hw d3 C4 eC4
  refine g_astore ok [(5, .ref d3), (0, .ref (ad w 0)), (1, .int a0), (2, .int a1), (3, .int a2), (4, .int a3)] dX0_comes_5 (by decide) rfl ?_
  refine g_aload ok 0 dX0_comes_7 rfl ?_
  refine g_iload_n ok 3 dX0_comes_9 rfl ?_
  obtain ⟨hf5, hw⟩ := hw
  refine g_gput ok hf5 0 (by decide) q291 rfl rfl dX0_comes_10 (fun C6 eC6 => ?_)
  have hw := hw C6 eC6
  refine g_aload ok 0 dX0_comes_13 rfl ?_
  refine g_iload_n ok 4 dX0_comes_15 rfl ?_
  obtain ⟨hf7, hw⟩ := hw
  refine g_gput ok hf7 1 (by decide) q296 rfl rfl dX0_comes_16 (fun C8 eC8 => ?_)
  have hw := hw C8 eC8
  refine g_aload ok 0 dX0_comes_19 rfl ?_
  refine g_iload ok 5 dX0_comes_21 rfl ?_
  obtain ⟨hf9, hw⟩ := hw
  refine g_gput ok hf9 2 (by decide) q301 rfl rfl dX0_comes_23 (fun C10 eC10 => ?_)
  have hw := hw C10 eC10
  refine g_aload_n ok 1 dX0_comes_26 rfl ?_
  refine g_get ok 0 rfl rfl in_X0 0 (by decide) q180 rfl dX0_comes_27 ?_
  obtain ⟨hf11, hw⟩ := hw
  refine g_get ok (cN C10) (fObjT hf11) rfl in_X1 8 (by decide) q140 rfl dX0_comes_30 ?_
  refine g_aload_n ok 1 dX0_comes_33 rfl ?_
  refine g_get ok 0 rfl rfl in_X0 0 (by decide) q180 rfl dX0_comes_34 ?_
  refine g_get ok (cN C10) (fObjT hf11) rfl in_X1 0 (by decide) q124 rfl dX0_comes_37 ?_
  refine g_aload ok 0 dX0_comes_40 rfl ?_
  obtain ⟨hf12, hw⟩ := hw
  obtain ⟨hf13, hw⟩ := hw
  refine g_gast ok (fRefG hf11) hf12 hf13 dX0_comes_42 (fun C14 eC14 => ?_)
  have hw := hw C14 eC14
  refine g_aload_n ok 1 dX0_comes_43 rfl ?_
  refine g_get ok 0 rfl rfl in_X0 0 (by decide) q180 rfl dX0_comes_44 ?_
  refine g_dup ok dX0_comes_47 rfl ?_
  obtain ⟨hf15, hw⟩ := hw
  refine g_get ok (cN C14) (fObjT hf15) rfl in_X1 0 (by decide) q124 rfl dX0_comes_48 ?_
  refine g_iconst (v := 1) ok dX0_comes_51 (by decide) ?_
  refine g_iadd ok dX0_comes_52 ?_
  refine g_putI ok (cN C14) (fObjT hf15) rfl in_X1 tyX1 tyX1_ok nmX1 0 (by decide) q124 rfl rfl rfl (putT hf15 rfl) dX0_comes_53 (fun C16 eC16 => ?_)
  have hw := hw C16 eC16
  exact g_vret ok dX0_comes_56 ⟨rfl, hw⟩
theorem com_o {r : Nat → Int32} {N : Nat} {k s z p : Int32} {i : Nat} (h1 : i ≠ 1) (h2 : i < 16 + 6 * N ∨ 22 + 6 * N ≤ i) : comR r N k s z p i = r i := by
  unfold comR
  rw [upd_n h1, upd_n (by omega), upd_n (by omega), upd_n (by omega), upd_n (by omega), upd_n (by omega), upd_n (by omega)]
theorem sp_X0_comes (C : CS) (a0 a1 a2 a3 : Int32) (r : Nat → Int32) (N : Nat) (hp : p_X0_comes C a0 a1 a2 a3 r N) : wp_X0_comes (fun C1 => q_X0_comes C a0 a1 a2 a3 r N C1) C a0 a1 a2 a3 := by
  obtain ⟨⟨hj, ht⟩, hg, eN, hN, ⟨m0, hm0, e0⟩, h1, h2, h3⟩ := hp
  refine ⟨m0, ⟨hm0, e0⟩, fun d C4 h4 => ?_⟩
  obtain ⟨hd, e4⟩ := h4
  have g4 : isGl C4 d := ⟨4 + m0, 0, by rw [e4]; exact nwC_T C d _, by omega, by omega⟩
  refine ⟨g4, fun C6 e6 => ⟨by rw [e6]; exact g4, fun C8 e8 => ⟨by rw [e8, e6]; exact g4, fun C10 e10 => ?_⟩⟩⟩
  have g10 : isGl C10 d := by rw [e10, e8, e6]; exact g4
  have n10 : cN C10 = cN C := by rw [e10, e8, e6, e4]; rfl
  have c10 : C10.1 = C.1 := by rw [e10, e8, e6, e4]; rfl
  rw [n10, c10]
  have e1 : C.1 (cN C) 0 = nI N := ht.n.2.1.trans eN
  refine ⟨hj, by rw [e1]; exact vp_k (by omega), g10, fun C14 e14 => ?_⟩
  rw [e1, cl_k (by omega)] at e14
  have n14 : cN C14 = cN C := by rw [e14]; exact n10
  have c14 : C14.1 = C.1 := by rw [e14]; exact c10
  rw [n14, c14]
  refine ⟨hj, fun C16 e16 => ?_⟩
  rw [e1, show (1 : Int32) = nI 1 from rfl, nI_add] at e16
  -- what stands then
  have t16 : C16.2.2.2.2.2.1 = (nwC C d (4 + m0)).2.2.2.2.2.1 := by rw [e16, e14, e10, e8, e6, e4]; rfl
  have d16 : ∀ k, cDI C16 k d = if k = 42 then a3 else if k = 41 then a2 else if k = 40 then a1 else 0 := by
    intro k
    rw [e16, e14, e10, e8, e6, e4]
    show up2 (up2 (up2 _ _ _ _) _ _ _) _ _ _ _ _ = _
    by_cases c1 : k = 42
    · rw [if_pos c1, c1, u2s]
    · rw [if_neg c1, u2n (fun h => c1 h.1)]
      by_cases c2 : k = 41
      · rw [if_pos c2, c2, u2s]
      · rw [if_neg c2, u2n (fun h => c2 h.1)]
        by_cases c3 : k = 40
        · rw [if_pos c3, c3, u2s]
        · rw [if_neg c3, u2n (fun h => c3 h.1)]
          exact nwC_I C d _ k
  have o16 : ∀ k a, a ≠ d → cDI C16 k a = cDI C k a := by
    intro k a ha
    rw [e16, e14, e10, e8, e6, e4]
    show up2 (up2 (up2 _ _ _ _) _ _ _) _ _ _ _ _ = _
    rw [u2n (fun h => ha h.2), u2n (fun h => ha h.2), u2n (fun h => ha h.2)]
    exact nwC_In k ha
  have G16 : ∀ x y, cG C16 x y = if x = 17 + 4 * (cN C - 2) ∧ y = N then some d else cG C x y := by
    intro x y
    rw [e16, e14, e10, e8, e6, e4]
    rfl
  have T16 : ∀ a tg, cT C a = some tg → cT C16 a = some tg := by
    intro a tg h
    show C16.2.2.2.2.2.1 a = _
    rw [t16]
    exact (nwC_Tn (fun hh => by rw [hh, hd] at h; cases h)).trans h
  have s16 : ∀ a, a ≠ d → sameD C16 C a := by
    intro a ha
    refine ⟨fun k => o16 k a ha, fun k => ?_, fun i => ?_, fun i => ?_⟩
    · rw [e16, e14, e10, e8, e6, e4]; exact nwC_Rn (tg := 4 + m0) k ha
    · rw [e16, e14, e10, e8, e6, e4]; rfl
    · rw [e16, e14, e10, e8, e6, e4]; rfl
  have gd16 : isGl C16 d := ⟨4 + m0, 0, by rw [t16]; exact nwC_T C d _, by omega, by omega⟩
  have tE16 : tE (cN C) C C16 := by
    refine ⟨fun i hi => ?_, fun i _ _ _ => by rw [e16, e14, e10, e8, e6, e4]; rfl, fun i hi => ?_, by rw [e16, e14, e10, e8, e6, e4]; rfl, by rw [e16, e14, e10, e8, e6, e4]; rfl, T16, fun a tg h _ => s16 a (fun hh => by rw [hh, hd] at h; cases h), fun i a hi h => ?_⟩
    · funext k
      rw [e16, ← c14]
      exact u2n (fun h => hi h.1)
    · funext y
      have := G16 i y
      rw [if_neg (fun h => hi h.1)] at this
      exact this
    · rw [G16] at h
      by_cases c : i = N
      · rw [if_pos ⟨rfl, c⟩] at h
        cases h
        exact Or.inl hd
      · rw [if_neg (fun hh => c hh.2)] at h
        exact Or.inr ⟨i, hi, h⟩
  have G1 : cG C16 (17 + 4 * (cN C - 2)) N = some d := by rw [G16, if_pos ⟨rfl, rfl⟩]
  refine ⟨⟨?_, ?_, ?_, ?_⟩, tE16, hg.put hj hN hd gd16 T16 G1 (fun j2 k2 hj2 hk2 hn => ?_)⟩
  · obtain ⟨t0, t1, t2, t3, t4, t5⟩ := ht.n
    have o : ∀ m, m ≠ 0 → C16.1 (cN C) m = C.1 (cN C) m := by
      intro m hm
      rw [e16, ← c14]
      exact u2n (fun h => hm h.2)
    refine ⟨by rw [o 5 (by decide), com_o (by omega) (by omega)]; exact t0, ?_, by rw [o 3 (by decide), com_o (by omega) (by omega)]; exact t2, by rw [o 4 (by decide), com_o (by omega) (by omega)]; exact t3, by rw [o 2 (by decide), com_o (by omega) (by omega)]; exact t4, by rw [o 1 (by decide), com_o (by omega) (by omega)]; exact t5⟩
    rw [e16]
    unfold comR
    rw [upd_s]
    exact u2s
  · refine ⟨N + 1, by unfold comR; rw [upd_s], by omega, fun k hk => ?_⟩
    by_cases c : k = N
    · subst c
      refine ⟨d, G1, gd16, ?_, ?_, ?_, ?_, ?_, ?_, ?_⟩
      · unfold comR
        rw [upd_n (by omega), upd_n (by omega), upd_n (by omega), upd_n (by omega), upd_n (by omega), upd_n (by omega), upd_s, e0]
        show nI _ = _
        rw [kdN_t (c := 4 + m0) (n := 0) (by show C16.2.2.2.2.2.1 d = _; rw [t16]; exact nwC_T C d _)]
        congr 1
        omega
      · rw [d16, if_neg (by decide), if_neg (by decide), if_pos rfl]
        unfold comR
        rw [upd_n (by omega), upd_n (by omega), upd_n (by omega), upd_n (by omega), upd_n (by omega), upd_s]
      · rw [d16, if_neg (by decide), if_pos rfl]
        unfold comR
        rw [upd_n (by omega), upd_n (by omega), upd_n (by omega), upd_n (by omega), upd_s]
      · rw [d16, if_pos rfl]
        unfold comR
        rw [upd_n (by omega), upd_n (by omega), upd_n (by omega), upd_s]
      · rw [d16, if_neg (by decide), if_neg (by decide), if_neg (by decide)]
        unfold comR
        rw [upd_n (by omega), upd_n (by omega), upd_s]
      · rw [d16, if_neg (by decide), if_neg (by decide), if_neg (by decide)]
        unfold comR
        rw [upd_n (by omega), upd_s]
      · refine ⟨?_, ?_, ?_, ?_, ?_⟩
        · unfold comR
          rw [upd_n (by omega), upd_n (by omega), upd_n (by omega), upd_n (by omega), upd_n (by omega), upd_s]; exact h1
        · unfold comR
          rw [upd_n (by omega), upd_n (by omega), upd_n (by omega), upd_n (by omega), upd_s]; exact h2
        · unfold comR
          rw [upd_n (by omega), upd_n (by omega), upd_n (by omega), upd_s]; exact h3
        · unfold comR
          rw [upd_n (by omega), upd_n (by omega), upd_s]; exact ⟨0, by omega, rfl⟩
        · unfold comR
          rw [upd_n (by omega), upd_s]; exact ⟨0, by omega, rfl⟩
    · obtain ⟨b, hb, hbg⟩ := ht.gN eN (by omega) k (by omega)
      refine ⟨b, by rw [G16, if_neg (fun h => c h.2)]; exact hb, ?_⟩
      obtain ⟨bc, bn, bt, -⟩ := hbg.1
      have bd : b ≠ d := fun h => by rw [h] at bt; rw [show C.2.2.2.2.2.1 d = none from hd] at bt; cases bt
      exact (hbg.keep ⟨(T16 b _ bt).trans bt.symm, fun q _ => o16 _ b bd⟩).row (fun i _ _ => com_o (by omega) (by omega))
  · exact ht.w.keep (com_o (by omega) (by omega)) (fun i _ _ => com_o (by omega) (by omega)) (fun i _ => by rw [e16, e14, e10, e8, e6, e4]; rfl) (fun i _ => by rw [e16, e14, e10, e8, e6, e4]; rfl)
  · exact ht.t.keep (com_o (by omega) (by omega)) (fun i _ => com_o (by omega) (by omega)) (fun i _ => by rw [G16, if_neg (by omega)]) (tE16.keepX hj hg)
  · rw [G16, if_neg (fun h => hn ⟨?_, h.2⟩)]
    unfold isTb at hj2 hj
    omega
theorem mc_X0_comes {w : WD} (wk : wOk w) (l : Launch) (C : CS) (a0 : Int32) (a1 : Int32) (a2 : Int32) (a3 : Int32) (r : (Nat → Int32)) (N : Nat) (hp : p_X0_comes C a0 a1 a2 a3 r N) : MC w l yX0_comes cX0_comes 6 none 5 1 8 [.ref (ad w 0), .int a0, .int a1, .int a2, .int a3] C (pVR (q_X0_comes C a0 a1 a2 a3 r N)) := MC.postVR (gw_X0_comes wk l C a0 a1 a2 a3 (sp_X0_comes C a0 a1 a2 a3 r N hp))
