/-! a table and a row -/
/-- the numbers of glove k of a row are in range -/
def glI (r : Nat → Int32) (k : Nat) : Prop := (∃ s, s ≤ 1 ∧ r (16 + 6 * k + 1) = nI s) ∧ (∃ s, s ≤ 9 ∧ r (16 + 6 * k + 2) = nI s) ∧ (∃ s, s ≤ 99 ∧ r (16 + 6 * k + 3) = nI s) ∧ (∃ s, s ≤ 99 ∧ r (16 + 6 * k + 4) = nI s) ∧ ∃ s, s ≤ 1 ∧ r (16 + 6 * k + 5) = nI s
def glR (C : CS) (a : Nat) (r : Nat → Int32) (k : Nat) : Prop := isGl C a ∧ kdG C a = r (16 + 6 * k) ∧ cDI C 40 a = r (16 + 6 * k + 1) ∧ cDI C 41 a = r (16 + 6 * k + 2) ∧ cDI C 42 a = r (16 + 6 * k + 3) ∧ cDI C 43 a = r (16 + 6 * k + 4) ∧ cDI C 44 a = r (16 + 6 * k + 5) ∧ glI r k
def txA (C : CS) (a : Nat) (r : Nat → Int32) (t : Nat) : Prop := isDy C 14 a ∧ cDI C 140 a = r (76 + 2 * t) / 1000 ∧ cDI C 141 a = r (76 + 2 * t + 1) ∧ ∃ b c d, cDR C 142 a = some b ∧ d ≤ 96 ∧ trC C (cDI C 140 a) d b c ∧ c.length = txN r t ∧ ∀ k, k < c.length → txC r t k = c.getD k 0
/-- table j is the row r -/
def TR (C : CS) (j : Nat) (r : Nat → Int32) : Prop :=
  (C.1 j 5 = r 0 ∧ C.1 j 0 = r 1 ∧ C.1 j 3 = r 2 ∧ C.1 j 4 = r 3 ∧ C.1 j 2 = r 4 ∧ C.1 j 1 = r 5) ∧
  (∃ N, r 1 = nI N ∧ N ≤ 10 ∧ ∀ k, k < N → ∃ a, cG C (17 + 4 * (j - 2)) k = some a ∧ glR C a r k) ∧
  (∃ W, r 4 = nI W ∧ W ≤ 10 ∧ ∀ k, k < W → ∃ p q, p < 5 ∧ q < 5 ∧ C.2.1 (15 + 4 * (j - 2)) k = nI p ∧ C.2.1 (16 + 4 * (j - 2)) k = nI q ∧ r (6 + k) = nI (10 * p + q)) ∧
  (∃ T, r 5 = nI T ∧ T ≤ 14 ∧ ∀ t, t < T → ∃ a, cG C (18 + 4 * (j - 2)) t = some a ∧ txA C a r t)
/-- the texts and their trees stand as they were -/
def keepX (C C1 : CS) : Prop := ∀ a c n, cT C a = some (c, n) → 10 ≤ c → c ≤ 15 → cT C1 a = some (c, n) ∧ (∀ k, cDI C1 k a = cDI C k a) ∧ ∀ k, cDR C1 k a = cDR C k a
theorem keepX.of {C C1 : CS} (h : C1.2.2 = C.2.2) : keepX C C1 := fun a c n h1 _ _ => ⟨by show C1.2.2.2.2.2.1 a = _; rw [h]; exact h1, fun k => by show C1.2.2.2.2.2.2.1 k a = _; rw [h], fun k => by show C1.2.2.2.2.2.2.2.1 k a = _; rw [h]⟩
theorem keepX.tr {C C1 C2 : CS} (h : keepX C C1) (h2 : keepX C1 C2) : keepX C C2 := fun a c n e l1 l2 => by
  obtain ⟨a1, a2, a3⟩ := h a c n e l1 l2
  obtain ⟨b1, b2, b3⟩ := h2 a c n a1 l1 l2
  exact ⟨b1, fun k => (b2 k).trans (a2 k), fun k => (b3 k).trans (a3 k)⟩
theorem trC.keep {C C1 : CS} (h : keepX C C1) {key : Int32} : ∀ d a c, trC C key d a c → trC C1 key d a c := by
  intro d
  induction d with
  | zero => intro a c h; exact h.elim
  | succ d ih =>
    intro a c hh
    rcases hh with ⟨⟨n, h1⟩, h2, h3⟩ | ⟨⟨n, h1⟩, h2, h3⟩ | ⟨⟨n, h1⟩, b, c1, h2, h3, h4⟩ | ⟨⟨n, h1⟩, b1, b2, c1, c2, h2, h3, h4, h5, h6, h7⟩
    · obtain ⟨e1, e2, e3⟩ := h a 11 n h1 (by decide) (by decide)
      exact Or.inl ⟨⟨n, e1⟩, by rw [e2]; exact h2, by rw [e2]; exact h3⟩
    · obtain ⟨e1, e2, e3⟩ := h a 12 n h1 (by decide) (by decide)
      exact Or.inr (Or.inl ⟨⟨n, e1⟩, by rw [e2]; exact h2, by rw [e2]; exact h3⟩)
    · obtain ⟨e1, e2, e3⟩ := h a 13 n h1 (by decide) (by decide)
      exact Or.inr (Or.inr (Or.inl ⟨⟨n, e1⟩, b, c1, by rw [e3]; exact h2, ih b c1 h3, h4⟩))
    · obtain ⟨e1, e2, e3⟩ := h a 10 n h1 (by decide) (by decide)
      exact Or.inr (Or.inr (Or.inr ⟨⟨n, e1⟩, b1, b2, c1, c2, by rw [e3]; exact h2, by rw [e3]; exact h3, ih b1 c1 h4, ih b2 c2 h5, by rw [e2]; exact h6, by rw [e2]; exact h7⟩))
theorem txA.keep {C C1 : CS} (h : keepX C C1) {a : Nat} {r : Nat → Int32} {t : Nat} (hx : txA C a r t) : txA C1 a r t := by
  obtain ⟨⟨n, h1⟩, h2, h3, b, c, d, h4, h5, h6, h7, h8⟩ := hx
  obtain ⟨e1, e2, e3⟩ := h a 14 n h1 (by decide) (by decide)
  exact ⟨⟨n, e1⟩, by rw [e2]; exact h2, by rw [e2]; exact h3, b, c, d, by rw [e3]; exact h4, h5, by rw [e2]; exact h6.keep h, h7, h8⟩
/-- a glove stands as it was -/
def keepG (C C1 : CS) (a : Nat) : Prop := cT C1 a = cT C a ∧ ∀ k, k < 5 → cDI C1 (40 + k) a = cDI C (40 + k) a
theorem keepG.of {C C1 : CS} (h : C1.2.2 = C.2.2) (a : Nat) : keepG C C1 a := ⟨by show C1.2.2.2.2.2.1 a = _; rw [h], fun k _ => by show C1.2.2.2.2.2.2.1 _ a = _; rw [h]⟩
theorem isGl.keep {C C1 : CS} {a : Nat} (h : cT C1 a = cT C a) (hg : isGl C a) : isGl C1 a := by
  obtain ⟨c, n, h1, h2⟩ := hg
  exact ⟨c, n, h.trans h1, h2⟩
theorem kdG.keep {C C1 : CS} {a : Nat} (h : cT C1 a = cT C a) : kdG C1 a = kdG C a := by
  unfold kdG kdN
  rw [show C1.2.2.2.2.2.1 a = C.2.2.2.2.2.1 a from h]
theorem glR.keep {C C1 : CS} {a : Nat} {r : Nat → Int32} {k : Nat} (h : keepG C C1 a) (hg : glR C a r k) : glR C1 a r k := by
  obtain ⟨h1, h2⟩ := h
  obtain ⟨g1, g2, g3, g4, g5, g6, g7, g8⟩ := hg
  exact ⟨g1.keep h1, by rw [kdG.keep h1]; exact g2, by rw [h2 0 (by decide)]; exact g3, by rw [h2 1 (by decide)]; exact g4, by rw [h2 2 (by decide)]; exact g5, by rw [h2 3 (by decide)]; exact g6, by rw [h2 4 (by decide)]; exact g7, g8⟩
theorem TR.keep {C C1 : CS} {j : Nat} {r : Nat → Int32} (h : TR C j r) (e1 : C1.1 j = C.1 j) (e2 : ∀ i, i < 10 → C1.2.1 (15 + 4 * (j - 2)) i = C.2.1 (15 + 4 * (j - 2)) i) (e3 : ∀ i, i < 10 → C1.2.1 (16 + 4 * (j - 2)) i = C.2.1 (16 + 4 * (j - 2)) i)
    (e4 : ∀ i, i < 10 → cG C1 (17 + 4 * (j - 2)) i = cG C (17 + 4 * (j - 2)) i) (e5 : ∀ i, i < 14 → cG C1 (18 + 4 * (j - 2)) i = cG C (18 + 4 * (j - 2)) i) (hx : keepX C C1) (hg : ∀ k a, k < 10 → cG C (17 + 4 * (j - 2)) k = some a → keepG C C1 a) : TR C1 j r := by
  obtain ⟨a1, ⟨N, a2, a3, a4⟩, ⟨W, b1, b2, b3⟩, T, c1, c2, c3⟩ := h
  refine ⟨by rw [e1]; exact a1, ⟨N, a2, a3, fun k hk => ?_⟩, ⟨W, b1, b2, fun k hk => ?_⟩, T, c1, c2, fun t ht => ?_⟩
  · obtain ⟨a, q1, q2⟩ := a4 k hk
    exact ⟨a, (e4 k (by omega)).trans q1, q2.keep (hg k a (by omega) q1)⟩
  · obtain ⟨p, q, z1, z2, z3, z4, z5⟩ := b3 k hk
    exact ⟨p, q, z1, z2, (e2 k (by omega)).trans z3, (e3 k (by omega)).trans z4, z5⟩
  · obtain ⟨a, q1, q2⟩ := c3 t ht
    exact ⟨a, (e5 t (by omega)).trans q1, q2.keep hx⟩
theorem TR.frm {C C1 : CS} {j : Nat} {r : Nat → Int32} {J : List Nat} (h : TR C j r) (hj : isTb j) (hf : frm J C C1) (hJ : ∀ k, 15 ≤ k → k ≤ 26 → k ∉ J) : TR C1 j r := by
  obtain ⟨f1, f2, f3⟩ := hf
  have hj2 : j - 2 ≤ 2 := by unfold isTb at hj; omega
  exact h.keep (by rw [f1]) (fun i _ => by rw [f3 _ (hJ _ (by omega) (by omega))]) (fun i _ => by rw [f3 _ (hJ _ (by omega) (by omega))]) (fun i _ => by show C1.2.2.1 _ _ = _; rw [f2]) (fun i _ => by show C1.2.2.1 _ _ = _; rw [f2]) (keepX.of f2) (fun _ a _ _ => keepG.of f2 a)
def tbOk (C : CS) (r : Nat → Int32) : Prop := isTb (cN C) ∧ TR C (cN C) r
theorem tbOk.frm {C C1 : CS} {r : Nat → Int32} {J : List Nat} (h : tbOk C r) (hf : frm J C C1) (hJ : ∀ k, 15 ≤ k → k ≤ 26 → k ∉ J) : tbOk C1 r := by
  have e : cN C1 = cN C := by show C1.2.2.2.2.1 = _; rw [hf.2.1]
  unfold tbOk
  rw [e]
  exact ⟨h.1, h.2.frm h.1 hf hJ⟩
theorem cf_X0_counts : CfV yX0_counts "TwoGuilds" cX0_counts 3 (some .int) 1 := ⟨⟨by decide, by decide, by decide⟩, q72, q701, q700, qs8⟩
def p_X0_counts (C : CS) (a0 : Int32) (r : Nat → Int32) : Prop := tbOk C r
def v_X0_counts (C : CS) (a0 : Int32) (r : Nat → Int32) : Int32 := cntR r a0
def wp_X0_counts_l10 (Post : Int32 → CS → Prop) : Nat → CS → Int32 → Int32 → Prop
  | 0, _, _, _ => False
  | n + 1, C, i1, i2 => (i2 < 0 → 
  Post i2 C) ∧
  (¬ i2 < 0 → 
  isTb (cN C) ∧
    (vp_in i2 14 ∧
    (∃ d6 : Nat, (cG C (18 + 4 * ((cN C) - 2)) (Int32.toNatClampNeg i2)) = some d6 ∧
    (isDy C 14 d6 ∧
    (((cDI C 140 d6) = i1 → 
    Post i2 C) ∧
    (¬ (cDI C 140 d6) = i1 → 
    ∀ x9 : Int32, x9 = (i2 + Int32.ofInt (-1)) → 
      wp_X0_counts_l10 Post n C i1 x9))))))
def wp_X0_counts (Post : Int32 → CS → Prop) (C : CS) (a0 : Int32) : Prop :=
  isTb (cN C) ∧
    (∀ x2 : Int32, x2 = ((C.1 (cN C) 1) - 1) → 
    ∃ m10, wp_X0_counts_l10 Post m10 C a0 x2)
set_option maxHeartbeats 4000000 in
set_option maxRecDepth 100000 in
theorem gw_X0_counts_l10 {w : WD} {x : Cx} (ok : Ok w x cX0_counts 3 yX0_counts.cls (some .int) (rmL 0 0 0)) {Post : Int32 → CS → Prop} : ∀ (n : Nat) (C : CS) (i1 : Int32) (i2 : Int32), wp_X0_counts_l10 Post  n C i1 i2 → G w x 3 0 0 (QM w x (fun v C1 => ∃ r : Int32, v = some (.int r) ∧ Post r C1) 0 0) C 10 [(0, .ref (ad w 0)), (1, .int i1), (2, .int i2)] [] := by
  intro n
  induction n with
  | zero => intro C i1 i2 hw; exact hw.elim
  | succ n ih =>
    intro C i1 i2 hw
    unfold wp_X0_counts_l10 at hw
    refine g_iload_n ok 2 dX0_counts_10 rfl ?_
    refine g_if_lt (tgt := 36) ok dX0_counts_11 (by decide) (fun c3 => ?_) (fun c3 => ?_)
    · have hw := hw.1 c3
      refine g_iload_n ok 2 dX0_counts_36 rfl ?_
      exact g_iret ok dX0_counts_37 ⟨_, rfl, hw⟩
    · have hw := hw.2 c3
      refine g_aload_n ok 0 dX0_counts_14 rfl ?_
      refine g_get ok 0 rfl rfl in_X0 0 (by decide) q180 rfl dX0_counts_15 ?_
      obtain ⟨hf4, hw⟩ := hw
      refine g_get ok (cN C) (fObjT hf4) rfl in_X1 9 (by decide) q142 rfl dX0_counts_18 ?_
      refine g_iload_n ok 2 dX0_counts_21 rfl ?_
      obtain ⟨hf5, hw⟩ := hw
      obtain ⟨d6, ed6, hw⟩ := hw
      refine g_rald (v := .ref d6) ok _ (fRefX hf4) (Or.inr rfl) hf5 (congrArg va_rf ed6) dX0_counts_22 ?_
      obtain ⟨hf7, hw⟩ := hw
      refine g_dgetE ok hf7 (by decide) rfl in_X15 0 (by decide) q1122 rfl dX0_counts_23 ?_
      refine g_iload_n ok 1 dX0_counts_26 rfl ?_
      refine g_icmp_eq (tgt := 36) ok dX0_counts_27 (by decide) (fun c8 => ?_) (fun c8 => ?_)
      · have hw := hw.1 c8
        refine g_iload_n ok 2 dX0_counts_36 rfl ?_
        exact g_iret ok dX0_counts_37 ⟨_, rfl, hw⟩
      · have hw := hw.2 c8
        refine g_iinc ok 2 (fun z => [(2, .int z), (0, .ref (ad w 0)), (1, .int i1)]) dX0_counts_30 rfl (by decide) (fun _ => rfl) (fun x9 ex9 => ?_)
        have hw := hw x9 ex9
        refine g_goto (tgt := 10) ok dX0_counts_33 (by decide) ?_
        refine g_sub [1, 2, 0] [(0, .ref (ad w 0)), (1, .int i1), (2, .int x9)] rfl ?_
        exact ih C i1 x9 hw
set_option maxHeartbeats 4000000 in
set_option maxRecDepth 100000 in
theorem gw_X0_counts {w : WD} (wk : wOk w) (l : Launch) (C : CS) (a0 : Int32) {Post : Int32 → CS → Prop} (hw : wp_X0_counts Post C a0) : MC w l yX0_counts cX0_counts 3 (some .int) 0 0 0 [.ref (ad w 0), .int a0] C (fun v C1 => ∃ r : Int32, v = some (.int r) ∧ Post r C1) := by
  unfold wp_X0_counts at hw
  refine MC.of wk (by decide) (Nat.le_of_ble_eq_true rfl) (fun x hx ok => ?_)
  subst hx
  show G w x 3 0 0 (QM w x _ 0 0) C 0 [(0, .ref (ad w 0)), (1, .int a0)] []
  refine g_aload_n ok 0 dX0_counts_0 rfl ?_
  refine g_get ok 0 rfl rfl in_X0 0 (by decide) q180 rfl dX0_counts_1 ?_
  obtain ⟨hf1, hw⟩ := hw
  refine g_get ok (cN C) (fObjT hf1) rfl in_X1 1 (by decide) q126 rfl dX0_counts_4 ?_
  refine g_iconst (v := 1) ok dX0_counts_7 (by decide) ?_
  refine g_isub ok dX0_counts_8 ?_
  refine g_istore_n ok (fun z => [(2, .int z), (0, .ref (ad w 0)), (1, .int a0)]) dX0_counts_9 (by decide) (fun _ => rfl) (fun x2 ex2 => ?_)
  have hw := hw x2 ex2
  refine g_sub [1, 2, 0] [(0, .ref (ad w 0)), (1, .int a0), (2, .int x2)] rfl ?_
  obtain ⟨n10, hw⟩ := hw
  exact gw_X0_counts_l10 ok n10 C a0 x2 hw
theorem sp_X0_counts (C : CS) (a0 : Int32) (r : Nat → Int32) (hp : p_X0_counts C a0 r) : wp_X0_counts (fun x C1 => x = v_X0_counts C a0 r ∧ C1 = C) C a0 := by
  obtain ⟨hj, a1, -, -, T, e, hT, ht⟩ := hp
  refine ⟨hj, fun x1 e1 => ?_⟩
  have H : ∀ t, t ≤ T → v_X0_counts C a0 r = cntT r a0 t → wp_X0_counts_l10 (fun x C1 => x = v_X0_counts C a0 r ∧ C1 = C) (t + 1) C a0 (nI t - 1) := by
    intro t
    induction t with
    | zero =>
      intro _ h
      exact ⟨fun _ => ⟨h.symm, rfl⟩, fun c => absurd (by decide) c⟩
    | succ t ih =>
      intro hle h
      rw [nI_pred]
      obtain ⟨a, q1, q2, q3, q4⟩ := ht t (by omega)
      refine ⟨fun c => absurd c (nI_pos (by omega)), fun _ => ⟨hj, vp_k (by omega), a, by rw [cl_k (by omega)]; exact q1, q2, fun c => ⟨?_, rfl⟩, fun c x4 e4 => ?_⟩⟩
      · rw [q3] at c
        rw [h, cntT, if_pos c]
      · rw [q3] at c
        rw [e4, om1, ← Int32.sub_eq_add_neg]
        exact ih (by omega) (by rw [h, cntT, if_neg c])
  rw [e1, a1.2.2.2.2.2, e]
  exact ⟨T + 1, H T (Nat.le_refl _) (by unfold v_X0_counts cntR; rw [e, cl_k (by omega)])⟩
theorem mc_X0_counts {w : WD} (wk : wOk w) (l : Launch) (C : CS) (a0 : Int32) (r : (Nat → Int32)) (hp : p_X0_counts C a0 r) : MC w l yX0_counts cX0_counts 3 (some .int) 0 0 0 [.ref (ad w 0), .int a0] C (pI (v_X0_counts C a0 r) C) := MC.postI (gw_X0_counts wk l C a0 (sp_X0_counts C a0 r hp))
/-! what a law gives -/
theorem cRun_list {f g : Nat → Int32} : ∀ (c : List Int32), (∀ k, k < c.length → g k = c.getD k 0) → cRun f g c.length = c.foldl (cStep f) [] := by
  intro c h
  have H : ∀ k, k ≤ c.length → cRun f g k = (c.take k).foldl (cStep f) [] := by
    intro k
    induction k with
    | zero => intro _; rfl
    | succ k ih =>
      intro hk
      rw [cRun, ih (by omega), List.take_succ, List.foldl_append, h k (by omega)]
      have : c[k]? = some (c.getD k 0) := by
        rw [List.getD_eq_getElem?_getD, List.getElem?_eq_getElem (by omega)]
        rfl
      rw [this]
      rfl
  rw [H c.length (Nat.le_refl _), List.take_length]
def p_WF_worth (C : CS) (a : Nat) (key : Int32) (c : List Int32) (f : Nat → Int32) : Prop := (∃ d, d ≤ 96 ∧ trC C key d a c) ∧ fok key (C.2.1 10) f
def v_WF_worth (C : CS) (a : Nat) (key : Int32) (c : List Int32) (f : Nat → Int32) : Int32 := (c.foldl (cStep f) []).headD 0
section WF2
variable {w : WD} {x : Cx} {cc : ByteArray} {nL : Nat} {own : String} {ret : Option FieldType} {rm : Room} {cells slots : Nat} {Q : State → Prop} {C : CS} {pc : Nat} {lv : List (Nat × Value)} {rest : List Value} {a idx : Nat} {key : Int32} {c : List Int32} {f : Nat → Int32}
theorem g_WF_worth (ok : Ok w x cc nL own ret rm) (hp : p_WF_worth C a key c f) (ql : Cond.methodLink own idx ⟨"TwoGuilds$Worth", "worth", "()I"⟩ ∈ lw_all) (hR : 97 ≤ rm.frames ∧ 3862 ≤ rm.locals) (hw : (rest.map fun v => v.category).sum ≤ 8) (hcap : cells ≤ rm.cells ∧ slots ≤ rm.slots) {count : Nat} (d : decode cc pc = .ok (.invokeinterface idx count, 5))
    (k : G w x nL cells slots Q C (pc + 5) lv (.int (v_WF_worth C a key c f) :: rest)) : G w x nL cells slots Q C pc lv (.ref a :: rest) := by
  obtain ⟨⟨dd, h1, h2⟩, h3⟩ := hp
  obtain ⟨v, e1, e2⟩ := wth_all ok.wo (xL x) h3 dd a c h2
  have e : v_WF_worth C a key c f = v := by unfold v_WF_worth; rw [e1]; rfl
  rw [e] at k
  obtain ⟨r1, r2⟩ := hR
  exact g_WF ok e2 ql ⟨by omega, by omega⟩ hw hcap d k
end WF2
theorem cf_X0_ruled : CfV yX0_ruled "TwoGuilds" cX0_ruled 4 (some .int) 2 := ⟨⟨by decide, by decide, by decide⟩, q72, q697, q696, qs7⟩
def p_X0_ruled (C : CS) (a0 a1 : Int32) (r f : Nat → Int32) : Prop := tbOk C r ∧ fok a0 (C.2.1 10) f
def v_X0_ruled (C : CS) (a0 a1 : Int32) (r f : Nat → Int32) : Int32 := rulR r a0 f a1
def wp_X0_ruled (Post : Int32 → CS → Prop) (C : CS) (a0 : Int32) (a1 : Int32) : Prop :=
  ∃ (g1 : (Nat → Int32)), p_X0_counts C a0 g1 ∧
    (∀ r3 : Int32, r3 = (v_X0_counts C a0 g1) → 
    (0 ≤ r3 → 
    isTb (cN C) ∧
      (vp_in r3 14 ∧
      (∃ d7 : Nat, (cG C (18 + 4 * ((cN C) - 2)) (Int32.toNatClampNeg r3)) = some d7 ∧
      (isDy C 14 d7 ∧
      (∃ d9 : Nat, (cDR C 142 d7) = some d9 ∧
      (∃ (g10 : Int32) (g11 : (List Int32)) (g12 : (Nat → Int32)), p_WF_worth C d9 g10 g11 g12 ∧
      (∀ r14 : Int32, r14 = (v_WF_worth C d9 g10 g11 g12) → 
      Post r14 C))))))) ∧
    (¬ 0 ≤ r3 → 
    Post a1 C))
set_option maxHeartbeats 4000000 in
set_option maxRecDepth 100000 in
theorem gw_X0_ruled {w : WD} (wk : wOk w) (l : Launch) (C : CS) (a0 : Int32) (a1 : Int32) {Post : Int32 → CS → Prop} (hw : wp_X0_ruled Post C a0 a1) : MC w l yX0_ruled cX0_ruled 4 (some .int) 97 0 0 [.ref (ad w 0), .int a0, .int a1] C (fun v C1 => ∃ r : Int32, v = some (.int r) ∧ Post r C1) := by
  unfold wp_X0_ruled at hw
  refine MC.of wk (by decide) (Nat.le_of_ble_eq_true rfl) (fun x hx ok => ?_)
  subst hx
  show G w x 4 0 0 (QM w x _ 0 0) C 0 [(0, .ref (ad w 0)), (1, .int a0), (2, .int a1)] []
  refine g_aload_n ok 0 dX0_ruled_0 rfl ?_
  refine g_iload_n ok 1 dX0_ruled_1 rfl ?_
  obtain ⟨g1, hp2, hw⟩ := hw
  refine g_callV ok [.int a0] cf_X0_counts q698 (mc_X0_counts ok.wo (xL x) C a0 g1 hp2) (recvF ok 0 rfl rfl) rfl rfl (Nat.le_of_ble_eq_true rfl) ⟨by decide, by decide⟩ ⟨by decide, by decide⟩ dX0_ruled_2 (resI ?_)
  refine g_nmI (fun r3 er3 => ?_)
  have hw := hw r3 er3
  refine g_istore_n0 ok [(3, .int r3), (0, .ref (ad w 0)), (1, .int a0), (2, .int a1)] dX0_ruled_5 (by decide) rfl ?_
  refine g_iload_n ok 0 dX0_ruled_6 rfl ?_
  refine g_if_ge (tgt := 14) ok dX0_ruled_7 (by decide) (fun c4 => ?_) (fun c4 => ?_)
  · have hw := hw.1 c4
    refine g_aload_n ok 1 dX0_ruled_14 rfl ?_
    refine g_get ok 0 rfl rfl in_X0 0 (by decide) q180 rfl dX0_ruled_15 ?_
    obtain ⟨hf5, hw⟩ := hw
    refine g_get ok (cN C) (fObjT hf5) rfl in_X1 9 (by decide) q142 rfl dX0_ruled_18 ?_
    refine g_iload_n ok 0 dX0_ruled_21 rfl ?_
    obtain ⟨hf6, hw⟩ := hw
    obtain ⟨d7, ed7, hw⟩ := hw
    refine g_rald (v := .ref d7) ok _ (fRefX hf5) (Or.inr rfl) hf6 (congrArg va_rf ed7) dX0_ruled_22 ?_
    obtain ⟨hf8, hw⟩ := hw
    obtain ⟨d9, ed9, hw⟩ := hw
    refine g_dgetE ok hf8 (by decide) rfl in_X15 2 (by decide) (v := .ref d9) q1126 (congrArg va_rf ed9) dX0_ruled_23 ?_
    obtain ⟨g10, g11, g12, hp13, hw⟩ := hw
    refine g_WF_worth ok hp13 q703 ⟨by decide, by decide⟩ (Nat.le_of_ble_eq_true rfl) ⟨by decide, by decide⟩ dX0_ruled_26 ?_
    refine g_nmI (fun r14 er14 => ?_)
    have hw := hw r14 er14
    exact g_iret ok dX0_ruled_31 ⟨_, rfl, hw⟩
  · have hw := hw.2 c4
    refine g_iload_n ok 3 dX0_ruled_10 rfl ?_
    refine g_goto (tgt := 31) ok dX0_ruled_11 (by decide) ?_
    exact g_iret ok dX0_ruled_31 ⟨_, rfl, hw⟩
theorem sp_X0_ruled (C : CS) (a0 a1 : Int32) (r f : Nat → Int32) (hp : p_X0_ruled C a0 a1 r f) : wp_X0_ruled (fun x C1 => x = v_X0_ruled C a0 a1 r f ∧ C1 = C) C a0 a1 := by
  obtain ⟨ht, hf⟩ := hp
  refine ⟨r, ht, fun r3 e3 => ⟨fun c => ?_, fun c => ⟨?_, rfl⟩⟩⟩
  · obtain ⟨hj, -, -, -, T, e, hT, htt⟩ := ht
    have e3 : r3 = cntR r a0 := e3
    have h4 : cntR r a0 = cntT r a0 T := by unfold cntR; rw [e, cl_k (by omega)]
    rcases cnt_spec r a0 T with h1 | ⟨t, h1, h2, h3⟩
    · rw [e3, h4, h1] at c; exact absurd c nn1
    · obtain ⟨a, q1, q2, q3, -, b, cc, d, q5, q6, q7, q8, q9⟩ := htt t h1
      have e5 : r3 = nI t := by rw [e3, h4, h2]
      rw [q3, h3] at q7
      refine ⟨hj, by rw [e5]; exact vp_k (by omega), a, by rw [e5, cl_k (by omega)]; exact q1, q2, b, q5, a0, cc, f, ⟨⟨d, q6, q7⟩, hf⟩, fun r14 e14 => ⟨?_, rfl⟩⟩
      rw [e14]
      unfold v_X0_ruled rulR v_WF_worth evR
      rw [← e3, if_pos c, e5, cl_k (by omega), ← q8, cRun_list cc q9]
  · unfold v_X0_ruled rulR
    rw [← show r3 = cntR r a0 from e3, if_neg c]
theorem mc_X0_ruled {w : WD} (wk : wOk w) (l : Launch) (C : CS) (a0 : Int32) (a1 : Int32) (r : (Nat → Int32)) (f : (Nat → Int32)) (hp : p_X0_ruled C a0 a1 r f) : MC w l yX0_ruled cX0_ruled 4 (some .int) 97 0 0 [.ref (ad w 0), .int a0, .int a1] C (pI (v_X0_ruled C a0 a1 r f) C) := MC.postI (gw_X0_ruled wk l C a0 a1 (sp_X0_ruled C a0 a1 r f hp))
