/-- the tables' texts are texts -/
def XD (C : CS) : Prop := ∀ j i y, isTb j → i < 14 → cG C (18 + 4 * (j - 2)) i = some y → isDy C 14 y
/-- nothing but table j, its gloves, its texts and the names has changed; what came is new -/
def bE (j : Nat) (C C1 : CS) : Prop := (∀ i k, i ≠ j → ¬ (i = 0 ∧ (k = 25 ∨ k = 26)) → C1.1 i k = C.1 i k) ∧ (∀ i, i ≠ 5 → i ≠ 6 → i ≠ 10 → i ≠ 15 + 4 * (j - 2) → i ≠ 16 + 4 * (j - 2) → C1.2.1 i = C.2.1 i) ∧ (∀ i, i ≠ 17 + 4 * (j - 2) → i ≠ 18 + 4 * (j - 2) → C1.2.2.1 i = C.2.2.1 i) ∧ C1.2.2.2.1 = C.2.2.2.1 ∧ (∀ a tg, cT C a = some tg → cT C1 a = some tg) ∧ (∀ a tg, cT C a = some tg → (∀ i, i < 10 → ¬ cG C (17 + 4 * (j - 2)) i = some a) → sameD C1 C a) ∧ ∀ i a, i < 10 → cG C1 (17 + 4 * (j - 2)) i = some a → cT C a = none ∨ ∃ i2, i2 < 10 ∧ cG C (17 + 4 * (j - 2)) i2 = some a
theorem tE.bE {j : Nat} {C C1 : CS} (h : tE j C C1) : bE j C C1 := by
  obtain ⟨a1, a2, a3, a4, a5, a6, a7, a8⟩ := h
  exact ⟨fun i k h _ => by rw [a1 i h], fun i _ _ x y z => a2 i x y z, fun i x _ => a3 i x, a4, a6, a7, a8⟩
theorem tE.xd {j : Nat} {C C1 : CS} (h : tE j C C1) (hj : isTb j) (hx : XD C) : XD C1 := by
  obtain ⟨-, -, a3, -, -, a6, -⟩ := h
  intro j2 i y h1 h2 h3
  rw [show cG C1 (18 + 4 * (j2 - 2)) i = cG C (18 + 4 * (j2 - 2)) i by show C1.2.2.1 _ i = _; rw [a3 _ (by unfold isTb at *; omega)]] at h3
  obtain ⟨n, hn⟩ := hx j2 i y h1 h2 h3
  exact ⟨n, a6 y _ hn⟩
theorem bE.tr {j : Nat} {C C1 C2 : CS} (h : bE j C C1) (h2 : bE j C1 C2) : bE j C C2 := by
  obtain ⟨a1, a2, a3, a4, a6, a7, a8⟩ := h
  obtain ⟨b1, b2, b3, b4, b6, b7, b8⟩ := h2
  refine ⟨fun i k hi hk => (b1 i k hi hk).trans (a1 i k hi hk), fun i p q x y z => (b2 i p q x y z).trans (a2 i p q x y z), fun i x y => (b3 i x y).trans (a3 i x y), b4.trans a4, fun a tg h => b6 a tg (a6 a tg h), fun a tg h hn => ?_, fun i a hi h => ?_⟩
  · refine (a7 a tg h hn).tr (b7 a tg (a6 a tg h) (fun i hi hh => ?_))
    rcases a8 i a hi hh with q | ⟨i2, q1, q2⟩
    · rw [q] at h; cases h
    · exact hn i2 q1 q2
  · rcases b8 i a hi h with q | ⟨i2, q1, q2⟩
    · left
      cases e : cT C a with
      | none => rfl
      | some tg => rw [a6 a tg e] at q; cases q
    · exact a8 i2 a q1 q2
theorem bE.keepX {j : Nat} {C C1 : CS} (h : bE j C C1) (hj : isTb j) (hg : GD C) : keepX C C1 := by
  obtain ⟨-, -, -, -, a6, a7, -⟩ := h
  intro a c n h1 h2 h3
  have hs := a7 a (c, n) h1 (fun i hi hh => by
    obtain ⟨c2, n2, g1, g2, g3⟩ := hg.1 j i a hj hi hh
    have : c = c2 := by rw [show C.2.2.2.2.2.1 a = some (c, n) from h1] at g1; cases g1; rfl
    omega)
  exact ⟨a6 a _ h1, hs.1, hs.2.1⟩
theorem bE.other {j j2 : Nat} {C C1 : CS} (h : bE j C C1) (hj : isTb j) (hj2 : isTb j2) (hne : j2 ≠ j) (hg : GD C) {r : Nat → Int32} (ht : TR C j2 r) : TR C1 j2 r := by
  have hx := h.keepX hj hg
  obtain ⟨a1, a2, a3, -, a6, a7, -⟩ := h
  unfold isTb at hj hj2
  refine ht.keep (funext fun k => a1 j2 k hne (by omega)) (fun i _ => by rw [a2 _ (by omega) (by omega) (by omega) (by omega) (by omega)]) (fun i _ => by rw [a2 _ (by omega) (by omega) (by omega) (by omega) (by omega)]) (fun i _ => by show C1.2.2.1 _ _ = _; rw [a3 _ (by omega) (by omega)]) (fun i _ => by show C1.2.2.1 _ _ = _; rw [a3 _ (by omega) (by omega)]) hx (fun k a hk ha => ?_)
  obtain ⟨c, n, g1, g2⟩ := hg.1 j2 k a hj2 hk ha
  have hs := a7 a _ g1 (fun i hi hh => hne (hg.2 j2 k j i a hj2 hj hk hi ha hh).1)
  exact ⟨(a6 a _ g1).trans g1.symm, fun q _ => hs.1 _⟩
/-- table j is the row r as far as k gloves -/
def bI (C : CS) (j : Nat) (r : Nat → Int32) (k : Nat) (C1 : CS) : Prop := (cN C1 = cN C ∧ bE j C C1) ∧ GD C1 ∧ XD C1 ∧ TRn C1 j r ∧ TRw C1 j r ∧ TRt C1 j r ∧ ∀ i, i < k → ∃ a, cG C1 (17 + 4 * (j - 2)) i = some a ∧ glR C1 a r i
theorem bI.step {C C1 C2 : CS} {j k d : Nat} {r : Nat → Int32} (h : bI C j r k C1) (hj : isTb j) (hk : k < 10) (e1 : C2.1 = C1.1) (e2 : C2.2.1 = C1.2.1) (e3 : ∀ x y, cG C2 x y = if x = 17 + 4 * (j - 2) ∧ y = k then some d else cG C1 x y) (e4 : C2.2.2.2.1 = C1.2.2.2.1) (e5 : C2.2.2.2.2.1 = C1.2.2.2.2.1)
    (e6 : ∀ a tg, cT C1 a = some tg → cT C2 a = some tg) (e7 : ∀ a, a ≠ d → sameD C2 C1 a) (g2 : isGl C2 d) (hd : cT C1 d = none ∨ cG C1 (17 + 4 * (j - 2)) k = some d) (hgl : glR C2 d r k) : bI C j r (k + 1) C2 := by
  obtain ⟨⟨i0, i1⟩, i2, i3, i4, i5, i6, i7⟩ := h
  have b12 : bE j C1 C2 := by
    refine ⟨fun i k _ _ => by rw [e1], fun i _ _ _ _ _ => by rw [e2], fun i hi _ => ?_, e4, e6, fun a tg ha hn => e7 a (fun hh => ?_), fun i a hi ha => ?_⟩
    · funext y
      have := e3 i y
      rw [if_neg (fun h => hi h.1)] at this
      exact this
    · subst hh
      rcases hd with q | q
      · rw [q] at ha; cases ha
      · exact hn k hk q
    · rw [e3] at ha
      by_cases c : i = k
      · rw [if_pos ⟨rfl, c⟩] at ha
        cases ha
        rcases hd with q | q
        · exact Or.inl q
        · exact Or.inr ⟨k, hk, q⟩
      · rw [if_neg (fun hh => c hh.2)] at ha
        exact Or.inr ⟨i, hi, ha⟩
  have hx := b12.keepX hj i2
  have G1 : cG C2 (17 + 4 * (j - 2)) k = some d := by rw [e3, if_pos ⟨rfl, rfl⟩]
  have Go : ∀ j2 k2, isTb j2 → k2 < 10 → ¬ (j2 = j ∧ k2 = k) → cG C2 (17 + 4 * (j2 - 2)) k2 = cG C1 (17 + 4 * (j2 - 2)) k2 := by
    intro j2 k2 hj2 hk2 hn
    rw [e3, if_neg (fun h => hn ⟨?_, h.2⟩)]
    unfold isTb at hj2 hj
    omega
  refine ⟨⟨e5.trans i0, i1.tr b12⟩, ?_, ?_, ?_, i5.keep rfl (fun _ _ _ => rfl) (fun i _ => by rw [e2]) (fun i _ => by rw [e2]), i6.keep rfl (fun _ _ => rfl) (fun i _ => by rw [e3, if_neg (by omega)]) hx, fun i hi => ?_⟩
  · rcases hd with q | q
    · exact i2.put hj hk q g2 e6 G1 Go
    · have Ga : ∀ j2 k2, isTb j2 → k2 < 10 → cG C2 (17 + 4 * (j2 - 2)) k2 = cG C1 (17 + 4 * (j2 - 2)) k2 := by
        intro j2 k2 h1 h2
        by_cases c : j2 = j ∧ k2 = k
        · rw [c.1, c.2, G1, q]
        · exact Go j2 k2 h1 h2 c
      refine ⟨fun j2 k2 a h1 h2 h3 => ?_, fun j2 k2 j3 k3 a h1 h2 h3 h4 h5 h6 => ?_⟩
      · rw [Ga j2 k2 h1 h2] at h3
        obtain ⟨c, n, q1, q2⟩ := i2.1 j2 k2 a h1 h2 h3
        exact ⟨c, n, e6 a _ q1, q2⟩
      · rw [Ga j2 k2 h1 h3] at h5
        rw [Ga j3 k3 h2 h4] at h6
        exact i2.2 j2 k2 j3 k3 a h1 h2 h3 h4 h5 h6
  · intro j2 i y h1 h2 h3
    rw [e3, if_neg (by unfold isTb at *; omega)] at h3
    obtain ⟨n, hn⟩ := i3 j2 i y h1 h2 h3
    exact ⟨n, e6 y _ hn⟩
  · unfold TRn
    rw [e1]
    exact i4
  · by_cases c : i = k
    · subst c
      exact ⟨d, G1, hgl⟩
    · obtain ⟨a, q1, q2⟩ := i7 i (by omega)
      refine ⟨a, by rw [e3, if_neg (fun h => c h.2)]; exact q1, ?_⟩
      obtain ⟨ac, an, at1, -⟩ := q2.1
      have ad : a ≠ d := by
        intro h
        subst h
        rcases hd with z | z
        · rw [show C1.2.2.2.2.2.1 a = none from z] at at1; cases at1
        · exact c (i2.2 j i j k a hj hj (by omega) hk q1 z).2
      exact q2.keep ⟨(e6 a _ at1).trans at1.symm, fun q _ => (e7 a ad).1 _⟩
theorem cf_X1_become : CfV yX1_become "TwoGuilds$Table" cX1_become 4 none 1 := ⟨⟨by decide, by decide, by decide⟩, q73, q859, q857, q858⟩
def p_X1_become (C : CS) (j a0 : Nat) (r : Nat → Int32) : Prop := isTb j ∧ isTb a0 ∧ a0 ≠ j ∧ TR C a0 r ∧ GD C ∧ XD C
def q_X1_become (C : CS) (j a0 : Nat) (r : Nat → Int32) (C1 : CS) : Prop := TR C1 j r ∧ (cN C1 = cN C ∧ bE j C C1) ∧ GD C1 ∧ XD C1
def wp_X1_become_l95 (Post : CS → Prop) : Nat → CS → Nat → Nat → Int32 → Prop
  | 0, _, _, _, _ => False
  | n + 1, C, t0, t1, i2 => isTb t0 ∧
  (((C.1 t0 0) ≤ i2 → 
  Post C) ∧
  (¬ (C.1 t0 0) ≤ i2 → 
  vp_in i2 10 ∧
    (((cG C (17 + 4 * (t0 - 2)) (Int32.toNatClampNeg i2)) = none → 
    ((0 : Int32) = 0 → 
      isTb t1 ∧
        (∃ d19 : Nat, (cG C (17 + 4 * (t1 - 2)) (Int32.toNatClampNeg i2)) = some d19 ∧
        (p_X0_anew C d19 ∧
        (∀ d21 : Nat, 
        ∀ C22 : CS, q_X0_anew C d19 d21 C22 → 
        isGl C22 d21 ∧
        (∀ C24 : CS, C24 = (wG C22 (17 + 4 * (t0 - 2)) (Int32.toNatClampNeg i2) (some d21)) → 
        ∀ x25 : Int32, x25 = (i2 + Int32.ofInt 1) → 
        wp_X1_become_l95 Post n C24 t0 t1 x25))))) ∧
      (¬ (0 : Int32) = 0 → 
      ∃ d26 : Nat, (cG C (17 + 4 * (t0 - 2)) (Int32.toNatClampNeg i2)) = some d26 ∧
        (isTb t1 ∧
        (∃ d28 : Nat, (cG C (17 + 4 * (t1 - 2)) (Int32.toNatClampNeg i2)) = some d28 ∧
        (isGl C d26 ∧
        (p_X4_like C d26 d28 ∧
        (∀ d31 : Nat, 
        ∀ C32 : CS, q_X4_like C d26 d28 d31 C32 → 
        isGl C32 d31 ∧
        (∀ C34 : CS, C34 = (wG C32 (17 + 4 * (t0 - 2)) (Int32.toNatClampNeg i2) (some d31)) → 
        ∀ x35 : Int32, x35 = (i2 + Int32.ofInt 1) → 
        wp_X1_become_l95 Post n C34 t0 t1 x35)))))))) ∧
    (¬ (cG C (17 + 4 * (t0 - 2)) (Int32.toNatClampNeg i2)) = none → 
    ∃ d36 : Nat, (cG C (17 + 4 * (t0 - 2)) (Int32.toNatClampNeg i2)) = some d36 ∧
      (p_GL_kind C d36 ∧
      (∀ r38 : Int32, r38 = (v_GL_kind C d36) → 
      isTb t1 ∧
      (∃ d40 : Nat, (cG C (17 + 4 * (t1 - 2)) (Int32.toNatClampNeg i2)) = some d40 ∧
      (p_GL_kind C d40 ∧
      (∀ r42 : Int32, r42 = (v_GL_kind C d40) → 
      (r38 = r42 → 
      ((1 : Int32) = 0 → 
        p_X0_anew C d40 ∧
          (∀ d60 : Nat, 
          ∀ C61 : CS, q_X0_anew C d40 d60 C61 → 
          isGl C61 d60 ∧
          (∀ C63 : CS, C63 = (wG C61 (17 + 4 * (t0 - 2)) (Int32.toNatClampNeg i2) (some d60)) → 
          ∀ x64 : Int32, x64 = (i2 + Int32.ofInt 1) → 
          wp_X1_become_l95 Post n C63 t0 t1 x64))) ∧
        (¬ (1 : Int32) = 0 → 
        isGl C d36 ∧
          (p_X4_like C d36 d40 ∧
          (∀ d67 : Nat, 
          ∀ C68 : CS, q_X4_like C d36 d40 d67 C68 → 
          isGl C68 d67 ∧
          (∀ C70 : CS, C70 = (wG C68 (17 + 4 * (t0 - 2)) (Int32.toNatClampNeg i2) (some d67)) → 
          ∀ x71 : Int32, x71 = (i2 + Int32.ofInt 1) → 
          wp_X1_become_l95 Post n C70 t0 t1 x71))))) ∧
      (¬ r38 = r42 → 
      ((0 : Int32) = 0 → 
        p_X0_anew C d40 ∧
          (∀ d46 : Nat, 
          ∀ C47 : CS, q_X0_anew C d40 d46 C47 → 
          isGl C47 d46 ∧
          (∀ C49 : CS, C49 = (wG C47 (17 + 4 * (t0 - 2)) (Int32.toNatClampNeg i2) (some d46)) → 
          ∀ x50 : Int32, x50 = (i2 + Int32.ofInt 1) → 
          wp_X1_become_l95 Post n C49 t0 t1 x50))) ∧
        (¬ (0 : Int32) = 0 → 
        isGl C d36 ∧
          (p_X4_like C d36 d40 ∧
          (∀ d53 : Nat, 
          ∀ C54 : CS, q_X4_like C d36 d40 d53 C54 → 
          isGl C54 d53 ∧
          (∀ C56 : CS, C56 = (wG C54 (17 + 4 * (t0 - 2)) (Int32.toNatClampNeg i2) (some d53)) → 
          ∀ x57 : Int32, x57 = (i2 + Int32.ofInt 1) → 
          wp_X1_become_l95 Post n C56 t0 t1 x57))))))))))))))
def wp_X1_become (Post : CS → Prop) (C : CS) (j : Nat) (a0 : Nat) : Prop :=
  isTb a0 ∧
    (isTb j ∧
    (∀ C3 : CS, C3 = (wI C j 1 (C.1 a0 1)) → 
    ∀ C4 : CS, C4 = (wI C3 j 2 (C3.1 a0 2)) → 
    ∀ C5 : CS, C5 = (wI C4 j 3 (C4.1 a0 3)) → 
    ∀ C6 : CS, C6 = (wI C5 j 4 (C5.1 a0 4)) → 
    ∀ C7 : CS, C7 = (wI C6 j 5 (C6.1 a0 5)) → 
    ∀ C8 : CS, C8 = (cyA C7 (15 + 4 * (a0 - 2)) (15 + 4 * (j - 2)) 10) → 
    ∀ C9 : CS, C9 = (cyA C8 (16 + 4 * (a0 - 2)) (16 + 4 * (j - 2)) 10) → 
    (∀ i y, i < 14 → cG C9 (18 + 4 * (a0 - 2)) i = some y → isDy C9 14 y) ∧
    (∀ C11 : CS, C11 = (cyG C9 (18 + 4 * (a0 - 2)) (18 + 4 * (j - 2)) 14) → 
    ∀ C12 : CS, C12 = (wI C11 j 0 (C11.1 a0 0)) → 
    ∃ m95, m95 ≤ 11 ∧ wp_X1_become_l95 Post m95 C12 j a0 0)))
set_option maxHeartbeats 4000000 in
set_option maxRecDepth 100000 in
theorem gw_X1_become_l95 {w : WD} {x : Cx} (ok : Ok w x cX1_become 4 yX1_become.cls none (rmL 6 11 88)) {Post : CS → Prop} : ∀ (n : Nat) (C : CS) (t0 : Nat) (t1 : Nat) (i2 : Int32), wp_X1_become_l95 Post  n C t0 t1 i2 → n ≤ 11 → G w x 4 (0 + (11 - n) * 1) (0 + (11 - n) * 8) (QM w x (fun v C1 => v = none ∧ Post C1) 11 88) C 95 [(0, .ref (ad w t0)), (1, .ref (ad w t1)), (2, .int i2)] [] := by
  intro n
  induction n with
  | zero => intro C t0 t1 i2 hw hB; exact hw.elim
  | succ n ih =>
    intro C t0 t1 i2 hw hB
    unfold wp_X1_become_l95 at hw
    refine g_iload_n ok 2 dX1_become_95 rfl ?_
    refine g_aload_n ok 0 dX1_become_96 rfl ?_
    obtain ⟨hf13, hw⟩ := hw
    refine g_get ok t0 (fObjT hf13) rfl in_X1 0 (by decide) q123 rfl dX1_become_97 ?_
    refine g_icmp_ge (tgt := 186) ok dX1_become_100 (by decide) (fun c14 => ?_) (fun c14 => ?_)
    · have hw := hw.1 c14
      refine g_widen 11 88 (by omega) (by omega) ?_
      exact g_vret ok dX1_become_186 ⟨rfl, hw⟩
    · have hw := hw.2 c14
      refine g_aload_n ok 0 dX1_become_103 rfl ?_
      refine g_get ok t0 (fObjT hf13) rfl in_X1 8 (by decide) q139 rfl dX1_become_104 ?_
      refine g_iload_n ok 2 dX1_become_107 rfl ?_
      obtain ⟨hf15, hw⟩ := hw
      refine g_rald ok _ (fRefG hf13) (Or.inl rfl) hf15 rfl dX1_become_108 ?_
      refine g_ifnull (tgt := 137) ok dX1_become_109 (by decide) (fun c16 => ?_) (fun c16 => ?_)
      · have hw := hw.1 c16
        refine g_iconst (v := 0) ok dX1_become_137 (by decide) ?_
        refine g_istore_n0 ok [(3, .int 0), (0, .ref (ad w t0)), (1, .ref (ad w t1)), (2, .int i2)] dX1_become_138 (by decide) rfl ?_
        refine g_aload_n ok 1 dX1_become_139 rfl ?_
        refine g_get ok t0 (fObjT hf13) rfl in_X1 8 (by decide) q139 rfl dX1_become_140 ?_
        refine g_iload_n ok 3 dX1_become_143 rfl ?_
        refine g_iload_n ok 0 dX1_become_144 rfl ?_
        refine g_if_eq (tgt := 166) ok dX1_become_145 (by decide) (fun c17 => ?_) (fun c17 => ?_)
        · have hw := hw.1 c17
          refine g_aload_n ok 1 dX1_become_166 rfl ?_
          refine g_get ok t0 (fObjT hf13) rfl in_X1 10 (by decide) q143 rfl dX1_become_167 ?_
          refine g_aload_n ok 2 dX1_become_170 rfl ?_
          obtain ⟨hf18, hw⟩ := hw
          refine g_get ok t1 (fObjT hf18) rfl in_X1 8 (by decide) q139 rfl dX1_become_171 ?_
          refine g_iload_n ok 3 dX1_become_174 rfl ?_
          obtain ⟨d19, ed19, hw⟩ := hw
          refine g_rald (v := .ref d19) ok _ (fRefG hf18) (Or.inl rfl) hf15 (congrArg va_rf ed19) dX1_become_175 ?_
          obtain ⟨hp20, hw⟩ := hw
          refine g_callVN ok [.ref d19] cf_X0_anew q865 (mc_X0_anew ok.wo (xL x) C d19 hp20) (recvF ok 0 rfl rfl) rfl rfl (Nat.le_of_ble_eq_true rfl) ⟨by decide, by decide⟩ ⟨by show (0 + (11 - (n + 1)) * 1) + 1 ≤ 11; omega, by show (0 + (11 - (n + 1)) * 8) + 8 ≤ 88; omega⟩ dX1_become_176 (resRR fun d21 C22 eC22 => ?_)
          have hw := hw d21 C22 eC22
          obtain ⟨hf23, hw⟩ := hw
          refine g_gast ok (fRefG hf13) hf15 hf23 dX1_become_179 (fun C24 eC24 => ?_)
          have hw := hw C24 eC24
          refine g_iinc ok 3 (fun z => [(2, .int z), (3, .int 0), (0, .ref (ad w t0)), (1, .ref (ad w t1))]) dX1_become_180 rfl (by decide) (fun _ => rfl) (fun x25 ex25 => ?_)
          have hw := hw x25 ex25
          refine g_goto (tgt := 95) ok dX1_become_183 (by decide) ?_
          refine g_sub [2, 3, 0] [(0, .ref (ad w t0)), (1, .ref (ad w t1)), (2, .int x25)] rfl ?_
          refine g_widen _ _ ?_ ?_ (ih C24 t0 t1 x25 hw (by omega)) <;> omega
        · have hw := hw.2 c17
          refine g_aload_n ok 1 dX1_become_148 rfl ?_
          refine g_get ok t0 (fObjT hf13) rfl in_X1 8 (by decide) q139 rfl dX1_become_149 ?_
          refine g_iload_n ok 3 dX1_become_152 rfl ?_
          obtain ⟨d26, ed26, hw⟩ := hw
          refine g_rald (v := .ref d26) ok _ (fRefG hf13) (Or.inl rfl) hf15 (congrArg va_rf ed26) dX1_become_153 ?_
          refine g_aload_n ok 2 dX1_become_154 rfl ?_
          obtain ⟨hf27, hw⟩ := hw
          refine g_get ok t1 (fObjT hf27) rfl in_X1 8 (by decide) q139 rfl dX1_become_155 ?_
          refine g_iload_n ok 3 dX1_become_158 rfl ?_
          obtain ⟨d28, ed28, hw⟩ := hw
          refine g_rald (v := .ref d28) ok _ (fRefG hf27) (Or.inl rfl) hf15 (congrArg va_rf ed28) dX1_become_159 ?_
          obtain ⟨hf30, hw⟩ := hw
          obtain ⟨hp29, hw⟩ := hw
          refine g_callG ok [.ref d28] cfG_X4_like q864 (mc_X4_like ok.wo (xL x) C d26 d28 hp29) hf30 rfl rfl (Nat.le_of_ble_eq_true rfl) ⟨by decide, by decide⟩ ⟨by show (0 + (11 - (n + 1)) * 1) + 0 ≤ 11; omega, by show (0 + (11 - (n + 1)) * 8) + 0 ≤ 88; omega⟩ dX1_become_160 (resRR fun d31 C32 eC32 => ?_)
          have hw := hw d31 C32 eC32
          refine g_goto (tgt := 179) ok dX1_become_163 (by decide) ?_
          obtain ⟨hf33, hw⟩ := hw
          refine g_gast ok (fRefG hf13) hf15 hf33 dX1_become_179 (fun C34 eC34 => ?_)
          have hw := hw C34 eC34
          refine g_iinc ok 3 (fun z => [(2, .int z), (3, .int 0), (0, .ref (ad w t0)), (1, .ref (ad w t1))]) dX1_become_180 rfl (by decide) (fun _ => rfl) (fun x35 ex35 => ?_)
          have hw := hw x35 ex35
          refine g_goto (tgt := 95) ok dX1_become_183 (by decide) ?_
          refine g_sub [2, 3, 0] [(0, .ref (ad w t0)), (1, .ref (ad w t1)), (2, .int x35)] rfl ?_
          refine g_widen _ _ ?_ ?_ (ih C34 t0 t1 x35 hw (by omega)) <;> omega
      · have hw := hw.2 c16
        refine g_aload_n ok 0 dX1_become_112 rfl ?_
        refine g_get ok t0 (fObjT hf13) rfl in_X1 8 (by decide) q139 rfl dX1_become_113 ?_
        refine g_iload_n ok 2 dX1_become_116 rfl ?_
        obtain ⟨d36, ed36, hw⟩ := hw
        refine g_rald (v := .ref d36) ok _ (fRefG hf13) (Or.inl rfl) hf15 (congrArg va_rf ed36) dX1_become_117 ?_
        obtain ⟨hp37, hw⟩ := hw
        refine g_GL_kind ok hp37 q863 ⟨by decide, by decide⟩ (Nat.le_of_ble_eq_true rfl) ⟨by show (0 + (11 - (n + 1)) * 1) ≤ 11; omega, by show (0 + (11 - (n + 1)) * 8) ≤ 88; omega⟩ dX1_become_118 ?_
        refine g_nmI (fun r38 er38 => ?_)
        have hw := hw r38 er38
        refine g_aload_n ok 1 dX1_become_121 rfl ?_
        obtain ⟨hf39, hw⟩ := hw
        refine g_get ok t1 (fObjT hf39) rfl in_X1 8 (by decide) q139 rfl dX1_become_122 ?_
        refine g_iload_n ok 2 dX1_become_125 rfl ?_
        obtain ⟨d40, ed40, hw⟩ := hw
        refine g_rald (v := .ref d40) ok _ (fRefG hf39) (Or.inl rfl) hf15 (congrArg va_rf ed40) dX1_become_126 ?_
        obtain ⟨hp41, hw⟩ := hw
        refine g_GL_kind ok hp41 q863 ⟨by decide, by decide⟩ (Nat.le_of_ble_eq_true rfl) ⟨by show (0 + (11 - (n + 1)) * 1) ≤ 11; omega, by show (0 + (11 - (n + 1)) * 8) ≤ 88; omega⟩ dX1_become_127 ?_
        refine g_nmI (fun r42 er42 => ?_)
        have hw := hw r42 er42
        refine g_icmp_ne (tgt := 137) ok dX1_become_130 (by decide) (fun c43 => ?_) (fun c43 => ?_)
        · have hw := hw.2 c43
          refine g_iconst (v := 0) ok dX1_become_137 (by decide) ?_
          refine g_istore_n0 ok [(3, .int 0), (0, .ref (ad w t0)), (1, .ref (ad w t1)), (2, .int i2)] dX1_become_138 (by decide) rfl ?_
          refine g_aload_n ok 1 dX1_become_139 rfl ?_
          refine g_get ok t0 (fObjT hf13) rfl in_X1 8 (by decide) q139 rfl dX1_become_140 ?_
          refine g_iload_n ok 3 dX1_become_143 rfl ?_
          refine g_iload_n ok 0 dX1_become_144 rfl ?_
          refine g_if_eq (tgt := 166) ok dX1_become_145 (by decide) (fun c44 => ?_) (fun c44 => ?_)
          · have hw := hw.1 c44
            refine g_aload_n ok 1 dX1_become_166 rfl ?_
            refine g_get ok t0 (fObjT hf13) rfl in_X1 10 (by decide) q143 rfl dX1_become_167 ?_
            refine g_aload_n ok 2 dX1_become_170 rfl ?_
            refine g_get ok t1 (fObjT hf39) rfl in_X1 8 (by decide) q139 rfl dX1_become_171 ?_
            refine g_iload_n ok 3 dX1_become_174 rfl ?_
            refine g_rald (v := .ref d40) ok _ (fRefG hf39) (Or.inl rfl) hf15 (congrArg va_rf ed40) dX1_become_175 ?_
            obtain ⟨hp45, hw⟩ := hw
            refine g_callVN ok [.ref d40] cf_X0_anew q865 (mc_X0_anew ok.wo (xL x) C d40 hp45) (recvF ok 0 rfl rfl) rfl rfl (Nat.le_of_ble_eq_true rfl) ⟨by decide, by decide⟩ ⟨by show (0 + (11 - (n + 1)) * 1) + 1 ≤ 11; omega, by show (0 + (11 - (n + 1)) * 8) + 8 ≤ 88; omega⟩ dX1_become_176 (resRR fun d46 C47 eC47 => ?_)
            have hw := hw d46 C47 eC47
            obtain ⟨hf48, hw⟩ := hw
            refine g_gast ok (fRefG hf13) hf15 hf48 dX1_become_179 (fun C49 eC49 => ?_)
            have hw := hw C49 eC49
            refine g_iinc ok 3 (fun z => [(2, .int z), (3, .int 0), (0, .ref (ad w t0)), (1, .ref (ad w t1))]) dX1_become_180 rfl (by decide) (fun _ => rfl) (fun x50 ex50 => ?_)
            have hw := hw x50 ex50
            refine g_goto (tgt := 95) ok dX1_become_183 (by decide) ?_
            refine g_sub [2, 3, 0] [(0, .ref (ad w t0)), (1, .ref (ad w t1)), (2, .int x50)] rfl ?_
            refine g_widen _ _ ?_ ?_ (ih C49 t0 t1 x50 hw (by omega)) <;> omega
          · have hw := hw.2 c44
            refine g_aload_n ok 1 dX1_become_148 rfl ?_
            refine g_get ok t0 (fObjT hf13) rfl in_X1 8 (by decide) q139 rfl dX1_become_149 ?_
            refine g_iload_n ok 3 dX1_become_152 rfl ?_
            refine g_rald (v := .ref d36) ok _ (fRefG hf13) (Or.inl rfl) hf15 (congrArg va_rf ed36) dX1_become_153 ?_
            refine g_aload_n ok 2 dX1_become_154 rfl ?_
            refine g_get ok t1 (fObjT hf39) rfl in_X1 8 (by decide) q139 rfl dX1_become_155 ?_
            refine g_iload_n ok 3 dX1_become_158 rfl ?_
            refine g_rald (v := .ref d40) ok _ (fRefG hf39) (Or.inl rfl) hf15 (congrArg va_rf ed40) dX1_become_159 ?_
            obtain ⟨hf52, hw⟩ := hw
            obtain ⟨hp51, hw⟩ := hw
            refine g_callG ok [.ref d40] cfG_X4_like q864 (mc_X4_like ok.wo (xL x) C d36 d40 hp51) hf52 rfl rfl (Nat.le_of_ble_eq_true rfl) ⟨by decide, by decide⟩ ⟨by show (0 + (11 - (n + 1)) * 1) + 0 ≤ 11; omega, by show (0 + (11 - (n + 1)) * 8) + 0 ≤ 88; omega⟩ dX1_become_160 (resRR fun d53 C54 eC54 => ?_)
            have hw := hw d53 C54 eC54
            refine g_goto (tgt := 179) ok dX1_become_163 (by decide) ?_
            obtain ⟨hf55, hw⟩ := hw
            refine g_gast ok (fRefG hf13) hf15 hf55 dX1_become_179 (fun C56 eC56 => ?_)
            have hw := hw C56 eC56
            refine g_iinc ok 3 (fun z => [(2, .int z), (3, .int 0), (0, .ref (ad w t0)), (1, .ref (ad w t1))]) dX1_become_180 rfl (by decide) (fun _ => rfl) (fun x57 ex57 => ?_)
            have hw := hw x57 ex57
            refine g_goto (tgt := 95) ok dX1_become_183 (by decide) ?_
            refine g_sub [2, 3, 0] [(0, .ref (ad w t0)), (1, .ref (ad w t1)), (2, .int x57)] rfl ?_
            refine g_widen _ _ ?_ ?_ (ih C56 t0 t1 x57 hw (by omega)) <;> omega
        · have hw := hw.1 c43
          refine g_iconst (v := 1) ok dX1_become_133 (by decide) ?_
          refine g_goto (tgt := 138) ok dX1_become_134 (by decide) ?_
          refine g_istore_n0 ok [(3, .int 1), (0, .ref (ad w t0)), (1, .ref (ad w t1)), (2, .int i2)] dX1_become_138 (by decide) rfl ?_
          refine g_aload_n ok 1 dX1_become_139 rfl ?_
          refine g_get ok t0 (fObjT hf13) rfl in_X1 8 (by decide) q139 rfl dX1_become_140 ?_
          refine g_iload_n ok 3 dX1_become_143 rfl ?_
          refine g_iload_n ok 0 dX1_become_144 rfl ?_
          refine g_if_eq (tgt := 166) ok dX1_become_145 (by decide) (fun c58 => ?_) (fun c58 => ?_)
          · have hw := hw.1 c58
            refine g_aload_n ok 1 dX1_become_166 rfl ?_
            refine g_get ok t0 (fObjT hf13) rfl in_X1 10 (by decide) q143 rfl dX1_become_167 ?_
            refine g_aload_n ok 2 dX1_become_170 rfl ?_
            refine g_get ok t1 (fObjT hf39) rfl in_X1 8 (by decide) q139 rfl dX1_become_171 ?_
            refine g_iload_n ok 3 dX1_become_174 rfl ?_
            refine g_rald (v := .ref d40) ok _ (fRefG hf39) (Or.inl rfl) hf15 (congrArg va_rf ed40) dX1_become_175 ?_
            obtain ⟨hp59, hw⟩ := hw
            refine g_callVN ok [.ref d40] cf_X0_anew q865 (mc_X0_anew ok.wo (xL x) C d40 hp59) (recvF ok 0 rfl rfl) rfl rfl (Nat.le_of_ble_eq_true rfl) ⟨by decide, by decide⟩ ⟨by show (0 + (11 - (n + 1)) * 1) + 1 ≤ 11; omega, by show (0 + (11 - (n + 1)) * 8) + 8 ≤ 88; omega⟩ dX1_become_176 (resRR fun d60 C61 eC61 => ?_)
            have hw := hw d60 C61 eC61
            obtain ⟨hf62, hw⟩ := hw
            refine g_gast ok (fRefG hf13) hf15 hf62 dX1_become_179 (fun C63 eC63 => ?_)
            have hw := hw C63 eC63
            refine g_iinc ok 3 (fun z => [(2, .int z), (3, .int 1), (0, .ref (ad w t0)), (1, .ref (ad w t1))]) dX1_become_180 rfl (by decide) (fun _ => rfl) (fun x64 ex64 => ?_)
            have hw := hw x64 ex64
            refine g_goto (tgt := 95) ok dX1_become_183 (by decide) ?_
            refine g_sub [2, 3, 0] [(0, .ref (ad w t0)), (1, .ref (ad w t1)), (2, .int x64)] rfl ?_
            refine g_widen _ _ ?_ ?_ (ih C63 t0 t1 x64 hw (by omega)) <;> omega
          · have hw := hw.2 c58
            refine g_aload_n ok 1 dX1_become_148 rfl ?_
            refine g_get ok t0 (fObjT hf13) rfl in_X1 8 (by decide) q139 rfl dX1_become_149 ?_
            refine g_iload_n ok 3 dX1_become_152 rfl ?_
            refine g_rald (v := .ref d36) ok _ (fRefG hf13) (Or.inl rfl) hf15 (congrArg va_rf ed36) dX1_become_153 ?_
            refine g_aload_n ok 2 dX1_become_154 rfl ?_
            refine g_get ok t1 (fObjT hf39) rfl in_X1 8 (by decide) q139 rfl dX1_become_155 ?_
            refine g_iload_n ok 3 dX1_become_158 rfl ?_
            refine g_rald (v := .ref d40) ok _ (fRefG hf39) (Or.inl rfl) hf15 (congrArg va_rf ed40) dX1_become_159 ?_
            obtain ⟨hf66, hw⟩ := hw
            obtain ⟨hp65, hw⟩ := hw
            refine g_callG ok [.ref d40] cfG_X4_like q864 (mc_X4_like ok.wo (xL x) C d36 d40 hp65) hf66 rfl rfl (Nat.le_of_ble_eq_true rfl) ⟨by decide, by decide⟩ ⟨by show (0 + (11 - (n + 1)) * 1) + 0 ≤ 11; omega, by show (0 + (11 - (n + 1)) * 8) + 0 ≤ 88; omega⟩ dX1_become_160 (resRR fun d67 C68 eC68 => ?_)
            have hw := hw d67 C68 eC68
            refine g_goto (tgt := 179) ok dX1_become_163 (by decide) ?_
            obtain ⟨hf69, hw⟩ := hw
            refine g_gast ok (fRefG hf13) hf15 hf69 dX1_become_179 (fun C70 eC70 => ?_)
            have hw := hw C70 eC70
            refine g_iinc ok 3 (fun z => [(2, .int z), (3, .int 1), (0, .ref (ad w t0)), (1, .ref (ad w t1))]) dX1_become_180 rfl (by decide) (fun _ => rfl) (fun x71 ex71 => ?_)
            have hw := hw x71 ex71
            refine g_goto (tgt := 95) ok dX1_become_183 (by decide) ?_
            refine g_sub [2, 3, 0] [(0, .ref (ad w t0)), (1, .ref (ad w t1)), (2, .int x71)] rfl ?_
            refine g_widen _ _ ?_ ?_ (ih C70 t0 t1 x71 hw (by omega)) <;> omega
set_option maxHeartbeats 4000000 in
set_option maxRecDepth 100000 in
theorem gw_X1_become {w : WD} (wk : wOk w) (l : Launch) (C : CS) (j : Nat) (a0 : Nat) {Post : CS → Prop} (hw : wp_X1_become Post C j a0) : MC w l yX1_become cX1_become 4 none 6 11 88 [.ref (ad w j), .ref (ad w a0)] C (fun v C1 => v = none ∧ Post C1) := by
  unfold wp_X1_become at hw
  refine MC.of wk (by decide) (Nat.le_of_ble_eq_true rfl) (fun x hx ok => ?_)
  subst hx
  show G w x 4 0 0 (QM w x _ 11 88) C 0 [(0, .ref (ad w j)), (1, .ref (ad w a0))] []
  refine g_aload_n ok 0 dX1_become_0 rfl ?_
  refine g_aload_n ok 1 dX1_become_1 rfl ?_
  obtain ⟨hf1, hw⟩ := hw
  refine g_get ok a0 (fObjT hf1) rfl in_X1 1 (by decide) q125 rfl dX1_become_2 ?_
  obtain ⟨hf2, hw⟩ := hw
  refine g_putI ok j (fObjT hf2) rfl in_X1 tyX1 tyX1_ok nmX1 1 (by decide) q125 rfl rfl rfl (putT hf2 rfl) dX1_become_5 (fun C3 eC3 => ?_)
  have hw := hw C3 eC3
  refine g_aload_n ok 0 dX1_become_8 rfl ?_
  refine g_aload_n ok 1 dX1_become_9 rfl ?_
  refine g_get ok a0 (fObjT hf1) rfl in_X1 2 (by decide) q127 rfl dX1_become_10 ?_
  refine g_putI ok j (fObjT hf2) rfl in_X1 tyX1 tyX1_ok nmX1 2 (by decide) q127 rfl rfl rfl (putT hf2 rfl) dX1_become_13 (fun C4 eC4 => ?_)
  have hw := hw C4 eC4
  refine g_aload_n ok 0 dX1_become_16 rfl ?_
  refine g_aload_n ok 1 dX1_become_17 rfl ?_
  refine g_get ok a0 (fObjT hf1) rfl in_X1 3 (by decide) q129 rfl dX1_become_18 ?_
  refine g_putI ok j (fObjT hf2) rfl in_X1 tyX1 tyX1_ok nmX1 3 (by decide) q129 rfl rfl rfl (putT hf2 rfl) dX1_become_21 (fun C5 eC5 => ?_)
  have hw := hw C5 eC5
  refine g_aload_n ok 0 dX1_become_24 rfl ?_
  refine g_aload_n ok 1 dX1_become_25 rfl ?_
  refine g_get ok a0 (fObjT hf1) rfl in_X1 4 (by decide) q131 rfl dX1_become_26 ?_
  refine g_putI ok j (fObjT hf2) rfl in_X1 tyX1 tyX1_ok nmX1 4 (by decide) q131 rfl rfl rfl (putT hf2 rfl) dX1_become_29 (fun C6 eC6 => ?_)
  have hw := hw C6 eC6
  refine g_aload_n ok 0 dX1_become_32 rfl ?_
  refine g_aload_n ok 1 dX1_become_33 rfl ?_
  refine g_get ok a0 (fObjT hf1) rfl in_X1 5 (by decide) q133 rfl dX1_become_34 ?_
  refine g_putI ok j (fObjT hf2) rfl in_X1 tyX1 tyX1_ok nmX1 5 (by decide) q133 rfl rfl rfl (putT hf2 rfl) dX1_become_37 (fun C7 eC7 => ?_)
  have hw := hw C7 eC7
  refine g_aload_n ok 1 dX1_become_40 rfl ?_
  refine g_get ok a0 (fObjT hf1) rfl in_X1 6 (by decide) q135 rfl dX1_become_41 ?_
  refine g_iconst (v := 0) ok dX1_become_44 (by decide) ?_
  refine g_aload_n ok 0 dX1_become_45 rfl ?_
  refine g_get ok j (fObjT hf2) rfl in_X1 6 (by decide) q135 rfl dX1_become_46 ?_
  refine g_iconst (v := 0) ok dX1_become_49 (by decide) ?_
  refine g_bipush (v := 10) ok dX1_become_50 (by decide) ?_
  refine g_cpA (m := 10) ok (fArrL hf1) (fArrL hf2) (by decide) (by decide) (by decide) q860 ⟨by decide, by decide⟩ (Nat.le_of_ble_eq_true rfl) dX1_become_52 (fun C8 eC8 => ?_)
  have hw := hw C8 eC8
  refine g_aload_n ok 1 dX1_become_55 rfl ?_
  refine g_get ok a0 (fObjT hf1) rfl in_X1 7 (by decide) q137 rfl dX1_become_56 ?_
  refine g_iconst (v := 0) ok dX1_become_59 (by decide) ?_
  refine g_aload_n ok 0 dX1_become_60 rfl ?_
  refine g_get ok j (fObjT hf2) rfl in_X1 7 (by decide) q137 rfl dX1_become_61 ?_
  refine g_iconst (v := 0) ok dX1_become_64 (by decide) ?_
  refine g_bipush (v := 10) ok dX1_become_65 (by decide) ?_
  refine g_cpA (m := 10) ok (fArrR hf1) (fArrR hf2) (by decide) (by decide) (by decide) q860 ⟨by decide, by decide⟩ (Nat.le_of_ble_eq_true rfl) dX1_become_67 (fun C9 eC9 => ?_)
  have hw := hw C9 eC9
  refine g_aload_n ok 1 dX1_become_70 rfl ?_
  refine g_get ok a0 (fObjT hf1) rfl in_X1 9 (by decide) q141 rfl dX1_become_71 ?_
  refine g_iconst (v := 0) ok dX1_become_74 (by decide) ?_
  refine g_aload_n ok 0 dX1_become_75 rfl ?_
  refine g_get ok j (fObjT hf2) rfl in_X1 9 (by decide) q141 rfl dX1_become_76 ?_
  refine g_iconst (v := 0) ok dX1_become_79 (by decide) ?_
  refine g_bipush (v := 14) ok dX1_become_80 (by decide) ?_
  obtain ⟨hf10, hw⟩ := hw
  refine g_cpG (m := 14) ok (fRefX hf1) (fRefX hf2) hf10 (by decide) (by decide) (by decide) q860 ⟨by decide, by decide⟩ (Nat.le_of_ble_eq_true rfl) dX1_become_82 (fun C11 eC11 => ?_)
  have hw := hw C11 eC11
  refine g_aload_n ok 0 dX1_become_85 rfl ?_
  refine g_aload_n ok 1 dX1_become_86 rfl ?_
  refine g_get ok a0 (fObjT hf1) rfl in_X1 0 (by decide) q123 rfl dX1_become_87 ?_
  refine g_putI ok j (fObjT hf2) rfl in_X1 tyX1 tyX1_ok nmX1 0 (by decide) q123 rfl rfl rfl (putT hf2 rfl) dX1_become_90 (fun C12 eC12 => ?_)
  have hw := hw C12 eC12
  refine g_iconst (v := 0) ok dX1_become_93 (by decide) ?_
  refine g_istore_n0 ok [(2, .int 0), (0, .ref (ad w j)), (1, .ref (ad w a0))] dX1_become_94 (by decide) rfl ?_
  refine g_sub [1, 2, 0] [(0, .ref (ad w j)), (1, .ref (ad w a0)), (2, .int 0)] rfl ?_
  obtain ⟨n72, hB, hw⟩ := hw
  refine g_widen _ _ ?_ ?_ (gw_X1_become_l95 ok n72 C12 j a0 0 hw hB) <;> omega
theorem sp_X1_become (C : CS) (j a0 : Nat) (r : Nat → Int32) (hp : p_X1_become C j a0 r) : wp_X1_become (fun C1 => q_X1_become C j a0 r C1) C j a0 := by
  obtain ⟨hj, h0, hne, ht, hg, hx⟩ := hp
  refine ⟨h0, hj, fun C3 e3 C4 e4 C5 e5 C6 e6 C7 e7 C8 e8 C9 e9 => ⟨?_, fun C11 e11 C12 e12 => ?_⟩⟩
  · intro i y hi h
    rw [e9, e8, e7, e6, e5, e4, e3] at h
    obtain ⟨n, hn⟩ := hx a0 i y h0 hi h
    exact ⟨n, by rw [e9, e8, e7, e6, e5, e4, e3]; exact hn⟩
  have d22 : C12.2.2.2 = C.2.2.2 := by rw [e12, e11, e9, e8, e7, e6, e5, e4, e3]; rfl
  have o3 : ∀ k, C3.1 a0 k = C.1 a0 k := fun k => by rw [e3]; exact u2n (fun h => hne h.1)
  have o4 : ∀ k, C4.1 a0 k = C.1 a0 k := fun k => by rw [e4]; exact (u2n (fun h => hne h.1)).trans (o3 k)
  have o5 : ∀ k, C5.1 a0 k = C.1 a0 k := fun k => by rw [e5]; exact (u2n (fun h => hne h.1)).trans (o4 k)
  have o6 : ∀ k, C6.1 a0 k = C.1 a0 k := fun k => by rw [e6]; exact (u2n (fun h => hne h.1)).trans (o5 k)
  have o7 : ∀ k, C7.1 a0 k = C.1 a0 k := fun k => by rw [e7]; exact (u2n (fun h => hne h.1)).trans (o6 k)
  have o11 : ∀ k, C11.1 a0 k = C.1 a0 k := fun k => by rw [e11, e9, e8]; exact o7 k
  have n12 : ∀ k, k < 6 → C12.1 j k = C.1 a0 k := by
    intro k hk
    rw [e12]
    by_cases c0 : k = 0
    · subst c0; exact u2s.trans (o11 0)
    · refine (u2n (fun h => c0 h.2)).trans ?_
      rw [e11, e9, e8]
      show C7.1 j k = _
      rw [e7]
      by_cases c5 : k = 5
      · subst c5; exact u2s.trans (o6 5)
      · refine (u2n (fun h => c5 h.2)).trans ?_
        rw [e6]
        by_cases c4 : k = 4
        · subst c4; exact u2s.trans (o5 4)
        · refine (u2n (fun h => c4 h.2)).trans ?_
          rw [e5]
          by_cases c3 : k = 3
          · subst c3; exact u2s.trans (o4 3)
          · refine (u2n (fun h => c3 h.2)).trans ?_
            rw [e4]
            by_cases c2 : k = 2
            · subst c2; exact u2s.trans (o3 2)
            · refine (u2n (fun h => c2 h.2)).trans ?_
              rw [e3]
              have : k = 1 := by omega
              subst this
              exact u2s
  have x12 : ∀ i, i ≠ j → C12.1 i = C.1 i := by
    intro i hi
    funext k
    rw [e12]
    refine (u2n (fun h => hi h.1)).trans ?_
    rw [e11, e9, e8]
    show C7.1 i k = _
    rw [e7]
    refine (u2n (fun h => hi h.1)).trans ?_
    rw [e6]
    refine (u2n (fun h => hi h.1)).trans ?_
    rw [e5]
    refine (u2n (fun h => hi h.1)).trans ?_
    rw [e4]
    refine (u2n (fun h => hi h.1)).trans ?_
    rw [e3]
    exact u2n (fun h => hi h.1)
  have A12 : ∀ x y, C12.2.1 x y = if x = 16 + 4 * (j - 2) ∧ y < 10 then (if 16 + 4 * (a0 - 2) = 15 + 4 * (j - 2) ∧ y < 10 then C.2.1 (15 + 4 * (a0 - 2)) y else C.2.1 (16 + 4 * (a0 - 2)) y) else if x = 15 + 4 * (j - 2) ∧ y < 10 then C.2.1 (15 + 4 * (a0 - 2)) y else C.2.1 x y := by
    intro x y
    rw [e12, e11, e9, e8, e7, e6, e5, e4, e3]
    rfl
  have G12 : ∀ x y, cG C12 x y = if x = 18 + 4 * (j - 2) ∧ y < 14 then cG C (18 + 4 * (a0 - 2)) y else cG C x y := by
    intro x y
    rw [e12, e11, e9, e8, e7, e6, e5, e4, e3]
    rfl
  have hx12 : keepX C C12 := fun a c n h1 _ _ => ⟨by show C12.2.2.2.2.2.1 a = _; rw [d22]; exact h1, fun k => by show C12.2.2.2.2.2.2.1 k a = _; rw [d22], fun k => by show C12.2.2.2.2.2.2.2.1 k a = _; rw [d22]⟩
  have tj := hj
  have t0 := h0
  unfold isTb at tj t0
  have b12 : bE j C C12 := by
    refine ⟨fun i k h _ => by rw [x12 i h], fun i _ _ h1 h2 h3 => ?_, fun i h1 h2 => ?_, by rw [d22], fun a tg h => by show C12.2.2.2.2.2.1 a = _; rw [d22]; exact h, fun a tg _ _ => ⟨fun _ => by rw [d22], fun _ => by rw [d22], fun _ => by rw [d22], fun _ => by rw [d22]⟩, fun i a hi h => Or.inr ⟨i, hi, ?_⟩⟩
    · funext y
      rw [A12, if_neg (fun h => h3 h.1), if_neg (fun h => h2 h.1)]
    · funext y
      have := G12 i y
      rw [if_neg (fun h => h2 h.1)] at this
      exact this
    · rw [G12, if_neg (by omega)] at h
      exact h
  have g12 : GD C12 := by
    have Ga : ∀ j2 k2, cG C12 (17 + 4 * (j2 - 2)) k2 = cG C (17 + 4 * (j2 - 2)) k2 := fun j2 k2 => by rw [G12, if_neg (by omega)]
    refine ⟨fun j2 k2 a h1 h2 h3 => ?_, fun j2 k2 j3 k3 a h1 h2 h3 h4 h5 h6 => ?_⟩
    · rw [Ga] at h3
      exact (hg.1 j2 k2 a h1 h2 h3).keep (by show C12.2.2.2.2.2.1 a = _; rw [d22])
    · rw [Ga] at h5 h6
      exact hg.2 j2 k2 j3 k3 a h1 h2 h3 h4 h5 h6
  have xd12 : XD C12 := by
    intro j2 i y h1 h2 h3
    have iy : isDy C 14 y := by
      rw [G12] at h3
      by_cases c : 18 + 4 * (j2 - 2) = 18 + 4 * (j - 2) ∧ i < 14
      · rw [if_pos c] at h3
        exact hx a0 i y h0 h2 h3
      · rw [if_neg c] at h3
        exact hx j2 i y h1 h2 h3
    obtain ⟨n, hn⟩ := iy
    exact ⟨n, by rw [d22]; exact hn⟩
  have i0 : bI C j r 0 C12 := by
    refine ⟨⟨by show C12.2.2.2.2.1 = _; rw [d22], b12⟩, g12, xd12, ?_, ?_, ?_, fun i hi => absurd hi (by omega)⟩
    · obtain ⟨t0, t1, t2, t3, t4, t5⟩ := ht.n
      exact ⟨(n12 5 (by omega)).trans t0, (n12 0 (by omega)).trans t1, (n12 3 (by omega)).trans t2, (n12 4 (by omega)).trans t3, (n12 2 (by omega)).trans t4, (n12 1 (by omega)).trans t5⟩
    · obtain ⟨W, b1, b2, b3⟩ := ht.w
      refine ⟨W, b1, b2, fun k hk => ?_⟩
      obtain ⟨p, q, z1, z2, z3, z4, z5⟩ := b3 k hk
      refine ⟨p, q, z1, z2, ?_, ?_, z5⟩
      · rw [A12, if_neg (by omega), if_pos ⟨rfl, by omega⟩]; exact z3
      · rw [A12, if_pos ⟨rfl, by omega⟩, if_neg (by omega)]; exact z4
    · obtain ⟨T, c1, c2, c3⟩ := ht.t
      refine ⟨T, c1, c2, fun t ht => ?_⟩
      obtain ⟨a, q1, q2⟩ := c3 t ht
      exact ⟨a, by rw [G12, if_pos ⟨rfl, by omega⟩]; exact q1, q2.keep hx12⟩
  obtain ⟨N, eN, hN, -⟩ := ht.g
  have H : ∀ f k, k + f = N → ∀ C1 : CS, bI C j r k C1 → wp_X1_become_l95 (fun C1 => q_X1_become C j a0 r C1) (f + 1) C1 j a0 (nI k) := by
    intro f
    induction f with
    | zero =>
      intro k hk C1 h
      have hk : k = N := by omega
      subst hk
      obtain ⟨i1, i2, i3, i4, i5, i6, i7⟩ := h
      refine ⟨hj, fun _ => ⟨⟨i4, ⟨k, eN, hN, i7⟩, i5, i6⟩, i1, i2, i3⟩, fun c => absurd ?_ c⟩
      rw [i4.2.1, eN]; exact Int32.le_refl _
    | succ f ih =>
      intro k hk C1 h
      have hi := h
      obtain ⟨⟨i0, i1⟩, i2, i3, i4, i5, i6, i7⟩ := hi
      have ts : TR C1 a0 r := i1.other hj h0 hne hg ht
      obtain ⟨b, hb, hgb⟩ := ts.gN eN hN k (by omega)
      have bg : isGl C1 b ∧ (cDI C1 44 b = 0 ∨ cDI C1 44 b = 1) := ⟨hgb.1, hgb.b5⟩
      -- a new one
      have new : ∀ d C2 x, q_X0_anew C1 b d C2 → ∀ C4, C4 = wG C2 (17 + 4 * (j - 2)) (nI k).toNatClampNeg (some d) → x = nI k + Int32.ofInt 1 → isGl C2 d ∧ wp_X1_become_l95 (fun C1 => q_X1_become C j a0 r C1) (f + 1) C4 j a0 x := by
        intro d C2 x hq C4 e4 ex
        obtain ⟨n0, n1, n2, n3, n4, n5, n6, n7, n8⟩ := hq
        rw [cl_k (by omega)] at e4
        have kb : kdN C1 b ≤ 5 := by rcases kd_is hgb.1 with h | h | h | h | h | h <;> omega
        have gd2 : isGl C2 d := ⟨_, _, n6, by omega, by omega⟩
        refine ⟨gd2, ?_⟩
        rw [ex, o1, nI_add]
        refine ih (k + 1) (by omega) C4 (h.step hj (by omega) (d := d) (by rw [e4]; exact n1) (by rw [e4]; exact n2) (fun x y => ?_) (by rw [e4]; exact n4) (by rw [e4]; exact n5) (fun a tg ha => ?_) (fun a ha => ?_) (by rw [e4]; exact gd2) (Or.inl n0) ?_)
        · rw [e4]
          show (if x = 17 + 4 * (j - 2) ∧ y = k then some d else C2.2.2.1 x y) = _
          rw [n3]
        · rw [e4]
          show cT C2 a = _
          rw [(n7 a (fun hh => by rw [hh, n0] at ha; cases ha)).1]
          exact ha
        · rw [e4]
          exact (n7 a ha).2
        · rw [e4]
          obtain ⟨y1, y2, y3, y4, y5, y6, y7, y8⟩ := hgb
          refine ⟨gd2, ?_, (n8 0 (by omega)).trans y3, (n8 1 (by omega)).trans y4, (n8 2 (by omega)).trans y5, (n8 3 (by omega)).trans y6, (n8 4 (by omega)).trans y7, y8⟩
          rw [← y2]
          show nI (kdN C2 d) = nI (kdN C1 b)
          rw [kdN_t n6]
          congr 1
          omega
      refine ⟨hj, fun c => ?_, fun _ => ⟨vp_k (by omega), fun cn => ⟨fun _ => ⟨h0, b, by rw [cl_k (by omega)]; exact hb, bg, fun d21 C22 h22 => ⟨(new d21 C22 _ h22 _ rfl rfl).1, fun C24 e24 x25 e25 => (new d21 C22 x25 h22 C24 e24 e25).2⟩⟩, fun c => absurd rfl c⟩, fun cn => ?_⟩⟩
      · rw [i4.2.1, eN, nI_leI (by omega) (by omega)] at c; omega
      · rw [cl_k (by omega)] at cn
        cases hd : cG C1 (17 + 4 * (j - 2)) k with
        | none => exact absurd hd cn
        | some a =>
          have ga : isGl C1 a := i2.1 j k a hj (by omega) hd
          refine ⟨a, by rw [cl_k (by omega)]; exact hd, ga, fun r38 e38 => ⟨h0, b, by rw [cl_k (by omega)]; exact hb, bg.1, fun r42 e42 => ⟨fun ce => ⟨fun c => absurd c (by decide), fun _ => ⟨ga, ⟨ga, bg.1, bg.2⟩, fun d67 C68 h68 => ?_⟩⟩, fun ce => ⟨fun _ => ⟨bg, fun d46 C47 h47 => ⟨(new d46 C47 _ h47 _ rfl rfl).1, fun C49 e49 x50 e50 => (new d46 C47 x50 h47 C49 e49 e50).2⟩⟩, fun c => absurd rfl c⟩⟩⟩⟩
          obtain ⟨rfl, l1, l2, l3, l4, l5, l6, l7, l8, l9⟩ := h68
          have ga2 : isGl C68 d67 := ga.keep (by show C68.2.2.2.2.2.1 _ = _; rw [l6])
          refine ⟨ga2, fun C70 e70 x71 e71 => ?_⟩
          rw [cl_k (by omega)] at e70
          rw [e71, o1, nI_add]
          have kdE : kdG C1 d67 = kdG C1 b := by rw [e38, e42] at ce; exact ce
          refine ih (k + 1) (by omega) C70 (h.step hj (by omega) (d := d67) (by rw [e70]; exact l1) (by rw [e70]; exact l2) (fun x y => ?_) (by rw [e70]; exact l4) (by rw [e70]; exact l5) (fun a tg ha => ?_) (fun a ha => ⟨fun q => ?_, fun q => ?_, fun q => ?_, fun q => ?_⟩) (by rw [e70]; exact ga2) (Or.inr hd) ?_)
          · rw [e70]
            show (if x = 17 + 4 * (j - 2) ∧ y = k then some d67 else C68.2.2.1 x y) = _
            rw [l3]
          · rw [e70]
            show C68.2.2.2.2.2.1 a = _
            rw [l6]; exact ha
          · rw [e70]; exact l9 q a ha
          · rw [e70]
            show C68.2.2.2.2.2.2.2.1 q a = _
            rw [l7]
          · rw [e70]
            show C68.2.2.2.2.2.2.2.2.1 a q = _
            rw [l7]
          · rw [e70]
            show C68.2.2.2.2.2.2.2.2.2 a q = _
            rw [l7]
          · rw [e70]
            obtain ⟨y1, y2, y3, y4, y5, y6, y7, y8⟩ := hgb
            refine ⟨ga2, ?_, (l8 0 (by omega)).trans y3, (l8 1 (by omega)).trans y4, (l8 2 (by omega)).trans y5, (l8 3 (by omega)).trans y6, (l8 4 (by omega)).trans y7, y8⟩
            rw [← y2, ← kdE]
            exact kdG.keep (by show C68.2.2.2.2.2.1 _ = _; rw [l6])
  exact ⟨N + 1, by omega, H N 0 (by omega) C12 i0⟩
theorem mc_X1_become {w : WD} (wk : wOk w) (l : Launch) (C : CS) (j : Nat) (a0 : Nat) (r : (Nat → Int32)) (hp : p_X1_become C j a0 r) : MC w l yX1_become cX1_become 4 none 6 11 88 [.ref (ad w j), .ref (ad w a0)] C (pVR (q_X1_become C j a0 r)) := MC.postVR (gw_X1_become wk l C j a0 (sp_X1_become C j a0 r hp))
