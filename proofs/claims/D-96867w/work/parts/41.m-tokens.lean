/-! the tape is read: spaces, letters, figures, signs -/
def isL (x : Int32) : Bool := decide (¬ x < 97) && decide (¬ 122 < x)
def isF (x : Int32) : Bool := decide (¬ x < 48) && decide (¬ 57 < x)
def isSp (x : Int32) : Bool := decide (x = 32)
/-- how far the bytes from p on are of a kind (d more at the most) -/
def spF (P : Int32 → Bool) (tp : Nat → Int32) (L : Nat) : Nat → Nat → Nat
  | 0, p => p
  | d + 1, p => if p < L ∧ P (tp p) = true then spF P tp L d (p + 1) else p
def spn (P : Int32 → Bool) (tp : Nat → Int32) (L p : Nat) : Nat := spF P tp L (L - p) p
theorem spF_le (P : Int32 → Bool) (tp : Nat → Int32) (L : Nat) : ∀ d p, p ≤ L → p ≤ spF P tp L d p ∧ spF P tp L d p ≤ L := by
  intro d
  induction d with
  | zero => intro p h; exact ⟨Nat.le_refl _, h⟩
  | succ d ih =>
    intro p h
    rw [spF]
    split
    · rename_i c
      have := ih (p + 1) (by omega)
      omega
    · omega
theorem spn_le {P : Int32 → Bool} {tp : Nat → Int32} {L p : Nat} (h : p ≤ L) : p ≤ spn P tp L p ∧ spn P tp L p ≤ L := spF_le P tp L _ p h
theorem spn_step {P : Int32 → Bool} {tp : Nat → Int32} {L p : Nat} (h : p < L) (hp : P (tp p) = true) : spn P tp L p = spn P tp L (p + 1) := by
  unfold spn
  rw [show L - p = (L - (p + 1)) + 1 by omega, spF, if_pos ⟨h, hp⟩]
theorem spn_stop {P : Int32 → Bool} {tp : Nat → Int32} {L p : Nat} (h : ¬ (p < L ∧ P (tp p) = true)) : spn P tp L p = p := by
  unfold spn
  cases hd : L - p with
  | zero => rfl
  | succ d => rw [spF, if_neg h]
/-- the number of k figures from q on, four at the most -/
def numV (tp : Nat → Int32) (q : Nat) : Nat → Int32
  | 0 => 0
  | k + 1 => if k < 4 then 10 * numV tp q k + tp (q + k) - 48 else numV tp q k
/-- the next token from p on: where it ends, where it begins, what it is, its value, where letters or figures ended last -/
def goT (tp : Nat → Int32) (L p : Nat) (val ended : Int32) : Nat × Nat × Int32 × Int32 × Int32 :=
  let q := spn isSp tp L p
  if q = L then (q, q, 0, val, ended)
  else if isL (tp q) = true then (spn isL tp L q, q, (if nI q = ended then 4 else 1), tp q, nI (spn isL tp L q))
  else if isF (tp q) = true then (spn isF tp L q, q, (if nI q = ended then 4 else if spn isF tp L q - q ≤ 4 then 2 else 4), numV tp q (spn isF tp L q - q), nI (spn isF tp L q))
  else (q + 1, q, 3, tp q, ended)
/-- only the reader's five ints may have changed -/
def gEq (C D : CS) : Prop := D.2 = C.2 ∧ ∀ j k, ¬ (j = 1 ∧ 10 ≤ k ∧ k ≤ 14) → D.1 j k = C.1 j k
theorem gEq.w {C D : CS} (h : gEq C D) (k : Nat) (v : Int32) (h1 : 10 ≤ k := by decide) (h2 : k ≤ 14 := by decide) : gEq C (wI D 1 k v) := by
  refine ⟨h.1, fun j q hq => ?_⟩
  rw [← h.2 j q hq]
  unfold wI up2
  simp only []
  rw [if_neg]
  intro z
  exact hq ⟨z.1, by omega, by omega⟩
theorem wI_s (C : CS) (k : Nat) (v : Int32) : (wI C 1 k v).1 1 k = v := by simp [wI, up2]
theorem wI_n (C : CS) (k q : Nat) (v : Int32) (h : q ≠ k) : (wI C 1 k v).1 1 q = C.1 1 q := by simp [wI, up2, h]
theorem wI_2 (C : CS) (k : Nat) (v : Int32) : (wI C 1 k v).2 = C.2 := rfl
theorem let_iff {C : CS} {L p : Nat} (hL : C.1 1 9 = nI L) (hp : p ≤ L) (hL2 : L ≤ 96) : (¬ v_X3_isLetter C (nI p) = 0) ↔ (p < L ∧ isL (C.2.1 43 p) = true) := by
  unfold v_X3_isLetter isL
  rw [hL, cl_k (by omega)]
  have t : (nI L ≤ nI p) ↔ L ≤ p := nI_leI (by omega) (by omega)
  by_cases h1 : L ≤ p
  · rw [if_pos (t.mpr h1)]; simp; omega
  · rw [if_neg (fun z => h1 (t.mp z))]
    by_cases h2 : C.2.1 43 p < 97
    · simp [h2]
    · by_cases h3 : 122 < C.2.1 43 p
      · simp [h2, h3]
      · simp [h2, h3]; omega
theorem fig_iff {C : CS} {L p : Nat} (hL : C.1 1 9 = nI L) (hp : p ≤ L) (hL2 : L ≤ 96) : (¬ v_X3_isFigure C (nI p) = 0) ↔ (p < L ∧ isF (C.2.1 43 p) = true) := by
  unfold v_X3_isFigure isF
  rw [hL, cl_k (by omega)]
  have t : (nI L ≤ nI p) ↔ L ≤ p := nI_leI (by omega) (by omega)
  by_cases h1 : L ≤ p
  · rw [if_pos (t.mpr h1)]; simp; omega
  · rw [if_neg (fun z => h1 (t.mp z))]
    by_cases h2 : C.2.1 43 p < 48
    · simp [h2]
    · by_cases h3 : 57 < C.2.1 43 p
      · simp [h2, h3]
      · simp [h2, h3]; omega
theorem plet {C : CS} {L p : Nat} (hL : C.1 1 9 = nI L) (hp : p ≤ L) (hL2 : L ≤ 96) : p_X3_isLetter C (nI p) := by
  refine ⟨fun _ => trivial, fun c => ?_⟩
  rw [hL, nI_leI (by omega) (by omega)] at c
  exact ⟨vp_k (by omega), fun _ => trivial, fun _ => ⟨vp_k (by omega), trivial⟩⟩
theorem pfig {C : CS} {L p : Nat} (hL : C.1 1 9 = nI L) (hp : p ≤ L) (hL2 : L ≤ 96) : p_X3_isFigure C (nI p) := by
  refine ⟨fun _ => trivial, fun c => ?_⟩
  rw [hL, nI_leI (by omega) (by omega)] at c
  exact ⟨vp_k (by omega), fun _ => trivial, fun _ => ⟨vp_k (by omega), trivial⟩⟩
theorem cf_X3_go : CfV yX3_go "TwoGuildsModel" cX3_go 2 none 0 := ⟨⟨by decide, by decide, by decide⟩, q75, q1727, q1726, qs61⟩
def p_X3_go (C : CS) : Prop := ∃ L p, C.1 1 9 = nI L ∧ L ≤ 96 ∧ C.1 1 10 = nI p ∧ p ≤ L
def goC (C : CS) : Nat × Nat × Int32 × Int32 × Int32 := goT (C.2.1 43) (C.1 1 9).toNatClampNeg (C.1 1 10).toNatClampNeg (C.1 1 13) (C.1 1 14)
def q_X3_go (C : CS) (C1 : CS) : Prop := gEq C C1 ∧ C1.1 1 10 = nI (goC C).1 ∧ C1.1 1 11 = nI (goC C).2.1 ∧ C1.1 1 12 = (goC C).2.2.1 ∧ C1.1 1 13 = (goC C).2.2.2.1 ∧ C1.1 1 14 = (goC C).2.2.2.2
def wp_X3_go_l170 (Post : CS → Prop) : Nat → CS → Int32 → Prop
  | 0, _, _ => False
  | n + 1, C, i1 => p_X3_isFigure C (C.1 1 10) ∧
  (∀ r15 : Int32, r15 = (v_X3_isFigure C (C.1 1 10)) → 
  (r15 = 0 → 
  ∀ x21 : Int32, x21 = (if i1 = 0 then (if ((C.1 1 10) - (C.1 1 11)) ≤ 4 then (2 : Int32) else 4) else 4) → 
    ∀ C22 : CS, C22 = (wI C 1 12 x21) → 
    ∀ C23 : CS, C23 = (wI C22 1 14 (C22.1 1 10)) → 
    Post C23) ∧
  (¬ r15 = 0 → 
  ((4 ≤ ((C.1 1 10) - (C.1 1 11)) → 
      True) ∧
      (¬ 4 ≤ ((C.1 1 10) - (C.1 1 11)) → 
      vp_in (C.1 1 10) 96 ∧
        (True))) ∧
    (∀ x26 : Int32, x26 = (if 4 ≤ ((C.1 1 10) - (C.1 1 11)) then (C.1 1 13) else (((10 * (C.1 1 13)) + (C.2.1 43 (Int32.toNatClampNeg (C.1 1 10)))) - 48)) → 
    ∀ C27 : CS, C27 = (wI C 1 13 x26) → 
    ∀ C28 : CS, C28 = (wI C27 1 10 ((C27.1 1 10) + 1)) → 
    wp_X3_go_l170 Post n C28 i1)))
def wp_X3_go_l93 (Post : CS → Prop) : Nat → CS → Int32 → Prop
  | 0, _, _ => False
  | n + 1, C, i1 => p_X3_isLetter C (C.1 1 10) ∧
  (∀ r30 : Int32, r30 = (v_X3_isLetter C (C.1 1 10)) → 
  (r30 = 0 → 
  ∀ x34 : Int32, x34 = (if i1 = 0 then (1 : Int32) else 4) → 
    ∀ C35 : CS, C35 = (wI C 1 12 x34) → 
    vp_in (C35.1 1 11) 96 ∧
    (∀ C36 : CS, C36 = (wI C35 1 13 (C35.2.1 43 (Int32.toNatClampNeg (C35.1 1 11)))) → 
    ∀ C37 : CS, C37 = (wI C36 1 14 (C36.1 1 10)) → 
    Post C37)) ∧
  (¬ r30 = 0 → 
  ∀ C38 : CS, C38 = (wI C 1 10 ((C.1 1 10) + 1)) → 
    wp_X3_go_l93 Post n C38 i1))
def wp_X3_go_j38 (Post : CS → Prop) (C : CS)  : Prop := ∀ C2 : CS, C2 = (wI C 1 11 (C.1 1 10)) → 
  ∀ x5 : Int32, x5 = (if (C2.1 1 11) = (C2.1 1 14) then (1 : Int32) else 0) → 
  ((C2.1 1 11) = (C2.1 1 9) → 
  ∀ C40 : CS, C40 = (wI C2 1 12 0) → 
    Post C40) ∧
  (¬ (C2.1 1 11) = (C2.1 1 9) → 
  p_X3_isLetter C2 (C2.1 1 11) ∧
    (∀ r7 : Int32, r7 = (v_X3_isLetter C2 (C2.1 1 11)) → 
    (r7 = 0 → 
    p_X3_isFigure C2 (C2.1 1 11) ∧
      (∀ r9 : Int32, r9 = (v_X3_isFigure C2 (C2.1 1 11)) → 
      (r9 = 0 → 
      ∀ C11 : CS, C11 = (wI C2 1 12 3) → 
        vp_in (C11.1 1 11) 96 ∧
        (∀ C12 : CS, C12 = (wI C11 1 13 (C11.2.1 43 (Int32.toNatClampNeg (C11.1 1 11)))) → 
        ∀ C13 : CS, C13 = (wI C12 1 10 ((C12.1 1 10) + 1)) → 
        Post C13)) ∧
      (¬ r9 = 0 → 
      ∀ C14 : CS, C14 = (wI C2 1 13 0) → 
        ∃ m170, wp_X3_go_l170 Post m170 C14 x5))) ∧
    (¬ r7 = 0 → 
    ∃ m93, wp_X3_go_l93 Post m93 C2 x5)))
def wp_X3_go_l0 (Post : CS → Prop) : Nat → CS → Prop
  | 0, _ => False
  | n + 1, C => ((C.1 1 9) ≤ (C.1 1 10) → 
  wp_X3_go_j38 Post C ) ∧
  (¬ (C.1 1 9) ≤ (C.1 1 10) → 
  vp_in (C.1 1 10) 96 ∧
    (((C.2.1 43 (Int32.toNatClampNeg (C.1 1 10))) = 32 → 
    ∀ C45 : CS, C45 = (wI C 1 10 ((C.1 1 10) + 1)) → 
      wp_X3_go_l0 Post n C45 ) ∧
    (¬ (C.2.1 43 (Int32.toNatClampNeg (C.1 1 10))) = 32 → 
    wp_X3_go_j38 Post C )))
def wp_X3_go (Post : CS → Prop) (C : CS)  : Prop :=
  ((C.1 1 9) ≤ (C.1 1 10) → 
    wp_X3_go_j38 Post C ) ∧
    (¬ (C.1 1 9) ≤ (C.1 1 10) → 
    vp_in (C.1 1 10) 96 ∧
      (((C.2.1 43 (Int32.toNatClampNeg (C.1 1 10))) = 32 → 
      ∀ C42 : CS, C42 = (wI C 1 10 ((C.1 1 10) + 1)) → 
        ∃ m0, wp_X3_go_l0 Post m0 C42 ) ∧
      (¬ (C.2.1 43 (Int32.toNatClampNeg (C.1 1 10))) = 32 → 
      wp_X3_go_j38 Post C )))
set_option maxHeartbeats 4000000 in
set_option maxRecDepth 100000 in
theorem gw_X3_go_l170 {w : WD} {x : Cx} (ok : Ok w x cX3_go 2 yX3_go.cls none (rmL 1 0 0)) {Post : CS → Prop} : ∀ (n : Nat) (C : CS) (i1 : Int32), wp_X3_go_l170 Post  n C i1 → G w x 2 0 0 (QM w x (fun v C1 => v = none ∧ Post C1) 0 0) C 170 [(0, .ref (ad w 1)), (1, .int i1)] [] := by
  intro n
  induction n with
  | zero => intro C i1 hw; exact hw.elim
  | succ n ih =>
    intro C i1 hw
    unfold wp_X3_go_l170 at hw
    refine g_aload_n ok 0 dX3_go_170 rfl ?_
    refine g_aload_n ok 0 dX3_go_171 rfl ?_
    refine g_get ok 1 rfl rfl in_X3 10 (by decide) q1369 rfl dX3_go_172 ?_
    obtain ⟨hp, hw⟩ := hw
    refine g_callVI ok [.int (C.1 1 10)] cf_X3_isFigure q1732 (mc_X3_isFigure ok.wo (xL x) C (C.1 1 10) hp) (recvF ok 1 rfl rfl) rfl rfl (Nat.le_of_ble_eq_true rfl) ⟨by decide, by decide⟩ ⟨by decide, by decide⟩ dX3_go_175 ?_
    refine g_nmI (fun r15 er15 => ?_)
    have hw := hw r15 er15
    refine g_if_eq (tgt := 238) ok dX3_go_178 (by decide) (fun c16 => ?_) (fun c16 => ?_)
    · have hw := hw.1 c16
      refine g_aload_n ok 0 dX3_go_238 rfl ?_
      refine g_iload_n ok 1 dX3_go_239 rfl ?_
      have kj20 : ∀ x21 : Int32, x21 = (if i1 = 0 then (if ((C.1 1 10) - (C.1 1 11)) ≤ 4 then (2 : Int32) else 4) else 4) → G w x 2 0 0 (QM w x (fun v C1 => v = none ∧ Post C1) 0 0) C 261 [(0, .ref (ad w 1))] [.int x21, .ref (ad w 1)] := by
        intro x21 ex21
        have hw := hw x21 ex21
        refine g_putI ok 1 rfl rfl in_X3 tyX3 tyX3_ok nmX3 12 (by decide) q1371 rfl rfl rfl (putV_m rfl) dX3_go_261 (fun C22 eC22 => ?_)
        have hw := hw C22 eC22
        refine g_aload_n ok 0 dX3_go_264 rfl ?_
        refine g_aload_n ok 0 dX3_go_265 rfl ?_
        refine g_get ok 1 rfl rfl in_X3 10 (by decide) q1369 rfl dX3_go_266 ?_
        refine g_putI ok 1 rfl rfl in_X3 tyX3 tyX3_ok nmX3 14 (by decide) q1373 rfl rfl rfl (putV_m rfl) dX3_go_269 (fun C23 eC23 => ?_)
        have hw := hw C23 eC23
        refine g_goto (tgt := 303) ok dX3_go_272 (by decide) ?_
        exact g_vret ok dX3_go_303 ⟨rfl, hw⟩
      refine g_if_ne (tgt := 256) ok dX3_go_240 (by decide) (fun c17 => ?_) (fun c17 => ?_)
      · refine g_iconst (v := 4) ok dX3_go_256 (by decide) ?_
        refine g_goto (tgt := 261) ok dX3_go_257 (by decide) ?_
        exact g_sub [0] [(0, .ref (ad w 1))] rfl (kj20 _ (by simp only [if_neg c17]))
      · refine g_aload_n ok 0 dX3_go_243 rfl ?_
        refine g_get ok 1 rfl rfl in_X3 10 (by decide) q1369 rfl dX3_go_244 ?_
        refine g_aload_n ok 0 dX3_go_247 rfl ?_
        refine g_get ok 1 rfl rfl in_X3 11 (by decide) q1370 rfl dX3_go_248 ?_
        refine g_isub ok dX3_go_251 ?_
        refine g_iconst (v := 4) ok dX3_go_252 (by decide) ?_
        have kj19 : G w x 2 0 0 (QM w x (fun v C1 => v = none ∧ Post C1) 0 0) C 261 [(0, .ref (ad w 1))] [.int (if ((C.1 1 10) - (C.1 1 11)) ≤ 4 then (2 : Int32) else 4), .ref (ad w 1)] := by
          exact (kj20 _ (by simp only [if_pos c17]))
        refine g_icmp_le (tgt := 260) ok dX3_go_253 (by decide) (fun c18 => ?_) (fun c18 => ?_)
        · refine g_iconst (v := 2) ok dX3_go_260 (by decide) ?_
          simp only [if_pos c18] at kj19
          exact g_sub [0] [(0, .ref (ad w 1))] rfl kj19
        · refine g_iconst (v := 4) ok dX3_go_256 (by decide) ?_
          refine g_goto (tgt := 261) ok dX3_go_257 (by decide) ?_
          simp only [if_neg c18] at kj19
          exact g_sub [0] [(0, .ref (ad w 1))] rfl kj19
    · have hw := hw.2 c16
      refine g_aload_n ok 0 dX3_go_181 rfl ?_
      refine g_aload_n ok 0 dX3_go_182 rfl ?_
      refine g_get ok 1 rfl rfl in_X3 10 (by decide) q1369 rfl dX3_go_183 ?_
      refine g_aload_n ok 0 dX3_go_186 rfl ?_
      refine g_get ok 1 rfl rfl in_X3 11 (by decide) q1370 rfl dX3_go_187 ?_
      refine g_isub ok dX3_go_190 ?_
      refine g_iconst (v := 4) ok dX3_go_191 (by decide) ?_
      obtain ⟨hr, hw⟩ := hw
      have kj25 : ∀ x26 : Int32, x26 = (if 4 ≤ ((C.1 1 10) - (C.1 1 11)) then (C.1 1 13) else (((10 * (C.1 1 13)) + (C.2.1 43 (Int32.toNatClampNeg (C.1 1 10)))) - 48)) → G w x 2 0 0 (QM w x (fun v C1 => v = none ∧ Post C1) 0 0) C 222 [(0, .ref (ad w 1)), (1, .int i1)] [.int x26, .ref (ad w 1)] := by
        intro x26 ex26
        have hw := hw x26 ex26
        refine g_putI ok 1 rfl rfl in_X3 tyX3 tyX3_ok nmX3 13 (by decide) q1372 rfl rfl rfl (putV_m rfl) dX3_go_222 (fun C27 eC27 => ?_)
        have hw := hw C27 eC27
        refine g_aload_n ok 0 dX3_go_225 rfl ?_
        refine g_dup ok dX3_go_226 rfl ?_
        refine g_get ok 1 rfl rfl in_X3 10 (by decide) q1369 rfl dX3_go_227 ?_
        refine g_iconst (v := 1) ok dX3_go_230 (by decide) ?_
        refine g_iadd ok dX3_go_231 ?_
        refine g_putI ok 1 rfl rfl in_X3 tyX3 tyX3_ok nmX3 10 (by decide) q1369 rfl rfl rfl (putV_m rfl) dX3_go_232 (fun C28 eC28 => ?_)
        have hw := hw C28 eC28
        refine g_goto (tgt := 170) ok dX3_go_235 (by decide) ?_
        exact ih C28 i1 hw
      have hw := hr
      refine g_icmp_ge (tgt := 218) ok dX3_go_192 (by decide) (fun c24 => ?_) (fun c24 => ?_)
      · have hw := hw.1 c24
        refine g_aload_n ok 0 dX3_go_218 rfl ?_
        refine g_get ok 1 rfl rfl in_X3 13 (by decide) q1372 rfl dX3_go_219 ?_
        exact (kj25 _ (by simp only [if_pos c24]))
      · have hw := hw.2 c24
        refine g_bipush (v := 10) ok dX3_go_195 (by decide) ?_
        refine g_aload_n ok 0 dX3_go_197 rfl ?_
        refine g_get ok 1 rfl rfl in_X3 13 (by decide) q1372 rfl dX3_go_198 ?_
        refine g_imul ok dX3_go_201 ?_
        refine g_aload_n ok 0 dX3_go_202 rfl ?_
        refine g_get ok 1 rfl rfl in_X3 8 (by decide) q1367 rfl dX3_go_203 ?_
        refine g_aload_n ok 0 dX3_go_206 rfl ?_
        refine g_get ok 1 rfl rfl in_X3 10 (by decide) q1369 rfl dX3_go_207 ?_
        obtain ⟨hg, hw⟩ := hw
        refine g_iald ok 43 rfl hg _ rfl dX3_go_210 ?_
        refine g_iadd ok dX3_go_211 ?_
        refine g_bipush (v := 48) ok dX3_go_212 (by decide) ?_
        refine g_isub ok dX3_go_214 ?_
        refine g_goto (tgt := 222) ok dX3_go_215 (by decide) ?_
        exact (kj25 _ (by simp only [if_neg c24]))
set_option maxHeartbeats 4000000 in
set_option maxRecDepth 100000 in
theorem gw_X3_go_l93 {w : WD} {x : Cx} (ok : Ok w x cX3_go 2 yX3_go.cls none (rmL 1 0 0)) {Post : CS → Prop} : ∀ (n : Nat) (C : CS) (i1 : Int32), wp_X3_go_l93 Post  n C i1 → G w x 2 0 0 (QM w x (fun v C1 => v = none ∧ Post C1) 0 0) C 93 [(0, .ref (ad w 1)), (1, .int i1)] [] := by
  intro n
  induction n with
  | zero => intro C i1 hw; exact hw.elim
  | succ n ih =>
    intro C i1 hw
    unfold wp_X3_go_l93 at hw
    refine g_aload_n ok 0 dX3_go_93 rfl ?_
    refine g_aload_n ok 0 dX3_go_94 rfl ?_
    refine g_get ok 1 rfl rfl in_X3 10 (by decide) q1369 rfl dX3_go_95 ?_
    obtain ⟨hp, hw⟩ := hw
    refine g_callVI ok [.int (C.1 1 10)] cf_X3_isLetter q1728 (mc_X3_isLetter ok.wo (xL x) C (C.1 1 10) hp) (recvF ok 1 rfl rfl) rfl rfl (Nat.le_of_ble_eq_true rfl) ⟨by decide, by decide⟩ ⟨by decide, by decide⟩ dX3_go_98 ?_
    refine g_nmI (fun r30 er30 => ?_)
    have hw := hw r30 er30
    refine g_if_eq (tgt := 117) ok dX3_go_101 (by decide) (fun c31 => ?_) (fun c31 => ?_)
    · have hw := hw.1 c31
      refine g_aload_n ok 0 dX3_go_117 rfl ?_
      refine g_iload_n ok 1 dX3_go_118 rfl ?_
      have kj33 : ∀ x34 : Int32, x34 = (if i1 = 0 then (1 : Int32) else 4) → G w x 2 0 0 (QM w x (fun v C1 => v = none ∧ Post C1) 0 0) C 127 [(0, .ref (ad w 1))] [.int x34, .ref (ad w 1)] := by
        intro x34 ex34
        have hw := hw x34 ex34
        refine g_putI ok 1 rfl rfl in_X3 tyX3 tyX3_ok nmX3 12 (by decide) q1371 rfl rfl rfl (putV_m rfl) dX3_go_127 (fun C35 eC35 => ?_)
        have hw := hw C35 eC35
        refine g_aload_n ok 0 dX3_go_130 rfl ?_
        refine g_aload_n ok 0 dX3_go_131 rfl ?_
        refine g_get ok 1 rfl rfl in_X3 8 (by decide) q1367 rfl dX3_go_132 ?_
        refine g_aload_n ok 0 dX3_go_135 rfl ?_
        refine g_get ok 1 rfl rfl in_X3 11 (by decide) q1370 rfl dX3_go_136 ?_
        obtain ⟨hg, hw⟩ := hw
        refine g_iald ok 43 rfl hg _ rfl dX3_go_139 ?_
        refine g_putI ok 1 rfl rfl in_X3 tyX3 tyX3_ok nmX3 13 (by decide) q1372 rfl rfl rfl (putV_m rfl) dX3_go_140 (fun C36 eC36 => ?_)
        have hw := hw C36 eC36
        refine g_aload_n ok 0 dX3_go_143 rfl ?_
        refine g_aload_n ok 0 dX3_go_144 rfl ?_
        refine g_get ok 1 rfl rfl in_X3 10 (by decide) q1369 rfl dX3_go_145 ?_
        refine g_putI ok 1 rfl rfl in_X3 tyX3 tyX3_ok nmX3 14 (by decide) q1373 rfl rfl rfl (putV_m rfl) dX3_go_148 (fun C37 eC37 => ?_)
        have hw := hw C37 eC37
        refine g_goto (tgt := 303) ok dX3_go_151 (by decide) ?_
        exact g_vret ok dX3_go_303 ⟨rfl, hw⟩
      refine g_if_eq (tgt := 126) ok dX3_go_119 (by decide) (fun c32 => ?_) (fun c32 => ?_)
      · refine g_iconst (v := 1) ok dX3_go_126 (by decide) ?_
        exact g_sub [0] [(0, .ref (ad w 1))] rfl (kj33 _ (by simp only [if_pos c32]))
      · refine g_iconst (v := 4) ok dX3_go_122 (by decide) ?_
        refine g_goto (tgt := 127) ok dX3_go_123 (by decide) ?_
        exact g_sub [0] [(0, .ref (ad w 1))] rfl (kj33 _ (by simp only [if_neg c32]))
    · have hw := hw.2 c31
      refine g_aload_n ok 0 dX3_go_104 rfl ?_
      refine g_dup ok dX3_go_105 rfl ?_
      refine g_get ok 1 rfl rfl in_X3 10 (by decide) q1369 rfl dX3_go_106 ?_
      refine g_iconst (v := 1) ok dX3_go_109 (by decide) ?_
      refine g_iadd ok dX3_go_110 ?_
      refine g_putI ok 1 rfl rfl in_X3 tyX3 tyX3_ok nmX3 10 (by decide) q1369 rfl rfl rfl (putV_m rfl) dX3_go_111 (fun C38 eC38 => ?_)
      have hw := hw C38 eC38
      refine g_goto (tgt := 93) ok dX3_go_114 (by decide) ?_
      exact ih C38 i1 hw
set_option maxHeartbeats 4000000 in
set_option maxRecDepth 100000 in
theorem gw_X3_go_j38 {w : WD} {x : Cx} (ok : Ok w x cX3_go 2 yX3_go.cls none (rmL 1 0 0)) {Post : CS → Prop} : ∀ (C : CS) , wp_X3_go_j38 Post  C  → G w x 2 0 0 (QM w x (fun v C1 => v = none ∧ Post C1) 0 0) C 38 [(0, .ref (ad w 1))] [] := by
  intro C  hw
  unfold wp_X3_go_j38 at hw
  refine g_aload_n ok 0 dX3_go_38 rfl ?_
  refine g_aload_n ok 0 dX3_go_39 rfl ?_
  refine g_get ok 1 rfl rfl in_X3 10 (by decide) q1369 rfl dX3_go_40 ?_
  refine g_putI ok 1 rfl rfl in_X3 tyX3 tyX3_ok nmX3 11 (by decide) q1370 rfl rfl rfl (putV_m rfl) dX3_go_43 (fun C2 eC2 => ?_)
  have hw := hw C2 eC2
  refine g_aload_n ok 0 dX3_go_46 rfl ?_
  refine g_get ok 1 rfl rfl in_X3 11 (by decide) q1370 rfl dX3_go_47 ?_
  refine g_aload_n ok 0 dX3_go_50 rfl ?_
  refine g_get ok 1 rfl rfl in_X3 14 (by decide) q1373 rfl dX3_go_51 ?_
  have kj4 : ∀ x5 : Int32, x5 = (if (C2.1 1 11) = (C2.1 1 14) then (1 : Int32) else 0) → G w x 2 0 0 (QM w x (fun v C1 => v = none ∧ Post C1) 0 0) C2 62 [(0, .ref (ad w 1))] [.int x5] := by
    intro x5 ex5
    have hw := hw x5 ex5
    refine g_istore_n0 ok [(1, .int x5), (0, .ref (ad w 1))] dX3_go_62 (by decide) rfl ?_
    refine g_aload_n ok 1 dX3_go_63 rfl ?_
    refine g_get ok 1 rfl rfl in_X3 11 (by decide) q1370 rfl dX3_go_64 ?_
    refine g_aload_n ok 1 dX3_go_67 rfl ?_
    refine g_get ok 1 rfl rfl in_X3 9 (by decide) q1368 rfl dX3_go_68 ?_
    refine g_icmp_ne (tgt := 82) ok dX3_go_71 (by decide) (fun c6 => ?_) (fun c6 => ?_)
    · have hw := hw.2 c6
      refine g_aload_n ok 1 dX3_go_82 rfl ?_
      refine g_aload_n ok 1 dX3_go_83 rfl ?_
      refine g_get ok 1 rfl rfl in_X3 11 (by decide) q1370 rfl dX3_go_84 ?_
      obtain ⟨hp, hw⟩ := hw
      refine g_callVI ok [.int (C2.1 1 11)] cf_X3_isLetter q1728 (mc_X3_isLetter ok.wo (xL x) C2 (C2.1 1 11) hp) (recvF ok 1 rfl rfl) rfl rfl (Nat.le_of_ble_eq_true rfl) ⟨by decide, by decide⟩ ⟨by decide, by decide⟩ dX3_go_87 ?_
      refine g_nmI (fun r7 er7 => ?_)
      have hw := hw r7 er7
      refine g_if_eq (tgt := 154) ok dX3_go_90 (by decide) (fun c8 => ?_) (fun c8 => ?_)
      · have hw := hw.1 c8
        refine g_aload_n ok 1 dX3_go_154 rfl ?_
        refine g_aload_n ok 1 dX3_go_155 rfl ?_
        refine g_get ok 1 rfl rfl in_X3 11 (by decide) q1370 rfl dX3_go_156 ?_
        obtain ⟨hp, hw⟩ := hw
        refine g_callVI ok [.int (C2.1 1 11)] cf_X3_isFigure q1732 (mc_X3_isFigure ok.wo (xL x) C2 (C2.1 1 11) hp) (recvF ok 1 rfl rfl) rfl rfl (Nat.le_of_ble_eq_true rfl) ⟨by decide, by decide⟩ ⟨by decide, by decide⟩ dX3_go_159 ?_
        refine g_nmI (fun r9 er9 => ?_)
        have hw := hw r9 er9
        refine g_if_eq (tgt := 275) ok dX3_go_162 (by decide) (fun c10 => ?_) (fun c10 => ?_)
        · have hw := hw.1 c10
          refine g_aload_n ok 1 dX3_go_275 rfl ?_
          refine g_iconst (v := 3) ok dX3_go_276 (by decide) ?_
          refine g_putI ok 1 rfl rfl in_X3 tyX3 tyX3_ok nmX3 12 (by decide) q1371 rfl rfl rfl (putV_m rfl) dX3_go_277 (fun C11 eC11 => ?_)
          have hw := hw C11 eC11
          refine g_aload_n ok 1 dX3_go_280 rfl ?_
          refine g_aload_n ok 1 dX3_go_281 rfl ?_
          refine g_get ok 1 rfl rfl in_X3 8 (by decide) q1367 rfl dX3_go_282 ?_
          refine g_aload_n ok 1 dX3_go_285 rfl ?_
          refine g_get ok 1 rfl rfl in_X3 11 (by decide) q1370 rfl dX3_go_286 ?_
          obtain ⟨hg, hw⟩ := hw
          refine g_iald ok 43 rfl hg _ rfl dX3_go_289 ?_
          refine g_putI ok 1 rfl rfl in_X3 tyX3 tyX3_ok nmX3 13 (by decide) q1372 rfl rfl rfl (putV_m rfl) dX3_go_290 (fun C12 eC12 => ?_)
          have hw := hw C12 eC12
          refine g_aload_n ok 1 dX3_go_293 rfl ?_
          refine g_dup ok dX3_go_294 rfl ?_
          refine g_get ok 1 rfl rfl in_X3 10 (by decide) q1369 rfl dX3_go_295 ?_
          refine g_iconst (v := 1) ok dX3_go_298 (by decide) ?_
          refine g_iadd ok dX3_go_299 ?_
          refine g_putI ok 1 rfl rfl in_X3 tyX3 tyX3_ok nmX3 10 (by decide) q1369 rfl rfl rfl (putV_m rfl) dX3_go_300 (fun C13 eC13 => ?_)
          have hw := hw C13 eC13
          exact g_vret ok dX3_go_303 ⟨rfl, hw⟩
        · have hw := hw.2 c10
          refine g_aload_n ok 1 dX3_go_165 rfl ?_
          refine g_iconst (v := 0) ok dX3_go_166 (by decide) ?_
          refine g_putI ok 1 rfl rfl in_X3 tyX3 tyX3_ok nmX3 13 (by decide) q1372 rfl rfl rfl (putV_m rfl) dX3_go_167 (fun C14 eC14 => ?_)
          have hw := hw C14 eC14
          refine g_sub [1, 0] [(0, .ref (ad w 1)), (1, .int x5)] rfl ?_
          obtain ⟨n29, hw⟩ := hw
          exact gw_X3_go_l170 ok n29 C14 x5 hw
      · have hw := hw.2 c8
        refine g_sub [1, 0] [(0, .ref (ad w 1)), (1, .int x5)] rfl ?_
        obtain ⟨n39, hw⟩ := hw
        exact gw_X3_go_l93 ok n39 C2 x5 hw
    · have hw := hw.1 c6
      refine g_aload_n ok 1 dX3_go_74 rfl ?_
      refine g_iconst (v := 0) ok dX3_go_75 (by decide) ?_
      refine g_putI ok 1 rfl rfl in_X3 tyX3 tyX3_ok nmX3 12 (by decide) q1371 rfl rfl rfl (putV_m rfl) dX3_go_76 (fun C40 eC40 => ?_)
      have hw := hw C40 eC40
      refine g_goto (tgt := 303) ok dX3_go_79 (by decide) ?_
      exact g_vret ok dX3_go_303 ⟨rfl, hw⟩
  refine g_icmp_ne (tgt := 61) ok dX3_go_54 (by decide) (fun c3 => ?_) (fun c3 => ?_)
  · refine g_iconst (v := 0) ok dX3_go_61 (by decide) ?_
    exact (kj4 _ (by simp only [if_neg c3]))
  · refine g_iconst (v := 1) ok dX3_go_57 (by decide) ?_
    refine g_goto (tgt := 62) ok dX3_go_58 (by decide) ?_
    exact (kj4 _ (by simp only [if_pos c3]))
set_option maxHeartbeats 4000000 in
set_option maxRecDepth 100000 in
theorem gw_X3_go_l0 {w : WD} {x : Cx} (ok : Ok w x cX3_go 2 yX3_go.cls none (rmL 1 0 0)) {Post : CS → Prop} : ∀ (n : Nat) (C : CS) , wp_X3_go_l0 Post  n C  → G w x 2 0 0 (QM w x (fun v C1 => v = none ∧ Post C1) 0 0) C 0 [(0, .ref (ad w 1))] [] := by
  intro n
  induction n with
  | zero => intro C  hw; exact hw.elim
  | succ n ih =>
    intro C  hw
    unfold wp_X3_go_l0 at hw
    refine g_aload_n ok 0 dX3_go_0 rfl ?_
    refine g_get ok 1 rfl rfl in_X3 10 (by decide) q1369 rfl dX3_go_1 ?_
    refine g_aload_n ok 0 dX3_go_4 rfl ?_
    refine g_get ok 1 rfl rfl in_X3 9 (by decide) q1368 rfl dX3_go_5 ?_
    refine g_icmp_ge (tgt := 38) ok dX3_go_8 (by decide) (fun c43 => ?_) (fun c43 => ?_)
    · have hw := hw.1 c43
      exact gw_X3_go_j38 ok C  hw
    · have hw := hw.2 c43
      refine g_aload_n ok 0 dX3_go_11 rfl ?_
      refine g_get ok 1 rfl rfl in_X3 8 (by decide) q1367 rfl dX3_go_12 ?_
      refine g_aload_n ok 0 dX3_go_15 rfl ?_
      refine g_get ok 1 rfl rfl in_X3 10 (by decide) q1369 rfl dX3_go_16 ?_
      obtain ⟨hg, hw⟩ := hw
      refine g_iald ok 43 rfl hg _ rfl dX3_go_19 ?_
      refine g_bipush (v := 32) ok dX3_go_20 (by decide) ?_
      refine g_icmp_ne (tgt := 38) ok dX3_go_22 (by decide) (fun c44 => ?_) (fun c44 => ?_)
      · have hw := hw.2 c44
        exact gw_X3_go_j38 ok C  hw
      · have hw := hw.1 c44
        refine g_aload_n ok 0 dX3_go_25 rfl ?_
        refine g_dup ok dX3_go_26 rfl ?_
        refine g_get ok 1 rfl rfl in_X3 10 (by decide) q1369 rfl dX3_go_27 ?_
        refine g_iconst (v := 1) ok dX3_go_30 (by decide) ?_
        refine g_iadd ok dX3_go_31 ?_
        refine g_putI ok 1 rfl rfl in_X3 tyX3 tyX3_ok nmX3 10 (by decide) q1369 rfl rfl rfl (putV_m rfl) dX3_go_32 (fun C45 eC45 => ?_)
        have hw := hw C45 eC45
        refine g_goto (tgt := 0) ok dX3_go_35 (by decide) ?_
        exact ih C45  hw
set_option maxHeartbeats 4000000 in
set_option maxRecDepth 100000 in
theorem gw_X3_go {w : WD} (wk : wOk w) (l : Launch) (C : CS)  {Post : CS → Prop} (hw : wp_X3_go Post C ) : MC w l yX3_go cX3_go 2 none 1 0 0 [.ref (ad w 1)] C (fun v C1 => v = none ∧ Post C1) := by
  unfold wp_X3_go at hw
  refine MC.of wk (by decide) (Nat.le_of_ble_eq_true rfl) (fun x hx ok => ?_)
  subst hx
  show G w x 2 0 0 (QM w x _ 0 0) C 0 [(0, .ref (ad w 1))] []
  refine g_aload_n ok 0 dX3_go_0 rfl ?_
  refine g_get ok 1 rfl rfl in_X3 10 (by decide) q1369 rfl dX3_go_1 ?_
  refine g_aload_n ok 0 dX3_go_4 rfl ?_
  refine g_get ok 1 rfl rfl in_X3 9 (by decide) q1368 rfl dX3_go_5 ?_
  refine g_icmp_ge (tgt := 38) ok dX3_go_8 (by decide) (fun c1 => ?_) (fun c1 => ?_)
  · have hw := hw.1 c1
    exact gw_X3_go_j38 ok C  hw
  · have hw := hw.2 c1
    refine g_aload_n ok 0 dX3_go_11 rfl ?_
    refine g_get ok 1 rfl rfl in_X3 8 (by decide) q1367 rfl dX3_go_12 ?_
    refine g_aload_n ok 0 dX3_go_15 rfl ?_
    refine g_get ok 1 rfl rfl in_X3 10 (by decide) q1369 rfl dX3_go_16 ?_
    obtain ⟨hg, hw⟩ := hw
    refine g_iald ok 43 rfl hg _ rfl dX3_go_19 ?_
    refine g_bipush (v := 32) ok dX3_go_20 (by decide) ?_
    refine g_icmp_ne (tgt := 38) ok dX3_go_22 (by decide) (fun c41 => ?_) (fun c41 => ?_)
    · have hw := hw.2 c41
      exact gw_X3_go_j38 ok C  hw
    · have hw := hw.1 c41
      refine g_aload_n ok 0 dX3_go_25 rfl ?_
      refine g_dup ok dX3_go_26 rfl ?_
      refine g_get ok 1 rfl rfl in_X3 10 (by decide) q1369 rfl dX3_go_27 ?_
      refine g_iconst (v := 1) ok dX3_go_30 (by decide) ?_
      refine g_iadd ok dX3_go_31 ?_
      refine g_putI ok 1 rfl rfl in_X3 tyX3 tyX3_ok nmX3 10 (by decide) q1369 rfl rfl rfl (putV_m rfl) dX3_go_32 (fun C42 eC42 => ?_)
      have hw := hw C42 eC42
      refine g_goto (tgt := 0) ok dX3_go_35 (by decide) ?_
      obtain ⟨n46, hw⟩ := hw
      exact gw_X3_go_l0 ok n46 C42  hw
theorem sp_X3_go (C : CS) (hp : p_X3_go C) : wp_X3_go (fun C1 => q_X3_go C C1) C := by
  obtain ⟨L, p, eL, hL, ep, hpL⟩ := hp
  have hgo : goC C = goT (C.2.1 43) L p (C.1 1 13) (C.1 1 14) := by unfold goC; rw [eL, ep, cl_k (by omega), cl_k (by omega)]
  obtain ⟨q, hq⟩ : ∃ q, spn isSp (C.2.1 43) L p = q := ⟨_, rfl⟩
  have hqb := spn_le (P := isSp) (tp := C.2.1 43) hpL
  rw [hq] at hqb
  -- behind the spaces
  have J : ∀ D : CS, gEq C D → D.1 1 10 = nI q → D.1 1 13 = C.1 1 13 → D.1 1 14 = C.1 1 14 → wp_X3_go_j38 (fun C1 => q_X3_go C C1) D := by
    intro D hg h10 h13 h14 C2 e2 x5 e5
    have g2 : gEq C C2 := by rw [e2]; exact hg.w 11 _
    have k9 : C2.1 1 9 = nI L := by rw [g2.2 1 9 (by omega)]; exact eL
    have k10 : C2.1 1 10 = nI q := by rw [e2, wI_n _ _ _ _ (by decide)]; exact h10
    have k11 : C2.1 1 11 = nI q := by rw [e2, wI_s]; exact h10
    have k13 : C2.1 1 13 = C.1 1 13 := by rw [e2, wI_n _ _ _ _ (by decide)]; exact h13
    have k14 : C2.1 1 14 = C.1 1 14 := by rw [e2, wI_n _ _ _ _ (by decide)]; exact h14
    have k43 : C2.2.1 43 = C.2.1 43 := by rw [g2.1]
    rw [k11, k14] at e5
    have zq : (nI q = nI L) ↔ q = L := nI_eq (by omega) (by omega)
    refine ⟨fun c C40 e40 => ?_, fun c => ?_⟩
    · rw [k11, k9] at c
      have hqL := zq.mp c
      refine ⟨by rw [e40]; exact g2.w 12 _, ?_⟩
      rw [hgo, goT, hq]
      rw [if_pos hqL, e40, wI_n _ _ _ _ (by decide), wI_n _ _ _ _ (by decide), wI_s, wI_n _ _ _ _ (by decide), wI_n _ _ _ _ (by decide)]
      exact ⟨k10, k11, rfl, k13, k14⟩
    · rw [k11, k9] at c
      have hqL : ¬ q = L := fun z => c (zq.mpr z)
      rw [k11]
      refine ⟨plet k9 (by omega) hL, fun r7 e7 => ⟨fun c7 => ⟨pfig k9 (by omega) hL, fun r9 e9 => ⟨fun c9 C11 e11 => ?_, fun c9 C14 e14 => ?_⟩⟩, fun c7 => ?_⟩⟩
      · -- a sign
        have nl : ¬ isL (C.2.1 43 q) = true := fun z => (let_iff k9 (show q ≤ L by omega) hL).mpr ⟨by omega, by rw [k43]; exact z⟩ (by rw [← e7]; exact c7)
        have nf : ¬ isF (C.2.1 43 q) = true := fun z => (fig_iff k9 (show q ≤ L by omega) hL).mpr ⟨by omega, by rw [k43]; exact z⟩ (by rw [← e9]; exact c9)
        have g11 : gEq C C11 := by rw [e11]; exact g2.w 12 _
        have a11 : C11.1 1 11 = nI q := by rw [e11, wI_n _ _ _ _ (by decide)]; exact k11
        rw [a11]
        refine ⟨vp_k (by omega), fun C12 e12 C13 e13 => ?_⟩
        have g12 : gEq C C12 := by rw [e12]; exact g11.w 13 _
        refine ⟨by rw [e13]; exact g12.w 10 _, ?_⟩
        rw [hgo, goT, hq]
        rw [if_neg hqL, if_neg nl, if_neg nf, e13, wI_s, wI_n _ _ _ _ (by decide), wI_n _ _ _ _ (by decide), wI_n _ _ _ _ (by decide), wI_n _ _ _ _ (by decide), e12, wI_s]
        rw [wI_n _ _ _ _ (by decide), wI_n _ _ _ _ (by decide), wI_n _ _ _ _ (by decide), wI_n _ _ _ _ (by decide), g11.1, cl_k (by omega), e11]
        rw [wI_n _ _ _ _ (by decide), wI_n _ _ _ _ (by decide), wI_s, wI_n _ _ _ _ (by decide), k10, k11, k14]
        exact ⟨by rw [show (1 : Int32) = nI 1 from rfl, nI_add], rfl, rfl, rfl, rfl⟩
      · -- figures
        have nl : ¬ isL (C.2.1 43 q) = true := fun z => (let_iff k9 (show q ≤ L by omega) hL).mpr ⟨by omega, by rw [k43]; exact z⟩ (by rw [← e7]; exact c7)
        have yf : isF (C.2.1 43 q) = true := by
          have := ((fig_iff k9 (show q ≤ L by omega) hL).mp (by rw [← e9]; exact c9)).2
          rw [k43] at this
          exact this
        have hgo2 : goC C = (spn isF (C.2.1 43) L q, q, (if nI q = C.1 1 14 then 4 else if spn isF (C.2.1 43) L q - q ≤ 4 then 2 else 4), numV (C.2.1 43) q (spn isF (C.2.1 43) L q - q), nI (spn isF (C.2.1 43) L q)) := by
          rw [hgo, goT, hq]
          rw [if_neg hqL, if_neg nl, if_pos yf]
        have H : ∀ d k, q + k + d = L → spn isF (C.2.1 43) L q = spn isF (C.2.1 43) L (q + k) → ∀ X : CS, gEq C X → X.1 1 10 = nI (q + k) → X.1 1 11 = nI q → X.1 1 13 = numV (C.2.1 43) q k → wp_X3_go_l170 (fun C1 => q_X3_go C C1) (d + 1) X x5 := by
          intro d
          induction d with
          | zero =>
            intro k hk hs X hX x10 x11 x13
            have y9 : X.1 1 9 = nI L := by rw [hX.2 1 9 (by omega)]; exact eL
            have y43 : X.2.1 43 = C.2.1 43 := by rw [hX.1]
            have hz : spn isF (C.2.1 43) L (q + k) = q + k := spn_stop (by omega)
            rw [hz] at hs
            rw [wp_X3_go_l170, x10, x11]
            refine ⟨pfig y9 (by omega) hL, fun r15 e15 => ⟨fun c15 x21 e21 C22 e22 C23 e23 => ?_, fun c15 => ?_⟩⟩
            · refine ⟨by rw [e23, e22]; exact (hX.w 12 _).w 14 _, ?_⟩
              rw [hgo2, hs, e23, wI_n _ _ _ _ (by decide), wI_n _ _ _ _ (by decide), wI_n _ _ _ _ (by decide), wI_n _ _ _ _ (by decide), wI_s, e22]
              rw [wI_n _ _ _ _ (by decide), wI_n _ _ _ _ (by decide), wI_s, wI_n _ _ _ _ (by decide)]
              refine ⟨x10, x11, ?_, by rw [x13, show q + k - q = k by omega], x10⟩
              rw [e21, e5, pk_sub (by omega), show q + k - q = k by omega]
              have t4 : (nI k ≤ 4) ↔ k ≤ 4 := nI_leI (b := 4) (by omega) (by omega)
              by_cases hc : nI q = C.1 1 14
              · simp [hc]
              · simp only [if_neg hc, if_true]
                by_cases h4 : k ≤ 4
                · rw [if_pos (t4.mpr h4), if_pos h4]
                · rw [if_neg (fun z => h4 (t4.mp z)), if_neg h4]
            · have := (fig_iff y9 (show q + k ≤ L by omega) hL).mp (by rw [← e15]; exact c15)
              omega
          | succ d ih =>
            intro k hk hs X hX x10 x11 x13
            have y9 : X.1 1 9 = nI L := by rw [hX.2 1 9 (by omega)]; exact eL
            have y43 : X.2.1 43 = C.2.1 43 := by rw [hX.1]
            rw [wp_X3_go_l170, x10, x11]
            refine ⟨pfig y9 (by omega) hL, fun r15 e15 => ⟨fun c15 x21 e21 C22 e22 C23 e23 => ?_, fun c15 => ⟨⟨fun _ => trivial, fun _ => ⟨vp_k (by omega), trivial⟩⟩, fun x26 e26 C27 e27 C28 e28 => ?_⟩⟩⟩
            · have hz : spn isF (C.2.1 43) L (q + k) = q + k := spn_stop (fun z => (fig_iff y9 (show q + k ≤ L by omega) hL).mpr ⟨z.1, by rw [y43]; exact z.2⟩ (by rw [← e15]; exact c15))
              rw [hz] at hs
              refine ⟨by rw [e23, e22]; exact (hX.w 12 _).w 14 _, ?_⟩
              rw [hgo2, hs, e23, wI_n _ _ _ _ (by decide), wI_n _ _ _ _ (by decide), wI_n _ _ _ _ (by decide), wI_n _ _ _ _ (by decide), wI_s, e22]
              rw [wI_n _ _ _ _ (by decide), wI_n _ _ _ _ (by decide), wI_s, wI_n _ _ _ _ (by decide)]
              refine ⟨x10, x11, ?_, by rw [x13, show q + k - q = k by omega], x10⟩
              rw [e21, e5, pk_sub (by omega), show q + k - q = k by omega]
              have t4 : (nI k ≤ 4) ↔ k ≤ 4 := nI_leI (b := 4) (by omega) (by omega)
              by_cases hc : nI q = C.1 1 14
              · simp [hc]
              · simp only [if_neg hc, if_true]
                by_cases h4 : k ≤ 4
                · rw [if_pos (t4.mpr h4), if_pos h4]
                · rw [if_neg (fun z => h4 (t4.mp z)), if_neg h4]
            · have hy := ((fig_iff y9 (show q + k ≤ L by omega) hL).mp (by rw [← e15]; exact c15))
              rw [y43] at hy
              rw [pk_sub (by omega), show q + k - q = k by omega, cl_k (by omega), y43, x13] at e26
              have t4 : ((4 : Int32) ≤ nI k) ↔ 4 ≤ k := nI_leI (a := 4) (by omega) (by omega)
              have hv : x26 = numV (C.2.1 43) q (k + 1) := by
                rw [e26, numV]
                by_cases h4 : 4 ≤ k
                · rw [if_pos (t4.mpr h4), if_neg (by omega)]
                · rw [if_neg (fun z => h4 (t4.mp z)), if_pos (by omega)]
              have g27 : gEq C C27 := by rw [e27]; exact hX.w 13 _
              refine ih (k + 1) (by omega) ?_ C28 (by rw [e28]; exact g27.w 10 _) ?_ ?_ ?_
              · rw [hs, spn_step hy.1 hy.2]; rfl
              · rw [e28, wI_s, e27, wI_n _ _ _ _ (by decide), x10, show (1 : Int32) = nI 1 from rfl, nI_add]; rfl
              · rw [e28, wI_n _ _ _ _ (by decide), e27, wI_n _ _ _ _ (by decide)]; exact x11
              · rw [e28, wI_n _ _ _ _ (by decide), e27, wI_s]; exact hv
        exact ⟨_, H (L - q) 0 (by omega) rfl C14 (by rw [e14]; exact g2.w 13 _) (by rw [e14, wI_n _ _ _ _ (by decide)]; exact k10) (by rw [e14, wI_n _ _ _ _ (by decide)]; exact k11) (by rw [e14, wI_s]; rfl)⟩
      · -- letters
        have yl : isL (C.2.1 43 q) = true := by
          have := ((let_iff k9 (show q ≤ L by omega) hL).mp (by rw [← e7]; exact c7)).2
          rw [k43] at this
          exact this
        have hgo2 : goC C = (spn isL (C.2.1 43) L q, q, (if nI q = C.1 1 14 then 4 else 1), C.2.1 43 q, nI (spn isL (C.2.1 43) L q)) := by
          rw [hgo, goT, hq]
          rw [if_neg hqL, if_pos yl]
        have fin : ∀ (k : Nat) (X : CS), q + k ≤ L → spn isL (C.2.1 43) L q = q + k → gEq C X → X.1 1 10 = nI (q + k) → X.1 1 11 = nI q → ∀ x34 : Int32, x34 = (if x5 = 0 then (1 : Int32) else 4) → ∀ C35 : CS, C35 = wI X 1 12 x34 → vp_in (C35.1 1 11) 96 ∧ ∀ C36 : CS, C36 = wI C35 1 13 (C35.2.1 43 (Int32.toNatClampNeg (C35.1 1 11))) → ∀ C37 : CS, C37 = wI C36 1 14 (C36.1 1 10) → q_X3_go C C37 := by
          intro k X hk hs hX x10 x11 x34 e34 C35 e35
          have y43 : X.2.1 43 = C.2.1 43 := by rw [hX.1]
          have a11 : C35.1 1 11 = nI q := by rw [e35, wI_n _ _ _ _ (by decide)]; exact x11
          rw [a11]
          refine ⟨vp_k (by omega), fun C36 e36 C37 e37 => ⟨by rw [e37, e36, e35]; exact ((hX.w 12 _).w 13 _).w 14 _, ?_⟩⟩
          have b43 : C35.2.1 43 = C.2.1 43 := by rw [e35, wI_2]; exact y43
          rw [hgo2, hs, e37, wI_n _ _ _ _ (by decide), wI_n _ _ _ _ (by decide), wI_n _ _ _ _ (by decide), wI_n _ _ _ _ (by decide), wI_s, e36]
          rw [wI_n _ _ _ _ (by decide), wI_n _ _ _ _ (by decide), wI_n _ _ _ _ (by decide), wI_s, cl_k (by omega), b43, e35]
          rw [wI_n _ _ _ _ (by decide), wI_n _ _ _ _ (by decide), wI_s]
          refine ⟨x10, x11, ?_, rfl, x10⟩
          rw [e34, e5]
          by_cases hc : nI q = C.1 1 14
          · simp [hc]
          · simp [hc]
        have H : ∀ d k, q + k + d = L → spn isL (C.2.1 43) L q = spn isL (C.2.1 43) L (q + k) → ∀ X : CS, gEq C X → X.1 1 10 = nI (q + k) → X.1 1 11 = nI q → wp_X3_go_l93 (fun C1 => q_X3_go C C1) (d + 1) X x5 := by
          intro d
          induction d with
          | zero =>
            intro k hk hs X hX x10 x11
            have y9 : X.1 1 9 = nI L := by rw [hX.2 1 9 (by omega)]; exact eL
            rw [wp_X3_go_l93, x10]
            refine ⟨plet y9 (by omega) hL, fun r30 e30 => ⟨fun _ => fin k X (by omega) (by rw [hs]; exact spn_stop (by omega)) hX x10 x11, fun c30 => ?_⟩⟩
            have := (let_iff y9 (show q + k ≤ L by omega) hL).mp (by rw [← e30]; exact c30)
            omega
          | succ d ih =>
            intro k hk hs X hX x10 x11
            have y9 : X.1 1 9 = nI L := by rw [hX.2 1 9 (by omega)]; exact eL
            have y43 : X.2.1 43 = C.2.1 43 := by rw [hX.1]
            rw [wp_X3_go_l93, x10]
            refine ⟨plet y9 (by omega) hL, fun r30 e30 => ⟨fun c30 => fin k X (by omega) ?_ hX x10 x11, fun c30 C38 e38 => ?_⟩⟩
            · rw [hs]
              exact spn_stop (fun z => (let_iff y9 (show q + k ≤ L by omega) hL).mpr ⟨z.1, by rw [y43]; exact z.2⟩ (by rw [← e30]; exact c30))
            · have hy := ((let_iff y9 (show q + k ≤ L by omega) hL).mp (by rw [← e30]; exact c30))
              rw [y43] at hy
              refine ih (k + 1) (by omega) ?_ C38 (by rw [e38]; exact hX.w 10 _) ?_ ?_
              · rw [hs, spn_step hy.1 hy.2]; rfl
              · rw [e38, wI_s, show (1 : Int32) = nI 1 from rfl, nI_add]; rfl
              · rw [e38, wI_n _ _ _ _ (by decide)]; exact x11
        exact ⟨_, H (L - q) 0 (by omega) rfl C2 g2 k10 k11⟩
  -- the spaces
  have S : ∀ d k, p + k + d = L → spn isSp (C.2.1 43) L (p + k) = q → ∀ X : CS, gEq C X → X.1 1 10 = nI (p + k) → X.1 1 13 = C.1 1 13 → X.1 1 14 = C.1 1 14 → wp_X3_go_l0 (fun C1 => q_X3_go C C1) (d + 1) X := by
    intro d
    induction d with
    | zero =>
      intro k hk hs X hX x10 x13 x14
      have y9 : X.1 1 9 = nI L := by rw [hX.2 1 9 (by omega)]; exact eL
      rw [spn_stop (by omega)] at hs
      refine ⟨fun _ => J X hX (by rw [x10, hs]) x13 x14, fun c => absurd ?_ c⟩
      rw [y9, x10, nI_leI (by omega) (by omega)]; omega
    | succ d ih =>
      intro k hk hs X hX x10 x13 x14
      have y9 : X.1 1 9 = nI L := by rw [hX.2 1 9 (by omega)]; exact eL
      have y43 : X.2.1 43 = C.2.1 43 := by rw [hX.1]
      refine ⟨fun c => ?_, fun _ => ⟨by rw [x10]; exact vp_k (by omega), fun c C45 e45 => ?_, fun c => ?_⟩⟩
      · rw [y9, x10, nI_leI (by omega) (by omega)] at c; omega
      · rw [x10, cl_k (by omega), y43] at c
        refine ih (k + 1) (by omega) ?_ C45 (by rw [e45]; exact hX.w 10 _) ?_ ?_ ?_
        · exact (spn_step (p := p + k) (by omega) (by unfold isSp; simp [c])).symm.trans hs
        · rw [e45, wI_s, x10, show (1 : Int32) = nI 1 from rfl, nI_add]; rfl
        · rw [e45, wI_n _ _ _ _ (by decide)]; exact x13
        · rw [e45, wI_n _ _ _ _ (by decide)]; exact x14
      · rw [x10, cl_k (by omega), y43] at c
        rw [spn_stop (fun z => c (by have := z.2; unfold isSp at this; simpa using this))] at hs
        exact J X hX (by rw [x10, hs]) x13 x14
  have g0 : gEq C C := ⟨rfl, fun _ _ _ => rfl⟩
  have h := S (L - p) 0 (by omega) hq C g0 ep rfl rfl
  refine ⟨h.1, fun c => ⟨(h.2 c).1, fun c2 C42 e42 => ⟨L - p, ?_⟩, (h.2 c).2.2⟩⟩
  exact (h.2 c).2.1 c2 C42 e42
theorem mc_X3_go {w : WD} (wk : wOk w) (l : Launch) (C : CS)  (hp : p_X3_go C ) : MC w l yX3_go cX3_go 2 none 1 0 0 [.ref (ad w 1)] C (pVR (q_X3_go C )) := MC.postVR (gw_X3_go wk l C  (sp_X3_go C  hp))
