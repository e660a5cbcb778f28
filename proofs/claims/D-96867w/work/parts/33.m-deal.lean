theorem upd_upd (f : Nat → Int32) (k : Nat) (a b : Int32) : upd (upd f k a) k b = upd f k b := by
  funext i
  unfold upd
  split <;> rfl
/-- one more glove, number N -/
def comR (r : Nat → Int32) (N : Nat) (k s z p : Int32) : Nat → Int32 := upd (upd (upd (upd (upd (upd (upd r (16 + 6 * N) k) (16 + 6 * N + 1) s) (16 + 6 * N + 2) z) (16 + 6 * N + 3) p) (16 + 6 * N + 4) 0) (16 + 6 * N + 5) 0) 1 (nI (N + 1))
theorem comes_p {C : CS} {N : Nat} (h : C.2.1 36 1 = nI N) (hN : N < 10) (a b c d : Int32) : p_X3_comes C a b c d := by
  unfold p_X3_comes
  rw [h]
  exact ⟨put_p _ 0 _ (by omega), put_p _ 1 _ (by omega), put_p _ 2 _ (by omega), put_p _ 3 _ (by omega), put_p _ 4 _ (by omega), put_p _ 5 _ (by omega), trivial⟩
theorem comes_n {C : CS} {N : Nat} (h : C.2.1 36 1 = nI N) (hN : N < 10) (a b c d : Int32) : frm [36] C (n_X3_comes C a b c d) ∧ (n_X3_comes C a b c d).2.1 36 = comR (C.2.1 36) N a b c d := by
  have e : n_X3_comes C a b c d = wA (wA (wA (wA (wA (wA (wA C 36 (16 + 6 * N) a) 36 (16 + 6 * N + 1) b) 36 (16 + 6 * N + 2) c) 36 (16 + 6 * N + 3) d) 36 (16 + 6 * N + 4) 0) 36 (16 + 6 * N + 5) 0) 36 1 (nI (N + 1)) := by
    unfold n_X3_comes
    rw [h]
    have p0 := fun C v => put_r C (g := N) 0 v (by omega)
    have p1 := fun C v => put_r C (g := N) 1 v (by omega)
    have p2 := fun C v => put_r C (g := N) 2 v (by omega)
    have p3 := fun C v => put_r C (g := N) 3 v (by omega)
    have p4 := fun C v => put_r C (g := N) 4 v (by omega)
    have p5 := fun C v => put_r C (g := N) 5 v (by omega)
    have q0 : ∀ C v, n_X3_put C (nI N) 0 v = wA C 36 (16 + 6 * N) v := p0
    have q1 : ∀ C v, n_X3_put C (nI N) 1 v = wA C 36 (16 + 6 * N + 1) v := p1
    have q2 : ∀ C v, n_X3_put C (nI N) 2 v = wA C 36 (16 + 6 * N + 2) v := p2
    have q3 : ∀ C v, n_X3_put C (nI N) 3 v = wA C 36 (16 + 6 * N + 3) v := p3
    have q4 : ∀ C v, n_X3_put C (nI N) 4 v = wA C 36 (16 + 6 * N + 4) v := p4
    have q5 : ∀ C v, n_X3_put C (nI N) 5 v = wA C 36 (16 + 6 * N + 5) v := p5
    rw [q0, q1, q2, q3, q4, q5]
    congr 1
    simp only [wA_row]
    unfold upd
    rw [if_neg (by omega), if_neg (by omega), if_neg (by omega), if_neg (by omega), if_neg (by omega), if_neg (by omega), h, show (1 : Int32) = nI 1 from rfl, nI_add]
  rw [e]
  refine ⟨(((((((frm.rf _ C).w (by decide)).w (by decide)).w (by decide)).w (by decide)).w (by decide)).w (by decide)).w (by decide), ?_⟩
  simp only [wA_row]
  rfl
/-- a glove is drawn -/
def dealS (r : Nat → Int32) : Nat → Int32 :=
  comR (upd r 0 (drw (drw (drw (drw (r 0)))))) (r 1).toNatClampNeg (rem (shz (drw (r 0))) 6) (rem (shz (drw (drw (r 0)))) 2) (rem (shz (drw (drw (drw (r 0))))) 10) (rem (shz (drw (drw (drw (drw (r 0)))))) 100)
def dealI (r : Nat → Int32) : Nat → Nat → Int32
  | 0 => r
  | k + 1 => dealS (dealI r k)
theorem dealS_1 {r : Nat → Int32} {N : Nat} (h : r 1 = nI N) (hN : N < 10) : dealS r 1 = nI (N + 1) := by
  unfold dealS comR
  rw [h, cl_k (by omega), upd, if_pos rfl]
theorem dealI_1 {r : Nat → Int32} {N : Nat} (h : r 1 = nI N) : ∀ k, N + k ≤ 10 → dealI r k 1 = nI (N + k) := by
  intro k
  induction k with
  | zero => intro _; exact h
  | succ k ih => intro hk; rw [dealI, dealS_1 (ih (by omega)) (by omega), Nat.add_assoc]
theorem cf_X3_deal : CfV yX3_deal "TwoGuildsModel" cX3_deal 7 (some .int) 1 := ⟨⟨by decide, by decide, by decide⟩, q75, q1564, q1562, q1563⟩
def p_X3_deal (C : CS) (a0 : Int32) : Prop := ∃ N, gOk C N
def dealN (r : Nat → Int32) (a0 : Int32) : Nat := min a0.toNatClampNeg (10 - (r 1).toNatClampNeg)
def v_X3_deal (C : CS) (a0 : Int32) : Int32 := if v_X3_in a0 1 10 = 0 then -1000000001 else nI (dealN (C.2.1 36) a0)
def q_X3_deal (C : CS) (a0 : Int32) (C1 : CS) : Prop := if v_X3_in a0 1 10 = 0 then C1 = C else frm [36] C C1 ∧ C1.2.1 36 = dealI (C.2.1 36) (dealN (C.2.1 36) a0)
def wp_X3_deal_l15 (Post : Int32 → CS → Prop) : Nat → CS → Int32 → Int32 → Prop
  | 0, _, _, _ => False
  | n + 1, C, i1, i2 => (i1 ≤ i2 → 
  Post i2 C) ∧
  (¬ i1 ≤ i2 → 
  (10 ≤ (C.2.1 36 1) → 
    Post i2 C) ∧
    (¬ 10 ≤ (C.2.1 36 1) → 
    ∀ r5 : Int32, r5 = (v_X3_draw C) → 
      ∀ C6 : CS, C6 = (n_X3_draw C) → 
      ∀ x7 : Int32, x7 = (r5 - r5 / 6 * 6) → 
      ∀ r8 : Int32, r8 = (v_X3_draw C6) → 
      ∀ C9 : CS, C9 = (n_X3_draw C6) → 
      ∀ x10 : Int32, x10 = (r8 - r8 / 2 * 2) → 
      ∀ r11 : Int32, r11 = (v_X3_draw C9) → 
      ∀ C12 : CS, C12 = (n_X3_draw C9) → 
      ∀ x13 : Int32, x13 = (r11 - r11 / 10 * 10) → 
      ∀ r14 : Int32, r14 = (v_X3_draw C12) → 
      ∀ C15 : CS, C15 = (n_X3_draw C12) → 
      p_X3_comes C15 x7 x10 x13 (r14 - r14 / 100 * 100) ∧
      (∀ r16 : Int32, r16 = (v_X3_comes C15 x7 x10 x13 (r14 - r14 / 100 * 100)) → 
      ∀ C17 : CS, C17 = (n_X3_comes C15 x7 x10 x13 (r14 - r14 / 100 * 100)) → 
      ∀ x18 : Int32, x18 = (i2 + Int32.ofInt 1) → 
      wp_X3_deal_l15 Post n C17 i1 x18)))
def wp_X3_deal (Post : Int32 → CS → Prop) (C : CS) (a0 : Int32) : Prop :=
  ∀ r1 : Int32, r1 = (v_X3_in a0 1 10) → 
    (r1 = 0 → 
    Post (-1000000001) C) ∧
    (¬ r1 = 0 → 
    ∃ m15, wp_X3_deal_l15 Post m15 C a0 0)
set_option maxHeartbeats 4000000 in
set_option maxRecDepth 100000 in
theorem gw_X3_deal_l15 {w : WD} {x : Cx} (ok : Ok w x cX3_deal 7 yX3_deal.cls (some .int) (rmL 2 0 0)) {Post : Int32 → CS → Prop} : ∀ (n : Nat) (C : CS) (i1 : Int32) (i2 : Int32), wp_X3_deal_l15 Post  n C i1 i2 → G w x 7 0 0 (QM w x (fun v C1 => ∃ r : Int32, v = some (.int r) ∧ Post r C1) 0 0) C 15 [(0, .ref (ad w 1)), (1, .int i1), (2, .int i2)] [] := by
  intro n
  induction n with
  | zero => intro C i1 i2 hw; exact hw.elim
  | succ n ih =>
    intro C i1 i2 hw
    unfold wp_X3_deal_l15 at hw
    refine g_iload_n ok 2 dX3_deal_15 rfl ?_
    refine g_iload_n ok 1 dX3_deal_16 rfl ?_
    refine g_icmp_ge (tgt := 80) ok dX3_deal_17 (by decide) (fun c3 => ?_) (fun c3 => ?_)
    · have hw := hw.1 c3
      refine g_iload_n ok 2 dX3_deal_80 rfl ?_
      exact g_iret ok dX3_deal_81 ⟨_, rfl, hw⟩
    · have hw := hw.2 c3
      refine g_aload_n ok 0 dX3_deal_20 rfl ?_
      refine g_get ok 1 rfl rfl in_X3 0 (by decide) q1359 rfl dX3_deal_21 ?_
      refine g_iconst (v := 1) ok dX3_deal_24 (by decide) ?_
      refine g_iald ok 36 rfl (by unfold vp_in; decide) 1 (by decide) dX3_deal_25 ?_
      refine g_bipush (v := 10) ok dX3_deal_26 (by decide) ?_
      refine g_icmp_ge (tgt := 80) ok dX3_deal_28 (by decide) (fun c4 => ?_) (fun c4 => ?_)
      · have hw := hw.1 c4
        refine g_iload_n ok 2 dX3_deal_80 rfl ?_
        exact g_iret ok dX3_deal_81 ⟨_, rfl, hw⟩
      · have hw := hw.2 c4
        refine g_aload_n ok 0 dX3_deal_31 rfl ?_
        refine g_callVI ok [] cf_X3_draw q1565 (mc_X3_draw ok.wo (xL x) C) (recvF ok 1 rfl rfl) rfl rfl (Nat.le_of_ble_eq_true rfl) ⟨by decide, by decide⟩ ⟨by decide, by decide⟩ dX3_deal_32 ?_
        refine g_nmI (fun r5 er5 => ?_)
        have hw := hw r5 er5
        refine g_nmC (fun C6 eC6 => ?_)
        have hw := hw C6 eC6
        refine g_bipush (v := 6) ok dX3_deal_35 (by decide) ?_
        refine g_irem ok dX3_deal_37 (by decide) ?_
        refine g_istore_n ok (fun z => [(3, .int z), (0, .ref (ad w 1)), (1, .int i1), (2, .int i2)]) dX3_deal_38 (by decide) (fun _ => rfl) (fun x7 ex7 => ?_)
        have hw := hw x7 ex7
        refine g_aload_n ok 1 dX3_deal_39 rfl ?_
        refine g_callVI ok [] cf_X3_draw q1565 (mc_X3_draw ok.wo (xL x) C6) (recvF ok 1 rfl rfl) rfl rfl (Nat.le_of_ble_eq_true rfl) ⟨by decide, by decide⟩ ⟨by decide, by decide⟩ dX3_deal_40 ?_
        refine g_nmI (fun r8 er8 => ?_)
        have hw := hw r8 er8
        refine g_nmC (fun C9 eC9 => ?_)
        have hw := hw C9 eC9
        refine g_iconst (v := 2) ok dX3_deal_43 (by decide) ?_
        refine g_irem ok dX3_deal_44 (by decide) ?_
        refine g_istore ok (fun z => [(4, .int z), (3, .int x7), (0, .ref (ad w 1)), (1, .int i1), (2, .int i2)]) dX3_deal_45 (by decide) (fun _ => rfl) (fun x10 ex10 => ?_)
        have hw := hw x10 ex10
        refine g_aload_n ok 2 dX3_deal_47 rfl ?_
        refine g_callVI ok [] cf_X3_draw q1565 (mc_X3_draw ok.wo (xL x) C9) (recvF ok 1 rfl rfl) rfl rfl (Nat.le_of_ble_eq_true rfl) ⟨by decide, by decide⟩ ⟨by decide, by decide⟩ dX3_deal_48 ?_
        refine g_nmI (fun r11 er11 => ?_)
        have hw := hw r11 er11
        refine g_nmC (fun C12 eC12 => ?_)
        have hw := hw C12 eC12
        refine g_bipush (v := 10) ok dX3_deal_51 (by decide) ?_
        refine g_irem ok dX3_deal_53 (by decide) ?_
        refine g_istore ok (fun z => [(5, .int z), (4, .int x10), (3, .int x7), (0, .ref (ad w 1)), (1, .int i1), (2, .int i2)]) dX3_deal_54 (by decide) (fun _ => rfl) (fun x13 ex13 => ?_)
        have hw := hw x13 ex13
        refine g_aload_n ok 3 dX3_deal_56 rfl ?_
        refine g_iload_n ok 2 dX3_deal_57 rfl ?_
        refine g_iload ok 1 dX3_deal_58 rfl ?_
        refine g_iload ok 0 dX3_deal_60 rfl ?_
        refine g_aload_n ok 3 dX3_deal_62 rfl ?_
        refine g_callVI ok [] cf_X3_draw q1565 (mc_X3_draw ok.wo (xL x) C12) (recvF ok 1 rfl rfl) rfl rfl (Nat.le_of_ble_eq_true rfl) ⟨by decide, by decide⟩ ⟨by decide, by decide⟩ dX3_deal_63 ?_
        refine g_nmI (fun r14 er14 => ?_)
        have hw := hw r14 er14
        refine g_nmC (fun C15 eC15 => ?_)
        have hw := hw C15 eC15
        refine g_bipush (v := 100) ok dX3_deal_66 (by decide) ?_
        refine g_irem ok dX3_deal_68 (by decide) ?_
        obtain ⟨hp, hw⟩ := hw
        refine g_callVI ok [.int x7, .int x10, .int x13, .int (r14 - r14 / 100 * 100)] cf_X3_comes q1479 (mc_X3_comes ok.wo (xL x) C15 x7 x10 x13 (r14 - r14 / 100 * 100) hp) (recvF ok 1 rfl rfl) rfl rfl (Nat.le_of_ble_eq_true rfl) ⟨by decide, by decide⟩ ⟨by decide, by decide⟩ dX3_deal_69 ?_
        refine g_nmI (fun r16 er16 => ?_)
        have hw := hw r16 er16
        refine g_nmC (fun C17 eC17 => ?_)
        have hw := hw C17 eC17
        refine g_istore0 ok [(6, .int r16), (5, .int x13), (4, .int x10), (3, .int x7), (0, .ref (ad w 1)), (1, .int i1), (2, .int i2)] dX3_deal_72 (by decide) rfl ?_
        refine g_iinc ok 6 (fun z => [(2, .int z), (6, .int r16), (5, .int x13), (4, .int x10), (3, .int x7), (0, .ref (ad w 1)), (1, .int i1)]) dX3_deal_74 rfl (by decide) (fun _ => rfl) (fun x18 ex18 => ?_)
        have hw := hw x18 ex18
        refine g_goto (tgt := 15) ok dX3_deal_77 (by decide) ?_
        refine g_sub [5, 6, 0] [(0, .ref (ad w 1)), (1, .int i1), (2, .int x18)] rfl ?_
        exact ih C17 i1 x18 hw
set_option maxHeartbeats 4000000 in
set_option maxRecDepth 100000 in
theorem gw_X3_deal {w : WD} (wk : wOk w) (l : Launch) (C : CS) (a0 : Int32) {Post : Int32 → CS → Prop} (hw : wp_X3_deal Post C a0) : MC w l yX3_deal cX3_deal 7 (some .int) 2 0 0 [.ref (ad w 1), .int a0] C (fun v C1 => ∃ r : Int32, v = some (.int r) ∧ Post r C1) := by
  unfold wp_X3_deal at hw
  refine MC.of wk (by decide) (Nat.le_of_ble_eq_true rfl) (fun x hx ok => ?_)
  subst hx
  show G w x 7 0 0 (QM w x _ 0 0) C 0 [(0, .ref (ad w 1)), (1, .int a0)] []
  refine g_iload_n ok 1 dX3_deal_0 rfl ?_
  refine g_iconst (v := 1) ok dX3_deal_1 (by decide) ?_
  refine g_bipush (v := 10) ok dX3_deal_2 (by decide) ?_
  refine g_callSI ok [.int a0, .int 1, .int 10] cf_X3_in q1474 (mc_X3_in ok.wo (xL x) C a0 1 10) rfl rfl (Nat.le_of_ble_eq_true rfl) ⟨by decide, by decide⟩ ⟨by decide, by decide⟩ dX3_deal_4 ?_
  refine g_nmI (fun r1 er1 => ?_)
  have hw := hw r1 er1
  refine g_if_ne (tgt := 13) ok dX3_deal_7 (by decide) (fun c2 => ?_) (fun c2 => ?_)
  · have hw := hw.2 c2
    refine g_iconst (v := 0) ok dX3_deal_13 (by decide) ?_
    refine g_istore_n0 ok [(2, .int 0), (0, .ref (ad w 1)), (1, .int a0)] dX3_deal_14 (by decide) rfl ?_
    refine g_sub [1, 2, 0] [(0, .ref (ad w 1)), (1, .int a0), (2, .int 0)] rfl ?_
    obtain ⟨n19, hw⟩ := hw
    exact gw_X3_deal_l15 ok n19 C a0 0 hw
  · have hw := hw.1 c2
    refine g_ldc (v := -1000000001) ok q1477 dX3_deal_10 ?_
    exact g_iret ok dX3_deal_12 ⟨_, rfl, hw⟩
theorem sp_X3_deal (C : CS) (a0 : Int32) (hp : p_X3_deal C a0) : wp_X3_deal (fun r C1 => r = v_X3_deal C a0 ∧ q_X3_deal C a0 C1) C a0 := by
  obtain ⟨N, e, hN⟩ := hp
  intro r1 e1
  refine ⟨fun c => ⟨by unfold v_X3_deal; rw [← e1, if_pos c], by unfold q_X3_deal; rw [← e1, if_pos c]⟩, fun c => ?_⟩
  have c' := c
  rw [e1, in_iff] at c'
  obtain ⟨n, rfl, h1n, hn⟩ := nI_btw (lo := 1) (hi := 10) c'.1 c'.2 (by decide)
  have hk : dealN (C.2.1 36) (nI n) = min n (10 - N) := by unfold dealN; rw [cl_k (by omega), e, cl_k (by omega)]
  have done : ∀ k (C1 : CS), k = min n (10 - N) → frm [36] C C1 → C1.2.1 36 = dealI (C.2.1 36) k → nI k = v_X3_deal C (nI n) ∧ q_X3_deal C (nI n) C1 := by
    intro k C1 hk1 hf hr
    refine ⟨?_, ?_⟩
    · unfold v_X3_deal; rw [← e1, if_neg c, hk, hk1]
    · unfold q_X3_deal; rw [← e1, if_neg c, hk, ← hk1]; exact ⟨hf, hr⟩
  have H : ∀ d k, k + d = min n (10 - N) → ∀ C1 : CS, frm [36] C C1 → C1.2.1 36 = dealI (C.2.1 36) k → wp_X3_deal_l15 (fun r C1 => r = v_X3_deal C (nI n) ∧ q_X3_deal C (nI n) C1) (d + 1) C1 (nI n) (nI k) := by
    intro d
    induction d with
    | zero =>
      intro k hk1 C1 hf hr
      have h1 : C1.2.1 36 1 = nI (N + k) := by rw [hr, dealI_1 e k (by omega)]
      refine ⟨fun _ => done k C1 (by omega) hf hr, fun c1 => ⟨fun _ => done k C1 (by omega) hf hr, fun c2 => ?_⟩⟩
      rw [nI_leI (by omega) (by omega)] at c1
      rw [h1, show (10 : Int32) = nI 10 from rfl, nI_leI (by omega) (by omega)] at c2
      omega
    | succ d ih =>
      intro k hk1 C1 hf hr
      have h1 : C1.2.1 36 1 = nI (N + k) := by rw [hr, dealI_1 e k (by omega)]
      refine ⟨fun c1 => ?_, fun c1 => ⟨fun c2 => ?_, fun c2 r5 e5 C6 e6 x7 e7 r8 e8 C9 e9 x10 e10 r11 e11 C12 e12 x13 e13 r14 e14 C15 e15 => ?_⟩⟩
      · rw [nI_leI (by omega) (by omega)] at c1; omega
      · rw [h1, show (10 : Int32) = nI 10 from rfl, nI_leI (by omega) (by omega)] at c2; omega
      · rw [draw_v] at e5 e8 e11 e14
        have r6 : C6.2.1 36 = upd (C1.2.1 36) 0 (drw (C1.2.1 36 0)) := by rw [e6, draw_r]
        have r9 : C9.2.1 36 = upd (C1.2.1 36) 0 (drw (drw (C1.2.1 36 0))) := by rw [e9, draw_r, r6, upd_upd]; unfold upd; rw [if_pos rfl]
        have r12 : C12.2.1 36 = upd (C1.2.1 36) 0 (drw (drw (drw (C1.2.1 36 0)))) := by rw [e12, draw_r, r9, upd_upd]; unfold upd; rw [if_pos rfl]
        have r15 : C15.2.1 36 = upd (C1.2.1 36) 0 (drw (drw (drw (drw (C1.2.1 36 0))))) := by rw [e15, draw_r, r12, upd_upd]; unfold upd; rw [if_pos rfl]
        have f15 : frm [36] C C15 := by rw [e15, e12, e9, e6]; exact (((hf.w (by decide)).w (by decide)).w (by decide)).w (by decide)
        have h15 : C15.2.1 36 1 = nI (N + k) := by rw [r15]; exact h1
        refine ⟨comes_p h15 (by omega) _ _ _ _, fun r16 e16 C17 e17 x18 e18 => ?_⟩
        obtain ⟨q1, q2⟩ := comes_n h15 (by omega) x7 x10 x13 (r14 - r14 / 100 * 100)
        rw [← e17] at q1 q2
        rw [e18, o1, nI_add]
        refine ih (k + 1) (by omega) C17 (f15.tr q1) ?_
        rw [q2, dealI, ← hr, dealS, h1, cl_k (by omega), r15]
        rw [e7, e10, e13, e5, e8, e11, e14, r6, r9, r12]
        rfl
  exact ⟨_, H (min n (10 - N)) 0 (by omega) C (frm.rf _ _) rfl⟩
theorem mc_X3_deal {w : WD} (wk : wOk w) (l : Launch) (C : CS) (a0 : Int32) (hp : p_X3_deal C a0) : MC w l yX3_deal cX3_deal 7 (some .int) 2 0 0 [.ref (ad w 1), .int a0] C (pIR (v_X3_deal C a0) (q_X3_deal C a0)) := MC.postIR (gw_X3_deal wk l C a0 (sp_X3_deal C a0 hp))
