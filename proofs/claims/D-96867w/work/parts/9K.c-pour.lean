/-! reads, pour -/
theorem tgO_eq {C C1 : CS} (e1 : C1.2.2.2.2.2.1 = C.2.2.2.2.2.1) (o : Option Nat) : tgO C1 o = tgO C o ∧ lnO C1 o = lnO C o := by
  unfold tgO lnO
  rw [e1]
  exact ⟨rfl, rfl⟩
theorem rwC.same {C C1 : CS} {o : Option Nat} {f : Nat → Int32} (h : rwC C o f) (e1 : C1.2.2.2.2.2.1 = C.2.2.2.2.2.1) (e2 : C1.2.2.2.2.2.2.2.2 = C.2.2.2.2.2.2.2.2) : rwC C1 o f := by
  obtain ⟨t1, t2⟩ := tgO_eq e1 o
  have a1 : ∀ i, atS C1 o i = atS C o i := fun i => by cases o with
    | none => rfl
    | some a => show C1.2.2.2.2.2.2.2.2.1 a i = _; rw [e2]; rfl
  have a2 : ∀ i, atF C1 o i = atF C o i := fun i => by cases o with
    | none => rfl
    | some a => show C1.2.2.2.2.2.2.2.2.2 a i = _; rw [e2]; rfl
  refine ⟨by rw [t2]; exact h.1, ?_⟩
  rw [t1, t2]
  rcases h.2 with ⟨h1, h2⟩ | ⟨h1, h2⟩
  · exact Or.inl ⟨h1, fun i hi => by rw [a1]; exact h2 i hi⟩
  · exact Or.inr ⟨h1, fun i hi => by rw [a2]; exact h2 i hi⟩
theorem cf_X0_reads : CfV yX0_reads "TwoGuilds" cX0_reads 5 (some .int) 1 := ⟨⟨by decide, by decide, by decide⟩, q72, q1243, q1241, q1242⟩
def p_X0_reads (C : CS) (a0 : Int32) : Prop := opP C ∧ shO C
def v_X0_reads (C : CS) (a0 : Int32) : Int32 := v_X3_reads C a0
def wp_X0_reads_j78 (Post : Int32 → CS → Prop) (R29 : CS → (Option Nat) → Int32 → Prop) (C : CS) (o2 : (Option Nat)) (i3 : Int32) : Prop := ∀ x11 : Int32, x11 = (i3 + Int32.ofInt 1) → 
  R29 C o2 x11
def wp_X0_reads_l29 (Post : Int32 → CS → Prop) : Nat → CS → (Option Nat) → Int32 → Prop
  | 0, _, _, _ => False
  | n + 1, C, o2, i3 => p_X0_lengthOf C o2 ∧
  (∀ r6 : Int32, r6 = (v_X0_lengthOf C o2) → 
  (r6 ≤ i3 → 
  Post (-1000000005) C) ∧
  (¬ r6 ≤ i3 → 
  p_X0_numberAt C o2 i3 ∧
    (∀ r9 : Int32, r9 = (v_X0_numberAt C o2 i3) → 
    (r9 = (-1000000005) → 
    wp_X0_reads_j78 Post (fun C o2 i3 => wp_X0_reads_l29 Post n C o2 i3) C o2 i3) ∧
    (¬ r9 = (-1000000005) → 
    p_X0_isGlove C i3 ∧
      (∀ r13 : Int32, r13 = (v_X0_isGlove C i3) → 
      (r13 = 0 → 
      Post i3 C) ∧
      (¬ r13 = 0 → 
      isTb (cN C) ∧
        (vp_in i3 10 ∧
        (∃ d17 : Nat, (cG C (17 + 4 * ((cN C) - 2)) (Int32.toNatClampNeg i3)) = some d17 ∧
        (isGl C d17 ∧
        ((r9 = (cDI C 43 d17) → 
        wp_X0_reads_j78 Post (fun C o2 i3 => wp_X0_reads_l29 Post n C o2 i3) C o2 i3) ∧
        (¬ r9 = (cDI C 43 d17) → 
        Post i3 C)))))))))))
def wp_X0_reads (Post : Int32 → CS → Prop) (C : CS) (a0 : Int32) : Prop :=
  ∀ r1 : Int32, r1 = (v_X0_isSheet a0) → 
    (r1 = 0 → 
    Post (-1000000001) C) ∧
    (¬ r1 = 0 → 
    vp_in a0 4 ∧
      (((cH C (27 + Int32.toNatClampNeg a0)) = none → 
      Post (-1000000011) C) ∧
      (¬ (cH C (27 + Int32.toNatClampNeg a0)) = none → 
      ∃ m29, wp_X0_reads_l29 Post m29 C (cH C (27 + Int32.toNatClampNeg a0)) 0)))
set_option maxHeartbeats 4000000 in
set_option maxRecDepth 100000 in
theorem gw_X0_reads_j78 {w : WD} {x : Cx} (ok : Ok w x cX0_reads 5 yX0_reads.cls (some .int) (rmL 4 0 0)) {Post : Int32 → CS → Prop} {R29 : CS → (Option Nat) → Int32 → Prop} (hR29 : ∀ C (o2 : (Option Nat)) (i3 : Int32), R29 C o2 i3 → G w x 5 0 0 (QM w x (fun v C1 => ∃ r : Int32, v = some (.int r) ∧ Post r C1) 0 0) C 29 [(0, .ref (ad w 0)), (2, va_rf o2), (3, .int i3)] []) : ∀ (C : CS) (o2 : (Option Nat)) (i3 : Int32), wp_X0_reads_j78 Post R29 C o2 i3 → G w x 5 0 0 (QM w x (fun v C1 => ∃ r : Int32, v = some (.int r) ∧ Post r C1) 0 0) C 78 [(0, .ref (ad w 0)), (2, va_rf o2), (3, .int i3)] [] := by
  intro C o2 i3 hw
  unfold wp_X0_reads_j78 at hw
  refine g_iinc ok 2 (fun z => [(3, .int z), (0, .ref (ad w 0)), (2, va_rf o2)]) dX0_reads_78 rfl (by decide) (fun _ => (by generalize o2 = o9; cases o9 <;> rfl)) (fun x11 ex11 => ?_)
  have hw := hw x11 ex11
  refine g_goto (tgt := 29) ok dX0_reads_81 (by decide) ?_
  refine g_sub [1, 2, 0] [(0, .ref (ad w 0)), (2, va_rf o2), (3, .int x11)] rfl ?_
  exact hR29 C o2 x11 hw
set_option maxHeartbeats 4000000 in
set_option maxRecDepth 100000 in
theorem gw_X0_reads_l29 {w : WD} {x : Cx} (ok : Ok w x cX0_reads 5 yX0_reads.cls (some .int) (rmL 4 0 0)) {Post : Int32 → CS → Prop} : ∀ (n : Nat) (C : CS) (o2 : (Option Nat)) (i3 : Int32), wp_X0_reads_l29 Post  n C o2 i3 → G w x 5 0 0 (QM w x (fun v C1 => ∃ r : Int32, v = some (.int r) ∧ Post r C1) 0 0) C 29 [(0, .ref (ad w 0)), (2, va_rf o2), (3, .int i3)] [] := by
  intro n
  induction n with
  | zero => intro C o2 i3 hw; exact hw.elim
  | succ n ih =>
    intro C o2 i3 hw
    unfold wp_X0_reads_l29 at hw
    refine g_iload_n ok 2 dX0_reads_29 rfl ?_
    refine g_oload_n ok 1 dX0_reads_30 rfl ?_
    obtain ⟨hp5, hw⟩ := hw
    refine g_callS ok [va_rf o2] cf_X0_lengthOf q803 (mc_X0_lengthOf ok.wo (xL x) C o2 hp5) rfl rfl (Nat.le_of_ble_eq_true rfl) ⟨by decide, by decide⟩ ⟨by decide, by decide⟩ dX0_reads_31 (resI ?_)
    refine g_nmI (fun r6 er6 => ?_)
    have hw := hw r6 er6
    refine g_icmp_ge (tgt := 84) ok dX0_reads_34 (by decide) (fun c7 => ?_) (fun c7 => ?_)
    · have hw := hw.1 c7
      refine g_ldc (v := -1000000005) ok q740 dX0_reads_84 ?_
      exact g_iret ok dX0_reads_86 ⟨_, rfl, hw⟩
    · have hw := hw.2 c7
      refine g_oload_n ok 1 dX0_reads_37 rfl ?_
      refine g_iload_n ok 2 dX0_reads_38 rfl ?_
      obtain ⟨hp8, hw⟩ := hw
      refine g_callS ok [va_rf o2, .int i3] cf_X0_numberAt q808 (mc_X0_numberAt ok.wo (xL x) C o2 i3 hp8) rfl rfl (Nat.le_of_ble_eq_true rfl) ⟨by decide, by decide⟩ ⟨by decide, by decide⟩ dX0_reads_39 (resI ?_)
      refine g_nmI (fun r9 er9 => ?_)
      have hw := hw r9 er9
      refine g_istore0 ok [(4, .int r9), (0, .ref (ad w 0)), (2, va_rf o2), (3, .int i3)] dX0_reads_42 (by decide) rfl ?_
      refine g_iload ok 0 dX0_reads_44 rfl ?_
      refine g_ldc (v := -1000000005) ok q740 dX0_reads_46 ?_
      refine g_icmp_eq (tgt := 78) ok dX0_reads_48 (by decide) (fun c10 => ?_) (fun c10 => ?_)
      · have hw := hw.1 c10
        refine g_sub [1, 2, 3] [(0, .ref (ad w 0)), (2, va_rf o2), (3, .int i3)] rfl ?_
        exact gw_X0_reads_j78 ok (fun C o2 i3 hw => ih C o2 i3 hw) C o2 i3 hw
      · have hw := hw.2 c10
        refine g_aload_n ok 1 dX0_reads_51 rfl ?_
        refine g_iload_n ok 3 dX0_reads_52 rfl ?_
        obtain ⟨hp12, hw⟩ := hw
        refine g_callV ok [.int i3] cf_X0_isGlove q411 (mc_X0_isGlove ok.wo (xL x) C i3 hp12) (recvF ok 0 rfl rfl) rfl rfl (Nat.le_of_ble_eq_true rfl) ⟨by decide, by decide⟩ ⟨by decide, by decide⟩ dX0_reads_53 (resI ?_)
        refine g_nmI (fun r13 er13 => ?_)
        have hw := hw r13 er13
        refine g_if_eq (tgt := 76) ok dX0_reads_56 (by decide) (fun c14 => ?_) (fun c14 => ?_)
        · have hw := hw.1 c14
          refine g_iload_n ok 3 dX0_reads_76 rfl ?_
          exact g_iret ok dX0_reads_77 ⟨_, rfl, hw⟩
        · have hw := hw.2 c14
          refine g_iload ok 0 dX0_reads_59 rfl ?_
          refine g_aload_n ok 1 dX0_reads_61 rfl ?_
          refine g_get ok 0 rfl rfl in_X0 0 (by decide) q180 rfl dX0_reads_62 ?_
          obtain ⟨hf15, hw⟩ := hw
          refine g_get ok (cN C) (fObjT hf15) rfl in_X1 8 (by decide) q140 rfl dX0_reads_65 ?_
          refine g_iload_n ok 3 dX0_reads_68 rfl ?_
          obtain ⟨hf16, hw⟩ := hw
          obtain ⟨d17, ed17, hw⟩ := hw
          refine g_rald (v := .ref d17) ok _ (fRefG hf15) (Or.inl rfl) hf16 (congrArg va_rf ed17) dX0_reads_69 ?_
          obtain ⟨hf18, hw⟩ := hw
          refine g_gget ok hf18 3 (by decide) q307 (Or.inl rfl) dX0_reads_70 ?_
          refine g_icmp_eq (tgt := 78) ok dX0_reads_73 (by decide) (fun c19 => ?_) (fun c19 => ?_)
          · have hw := hw.1 c19
            refine g_sub [1, 2, 3] [(0, .ref (ad w 0)), (2, va_rf o2), (3, .int i3)] rfl ?_
            exact gw_X0_reads_j78 ok (fun C o2 i3 hw => ih C o2 i3 hw) C o2 i3 hw
          · have hw := hw.2 c19
            refine g_iload_n ok 3 dX0_reads_76 rfl ?_
            exact g_iret ok dX0_reads_77 ⟨_, rfl, hw⟩
set_option maxHeartbeats 4000000 in
set_option maxRecDepth 100000 in
theorem gw_X0_reads {w : WD} (wk : wOk w) (l : Launch) (C : CS) (a0 : Int32) {Post : Int32 → CS → Prop} (hw : wp_X0_reads Post C a0) : MC w l yX0_reads cX0_reads 5 (some .int) 4 0 0 [.ref (ad w 0), .int a0] C (fun v C1 => ∃ r : Int32, v = some (.int r) ∧ Post r C1) := by
  unfold wp_X0_reads at hw
  refine MC.of wk (by decide) (Nat.le_of_ble_eq_true rfl) (fun x hx ok => ?_)
  subst hx
  show G w x 5 0 0 (QM w x _ 0 0) C 0 [(0, .ref (ad w 0)), (1, .int a0)] []
  refine g_iload_n ok 1 dX0_reads_0 rfl ?_
  refine g_callS ok [.int a0] cf_X0_isSheet q794 (mc_X0_isSheet ok.wo (xL x) C a0) rfl rfl (Nat.le_of_ble_eq_true rfl) ⟨by decide, by decide⟩ ⟨by decide, by decide⟩ dX0_reads_1 (resI ?_)
  refine g_nmI (fun r1 er1 => ?_)
  have hw := hw r1 er1
  refine g_if_ne (tgt := 10) ok dX0_reads_4 (by decide) (fun c2 => ?_) (fun c2 => ?_)
  · have hw := hw.2 c2
    refine g_aload_n ok 0 dX0_reads_10 rfl ?_
    refine g_get ok 0 rfl rfl in_X0 21 (by decide) q203 rfl dX0_reads_11 ?_
    refine g_iload_n ok 1 dX0_reads_14 rfl ?_
    obtain ⟨hf3, hw⟩ := hw
    refine g_hald12 ok hf3 dX0_reads_15 ?_
    refine g_get ok (27 + Int32.toNatClampNeg a0) (fObjH (by have := vp_lt hf3; omega) (by have := vp_lt hf3; omega)) rfl in_X2 0 (by decide) q175 rfl dX0_reads_16 ?_
    refine g_ostore_n ok [(2, va_rf (cH C (27 + Int32.toNatClampNeg a0))), (0, .ref (ad w 0)), (1, .int a0)] dX0_reads_19 (by decide) rfl ?_
    refine g_oload_n ok 0 dX0_reads_20 rfl ?_
    refine g_ifnonnull (tgt := 27) ok dX0_reads_21 (by decide) (fun c4 => ?_) (fun c4 => ?_)
    · have hw := hw.2 c4
      refine g_iconst (v := 0) ok dX0_reads_27 (by decide) ?_
      refine g_istore_n0 ok [(3, .int 0), (2, va_rf (cH C (27 + Int32.toNatClampNeg a0))), (0, .ref (ad w 0)), (1, .int a0)] dX0_reads_28 (by decide) (by generalize (cH C (27 + Int32.toNatClampNeg a0)) = o9; cases o9 <;> rfl) ?_
      refine g_sub [2, 1, 0] [(0, .ref (ad w 0)), (2, va_rf (cH C (27 + Int32.toNatClampNeg a0))), (3, .int 0)] rfl ?_
      obtain ⟨n20, hw⟩ := hw
      exact gw_X0_reads_l29 ok n20 C (cH C (27 + Int32.toNatClampNeg a0)) 0 hw
    · have hw := hw.1 c4
      refine g_ldc (v := -1000000011) ok q798 dX0_reads_24 ?_
      exact g_iret ok dX0_reads_26 ⟨_, rfl, hw⟩
  · have hw := hw.1 c2
    refine g_ldc (v := -1000000001) ok q274 dX0_reads_7 ?_
    exact g_iret ok dX0_reads_9 ⟨_, rfl, hw⟩
theorem sp_X0_reads (C : CS) (a0 : Int32) (hp : p_X0_reads C a0) : wp_X0_reads (fun x C1 => x = v_X0_reads C a0 ∧ C1 = C) C a0 := by
  obtain ⟨hp, hs⟩ := hp
  unfold v_X0_reads v_X3_reads
  refine fun r1 e1 => ⟨fun c => ?_, fun c => ?_⟩
  all_goals rw [e1, isSh_eq] at c
  · rw [if_pos c]; exact ⟨rfl, rfl⟩
  rw [if_neg c]
  obtain ⟨s, hs4, rfl⟩ := sh_k c
  rw [cl_k (by omega)]
  have hr := hs s hs4
  refine ⟨vp_k hs4, fun hn => ?_, fun hn => ?_⟩
  · rw [if_neg (hr.no.mp hn)]; exact ⟨rfl, rfl⟩
  have h0 : (0 : Int32) ≤ C.2.1 51 s := Classical.byContradiction fun z => hn (hr.no.mpr z)
  obtain ⟨x1, x2, x3⟩ := hr.yes hn
  obtain ⟨N, hN⟩ := hp.N
  rw [if_pos h0, x2, hN.1, cl_k (k := N) (by have := hN.2; omega)]
  generalize hL : lnO C (cH C (27 + s)) = L at *
  have hL24 : L ≤ 24 := by rw [← hL]; exact x1.1
  rw [cl_k (k := L) (by omega)]
  have H : ∀ d k, k + d = L → rdL (C.2.1 36) (C.2.1 53) N s L 0 = rdL (C.2.1 36) (C.2.1 53) N s d k → wp_X0_reads_l29 (fun x C1 => x = rdL (C.2.1 36) (C.2.1 53) N s L 0 ∧ C1 = C) (d + 1) C (cH C (27 + s)) (nI k) := by
    intro d
    induction d with
    | zero =>
      intro k hk he
      refine ⟨x1.r, fun r6 e6 => ⟨fun _ => ⟨by rw [he]; rfl, rfl⟩, fun z => ?_⟩⟩
      have e6 : r6 = nI (lnO C (cH C (27 + s))) := e6
      rw [e6, hL] at z
      exact absurd ((nI_leI (by omega) (by omega)).mpr (by omega)) z
    | succ d ih =>
      intro k hk he
      refine ⟨x1.r, fun r6 e6 => ⟨fun z => ?_, fun _ => ?_⟩⟩
      · have e6 : r6 = nI (lnO C (cH C (27 + s))) := e6
        rw [e6, hL] at z
        have := (nI_leI (by omega) (by omega)).mp z
        omega
      · have hkL : k < lnO C (cH C (27 + s)) := by rw [hL]; omega
        refine ⟨⟨x1.r, vp_k hkL (by rw [hL]; omega)⟩, fun r9 e9 => ?_⟩
        have e9 : r9 = C.2.1 53 (24 * s + k) := by
          rw [e9]; unfold v_X0_numberAt; rw [cl_k (by omega)]; exact x1.at hkL
        rw [rdL] at he
        refine ⟨fun z x11 e11 => ?_, fun z => ?_⟩
        · rw [e9] at z
          rw [if_pos z] at he
          rw [e11, o1, nI_add]
          exact ih (k + 1) (by omega) he
        · rw [e9] at z
          rw [if_neg z] at he
          refine ⟨⟨hp.1.1, trivial⟩, fun r13 e13 => ?_⟩
          rw [hp.isG] at e13
          have hg : (¬ v_X3_isGlove C (nI k) = 0) ↔ k < N := by
            rw [isGlove_iff hN]
            constructor
            · rintro ⟨g, g1, g2⟩
              have : k = g := (nI_eq (by omega) (by have := hN.2; omega)).mp g2
              omega
            · exact fun q => ⟨k, q, rfl⟩
          refine ⟨fun y => ?_, fun y => ?_⟩
          · rw [e13] at y
            rw [if_neg (fun q => hg.mpr q y)] at he
            exact ⟨he.symm, rfl⟩
          · rw [e13] at y
            have hkN := hg.mp y
            rw [if_pos hkN] at he
            obtain ⟨b, b1, b2⟩ := hp.1.2.gN hN.1 hN.2 k hkN
            have hk10 : k < 10 := by have := hN.2; omega
            refine ⟨hp.1.1, vp_k hk10, b, by rw [cl_k (by omega)]; exact b1, b2.1, fun q x11 e11 => ?_, fun q => ?_⟩
            · rw [e9, b2.2.2.2.2.2.1] at q
              rw [if_pos q] at he
              rw [e11, o1, nI_add]
              exact ih (k + 1) (by omega) he
            · rw [e9, b2.2.2.2.2.2.1] at q
              rw [if_neg q] at he
              exact ⟨he.symm, rfl⟩
  exact ⟨L + 1, H L 0 (by omega) rfl⟩
theorem mc_X0_reads {w : WD} (wk : wOk w) (l : Launch) (C : CS) (a0 : Int32) (hp : p_X0_reads C a0) : MC w l yX0_reads cX0_reads 5 (some .int) 4 0 0 [.ref (ad w 0), .int a0] C (pI (v_X0_reads C a0) C) := MC.postI (gw_X0_reads wk l C a0 (sp_X0_reads C a0 hp))
theorem cf_X0_pour : CfV yX0_pour "TwoGuilds" cX0_pour 8 (some .int) 1 := ⟨⟨by decide, by decide, by decide⟩, q72, q1239, q1237, q1238⟩
def p_X0_pour (C : CS) (a0 : Int32) : Prop := opP C ∧ shO C
def v_X0_pour (C : CS) (a0 : Int32) : Int32 := v_X3_pour C a0
def q_X0_pour (C : CS) (a0 : Int32) (C1 : CS) : Prop := if ¬ v_X3_isSheet a0 = 0 ∧ 0 ≤ C.2.1 51 a0.toNatClampNeg then tOp C C1 (pourR (C.2.1 36) (C.2.1 52) (C.2.1 53) a0.toNatClampNeg).1 else C1 = C
def wp_X0_pour_l32 (Post : Int32 → CS → Prop) : Nat → CS → (Option Nat) → Int32 → Int32 → Prop
  | 0, _, _, _, _ => False
  | n + 1, C, o2, i3, i4 => p_X0_lengthOf C o2 ∧
  (∀ r6 : Int32, r6 = (v_X0_lengthOf C o2) → 
  (r6 ≤ i4 → 
  Post i3 C) ∧
  (¬ r6 ≤ i4 → 
  isTb (cN C) ∧
    (((C.1 (cN C) 0) ≤ i4 → 
    Post i3 C) ∧
    (¬ (C.1 (cN C) 0) ≤ i4 → 
    p_X0_numberAt C o2 i4 ∧
      (∀ r11 : Int32, r11 = (v_X0_numberAt C o2 i4) → 
      vp_in i4 10 ∧
      (∃ d13 : Nat, (cG C (17 + 4 * ((cN C) - 2)) (Int32.toNatClampNeg i4)) = some d13 ∧
      (((r11 = (-1000000005) → 
        isGl C d13 ∧
          (True)) ∧
        (¬ r11 = (-1000000005) → 
        True)) ∧
      (∀ x17 : Int32, x17 = (if r11 = (-1000000005) then (cDI C 42 d13) else (v_X0_heldIn r11 0 99)) → 
      isGl C d13 ∧
      (∀ x21 : Int32, x21 = (if x17 = (cDI C 42 d13) then (0 : Int32) else 1) → 
      ∀ r22 : Int32, r22 = (v_X0_asBit x21) → 
      ∀ x23 : Int32, x23 = (i3 + r22) → 
      ∀ C24 : CS, C24 = (wDI C 42 d13 x17) → 
      ∀ x25 : Int32, x25 = (i4 + Int32.ofInt 1) → 
      wp_X0_pour_l32 Post n C24 o2 x23 x25)))))))))
def wp_X0_pour (Post : Int32 → CS → Prop) (C : CS) (a0 : Int32) : Prop :=
  ∀ r1 : Int32, r1 = (v_X0_isSheet a0) → 
    (r1 = 0 → 
    Post (-1000000001) C) ∧
    (¬ r1 = 0 → 
    vp_in a0 4 ∧
      (((cH C (27 + Int32.toNatClampNeg a0)) = none → 
      Post (-1000000011) C) ∧
      (¬ (cH C (27 + Int32.toNatClampNeg a0)) = none → 
      ∃ m32, wp_X0_pour_l32 Post m32 C (cH C (27 + Int32.toNatClampNeg a0)) 0 0)))
set_option maxHeartbeats 4000000 in
set_option maxRecDepth 100000 in
theorem gw_X0_pour_l32 {w : WD} {x : Cx} (ok : Ok w x cX0_pour 8 yX0_pour.cls (some .int) (rmL 4 0 0)) {Post : Int32 → CS → Prop} : ∀ (n : Nat) (C : CS) (o2 : (Option Nat)) (i3 : Int32) (i4 : Int32), wp_X0_pour_l32 Post  n C o2 i3 i4 → G w x 8 0 0 (QM w x (fun v C1 => ∃ r : Int32, v = some (.int r) ∧ Post r C1) 0 0) C 32 [(0, .ref (ad w 0)), (2, va_rf o2), (3, .int i3), (4, .int i4)] [] := by
  intro n
  induction n with
  | zero => intro C o2 i3 i4 hw; exact hw.elim
  | succ n ih =>
    intro C o2 i3 i4 hw
    unfold wp_X0_pour_l32 at hw
    refine g_iload ok 3 dX0_pour_32 rfl ?_
    refine g_oload_n ok 1 dX0_pour_34 rfl ?_
    obtain ⟨hp5, hw⟩ := hw
    refine g_callS ok [va_rf o2] cf_X0_lengthOf q803 (mc_X0_lengthOf ok.wo (xL x) C o2 hp5) rfl rfl (Nat.le_of_ble_eq_true rfl) ⟨by decide, by decide⟩ ⟨by decide, by decide⟩ dX0_pour_35 (resI ?_)
    refine g_nmI (fun r6 er6 => ?_)
    have hw := hw r6 er6
    refine g_icmp_ge (tgt := 132) ok dX0_pour_38 (by decide) (fun c7 => ?_) (fun c7 => ?_)
    · have hw := hw.1 c7
      refine g_iload_n ok 2 dX0_pour_132 rfl ?_
      exact g_iret ok dX0_pour_133 ⟨_, rfl, hw⟩
    · have hw := hw.2 c7
      refine g_iload ok 3 dX0_pour_41 rfl ?_
      refine g_aload_n ok 0 dX0_pour_43 rfl ?_
      refine g_get ok 0 rfl rfl in_X0 0 (by decide) q180 rfl dX0_pour_44 ?_
      obtain ⟨hf8, hw⟩ := hw
      refine g_get ok (cN C) (fObjT hf8) rfl in_X1 0 (by decide) q124 rfl dX0_pour_47 ?_
      refine g_icmp_ge (tgt := 132) ok dX0_pour_50 (by decide) (fun c9 => ?_) (fun c9 => ?_)
      · have hw := hw.1 c9
        refine g_iload_n ok 2 dX0_pour_132 rfl ?_
        exact g_iret ok dX0_pour_133 ⟨_, rfl, hw⟩
      · have hw := hw.2 c9
        refine g_oload_n ok 1 dX0_pour_53 rfl ?_
        refine g_iload ok 3 dX0_pour_54 rfl ?_
        obtain ⟨hp10, hw⟩ := hw
        refine g_callS ok [va_rf o2, .int i4] cf_X0_numberAt q808 (mc_X0_numberAt ok.wo (xL x) C o2 i4 hp10) rfl rfl (Nat.le_of_ble_eq_true rfl) ⟨by decide, by decide⟩ ⟨by decide, by decide⟩ dX0_pour_56 (resI ?_)
        refine g_nmI (fun r11 er11 => ?_)
        have hw := hw r11 er11
        refine g_istore0 ok [(5, .int r11), (0, .ref (ad w 0)), (2, va_rf o2), (3, .int i3), (4, .int i4)] dX0_pour_59 (by decide) rfl ?_
        refine g_aload_n ok 1 dX0_pour_61 rfl ?_
        refine g_get ok 0 rfl rfl in_X0 0 (by decide) q180 rfl dX0_pour_62 ?_
        refine g_get ok (cN C) (fObjT hf8) rfl in_X1 8 (by decide) q140 rfl dX0_pour_65 ?_
        refine g_iload ok 4 dX0_pour_68 rfl ?_
        obtain ⟨hf12, hw⟩ := hw
        obtain ⟨d13, ed13, hw⟩ := hw
        refine g_rald (v := .ref d13) ok _ (fRefG hf8) (Or.inl rfl) hf12 (congrArg va_rf ed13) dX0_pour_70 ?_
        refine g_astore ok [(6, .ref d13), (5, .int r11), (0, .ref (ad w 0)), (2, va_rf o2), (3, .int i3), (4, .int i4)] dX0_pour_71 (by decide) rfl ?_
        refine g_iload ok 1 dX0_pour_73 rfl ?_
        refine g_ldc (v := -1000000005) ok q740 dX0_pour_75 ?_
        obtain ⟨hr, hw⟩ := hw
        have kj16 : ∀ x17 : Int32, x17 = (if r11 = (-1000000005) then (cDI C 42 d13) else (v_X0_heldIn r11 0 99)) → G w x 8 0 0 (QM w x (fun v C1 => ∃ r : Int32, v = some (.int r) ∧ Post r C1) 0 0) C 96 [(0, .ref (ad w 0)), (2, va_rf o2), (3, .int i3), (4, .int i4), (6, .ref d13)] [.int x17] := by
          intro x17 ex17
          have hw := hw x17 ex17
          refine g_istore0 ok [(7, .int x17), (0, .ref (ad w 0)), (2, va_rf o2), (3, .int i3), (4, .int i4), (6, .ref d13)] dX0_pour_96 (by decide) rfl ?_
          refine g_iload_n ok 3 dX0_pour_98 rfl ?_
          refine g_iload ok 0 dX0_pour_99 rfl ?_
          refine g_aload ok 5 dX0_pour_101 rfl ?_
          obtain ⟨hf18, hw⟩ := hw
          refine g_gget ok hf18 2 (by decide) q301 (Or.inl rfl) dX0_pour_103 ?_
          have kj20 : ∀ x21 : Int32, x21 = (if x17 = (cDI C 42 d13) then (0 : Int32) else 1) → G w x 8 0 0 (QM w x (fun v C1 => ∃ r : Int32, v = some (.int r) ∧ Post r C1) 0 0) C 114 [(0, .ref (ad w 0)), (2, va_rf o2), (4, .int i4), (6, .ref d13), (7, .int x17)] [.int x21, .int i3] := by
            intro x21 ex21
            have hw := hw x21 ex21
            refine g_callS ok [.int x21] cf_X0_asBit q440 (mc_X0_asBit ok.wo (xL x) C x21) rfl rfl (Nat.le_of_ble_eq_true rfl) ⟨by decide, by decide⟩ ⟨by decide, by decide⟩ dX0_pour_114 (resI ?_)
            refine g_nmI (fun r22 er22 => ?_)
            have hw := hw r22 er22
            refine g_iadd ok dX0_pour_117 ?_
            refine g_istore_n ok (fun z => [(3, .int z), (0, .ref (ad w 0)), (2, va_rf o2), (4, .int i4), (6, .ref d13), (7, .int x17)]) dX0_pour_118 (by decide) (fun _ => (by generalize o2 = o9; cases o9 <;> rfl)) (fun x23 ex23 => ?_)
            have hw := hw x23 ex23
            refine g_aload ok 4 dX0_pour_119 rfl ?_
            refine g_iload ok 5 dX0_pour_121 rfl ?_
            refine g_gput ok hf18 2 (by decide) q301 rfl rfl dX0_pour_123 (fun C24 eC24 => ?_)
            have hw := hw C24 eC24
            refine g_iinc ok 3 (fun z => [(4, .int z), (3, .int x23), (0, .ref (ad w 0)), (2, va_rf o2), (6, .ref d13), (7, .int x17)]) dX0_pour_126 rfl (by decide) (fun _ => rfl) (fun x25 ex25 => ?_)
            have hw := hw x25 ex25
            refine g_goto (tgt := 32) ok dX0_pour_129 (by decide) ?_
            refine g_sub [2, 3, 1, 0] [(0, .ref (ad w 0)), (2, va_rf o2), (3, .int x23), (4, .int x25)] rfl ?_
            exact ih C24 o2 x23 x25 hw
          refine g_icmp_eq (tgt := 113) ok dX0_pour_106 (by decide) (fun c19 => ?_) (fun c19 => ?_)
          · refine g_iconst (v := 0) ok dX0_pour_113 (by decide) ?_
            exact g_sub [1, 2, 4, 5, 0] [(0, .ref (ad w 0)), (2, va_rf o2), (4, .int i4), (6, .ref d13), (7, .int x17)] rfl (kj20 _ (by simp only [if_pos c19]))
          · refine g_iconst (v := 1) ok dX0_pour_109 (by decide) ?_
            refine g_goto (tgt := 114) ok dX0_pour_110 (by decide) ?_
            exact g_sub [1, 2, 4, 5, 0] [(0, .ref (ad w 0)), (2, va_rf o2), (4, .int i4), (6, .ref d13), (7, .int x17)] rfl (kj20 _ (by simp only [if_neg c19]))
        have hw := hr
        refine g_icmp_ne (tgt := 88) ok dX0_pour_77 (by decide) (fun c14 => ?_) (fun c14 => ?_)
        · have hw := hw.2 c14
          refine g_iload ok 1 dX0_pour_88 rfl ?_
          refine g_iconst (v := 0) ok dX0_pour_90 (by decide) ?_
          refine g_bipush (v := 99) ok dX0_pour_91 (by decide) ?_
          refine g_callS ok [.int r11, .int 0, .int 99] cf_X0_heldIn q737 (mc_X0_heldIn ok.wo (xL x) C r11 0 99) rfl rfl (Nat.le_of_ble_eq_true rfl) ⟨by decide, by decide⟩ ⟨by decide, by decide⟩ dX0_pour_93 (resI ?_)
          exact g_sub [2, 3, 4, 5, 0] [(0, .ref (ad w 0)), (2, va_rf o2), (3, .int i3), (4, .int i4), (6, .ref d13)] rfl (kj16 _ (by simp only [if_neg c14]))
        · have hw := hw.1 c14
          refine g_aload ok 0 dX0_pour_80 rfl ?_
          obtain ⟨hf15, hw⟩ := hw
          refine g_gget ok hf15 2 (by decide) q301 (Or.inl rfl) dX0_pour_82 ?_
          refine g_goto (tgt := 96) ok dX0_pour_85 (by decide) ?_
          exact g_sub [2, 3, 4, 5, 0] [(0, .ref (ad w 0)), (2, va_rf o2), (3, .int i3), (4, .int i4), (6, .ref d13)] rfl (kj16 _ (by simp only [if_pos c14]))
set_option maxHeartbeats 4000000 in
set_option maxRecDepth 100000 in
theorem gw_X0_pour {w : WD} (wk : wOk w) (l : Launch) (C : CS) (a0 : Int32) {Post : Int32 → CS → Prop} (hw : wp_X0_pour Post C a0) : MC w l yX0_pour cX0_pour 8 (some .int) 4 0 0 [.ref (ad w 0), .int a0] C (fun v C1 => ∃ r : Int32, v = some (.int r) ∧ Post r C1) := by
  unfold wp_X0_pour at hw
  refine MC.of wk (by decide) (Nat.le_of_ble_eq_true rfl) (fun x hx ok => ?_)
  subst hx
  show G w x 8 0 0 (QM w x _ 0 0) C 0 [(0, .ref (ad w 0)), (1, .int a0)] []
  refine g_iload_n ok 1 dX0_pour_0 rfl ?_
  refine g_callS ok [.int a0] cf_X0_isSheet q794 (mc_X0_isSheet ok.wo (xL x) C a0) rfl rfl (Nat.le_of_ble_eq_true rfl) ⟨by decide, by decide⟩ ⟨by decide, by decide⟩ dX0_pour_1 (resI ?_)
  refine g_nmI (fun r1 er1 => ?_)
  have hw := hw r1 er1
  refine g_if_ne (tgt := 10) ok dX0_pour_4 (by decide) (fun c2 => ?_) (fun c2 => ?_)
  · have hw := hw.2 c2
    refine g_aload_n ok 0 dX0_pour_10 rfl ?_
    refine g_get ok 0 rfl rfl in_X0 21 (by decide) q203 rfl dX0_pour_11 ?_
    refine g_iload_n ok 1 dX0_pour_14 rfl ?_
    obtain ⟨hf3, hw⟩ := hw
    refine g_hald12 ok hf3 dX0_pour_15 ?_
    refine g_get ok (27 + Int32.toNatClampNeg a0) (fObjH (by have := vp_lt hf3; omega) (by have := vp_lt hf3; omega)) rfl in_X2 0 (by decide) q175 rfl dX0_pour_16 ?_
    refine g_ostore_n ok [(2, va_rf (cH C (27 + Int32.toNatClampNeg a0))), (0, .ref (ad w 0)), (1, .int a0)] dX0_pour_19 (by decide) rfl ?_
    refine g_oload_n ok 0 dX0_pour_20 rfl ?_
    refine g_ifnonnull (tgt := 27) ok dX0_pour_21 (by decide) (fun c4 => ?_) (fun c4 => ?_)
    · have hw := hw.2 c4
      refine g_iconst (v := 0) ok dX0_pour_27 (by decide) ?_
      refine g_istore_n0 ok [(3, .int 0), (2, va_rf (cH C (27 + Int32.toNatClampNeg a0))), (0, .ref (ad w 0)), (1, .int a0)] dX0_pour_28 (by decide) (by generalize (cH C (27 + Int32.toNatClampNeg a0)) = o9; cases o9 <;> rfl) ?_
      refine g_iconst (v := 0) ok dX0_pour_29 (by decide) ?_
      refine g_istore0 ok [(4, .int 0), (3, .int 0), (2, va_rf (cH C (27 + Int32.toNatClampNeg a0))), (0, .ref (ad w 0)), (1, .int a0)] dX0_pour_30 (by decide) rfl ?_
      refine g_sub [3, 2, 1, 0] [(0, .ref (ad w 0)), (2, va_rf (cH C (27 + Int32.toNatClampNeg a0))), (3, .int 0), (4, .int 0)] rfl ?_
      obtain ⟨n26, hw⟩ := hw
      exact gw_X0_pour_l32 ok n26 C (cH C (27 + Int32.toNatClampNeg a0)) 0 0 hw
    · have hw := hw.1 c4
      refine g_ldc (v := -1000000011) ok q798 dX0_pour_24 ?_
      exact g_iret ok dX0_pour_26 ⟨_, rfl, hw⟩
  · have hw := hw.1 c2
    refine g_ldc (v := -1000000001) ok q274 dX0_pour_7 ?_
    exact g_iret ok dX0_pour_9 ⟨_, rfl, hw⟩
theorem within99 (v : Int32) : ∃ s, s ≤ 99 ∧ v_X3_within v 0 99 = nI s := by
  unfold v_X3_within
  by_cases h : (0 : Int32) ≤ v
  · rw [if_pos h]
    by_cases h2 : v ≤ 99
    · rw [if_pos h2]
      obtain ⟨k, q1, q2⟩ := nI_of2 (M := 99) (n := 99) (by decide) (Int32.not_lt.mpr h) h2
      exact ⟨k, q1, q2⟩
    · rw [if_neg h2]; exact ⟨99, by omega, rfl⟩
  · rw [if_neg h]; exact ⟨0, by omega, rfl⟩
theorem sp_X0_pour (C : CS) (a0 : Int32) (hp : p_X0_pour C a0) : wp_X0_pour (fun x C1 => x = v_X0_pour C a0 ∧ q_X0_pour C a0 C1) C a0 := by
  obtain ⟨hp, hs⟩ := hp
  unfold v_X0_pour v_X3_pour q_X0_pour
  refine fun r1 e1 => ⟨fun c => ?_, fun c => ?_⟩
  all_goals rw [e1, isSh_eq] at c
  · rw [if_pos c, if_neg (fun z => z.1 c)]; exact ⟨rfl, rfl⟩
  rw [if_neg c]
  obtain ⟨s, hs4, rfl⟩ := sh_k c
  rw [cl_k (by omega)]
  have hr := hs s hs4
  refine ⟨vp_k hs4, fun hn => ?_, fun hn => ?_⟩
  · rw [if_neg (hr.no.mp hn)]; exact ⟨rfl, by rw [if_neg (fun z => hr.no.mp hn z.2)]⟩
  have h0 : (0 : Int32) ≤ C.2.1 51 s := Classical.byContradiction fun z => hn (hr.no.mpr z)
  obtain ⟨x1, x2, x3⟩ := hr.yes hn
  obtain ⟨N, hN⟩ := hp.N
  have hN10 := hN.2
  simp only [if_pos h0, if_pos (show ¬ v_X3_isSheet (nI s) = 0 ∧ 0 ≤ C.2.1 51 s from ⟨c, h0⟩)]
  unfold pourR
  rw [x2, hN.1, cl_k (k := N) (by omega)]
  generalize hL : lnO C (cH C (27 + s)) = L at *
  have hL24 : L ≤ 24 := by rw [← hL]; exact x1.1
  rw [cl_k (k := L) (by omega)]
  generalize hK : min L N = K at *
  have hj := hp.1.1
  generalize hI : (fun k => itr (pourS (C.2.1 53) s) k (C.2.1 36, 0)) = I
  have I0 : I 0 = (C.2.1 36, 0) := by rw [← hI]; rfl
  have IS : ∀ k, I (k + 1) = pourS (C.2.1 53) s k (I k) := fun k => by rw [← hI]; rfl
  have IK : itr (pourS (C.2.1 53) s) K (C.2.1 36, 0) = I K := by rw [← hI]
  rw [IK]
  have I1 : ∀ k, k ≤ 10 → (I k).1 1 = nI N := fun k hk => by rw [← hI]; exact (pourI_same _ _ _ k hk 1 (by omega)).trans hN.1
  have H : ∀ d k, k + d = K → ∀ C1, dE (cN C) C C1 → TR C1 (cN C) (I k).1 → wp_X0_pour_l32 (fun x C1 => x = (I K).2 ∧ tOp C C1 (I K).1) (d + 1) C1 (cH C (27 + s)) (I k).2 (nI k) := by
    intro d
    induction d with
    | zero =>
      intro k hk C1 hd ht
      have hk : k = K := by omega
      subst hk
      have y1 := x1.same hd.2.2.2.2.2.1 (congrArg (fun z => z.2) hd.2.2.2.2.2.2.1)
      have y2 := (tgO_eq hd.2.2.2.2.2.1 (cH C (27 + s))).2
      have fin : (I k).2 = (I k).2 ∧ tOp C C1 (I k).1 := ⟨rfl, ht, hd.tE, hd.gd hp.2⟩
      refine ⟨y1.r, fun r6 e6 => ⟨fun _ => fin, fun z => ?_⟩⟩
      have e6 : r6 = nI (lnO C1 (cH C (27 + s))) := e6
      rw [e6, y2, hL] at z
      have eN : cN C1 = cN C := hd.2.2.2.2.1
      rw [eN]
      refine ⟨hj, fun _ => fin, fun z2 => ?_⟩
      rw [ht.n.2.1, I1 k (by omega)] at z2
      have q1 : ¬ L ≤ k := fun q => z ((nI_leI (by omega) (by omega)).mpr q)
      have q2 : ¬ N ≤ k := fun q => z2 ((nI_leI (by omega) (by omega)).mpr q)
      omega
    | succ d ih =>
      intro k hk C1 hd ht
      have y1 := x1.same hd.2.2.2.2.2.1 (congrArg (fun z => z.2) hd.2.2.2.2.2.2.1)
      have y2 := (tgO_eq hd.2.2.2.2.2.1 (cH C (27 + s))).2
      refine ⟨y1.r, fun r6 e6 => ⟨fun z => ?_, fun _ => ?_⟩⟩
      · have e6 : r6 = nI (lnO C1 (cH C (27 + s))) := e6
        rw [e6, y2, hL] at z
        have := (nI_leI (by omega) (by omega)).mp z
        omega
      have eN : cN C1 = cN C := hd.2.2.2.2.1
      rw [eN]
      refine ⟨hj, fun z => ?_, fun _ => ?_⟩
      · rw [ht.n.2.1, I1 k (by omega)] at z
        have := (nI_leI (by omega) (by omega)).mp z
        omega
      have hkL : k < lnO C1 (cH C (27 + s)) := by rw [y2, hL]; omega
      refine ⟨⟨y1.r, vp_k hkL (by rw [y2, hL]; omega)⟩, fun r11 e11 => ?_⟩
      have e11 : r11 = C.2.1 53 (24 * s + k) := by
        rw [e11]; unfold v_X0_numberAt; rw [cl_k (by omega)]; exact y1.at hkL
      have hk10 : k < 10 := by omega
      obtain ⟨b, b1, b2⟩ := ht.gN (I1 k (by omega)) hN10 k (by omega)
      have bC : cG C (17 + 4 * (cN C - 2)) k = some b := by
        have : cG C1 (17 + 4 * (cN C - 2)) k = cG C (17 + 4 * (cN C - 2)) k := by show C1.2.2.1 _ _ = _; rw [hd.2.2.1]
        rw [← this]; exact b1
      refine ⟨vp_k hk10, b, by rw [cl_k (by omega)]; exact b1, ⟨fun _ => ⟨b2.1, trivial⟩, fun _ => trivial⟩, fun x17 e17 => ⟨b2.1, fun x21 e21 r22 e22 x23 e23 C24 e24 x25 e25 => ?_⟩⟩
      have z17 : x17 = if C.2.1 53 (24 * s + k) = -1000000005 then (I k).1 (16 + 6 * k + 3) else v_X3_within (C.2.1 53 (24 * s + k)) 0 99 := by
        rw [e17, e11, (held_w _).2.2, b2.2.2.2.2.1]
      have zS : (I (k + 1)).1 = upd (I k).1 (16 + 6 * k + 3) x17 := by rw [IS, z17]; rfl
      have zC : x23 = (I (k + 1)).2 := by
        rw [IS, e23, e22, e21, b2.2.2.2.2.1]
        show _ = (I k).2 + (if (I k).1 (16 + 6 * k + 3) = _ then 0 else 1)
        rw [← z17]
        congr 1
        by_cases q : x17 = (I k).1 (16 + 6 * k + 3)
        · rw [if_pos q, if_pos q.symm]; rfl
        · rw [if_neg q, if_neg (fun y => q y.symm)]; rfl
      rw [e25, o1, nI_add, zC]
      have d24 : dE (cN C) C C24 := by rw [e24]; exact hd.wDI hk10 bC 42 x17
      refine ih (k + 1) (by omega) C24 d24 ?_
      rw [zS]
      have d1 : dE (cN C) C1 C24 := by rw [e24]; exact (dE.rf _ C1).wDI hk10 b1 42 x17
      have gd1 := hd.gd hp.2
      have G24 : ∀ x y, cG C24 x y = cG C1 x y := fun x y => by rw [e24]; rfl
      refine ht.one (by rw [e24]; rfl) (fun i _ => by rw [e24]; rfl) (fun i _ => by rw [e24]; rfl) (fun i _ => G24 _ _) (d1.keepX hj gd1) hk10 (fun i hi => upd_n (by omega)) (fun k2 a hk2 hne ha => ⟨by rw [G24]; exact ha, ?_⟩) ⟨b, by rw [G24]; exact b1, b2.1.keep (by rw [e24]; rfl), ?_, ?_, ?_, ?_, ?_, ?_, ?_⟩
      · have ab : a ≠ b := fun h => hne (gd1.2 _ _ _ _ a hj hj hk2 hk10 ha (by rw [h]; exact b1)).2
        refine ⟨by rw [e24]; rfl, fun q _ => ?_⟩
        rw [e24, wDI_n (fun h => ab h.2)]
      · rw [kdG.keep (by rw [e24]), upd_n (by omega)]; exact b2.2.1
      · rw [e24, wDI_n (by omega), upd_n (by omega)]; exact b2.2.2.1
      · rw [e24, wDI_n (by omega), upd_n (by omega)]; exact b2.2.2.2.1
      · rw [e24, wDI_s, upd_s]
      · rw [e24, wDI_n (by omega), upd_n (by omega)]; exact b2.2.2.2.2.2.1
      · rw [e24, wDI_n (by omega), upd_n (by omega)]; exact b2.2.2.2.2.2.2.1
      · obtain ⟨i1, i2, i3, i4, i5⟩ := b2.i
        refine ⟨by rw [upd_n (by omega)]; exact i1, by rw [upd_n (by omega)]; exact i2, ?_, by rw [upd_n (by omega)]; exact i4, by rw [upd_n (by omega)]; exact i5⟩
        rw [upd_s, z17]
        by_cases q : C.2.1 53 (24 * s + k) = -1000000005
        · rw [if_pos q]; exact i3
        · rw [if_neg q]; exact within99 _
  have h1 := H K 0 (by omega) C (dE.rf _ C) (by rw [I0]; exact hp.1.2)
  rw [I0] at h1
  exact ⟨K + 1, h1⟩
theorem mc_X0_pour {w : WD} (wk : wOk w) (l : Launch) (C : CS) (a0 : Int32) (hp : p_X0_pour C a0) : MC w l yX0_pour cX0_pour 8 (some .int) 4 0 0 [.ref (ad w 0), .int a0] C (pIR (v_X0_pour C a0) (q_X0_pour C a0)) := MC.postIR (gw_X0_pour wk l C a0 (sp_X0_pour C a0 hp))
