theorem cf_X0_made : CfV yX0_made "TwoGuilds" cX0_made 2 (some (.object "TwoGuilds$Glove")) 1 := ⟨⟨by decide, by decide, by decide⟩, q72, q283, q282, qs1⟩
def p_X0_made (C : CS) (a0 : Int32) (k : Nat) : Prop := k ≤ 5 ∧ a0 = nI k
def q_X0_made (C : CS) (a0 : Int32) (k d : Nat) (C1 : CS) : Prop := cT C d = none ∧ C1 = nwC C d (4 + k)
def wp_X0_made (Post : Nat → CS → Prop) (C : CS) (a0 : Int32) : Prop :=
  (a0 = 0 → 
    ∀ d2 : Nat, 
      cT C d2 = none → 
      ∀ C3 : CS, C3 = (nwC C d2 54) → 
      ∃ (g4 : Nat), p_X4_init C3 d2 g4 ∧
      (∀ C6 : CS, C6 = (n_X4_init C3 d2 g4) → 
      Post d2 C6)) ∧
    (¬ a0 = 0 → 
    (a0 = 1 → 
      ∀ d8 : Nat, 
        cT C d8 = none → 
        ∀ C9 : CS, C9 = (nwC C d8 55) → 
        ∃ (g10 : Nat), p_X5_init C9 d8 g10 ∧
        (∀ C12 : CS, C12 = (n_X5_init C9 d8 g10) → 
        Post d8 C12)) ∧
      (¬ a0 = 1 → 
      (a0 = 2 → 
        ∀ d14 : Nat, 
          cT C d14 = none → 
          ∀ C15 : CS, C15 = (nwC C d14 56) → 
          ∃ (g16 : Nat), p_X6_init C15 d14 g16 ∧
          (∀ C18 : CS, C18 = (n_X6_init C15 d14 g16) → 
          Post d14 C18)) ∧
        (¬ a0 = 2 → 
        (a0 = 3 → 
          ∀ d20 : Nat, 
            cT C d20 = none → 
            ∀ C21 : CS, C21 = (nwC C d20 57) → 
            ∃ (g22 : Nat), p_X7_init C21 d20 g22 ∧
            (∀ C24 : CS, C24 = (n_X7_init C21 d20 g22) → 
            Post d20 C24)) ∧
          (¬ a0 = 3 → 
          (a0 = 4 → 
            ∀ d26 : Nat, 
              cT C d26 = none → 
              ∀ C27 : CS, C27 = (nwC C d26 58) → 
              ∃ (g28 : Nat), p_X8_init C27 d26 g28 ∧
              (∀ C30 : CS, C30 = (n_X8_init C27 d26 g28) → 
              Post d26 C30)) ∧
            (¬ a0 = 4 → 
            ∀ d31 : Nat, 
              cT C d31 = none → 
              ∀ C32 : CS, C32 = (nwC C d31 59) → 
              ∃ (g33 : Nat), p_X9_init C32 d31 g33 ∧
              (∀ C35 : CS, C35 = (n_X9_init C32 d31 g33) → 
              Post d31 C35))))))
set_option maxHeartbeats 4000000 in
set_option maxRecDepth 100000 in
theorem gw_X0_made {w : WD} (wk : wOk w) (l : Launch) (C : CS) (a0 : Int32) {Post : Nat → CS → Prop} (hw : wp_X0_made Post C a0) : MC w l yX0_made cX0_made 2 (some (.object "TwoGuilds$Glove")) 4 1 8 [.ref (ad w 0), .int a0] C (pRR Post) := by
  unfold wp_X0_made at hw
  refine MC.of wk (by decide) (Nat.le_of_ble_eq_true rfl) (fun x hx ok => ?_)
  subst hx
  show G w x 2 0 0 (QM w x _ 1 8) C 0 [(0, .ref (ad w 0)), (1, .int a0)] []
  refine g_iload_n ok 1 dX0_made_0 rfl ?_
  by_cases c1 : a0 = 0
  · have hw := hw.1 c1
    refine g_swIn (tgt := 36) ok (0) dX0_made_1 (c1.trans (by decide)) (by decide) rfl (by decide) ?_
    refine g_newG ok 4 (by decide) rfl q284 q285 q76 ⟨by show 0 + 1 ≤ 1; omega, by show 0 + 6 ≤ 8; omega⟩ dX0_made_36 (fun d2 hd2 => ?_)
    refine g_nmC (fun C3 eC3 => ?_)
    have hw := hw d2 hd2 C3 eC3
    refine g_dup ok dX0_made_39 rfl ?_
    refine g_aload_n ok 0 dX0_made_40 rfl ?_
    obtain ⟨g4, hp5, hw⟩ := hw
    refine g_callIN ok [.ref (ad w 0)] cfI_X4_init q286 (mc_X4_init ok.wo (xL x) C3 d2 g4 hp5) rfl rfl (Nat.le_of_ble_eq_true rfl) ⟨by decide, by decide⟩ ⟨by decide, by decide⟩ dX0_made_41 (resV ?_)
    refine g_nmC (fun C6 eC6 => ?_)
    have hw := hw C6 eC6
    refine g_widen 1 8 (by omega) (by omega) ?_
    exact g_aret ok dX0_made_44 ⟨_, rfl, hw⟩
  · have hw := hw.2 c1
    by_cases c7 : a0 = 1
    · have hw := hw.1 c7
      refine g_swIn (tgt := 45) ok (1) dX0_made_1 (c7.trans (by decide)) (by decide) rfl (by decide) ?_
      refine g_newG ok 5 (by decide) rfl q325 q326 q77 ⟨by show 0 + 1 ≤ 1; omega, by show 0 + 7 ≤ 8; omega⟩ dX0_made_45 (fun d8 hd8 => ?_)
      refine g_nmC (fun C9 eC9 => ?_)
      have hw := hw d8 hd8 C9 eC9
      refine g_dup ok dX0_made_48 rfl ?_
      refine g_aload_n ok 0 dX0_made_49 rfl ?_
      obtain ⟨g10, hp11, hw⟩ := hw
      refine g_callIN ok [.ref (ad w 0)] cfI_X5_init q327 (mc_X5_init ok.wo (xL x) C9 d8 g10 hp11) rfl rfl (Nat.le_of_ble_eq_true rfl) ⟨by decide, by decide⟩ ⟨by decide, by decide⟩ dX0_made_50 (resV ?_)
      refine g_nmC (fun C12 eC12 => ?_)
      have hw := hw C12 eC12
      refine g_widen 1 8 (by omega) (by omega) ?_
      exact g_aret ok dX0_made_53 ⟨_, rfl, hw⟩
    · have hw := hw.2 c7
      by_cases c13 : a0 = 2
      · have hw := hw.1 c13
        refine g_swIn (tgt := 54) ok (2) dX0_made_1 (c13.trans (by decide)) (by decide) rfl (by decide) ?_
        refine g_newG ok 6 (by decide) rfl q341 q342 q78 ⟨by show 0 + 1 ≤ 1; omega, by show 0 + 7 ≤ 8; omega⟩ dX0_made_54 (fun d14 hd14 => ?_)
        refine g_nmC (fun C15 eC15 => ?_)
        have hw := hw d14 hd14 C15 eC15
        refine g_dup ok dX0_made_57 rfl ?_
        refine g_aload_n ok 0 dX0_made_58 rfl ?_
        obtain ⟨g16, hp17, hw⟩ := hw
        refine g_callIN ok [.ref (ad w 0)] cfI_X6_init q343 (mc_X6_init ok.wo (xL x) C15 d14 g16 hp17) rfl rfl (Nat.le_of_ble_eq_true rfl) ⟨by decide, by decide⟩ ⟨by decide, by decide⟩ dX0_made_59 (resV ?_)
        refine g_nmC (fun C18 eC18 => ?_)
        have hw := hw C18 eC18
        refine g_widen 1 8 (by omega) (by omega) ?_
        exact g_aret ok dX0_made_62 ⟨_, rfl, hw⟩
      · have hw := hw.2 c13
        by_cases c19 : a0 = 3
        · have hw := hw.1 c19
          refine g_swIn (tgt := 63) ok (3) dX0_made_1 (c19.trans (by decide)) (by decide) rfl (by decide) ?_
          refine g_newG ok 7 (by decide) rfl q357 q358 q79 ⟨by show 0 + 1 ≤ 1; omega, by show 0 + 8 ≤ 8; omega⟩ dX0_made_63 (fun d20 hd20 => ?_)
          refine g_nmC (fun C21 eC21 => ?_)
          have hw := hw d20 hd20 C21 eC21
          refine g_dup ok dX0_made_66 rfl ?_
          refine g_aload_n ok 0 dX0_made_67 rfl ?_
          obtain ⟨g22, hp23, hw⟩ := hw
          refine g_callIN ok [.ref (ad w 0)] cfI_X7_init q359 (mc_X7_init ok.wo (xL x) C21 d20 g22 hp23) rfl rfl (Nat.le_of_ble_eq_true rfl) ⟨by decide, by decide⟩ ⟨by decide, by decide⟩ dX0_made_68 (resV ?_)
          refine g_nmC (fun C24 eC24 => ?_)
          have hw := hw C24 eC24
          exact g_aret ok dX0_made_71 ⟨_, rfl, hw⟩
        · have hw := hw.2 c19
          by_cases c25 : a0 = 4
          · have hw := hw.1 c25
            refine g_swIn (tgt := 72) ok (4) dX0_made_1 (c25.trans (by decide)) (by decide) rfl (by decide) ?_
            refine g_newG ok 8 (by decide) rfl q374 q375 q80 ⟨by show 0 + 1 ≤ 1; omega, by show 0 + 8 ≤ 8; omega⟩ dX0_made_72 (fun d26 hd26 => ?_)
            refine g_nmC (fun C27 eC27 => ?_)
            have hw := hw d26 hd26 C27 eC27
            refine g_dup ok dX0_made_75 rfl ?_
            refine g_aload_n ok 0 dX0_made_76 rfl ?_
            obtain ⟨g28, hp29, hw⟩ := hw
            refine g_callIN ok [.ref (ad w 0)] cfI_X8_init q376 (mc_X8_init ok.wo (xL x) C27 d26 g28 hp29) rfl rfl (Nat.le_of_ble_eq_true rfl) ⟨by decide, by decide⟩ ⟨by decide, by decide⟩ dX0_made_77 (resV ?_)
            refine g_nmC (fun C30 eC30 => ?_)
            have hw := hw C30 eC30
            exact g_aret ok dX0_made_80 ⟨_, rfl, hw⟩
          · have hw := hw.2 c25
            refine g_swOut (tgt := 81) ok dX0_made_1 (fun k k1 k2 => ?_) (by decide) ?_
            · rcases (show k = 0 ∨ k = 1 ∨ k = 2 ∨ k = 3 ∨ k = 4 by omega) with rfl | rfl | rfl | rfl | rfl
              · exact fun h => c1 (h.trans (by decide))
              · exact fun h => c7 (h.trans (by decide))
              · exact fun h => c13 (h.trans (by decide))
              · exact fun h => c19 (h.trans (by decide))
              · exact fun h => c25 (h.trans (by decide))
            · refine g_newG ok 9 (by decide) rfl q391 q392 q81 ⟨by show 0 + 1 ≤ 1; omega, by show 0 + 7 ≤ 8; omega⟩ dX0_made_81 (fun d31 hd31 => ?_)
              refine g_nmC (fun C32 eC32 => ?_)
              have hw := hw d31 hd31 C32 eC32
              refine g_dup ok dX0_made_84 rfl ?_
              refine g_aload_n ok 0 dX0_made_85 rfl ?_
              obtain ⟨g33, hp34, hw⟩ := hw
              refine g_callIN ok [.ref (ad w 0)] cfI_X9_init q393 (mc_X9_init ok.wo (xL x) C32 d31 g33 hp34) rfl rfl (Nat.le_of_ble_eq_true rfl) ⟨by decide, by decide⟩ ⟨by decide, by decide⟩ dX0_made_86 (resV ?_)
              refine g_nmC (fun C35 eC35 => ?_)
              have hw := hw C35 eC35
              refine g_widen 1 8 (by omega) (by omega) ?_
              exact g_aret ok dX0_made_89 ⟨_, rfl, hw⟩
theorem nwC_wT (C : CS) (a t u : Nat) : wT (nwC C a t) a (some (u, 0)) = nwC C a u := by
  unfold wT nwC
  congr 6
  funext b
  unfold up1
  by_cases h : b = a
  · rw [if_pos h, if_pos h]
  · rw [if_neg h, if_neg h]; exact if_neg h
theorem sp_X0_made (C : CS) (a0 : Int32) (k : Nat) (hp : p_X0_made C a0 k) : wp_X0_made (q_X0_made C a0 k) C a0 := by
  obtain ⟨hk, e⟩ := hp
  have : k = 0 ∨ k = 1 ∨ k = 2 ∨ k = 3 ∨ k = 4 ∨ k = 5 := by omega
  rcases this with h | h | h | h | h | h <;> subst h <;> subst e
  · exact ⟨fun _ d hd C3 e3 => ⟨4, ⟨by rw [e3]; exact nwC_T C d 54, by decide⟩, fun C6 e6 => ⟨hd, by rw [e6, e3]; exact nwC_wT C d 54 4⟩⟩, fun c => absurd rfl c⟩
  · exact ⟨fun c => absurd c (by decide), fun _ => ⟨fun _ d hd C3 e3 => ⟨5, ⟨by rw [e3]; exact nwC_T C d 55, by decide⟩, fun C6 e6 => ⟨hd, by rw [e6, e3]; exact nwC_wT C d 55 5⟩⟩, fun c => absurd rfl c⟩⟩
  · exact ⟨fun c => absurd c (by decide), fun _ => ⟨fun c => absurd c (by decide), fun _ => ⟨fun _ d hd C3 e3 => ⟨6, ⟨by rw [e3]; exact nwC_T C d 56, by decide⟩, fun C6 e6 => ⟨hd, by rw [e6, e3]; exact nwC_wT C d 56 6⟩⟩, fun c => absurd rfl c⟩⟩⟩
  · exact ⟨fun c => absurd c (by decide), fun _ => ⟨fun c => absurd c (by decide), fun _ => ⟨fun c => absurd c (by decide), fun _ => ⟨fun _ d hd C3 e3 => ⟨7, ⟨by rw [e3]; exact nwC_T C d 57, by decide⟩, fun C6 e6 => ⟨hd, by rw [e6, e3]; exact nwC_wT C d 57 7⟩⟩, fun c => absurd rfl c⟩⟩⟩⟩
  · exact ⟨fun c => absurd c (by decide), fun _ => ⟨fun c => absurd c (by decide), fun _ => ⟨fun c => absurd c (by decide), fun _ => ⟨fun c => absurd c (by decide), fun _ => ⟨fun _ d hd C3 e3 => ⟨8, ⟨by rw [e3]; exact nwC_T C d 58, by decide⟩, fun C6 e6 => ⟨hd, by rw [e6, e3]; exact nwC_wT C d 58 8⟩⟩, fun c => absurd rfl c⟩⟩⟩⟩⟩
  · exact ⟨fun c => absurd c (by decide), fun _ => ⟨fun c => absurd c (by decide), fun _ => ⟨fun c => absurd c (by decide), fun _ => ⟨fun c => absurd c (by decide), fun _ => ⟨fun c => absurd c (by decide), fun _ d hd C3 e3 => ⟨9, ⟨by rw [e3]; exact nwC_T C d 59, rfl⟩, fun C6 e6 => ⟨hd, by rw [e6, e3]; exact nwC_wT C d 59 9⟩⟩⟩⟩⟩⟩⟩
theorem mc_X0_made {w : WD} (wk : wOk w) (l : Launch) (C : CS) (a0 : Int32) (k : Nat) (hp : p_X0_made C a0 k) : MC w l yX0_made cX0_made 2 (some (.object "TwoGuilds$Glove")) 4 1 8 [.ref (ad w 0), .int a0] C (pRR (q_X0_made C a0 k)) :=  (gw_X0_made wk l C a0 (sp_X0_made C a0 k hp))
/-- a becomes as b is; nothing else changes -/
def lkE (a b : Nat) (C C1 : CS) : Prop := C1.1 = C.1 ∧ C1.2.1 = C.2.1 ∧ C1.2.2.1 = C.2.2.1 ∧ C1.2.2.2.1 = C.2.2.2.1 ∧ C1.2.2.2.2.1 = C.2.2.2.2.1 ∧ C1.2.2.2.2.2.1 = C.2.2.2.2.2.1 ∧ C1.2.2.2.2.2.2.2 = C.2.2.2.2.2.2.2 ∧ (∀ k, k < 5 → cDI C1 (40 + k) a = cDI C (40 + k) b) ∧ ∀ k a2, a2 ≠ a → cDI C1 k a2 = cDI C k a2
theorem cfG_X4_like : ∀ cn ∈ glN, CfO yX4_like yX4_like cn cX4_like 2 (some (.object "TwoGuilds$Glove")) 1 := by
  intro cn h
  simp only [glN, List.mem_cons, List.not_mem_nil, or_false] at h
  rcases h with h | h | h | h | h | h <;> subst h
  · exact ⟨⟨by decide, by decide, by decide⟩, q76, q575, q567, q568, q569, q567, _, _, _, q575⟩
  · exact ⟨⟨by decide, by decide, by decide⟩, q76, q575, q567, q572, q569, q567, _, _, _, q575⟩
  · exact ⟨⟨by decide, by decide, by decide⟩, q76, q575, q567, q573, q569, q567, _, _, _, q575⟩
  · exact ⟨⟨by decide, by decide, by decide⟩, q76, q575, q567, q571, q569, q567, _, _, _, q575⟩
  · exact ⟨⟨by decide, by decide, by decide⟩, q76, q575, q567, q570, q569, q567, _, _, _, q575⟩
  · exact ⟨⟨by decide, by decide, by decide⟩, q76, q575, q567, q574, q569, q567, _, _, _, q575⟩
def p_X4_like (C : CS) (a a0 : Nat) : Prop := isGl C a ∧ isGl C a0 ∧ (cDI C 44 a0 = 0 ∨ cDI C 44 a0 = 1)
def q_X4_like (C : CS) (a a0 d : Nat) (C1 : CS) : Prop := d = a ∧ lkE a a0 C C1
def wp_X4_like (Post : Nat → CS → Prop) (C : CS) (a : Nat) (a0 : Nat) : Prop :=
  isGl C a0 ∧
    (isGl C a ∧
    (∀ C3 : CS, C3 = (wDI C 40 a (cDI C 40 a0)) → 
    isGl C3 a0 ∧
    (isGl C3 a ∧
    (∀ C6 : CS, C6 = (wDI C3 41 a (cDI C3 41 a0)) → 
    isGl C6 a0 ∧
    (isGl C6 a ∧
    (∀ C9 : CS, C9 = (wDI C6 42 a (cDI C6 42 a0)) → 
    isGl C9 a0 ∧
    (isGl C9 a ∧
    (∀ C12 : CS, C12 = (wDI C9 43 a (cDI C9 43 a0)) → 
    isGl C12 a0 ∧
    (isGl C12 a ∧
    (((cDI C12 44 a0) = 0 ∨ (cDI C12 44 a0) = 1) ∧
    (∀ C16 : CS, C16 = (wDI C12 44 a (cDI C12 44 a0)) → 
    Post a C16)))))))))))
set_option maxHeartbeats 4000000 in
set_option maxRecDepth 100000 in
theorem gw_X4_like {w : WD} (wk : wOk w) (l : Launch) (C : CS) (a : Nat) (a0 : Nat) {Post : Nat → CS → Prop} (hw : wp_X4_like Post C a a0) : MC w l yX4_like cX4_like 2 (some (.object "TwoGuilds$Glove")) 0 0 0 [.ref a, .ref a0] C (pRR Post) := by
  unfold wp_X4_like at hw
  refine MC.of wk (by decide) (Nat.le_of_ble_eq_true rfl) (fun x hx ok => ?_)
  subst hx
  show G w x 2 0 0 (QM w x _ 0 0) C 0 [(0, .ref a), (1, .ref a0)] []
  refine g_aload_n ok 0 dX4_like_0 rfl ?_
  refine g_aload_n ok 1 dX4_like_1 rfl ?_
  obtain ⟨hf1, hw⟩ := hw
  refine g_gget ok hf1 0 (by decide) q290 (Or.inl rfl) dX4_like_2 ?_
  obtain ⟨hf2, hw⟩ := hw
  refine g_gput ok hf2 0 (by decide) q290 rfl rfl dX4_like_5 (fun C3 eC3 => ?_)
  have hw := hw C3 eC3
  refine g_aload_n ok 0 dX4_like_8 rfl ?_
  refine g_aload_n ok 1 dX4_like_9 rfl ?_
  obtain ⟨hf4, hw⟩ := hw
  refine g_gget ok hf4 1 (by decide) q295 (Or.inl rfl) dX4_like_10 ?_
  obtain ⟨hf5, hw⟩ := hw
  refine g_gput ok hf5 1 (by decide) q295 rfl rfl dX4_like_13 (fun C6 eC6 => ?_)
  have hw := hw C6 eC6
  refine g_aload_n ok 0 dX4_like_16 rfl ?_
  refine g_aload_n ok 1 dX4_like_17 rfl ?_
  obtain ⟨hf7, hw⟩ := hw
  refine g_gget ok hf7 2 (by decide) q300 (Or.inl rfl) dX4_like_18 ?_
  obtain ⟨hf8, hw⟩ := hw
  refine g_gput ok hf8 2 (by decide) q300 rfl rfl dX4_like_21 (fun C9 eC9 => ?_)
  have hw := hw C9 eC9
  refine g_aload_n ok 0 dX4_like_24 rfl ?_
  refine g_aload_n ok 1 dX4_like_25 rfl ?_
  obtain ⟨hf10, hw⟩ := hw
  refine g_gget ok hf10 3 (by decide) q305 (Or.inl rfl) dX4_like_26 ?_
  obtain ⟨hf11, hw⟩ := hw
  refine g_gput ok hf11 3 (by decide) q305 rfl rfl dX4_like_29 (fun C12 eC12 => ?_)
  have hw := hw C12 eC12
  refine g_aload_n ok 0 dX4_like_32 rfl ?_
  refine g_aload_n ok 1 dX4_like_33 rfl ?_
  obtain ⟨hf13, hw⟩ := hw
  refine g_gget ok hf13 4 (by decide) q308 (Or.inl rfl) dX4_like_34 ?_
  obtain ⟨hf14, hw⟩ := hw
  obtain ⟨hb15, hw⟩ := hw
  refine g_gput ok hf14 4 (by decide) q308 (nb_of hb15) (fb_of hb15) dX4_like_37 (fun C16 eC16 => ?_)
  have hw := hw C16 eC16
  refine g_aload_n ok 0 dX4_like_40 rfl ?_
  exact g_aret ok dX4_like_41 ⟨_, rfl, hw⟩
theorem sp_X4_like (C : CS) (a a0 : Nat) (hp : p_X4_like C a a0) : wp_X4_like (q_X4_like C a a0) C a a0 := by
  obtain ⟨h1, h2, h3⟩ := hp
  refine ⟨h2, h1, fun C3 e3 => ?_⟩
  refine ⟨by rw [e3]; exact h2, by rw [e3]; exact h1, fun C6 e6 => ?_⟩
  refine ⟨by rw [e6, e3]; exact h2, by rw [e6, e3]; exact h1, fun C9 e9 => ?_⟩
  refine ⟨by rw [e9, e6, e3]; exact h2, by rw [e9, e6, e3]; exact h1, fun C12 e12 => ?_⟩
  have k12 : cDI C12 44 a0 = cDI C 44 a0 := by
    rw [e12, wDI_n (by omega), e9, wDI_n (by omega), e6, wDI_n (by omega), e3, wDI_n (by omega)]
  have k9 : cDI C9 43 a0 = cDI C 43 a0 := by rw [e9, wDI_n (by omega), e6, wDI_n (by omega), e3, wDI_n (by omega)]
  have k6 : cDI C6 42 a0 = cDI C 42 a0 := by rw [e6, wDI_n (by omega), e3, wDI_n (by omega)]
  have k3 : cDI C3 41 a0 = cDI C 41 a0 := by rw [e3, wDI_n (by omega)]
  refine ⟨by rw [e12, e9, e6, e3]; exact h2, by rw [e12, e9, e6, e3]; exact h1, by rw [k12]; exact h3, fun C16 e16 => ⟨rfl, ?_⟩⟩
  rw [k12] at e16
  rw [k9] at e12
  rw [k6] at e9
  rw [k3] at e6
  refine ⟨by rw [e16, e12, e9, e6, e3]; rfl, by rw [e16, e12, e9, e6, e3]; rfl, by rw [e16, e12, e9, e6, e3]; rfl, by rw [e16, e12, e9, e6, e3]; rfl, by rw [e16, e12, e9, e6, e3]; rfl, by rw [e16, e12, e9, e6, e3]; rfl, by rw [e16, e12, e9, e6, e3]; rfl, fun k hk => ?_, fun k a2 ha => ?_⟩
  · have : k = 0 ∨ k = 1 ∨ k = 2 ∨ k = 3 ∨ k = 4 := by omega
    rcases this with h | h | h | h | h <;> subst h
    · rw [e16, wDI_n (by omega), e12, wDI_n (by omega), e9, wDI_n (by omega), e6, wDI_n (by omega), e3, wDI_s]
    · rw [e16, wDI_n (by omega), e12, wDI_n (by omega), e9, wDI_n (by omega), e6, wDI_s]
    · rw [e16, wDI_n (by omega), e12, wDI_n (by omega), e9, wDI_s]
    · rw [e16, wDI_n (by omega), e12, wDI_s]
    · rw [e16, wDI_s]
  · rw [e16, wDI_n (fun h => ha h.2), e12, wDI_n (fun h => ha h.2), e9, wDI_n (fun h => ha h.2), e6, wDI_n (fun h => ha h.2), e3, wDI_n (fun h => ha h.2)]
theorem mc_X4_like {w : WD} (wk : wOk w) (l : Launch) (C : CS) (a : Nat) (a0 : Nat) (hp : p_X4_like C a a0) : MC w l yX4_like cX4_like 2 (some (.object "TwoGuilds$Glove")) 0 0 0 [.ref a, .ref a0] C (pRR (q_X4_like C a a0)) :=  (gw_X4_like wk l C a a0 (sp_X4_like C a a0 hp))
/-- d is a new glove as b is -/
def nwE (d b : Nat) (C C1 : CS) : Prop := cT C d = none ∧ C1.1 = C.1 ∧ C1.2.1 = C.2.1 ∧ C1.2.2.1 = C.2.2.1 ∧ C1.2.2.2.1 = C.2.2.2.1 ∧ C1.2.2.2.2.1 = C.2.2.2.2.1 ∧ cT C1 d = some (4 + kdN C b, 0) ∧ (∀ a, a ≠ d → cT C1 a = cT C a ∧ sameD C1 C a) ∧ ∀ k, k < 5 → cDI C1 (40 + k) d = cDI C (40 + k) b
theorem cf_X0_anew : CfV yX0_anew "TwoGuilds" cX0_anew 2 (some (.object "TwoGuilds$Glove")) 1 := ⟨⟨by decide, by decide, by decide⟩, q72, q868, q867, qs15⟩
def p_X0_anew (C : CS) (a0 : Nat) : Prop := isGl C a0 ∧ (cDI C 44 a0 = 0 ∨ cDI C 44 a0 = 1)
def q_X0_anew (C : CS) (a0 d : Nat) (C1 : CS) : Prop := nwE d a0 C C1
def wp_X0_anew (Post : Nat → CS → Prop) (C : CS) (a0 : Nat) : Prop :=
  p_GL_kind C a0 ∧
    (∀ r2 : Int32, r2 = (v_GL_kind C a0) → 
    ∃ (g3 : Nat), p_X0_made C r2 g3 ∧
    (∀ d5 : Nat, 
    ∀ C6 : CS, q_X0_made C r2 g3 d5 C6 → 
    isGl C6 d5 ∧
    (p_X4_like C6 d5 a0 ∧
    (∀ d9 : Nat, 
    ∀ C10 : CS, q_X4_like C6 d5 a0 d9 C10 → 
    Post d9 C10))))
set_option maxHeartbeats 4000000 in
set_option maxRecDepth 100000 in
theorem gw_X0_anew {w : WD} (wk : wOk w) (l : Launch) (C : CS) (a0 : Nat) {Post : Nat → CS → Prop} (hw : wp_X0_anew Post C a0) : MC w l yX0_anew cX0_anew 2 (some (.object "TwoGuilds$Glove")) 5 1 8 [.ref (ad w 0), .ref a0] C (pRR Post) := by
  unfold wp_X0_anew at hw
  refine MC.of wk (by decide) (Nat.le_of_ble_eq_true rfl) (fun x hx ok => ?_)
  subst hx
  show G w x 2 0 0 (QM w x _ 1 8) C 0 [(0, .ref (ad w 0)), (1, .ref a0)] []
  refine g_aload_n ok 0 dX0_anew_0 rfl ?_
  refine g_aload_n ok 1 dX0_anew_1 rfl ?_
  obtain ⟨hp1, hw⟩ := hw
  refine g_GL_kind ok hp1 q415 ⟨by decide, by decide⟩ (Nat.le_of_ble_eq_true rfl) ⟨by decide, by decide⟩ dX0_anew_2 ?_
  refine g_nmI (fun r2 er2 => ?_)
  have hw := hw r2 er2
  obtain ⟨g3, hp4, hw⟩ := hw
  refine g_callV ok [.int r2] cf_X0_made q280 (mc_X0_made ok.wo (xL x) C r2 g3 hp4) (recvF ok 0 rfl rfl) rfl rfl (Nat.le_of_ble_eq_true rfl) ⟨by decide, by decide⟩ ⟨by show 0 + 1 ≤ 1; omega, by show 0 + 8 ≤ 8; omega⟩ dX0_anew_5 (resRR fun d5 C6 eC6 => ?_)
  have hw := hw d5 C6 eC6
  refine g_aload_n ok 1 dX0_anew_8 rfl ?_
  obtain ⟨hf8, hw⟩ := hw
  obtain ⟨hp7, hw⟩ := hw
  refine g_callG ok [.ref a0] cfG_X4_like q566 (mc_X4_like ok.wo (xL x) C6 d5 a0 hp7) hf8 rfl rfl (Nat.le_of_ble_eq_true rfl) ⟨by decide, by decide⟩ ⟨by decide, by decide⟩ dX0_anew_9 (resRR fun d9 C10 eC10 => ?_)
  have hw := hw d9 C10 eC10
  exact g_aret ok dX0_anew_12 ⟨_, rfl, hw⟩
theorem sp_X0_anew (C : CS) (a0 : Nat) (hp : p_X0_anew C a0) : wp_X0_anew (q_X0_anew C a0) C a0 := by
  obtain ⟨h1, h2⟩ := hp
  have hk : kdN C a0 ≤ 5 := by rcases kd_is h1 with h | h | h | h | h | h <;> omega
  refine ⟨h1, fun r2 e2 => ⟨kdN C a0, ⟨hk, e2⟩, fun d5 C6 h6 => ?_⟩⟩
  obtain ⟨hd, e6⟩ := h6
  obtain ⟨c0, n0, t0, t1, t2⟩ := h1.tag
  have hne : a0 ≠ d5 := fun h => by rw [h] at t0; rw [show C.2.2.2.2.2.1 d5 = none from hd] at t0; cases t0
  have g5 : isGl C6 d5 := ⟨4 + kdN C a0, 0, by rw [e6]; exact nwC_T C d5 _, by omega, by omega⟩
  have g0 : isGl C6 a0 := h1.keep (by rw [e6]; exact nwC_Tn hne)
  have k0 : ∀ k, cDI C6 k a0 = cDI C k a0 := fun k => by rw [e6]; exact nwC_In k hne
  refine ⟨g5, ⟨g5, g0, by rw [k0]; exact h2⟩, fun d9 C10 h10 => ?_⟩
  obtain ⟨rfl, l1, l2, l3, l4, l5, l6, l7, l8, l9⟩ := h10
  refine ⟨hd, by rw [l1, e6]; rfl, by rw [l2, e6]; rfl, by rw [l3, e6]; rfl, by rw [l4, e6]; rfl, by rw [l5, e6]; rfl, ?_, fun a ha => ⟨?_, fun k => ?_, fun k => ?_, fun i => ?_, fun i => ?_⟩, fun k hk => ?_⟩
  · show C10.2.2.2.2.2.1 _ = _
    rw [l6, e6]; exact nwC_T C _ _
  · show C10.2.2.2.2.2.1 a = _
    rw [l6, e6]; exact nwC_Tn ha
  · show cDI C10 k a = cDI C k a
    rw [l9 k a ha, e6]; exact nwC_In k ha
  · rw [l7, e6]; exact nwC_Rn k ha
  · rw [l7, e6]; rfl
  · rw [l7, e6]; rfl
  · rw [l8 k hk, k0]
theorem mc_X0_anew {w : WD} (wk : wOk w) (l : Launch) (C : CS) (a0 : Nat) (hp : p_X0_anew C a0) : MC w l yX0_anew cX0_anew 2 (some (.object "TwoGuilds$Glove")) 5 1 8 [.ref (ad w 0), .ref a0] C (pRR (q_X0_anew C a0)) :=  (gw_X0_anew wk l C a0 (sp_X0_anew C a0 hp))
/-- nothing but table j, its gloves and the names has changed; what came is new -/
def tE (j : Nat) (C C1 : CS) : Prop := (∀ i, i ≠ j → C1.1 i = C.1 i) ∧ (∀ i, i ≠ 10 → i ≠ 15 + 4 * (j - 2) → i ≠ 16 + 4 * (j - 2) → C1.2.1 i = C.2.1 i) ∧ (∀ i, i ≠ 17 + 4 * (j - 2) → C1.2.2.1 i = C.2.2.1 i) ∧ C1.2.2.2.1 = C.2.2.2.1 ∧ C1.2.2.2.2.1 = C.2.2.2.2.1 ∧ (∀ a tg, cT C a = some tg → cT C1 a = some tg) ∧ (∀ a tg, cT C a = some tg → (∀ i, i < 10 → ¬ cG C (17 + 4 * (j - 2)) i = some a) → sameD C1 C a) ∧ ∀ i a, i < 10 → cG C1 (17 + 4 * (j - 2)) i = some a → cT C a = none ∨ ∃ i2, i2 < 10 ∧ cG C (17 + 4 * (j - 2)) i2 = some a
theorem tE.rf (j : Nat) (C : CS) : tE j C C := ⟨fun _ _ => rfl, fun _ _ _ _ => rfl, fun _ _ => rfl, rfl, rfl, fun _ _ h => h, fun _ _ _ _ => ⟨fun _ => rfl, fun _ => rfl, fun _ => rfl, fun _ => rfl⟩, fun i a hi h => Or.inr ⟨i, hi, h⟩⟩
theorem sameD.tr {C C1 C2 : CS} {a : Nat} (h : sameD C1 C a) (h2 : sameD C2 C1 a) : sameD C2 C a := ⟨fun k => (h2.1 k).trans (h.1 k), fun k => (h2.2.1 k).trans (h.2.1 k), fun i => (h2.2.2.1 i).trans (h.2.2.1 i), fun i => (h2.2.2.2 i).trans (h.2.2.2 i)⟩
theorem tE.tr {j : Nat} {C C1 C2 : CS} (h : tE j C C1) (h2 : tE j C1 C2) : tE j C C2 := by
  obtain ⟨a1, a2, a3, a4, a5, a6, a7, a8⟩ := h
  obtain ⟨b1, b2, b3, b4, b5, b6, b7, b8⟩ := h2
  refine ⟨fun i hi => (b1 i hi).trans (a1 i hi), fun i x y z => (b2 i x y z).trans (a2 i x y z), fun i x => (b3 i x).trans (a3 i x), b4.trans a4, b5.trans a5, fun a tg h => b6 a tg (a6 a tg h), fun a tg h hn => ?_, fun i a hi h => ?_⟩
  · refine (a7 a tg h hn).tr (b7 a tg (a6 a tg h) (fun i hi hh => ?_))
    rcases a8 i a hi hh with q | ⟨i2, q1, q2⟩
    · rw [q] at h; cases h
    · exact hn i2 q1 q2
  · rcases b8 i a hi h with q | ⟨i2, q1, q2⟩
    · left
      cases e : cT C a with
      | none => rfl
      | some tg => rw [a6 a tg e] at q; cases q
    · exact a8 i2 a q1 q2
theorem dE.tE {j : Nat} {C C1 : CS} (h : dE j C C1) : tE j C C1 := by
  obtain ⟨a1, a2, a3, a4, a5, a6, a7, a8⟩ := h
  refine ⟨a1, fun i x _ _ => a2 i x, fun i _ => by rw [a3], a4, a5, fun a tg h => by show C1.2.2.2.2.2.1 a = _; rw [a6]; exact h, fun a tg h hn => ⟨fun k => a8 k a hn, fun k => by rw [a7], fun k => by rw [a7], fun k => by rw [a7]⟩, fun i a hi h => Or.inr ⟨i, hi, ?_⟩⟩
  rw [show cG C1 (17 + 4 * (j - 2)) i = cG C (17 + 4 * (j - 2)) i by show C1.2.2.1 _ _ = _; rw [a3]] at h
  exact h
theorem tE.keepX {j : Nat} {C C1 : CS} (h : tE j C C1) (hj : isTb j) (hg : GD C) : keepX C C1 := by
  obtain ⟨-, -, -, -, -, a6, a7, -⟩ := h
  intro a c n h1 h2 h3
  have hs := a7 a (c, n) h1 (fun i hi hh => by
    obtain ⟨c2, n2, g1, g2, g3⟩ := hg.1 j i a hj hi hh
    have : c = c2 := by rw [show C.2.2.2.2.2.1 a = some (c, n) from h1] at g1; cases g1; rfl
    omega)
  exact ⟨a6 a _ h1, hs.1, hs.2.1⟩
theorem tE.other {j j2 : Nat} {C C1 : CS} (h : tE j C C1) (hj : isTb j) (hj2 : isTb j2) (hne : j2 ≠ j) (hg : GD C) {r : Nat → Int32} (ht : TR C j2 r) : TR C1 j2 r := by
  have hx := h.keepX hj hg
  obtain ⟨a1, a2, a3, -, -, a6, a7, -⟩ := h
  unfold isTb at hj hj2
  refine ht.keep (a1 j2 hne) (fun i _ => by rw [a2 _ (by omega) (by omega) (by omega)]) (fun i _ => by rw [a2 _ (by omega) (by omega) (by omega)]) (fun i _ => by show C1.2.2.1 _ _ = _; rw [a3 _ (by omega)]) (fun i _ => by show C1.2.2.1 _ _ = _; rw [a3 _ (by omega)]) hx (fun k a hk ha => ?_)
  obtain ⟨c, n, g1, g2⟩ := hg.1 j2 k a hj2 hk ha
  have hs := a7 a _ g1 (fun i hi hh => hne (hg.2 j2 k j i a hj2 hj hk hi ha hh).1)
  exact ⟨(a6 a _ g1).trans g1.symm, fun q _ => hs.1 _⟩
