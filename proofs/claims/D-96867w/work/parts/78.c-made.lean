theorem nv_10 {w : WD} {C : CS} (a k : Nat) (h : k < 3) : defaultValue (tyX10 k) = dObj w (nwC C a 10) 10 a k := by
  have : k = 0 ∨ k = 1 ∨ k = 2 := by omega
  rcases this with h | h | h <;> subst h
  · show Value.int 0 = .int _
    rw [show (nwC C a 10).2.2.2.2.2.2.1 100 a = 0 from nwC_I C a 10 100]
  · show Value.null = va_rf _
    rw [show (nwC C a 10).2.2.2.2.2.2.2.1 101 a = none from nwC_R C a 10 101]; rfl
  · show Value.null = va_rf _
    rw [show (nwC C a 10).2.2.2.2.2.2.2.1 102 a = none from nwC_R C a 10 102]; rfl
theorem nv_11 {w : WD} {C : CS} (a k : Nat) (h : k < 1) : defaultValue (tyX12 k) = dObj w (nwC C a 11) 11 a k := by
  show Value.int 0 = .int _
  rw [show (nwC C a 11).2.2.2.2.2.2.1 110 a = 0 from nwC_I C a 11 110]
theorem nv_12 {w : WD} {C : CS} (a k : Nat) (h : k < 2 - 1) : defaultValue (tyX13 k) = dObj w (nwC C a (50 + 12)) 12 a k := by
  have : k = 0 := by omega
  subst this
  show Value.int 0 = .int _
  rw [show (nwC C a 62).2.2.2.2.2.2.1 120 a = 0 from nwC_I C a 62 120]
theorem nv_13 {w : WD} {C : CS} (a k : Nat) (h : k < 1) : defaultValue (tyX14 k) = dObj w (nwC C a 13) 13 a k := by
  show Value.null = va_rf _
  rw [show (nwC C a 13).2.2.2.2.2.2.2.1 130 a = none from nwC_R C a 13 130]; rfl
theorem nv_14 {w : WD} {C : CS} (a k : Nat) (h : k < 3) : defaultValue (tyX15 k) = dObj w (nwC C a 14) 14 a k := by
  have : k = 0 ∨ k = 1 ∨ k = 2 := by omega
  rcases this with h | h | h <;> subst h
  · show Value.int 0 = .int _
    rw [show (nwC C a 14).2.2.2.2.2.2.1 (140 + 0) a = 0 from nwC_I C a 14 140]
  · show Value.int 0 = .int _
    rw [show (nwC C a 14).2.2.2.2.2.2.1 (140 + 1) a = 0 from nwC_I C a 14 141]
  · show Value.null = va_rf _
    rw [show (nwC C a 14).2.2.2.2.2.2.2.1 142 a = none from nwC_R C a 14 142]; rfl
theorem nv_15 {w : WD} {C : CS} (a k : Nat) (h : k < 1) : defaultValue (tyX16 k) = dObj w (nwC C a 15) 15 a k := by
  show Value.int 0 = .int _
  rw [show (nwC C a 15).2.2.2.2.2.2.1 150 a = 0 from nwC_I C a 15 150]
section NEWG
variable {w : WD} {x : Cx} {cc : ByteArray} {nL : Nat} {own : String} {ret : Option FieldType} {rm : Room} {cells slots : Nat} {Q : State → Prop} {C : CS} {pc : Nat} {lv : List (Nat × Value)} {st : List Value}
theorem g_newG (ok : Ok w x cc nL own ret rm) (c : Nat) {n0 : Nat} {cn : String} {T : u_T} (hc6 : c = 4 ∨ c = 5 ∨ c = 6 ∨ c = 7 ∨ c = 8 ∨ c = 9) (hc : cls[c]? = some (cn, T, 6)) {idx : Nat} (qc : Cond.classLink own idx cn ∈ lw_all) (qi : Cond.instantiable cn n0 ∈ lw_all) (qn : Cond.initialized cn ∈ lw_all) (hcap : cells + 1 ≤ rm.cells ∧ slots + n0 ≤ rm.slots) (d : decode cc pc = .ok (.new idx, 3))
    (kk : ∀ a, cT C a = none → G w x nL (cells + 1) (slots + n0) Q (nwC C a (50 + c)) (pc + 3) lv (.ref a :: st)) : G w x nL cells slots Q C pc lv st := by
  obtain ⟨cn2, T2, h1, h2, h3⟩ := tx_gl hc6
  have e : (cn2, T2, 6) = (cn, T, 6) := Option.some.inj (h1.symm.trans hc)
  cases e
  refine g_newR ok c (by omega) hc h2 ty4 (fun k hk => by rw [h3 k hk]; exact ty4_ok k hk) (fun a k hk => ?_) qc qi qn hcap d kk
  have hk5 : k < 5 := by omega
  rw [dObj_gl hc6 hk5, show (nwC C a (50 + c)).2.2.2.2.2.2.1 (40 + k) a = 0 from nwC_I C a (50 + c) (40 + k)]
  have : k = 0 ∨ k = 1 ∨ k = 2 ∨ k = 3 ∨ k = 4 := by omega
  rcases this with h | h | h | h | h <;> subst h <;> rfl
end NEWG
def p_X4_init (C : CS) (a c : Nat) : Prop := cT C a = some (50 + c, 0) ∧ (c = 4 ∨ c = 5 ∨ c = 6 ∨ c = 7 ∨ c = 8 ∨ c = 9)
def n_X4_init (C : CS) (a c : Nat) : CS := wT C a (some (c, 0))
theorem cfI_X4_init : CfI yX4_init cX4_init 2 1 := ⟨⟨by decide, by decide, by decide⟩, q76, q288, rfl, q287⟩
theorem mc_X4_init {w : WD} (wk : wOk w) (l : Launch) (C : CS) (a c : Nat) (hp : p_X4_init C a c) : MC w l yX4_init cX4_init 2 none 1 0 0 [.ref a, .ref (ad w 0)] C (pV (n_X4_init C a c)) := by
  obtain ⟨ht, hc6⟩ := hp
  obtain ⟨cn, T, hc, hin, hTk⟩ := tx_gl hc6
  refine MC.ofN wk (by decide) (Nat.le_of_ble_eq_true rfl) (fun x hx ok hnm => ?_)
  subst hx
  show G w x 2 0 0 (QM w x _ 0 0) C 0 [(0, .ref a), (1, .ref (ad w 0))] []
  refine g_aload_n ok 0 dX4_init_0 rfl ?_
  refine g_aload_n ok 1 dX4_init_1 rfl ?_
  refine g_putT1 ok hnm ht (by omega) hc hin ty4 (fun k hk => by rw [hTk k hk]; exact ty4_ok k hk) 5 rfl (fun b hb => by rw [hTk b (by omega), hTk 5 (by decide)]; exact nm4 b (by omega) 5 (by decide) (by omega)) (idx := 3) (by rw [hTk 5 (by decide)]; exact q311) (by rw [hTk 5 (by decide)]; rfl) (by rw [hTk 5 (by decide)]; rfl) rfl rfl ?_ dX4_init_2 ?_
  · rcases hc6 with h | h | h | h | h | h <;> subst h <;> rfl
  · refine g_aload_n ok 0 dX4_init_5 rfl ?_
    refine g_obj ok q289 (Nat.le_of_ble_eq_true rfl) ⟨by decide, by decide⟩ dX4_init_6 ?_
    exact g_vret ok dX4_init_9 ⟨rfl, rfl⟩
def p_X5_init (C : CS) (a c : Nat) : Prop := cT C a = some (50 + c, 0) ∧ (c = 5 ∨ c = 7)
def n_X5_init (C : CS) (a c : Nat) : CS := wT C a (some (c, 0))
theorem cfI_X5_init : CfI yX5_init cX5_init 2 1 := ⟨⟨by decide, by decide, by decide⟩, q77, q329, rfl, q328⟩
theorem mc_X5_init {w : WD} (wk : wOk w) (l : Launch) (C : CS) (a c : Nat) (hp : p_X5_init C a c) : MC w l yX5_init cX5_init 2 none 2 0 0 [.ref a, .ref (ad w 0)] C (pV (n_X5_init C a c)) := by
  obtain ⟨ht, hc⟩ := hp
  refine MC.ofN wk (by decide) (Nat.le_of_ble_eq_true rfl) (fun x hx ok hnm => ?_)
  subst hx
  show G w x 2 0 0 (QM w x _ 0 0) C 0 [(0, .ref a), (1, .ref (ad w 0))] []
  refine g_aload_n ok 0 dX5_init_0 rfl ?_
  refine g_aload_n ok 1 dX5_init_1 rfl ?_
  have tl : G w x 2 0 0 (QM w x (pV (n_X5_init C a c)) 0 0) C 5 [(0, .ref a), (1, .ref (ad w 0))] [] := by
    refine g_aload_n ok 0 dX5_init_5 rfl ?_
    refine g_aload_n ok 1 dX5_init_6 rfl ?_
    refine g_callIN ok [.ref (ad w 0)] cfI_X4_init q330 (mc_X4_init ok.wo (xL x) C a c ⟨ht, by omega⟩) rfl rfl (Nat.le_of_ble_eq_true rfl) ⟨by decide, by decide⟩ ⟨by decide, by decide⟩ dX5_init_7 (resV ?_)
    exact g_vret ok dX5_init_10 ⟨rfl, rfl⟩
  rcases hc with h | h <;> subst h
  · refine g_putT0 ok hnm ht (by decide) (c := 5) (T := TX5) (N := 6) (Nf := 7) rfl in_X5 tyX5 tyX5_ok 6 (by decide) (by decide) (by decide +kernel) q331 rfl rfl rfl rfl dX5_init_2 tl
  · refine g_putT0 ok hnm ht (by decide) (c := 7) (T := TX7) (N := 6) (Nf := 8) rfl in_X7 tyX7 tyX7_ok 6 (by decide) (by decide) (by decide +kernel) q331 rfl rfl rfl rfl dX5_init_2 tl
def p_X6_init (C : CS) (a c : Nat) : Prop := cT C a = some (50 + c, 0) ∧ (c = 6 ∨ c = 8)
def n_X6_init (C : CS) (a c : Nat) : CS := wT C a (some (c, 0))
theorem cfI_X6_init : CfI yX6_init cX6_init 2 1 := ⟨⟨by decide, by decide, by decide⟩, q78, q345, rfl, q344⟩
theorem mc_X6_init {w : WD} (wk : wOk w) (l : Launch) (C : CS) (a c : Nat) (hp : p_X6_init C a c) : MC w l yX6_init cX6_init 2 none 2 0 0 [.ref a, .ref (ad w 0)] C (pV (n_X6_init C a c)) := by
  obtain ⟨ht, hc⟩ := hp
  refine MC.ofN wk (by decide) (Nat.le_of_ble_eq_true rfl) (fun x hx ok hnm => ?_)
  subst hx
  show G w x 2 0 0 (QM w x _ 0 0) C 0 [(0, .ref a), (1, .ref (ad w 0))] []
  refine g_aload_n ok 0 dX6_init_0 rfl ?_
  refine g_aload_n ok 1 dX6_init_1 rfl ?_
  have tl : G w x 2 0 0 (QM w x (pV (n_X6_init C a c)) 0 0) C 5 [(0, .ref a), (1, .ref (ad w 0))] [] := by
    refine g_aload_n ok 0 dX6_init_5 rfl ?_
    refine g_aload_n ok 1 dX6_init_6 rfl ?_
    refine g_callIN ok [.ref (ad w 0)] cfI_X4_init q346 (mc_X4_init ok.wo (xL x) C a c ⟨ht, by omega⟩) rfl rfl (Nat.le_of_ble_eq_true rfl) ⟨by decide, by decide⟩ ⟨by decide, by decide⟩ dX6_init_7 (resV ?_)
    exact g_vret ok dX6_init_10 ⟨rfl, rfl⟩
  rcases hc with h | h <;> subst h
  · refine g_putT0 ok hnm ht (by decide) (c := 6) (T := TX6) (N := 6) (Nf := 7) rfl in_X6 tyX6 tyX6_ok 6 (by decide) (by decide) (by decide +kernel) q347 rfl rfl rfl rfl dX6_init_2 tl
  · refine g_putT0 ok hnm ht (by decide) (c := 8) (T := TX8) (N := 6) (Nf := 8) rfl in_X8 tyX8 tyX8_ok 6 (by decide) (by decide) (by decide +kernel) q347 rfl rfl rfl rfl dX6_init_2 tl
def p_X9_init (C : CS) (a c : Nat) : Prop := cT C a = some (50 + c, 0) ∧ (c = 9)
def n_X9_init (C : CS) (a c : Nat) : CS := wT C a (some (c, 0))
theorem cfI_X9_init : CfI yX9_init cX9_init 2 1 := ⟨⟨by decide, by decide, by decide⟩, q81, q395, rfl, q394⟩
theorem mc_X9_init {w : WD} (wk : wOk w) (l : Launch) (C : CS) (a c : Nat) (hp : p_X9_init C a c) : MC w l yX9_init cX9_init 2 none 2 0 0 [.ref a, .ref (ad w 0)] C (pV (n_X9_init C a c)) := by
  obtain ⟨ht, hc⟩ := hp
  refine MC.ofN wk (by decide) (Nat.le_of_ble_eq_true rfl) (fun x hx ok hnm => ?_)
  subst hx
  show G w x 2 0 0 (QM w x _ 0 0) C 0 [(0, .ref a), (1, .ref (ad w 0))] []
  refine g_aload_n ok 0 dX9_init_0 rfl ?_
  refine g_aload_n ok 1 dX9_init_1 rfl ?_
  have tl : G w x 2 0 0 (QM w x (pV (n_X9_init C a c)) 0 0) C 5 [(0, .ref a), (1, .ref (ad w 0))] [] := by
    refine g_aload_n ok 0 dX9_init_5 rfl ?_
    refine g_aload_n ok 1 dX9_init_6 rfl ?_
    refine g_callIN ok [.ref (ad w 0)] cfI_X4_init q396 (mc_X4_init ok.wo (xL x) C a c ⟨ht, by omega⟩) rfl rfl (Nat.le_of_ble_eq_true rfl) ⟨by decide, by decide⟩ ⟨by decide, by decide⟩ dX9_init_7 (resV ?_)
    exact g_vret ok dX9_init_10 ⟨rfl, rfl⟩
  subst hc
  refine g_putT0 ok hnm ht (by decide) (c := 9) (T := TX9) (N := 6) (Nf := 7) rfl in_X9 tyX9 tyX9_ok 6 (by decide) (by decide) (by decide +kernel) q397 rfl rfl rfl rfl dX9_init_2 tl
def p_X7_init (C : CS) (a c : Nat) : Prop := cT C a = some (50 + c, 0) ∧ (c = 7)
def n_X7_init (C : CS) (a c : Nat) : CS := wT C a (some (c, 0))
theorem cfI_X7_init : CfI yX7_init cX7_init 2 1 := ⟨⟨by decide, by decide, by decide⟩, q79, q361, rfl, q360⟩
theorem mc_X7_init {w : WD} (wk : wOk w) (l : Launch) (C : CS) (a c : Nat) (hp : p_X7_init C a c) : MC w l yX7_init cX7_init 2 none 3 0 0 [.ref a, .ref (ad w 0)] C (pV (n_X7_init C a c)) := by
  obtain ⟨ht, hc⟩ := hp
  refine MC.ofN wk (by decide) (Nat.le_of_ble_eq_true rfl) (fun x hx ok hnm => ?_)
  subst hx
  show G w x 2 0 0 (QM w x _ 0 0) C 0 [(0, .ref a), (1, .ref (ad w 0))] []
  refine g_aload_n ok 0 dX7_init_0 rfl ?_
  refine g_aload_n ok 1 dX7_init_1 rfl ?_
  have tl : G w x 2 0 0 (QM w x (pV (n_X7_init C a c)) 0 0) C 5 [(0, .ref a), (1, .ref (ad w 0))] [] := by
    refine g_aload_n ok 0 dX7_init_5 rfl ?_
    refine g_aload_n ok 1 dX7_init_6 rfl ?_
    refine g_callIN ok [.ref (ad w 0)] cfI_X5_init q362 (mc_X5_init ok.wo (xL x) C a c ⟨ht, by omega⟩) rfl rfl (Nat.le_of_ble_eq_true rfl) ⟨by decide, by decide⟩ ⟨by decide, by decide⟩ dX7_init_7 (resV ?_)
    exact g_vret ok dX7_init_10 ⟨rfl, rfl⟩
  subst hc
  refine g_putT0 ok hnm ht (by decide) (c := 7) (T := TX7) (N := 6) (Nf := 8) rfl in_X7 tyX7 tyX7_ok 7 (by decide) (by decide) (by decide +kernel) q363 rfl rfl rfl rfl dX7_init_2 tl
def p_X8_init (C : CS) (a c : Nat) : Prop := cT C a = some (50 + c, 0) ∧ (c = 8)
def n_X8_init (C : CS) (a c : Nat) : CS := wT C a (some (c, 0))
theorem cfI_X8_init : CfI yX8_init cX8_init 2 1 := ⟨⟨by decide, by decide, by decide⟩, q80, q378, rfl, q377⟩
theorem mc_X8_init {w : WD} (wk : wOk w) (l : Launch) (C : CS) (a c : Nat) (hp : p_X8_init C a c) : MC w l yX8_init cX8_init 2 none 3 0 0 [.ref a, .ref (ad w 0)] C (pV (n_X8_init C a c)) := by
  obtain ⟨ht, hc⟩ := hp
  refine MC.ofN wk (by decide) (Nat.le_of_ble_eq_true rfl) (fun x hx ok hnm => ?_)
  subst hx
  show G w x 2 0 0 (QM w x _ 0 0) C 0 [(0, .ref a), (1, .ref (ad w 0))] []
  refine g_aload_n ok 0 dX8_init_0 rfl ?_
  refine g_aload_n ok 1 dX8_init_1 rfl ?_
  have tl : G w x 2 0 0 (QM w x (pV (n_X8_init C a c)) 0 0) C 5 [(0, .ref a), (1, .ref (ad w 0))] [] := by
    refine g_aload_n ok 0 dX8_init_5 rfl ?_
    refine g_aload_n ok 1 dX8_init_6 rfl ?_
    refine g_callIN ok [.ref (ad w 0)] cfI_X6_init q379 (mc_X6_init ok.wo (xL x) C a c ⟨ht, by omega⟩) rfl rfl (Nat.le_of_ble_eq_true rfl) ⟨by decide, by decide⟩ ⟨by decide, by decide⟩ dX8_init_7 (resV ?_)
    exact g_vret ok dX8_init_10 ⟨rfl, rfl⟩
  subst hc
  refine g_putT0 ok hnm ht (by decide) (c := 8) (T := TX8) (N := 6) (Nf := 8) rfl in_X8 tyX8 tyX8_ok 7 (by decide) (by decide) (by decide +kernel) q380 rfl rfl rfl rfl dX8_init_2 tl
