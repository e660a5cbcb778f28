/-! constructors of figures, texts and their trees -/
theorem sD_I {C : CS} {k a b : Nat} {v : Int32} (hb : b ≠ a) : sameD (wDI C k a v) C b := ⟨fun i => by show up2 _ _ _ _ _ _ = _; unfold up2; rw [if_neg (fun z => hb z.2)], fun _ => rfl, fun _ => rfl, fun _ => rfl⟩
theorem sD_R {C : CS} {k a b : Nat} {v : Option Nat} (hb : b ≠ a) : sameD (wDR C k a v) C b := ⟨fun _ => rfl, fun i => by show up2 _ _ _ _ _ _ = _; unfold up2; rw [if_neg (fun z => hb z.2)], fun _ => rfl, fun _ => rfl⟩
def p_X16_init (C : CS) (a : Nat) (v0 : Int32) : Prop := ∃ n, cT C a = some (15, n)
def n_X16_init (C : CS) (a : Nat) (v0 : Int32) : CS := (wDI C 150 a v0)
theorem cfI_X16_init : CfI yX16_init cX16_init 2 1 := ⟨⟨by decide, by decide, by decide⟩, q103, q1264, rfl, q1263⟩
theorem mc_X16_init {w : WD} (wk : wOk w) (l : Launch) (C : CS) (a : Nat) (v0 : Int32) (hp : p_X16_init C a v0) : MC w l yX16_init cX16_init 2 none 2 0 0 [.ref a, .int v0] C (pV (n_X16_init C a v0)) := by
  obtain ⟨n, ht⟩ := hp
  refine MC.ofN wk (by decide) (Nat.le_of_ble_eq_true rfl) (fun x hx ok hnm => ?_)
  subst hx
  show G w x 2 0 0 (QM w x _ 0 0) C 0 [(0, .ref a), (1, .int v0)] []
  refine g_aload_n ok 0 dX16_init_0 rfl ?_
  refine g_obj ok q1265 (Nat.le_of_ble_eq_true rfl) ⟨by decide, by decide⟩ dX16_init_1 ?_
  refine g_aload_n ok 0 dX16_init_4 rfl ?_
  refine g_iload_n ok 1 dX16_init_5 rfl ?_
  refine g_putF (C := C) ok hnm (a := a) (c := 15) (n := n) ht (by decide) rfl in_X16 tyX16 tyX16_ok nmX16 0 (by decide) q1266 rfl rfl rfl rfl (C1 := (wDI C 150 a v0)) ⟨rfl, rfl, rfl, rfl, rfl⟩ rfl (fun b hb => sD_I hb) (fun i hi => by
    have : i = 0 := by omega
    rcases this with rfl <;> simp [dObj, updV, wDI, up2, va_rf]) dX16_init_6 ?_
  exact g_vret ok dX16_init_9 ⟨rfl, rfl⟩
def p_X12_init (C : CS) (a : Nat) (v0 : Int32) : Prop := ∃ n, cT C a = some (11, n)
def n_X12_init (C : CS) (a : Nat) (v0 : Int32) : CS := (wDI C 110 a v0)
theorem cfI_X12_init : CfI yX12_init cX12_init 2 1 := ⟨⟨by decide, by decide, by decide⟩, q95, q1066, rfl, q1065⟩
theorem mc_X12_init {w : WD} (wk : wOk w) (l : Launch) (C : CS) (a : Nat) (v0 : Int32) (hp : p_X12_init C a v0) : MC w l yX12_init cX12_init 2 none 2 0 0 [.ref a, .int v0] C (pV (n_X12_init C a v0)) := by
  obtain ⟨n, ht⟩ := hp
  refine MC.ofN wk (by decide) (Nat.le_of_ble_eq_true rfl) (fun x hx ok hnm => ?_)
  subst hx
  show G w x 2 0 0 (QM w x _ 0 0) C 0 [(0, .ref a), (1, .int v0)] []
  refine g_aload_n ok 0 dX12_init_0 rfl ?_
  refine g_obj ok q1067 (Nat.le_of_ble_eq_true rfl) ⟨by decide, by decide⟩ dX12_init_1 ?_
  refine g_aload_n ok 0 dX12_init_4 rfl ?_
  refine g_iload_n ok 1 dX12_init_5 rfl ?_
  refine g_putF (C := C) ok hnm (a := a) (c := 11) (n := n) ht (by decide) rfl in_X12 tyX12 tyX12_ok nmX12 0 (by decide) q1068 rfl rfl rfl rfl (C1 := (wDI C 110 a v0)) ⟨rfl, rfl, rfl, rfl, rfl⟩ rfl (fun b hb => sD_I hb) (fun i hi => by
    have : i = 0 := by omega
    rcases this with rfl <;> simp [dObj, updV, wDI, up2, va_rf]) dX12_init_6 ?_
  exact g_vret ok dX12_init_9 ⟨rfl, rfl⟩
def p_X14_init (C : CS) (a : Nat) (v0 : Nat) : Prop := ∃ n, cT C a = some (13, n)
def n_X14_init (C : CS) (a : Nat) (v0 : Nat) : CS := (wDR C 130 a (some v0))
theorem cfI_X14_init : CfI yX14_init cX14_init 2 1 := ⟨⟨by decide, by decide, by decide⟩, q97, q1093, rfl, q1092⟩
theorem mc_X14_init {w : WD} (wk : wOk w) (l : Launch) (C : CS) (a : Nat) (v0 : Nat) (hp : p_X14_init C a v0) : MC w l yX14_init cX14_init 2 none 2 0 0 [.ref a, .ref v0] C (pV (n_X14_init C a v0)) := by
  obtain ⟨n, ht⟩ := hp
  refine MC.ofN wk (by decide) (Nat.le_of_ble_eq_true rfl) (fun x hx ok hnm => ?_)
  subst hx
  show G w x 2 0 0 (QM w x _ 0 0) C 0 [(0, .ref a), (1, .ref v0)] []
  refine g_aload_n ok 0 dX14_init_0 rfl ?_
  refine g_obj ok q1094 (Nat.le_of_ble_eq_true rfl) ⟨by decide, by decide⟩ dX14_init_1 ?_
  refine g_aload_n ok 0 dX14_init_4 rfl ?_
  refine g_aload_n ok 1 dX14_init_5 rfl ?_
  refine g_putF (C := C) ok hnm (a := a) (c := 13) (n := n) ht (by decide) rfl in_X14 tyX14 tyX14_ok nmX14 0 (by decide) q1095 rfl rfl rfl rfl (C1 := (wDR C 130 a (some v0))) ⟨rfl, rfl, rfl, rfl, rfl⟩ rfl (fun b hb => sD_R hb) (fun i hi => by
    have : i = 0 := by omega
    rcases this with rfl <;> simp [dObj, updV, wDR, up2, va_rf]) dX14_init_6 ?_
  exact g_vret ok dX14_init_9 ⟨rfl, rfl⟩
def p_X10_init (C : CS) (a : Nat) (v0 : Int32) (v1 : Nat) (v2 : Nat) : Prop := ∃ n, cT C a = some (10, n)
def n_X10_init (C : CS) (a : Nat) (v0 : Int32) (v1 : Nat) (v2 : Nat) : CS := (wDR (wDR (wDI C 100 a v0) 101 a (some v1)) 102 a (some v2))
theorem cfI_X10_init : CfI yX10_init cX10_init 4 3 := ⟨⟨by decide, by decide, by decide⟩, q88, q1103, rfl, q1102⟩
theorem mc_X10_init {w : WD} (wk : wOk w) (l : Launch) (C : CS) (a : Nat) (v0 : Int32) (v1 : Nat) (v2 : Nat) (hp : p_X10_init C a v0 v1 v2) : MC w l yX10_init cX10_init 4 none 2 0 0 [.ref a, .int v0, .ref v1, .ref v2] C (pV (n_X10_init C a v0 v1 v2)) := by
  obtain ⟨n, ht⟩ := hp
  refine MC.ofN wk (by decide) (Nat.le_of_ble_eq_true rfl) (fun x hx ok hnm => ?_)
  subst hx
  show G w x 4 0 0 (QM w x _ 0 0) C 0 [(0, .ref a), (1, .int v0), (2, .ref v1), (3, .ref v2)] []
  refine g_aload_n ok 0 dX10_init_0 rfl ?_
  refine g_obj ok q1104 (Nat.le_of_ble_eq_true rfl) ⟨by decide, by decide⟩ dX10_init_1 ?_
  refine g_aload_n ok 0 dX10_init_4 rfl ?_
  refine g_iload_n ok 1 dX10_init_5 rfl ?_
  refine g_putF (C := C) ok hnm (a := a) (c := 10) (n := n) ht (by decide) rfl in_X10 tyX10 tyX10_ok nmX10 0 (by decide) q1105 rfl rfl rfl rfl (C1 := (wDI C 100 a v0)) ⟨rfl, rfl, rfl, rfl, rfl⟩ rfl (fun b hb => sD_I hb) (fun i hi => by
    have : i = 0 ∨ i = 1 ∨ i = 2 := by omega
    rcases this with rfl | rfl | rfl <;> simp [dObj, updV, wDI, up2, va_rf]) dX10_init_6 ?_
  refine g_aload_n ok 0 dX10_init_9 rfl ?_
  refine g_aload_n ok 2 dX10_init_10 rfl ?_
  refine g_putF (C := (wDI C 100 a v0)) ok hnm (a := a) (c := 10) (n := n) ht (by decide) rfl in_X10 tyX10 tyX10_ok nmX10 1 (by decide) q1106 rfl rfl rfl rfl (C1 := (wDR (wDI C 100 a v0) 101 a (some v1))) ⟨rfl, rfl, rfl, rfl, rfl⟩ rfl (fun b hb => sD_R hb) (fun i hi => by
    have : i = 0 ∨ i = 1 ∨ i = 2 := by omega
    rcases this with rfl | rfl | rfl <;> simp [dObj, updV, wDR, up2, va_rf]) dX10_init_11 ?_
  refine g_aload_n ok 0 dX10_init_14 rfl ?_
  refine g_aload_n ok 3 dX10_init_15 rfl ?_
  refine g_putF (C := (wDR (wDI C 100 a v0) 101 a (some v1))) ok hnm (a := a) (c := 10) (n := n) ht (by decide) rfl in_X10 tyX10 tyX10_ok nmX10 2 (by decide) q1107 rfl rfl rfl rfl (C1 := (wDR (wDR (wDI C 100 a v0) 101 a (some v1)) 102 a (some v2))) ⟨rfl, rfl, rfl, rfl, rfl⟩ rfl (fun b hb => sD_R hb) (fun i hi => by
    have : i = 0 ∨ i = 1 ∨ i = 2 := by omega
    rcases this with rfl | rfl | rfl <;> simp [dObj, updV, wDR, up2, va_rf]) dX10_init_16 ?_
  exact g_vret ok dX10_init_19 ⟨rfl, rfl⟩
def p_X15_init (C : CS) (a : Nat) (v0 : Int32) (v1 : Int32) (v2 : Nat) : Prop := ∃ n, cT C a = some (14, n)
def n_X15_init (C : CS) (a : Nat) (v0 : Int32) (v1 : Int32) (v2 : Nat) : CS := (wDR (wDI (wDI C 140 a v0) 141 a v1) 142 a (some v2))
theorem cfI_X15_init : CfI yX15_init cX15_init 4 3 := ⟨⟨by decide, by decide, by decide⟩, q98, q1119, rfl, q1118⟩
theorem mc_X15_init {w : WD} (wk : wOk w) (l : Launch) (C : CS) (a : Nat) (v0 : Int32) (v1 : Int32) (v2 : Nat) (hp : p_X15_init C a v0 v1 v2) : MC w l yX15_init cX15_init 4 none 2 0 0 [.ref a, .int v0, .int v1, .ref v2] C (pV (n_X15_init C a v0 v1 v2)) := by
  obtain ⟨n, ht⟩ := hp
  refine MC.ofN wk (by decide) (Nat.le_of_ble_eq_true rfl) (fun x hx ok hnm => ?_)
  subst hx
  show G w x 4 0 0 (QM w x _ 0 0) C 0 [(0, .ref a), (1, .int v0), (2, .int v1), (3, .ref v2)] []
  refine g_aload_n ok 0 dX15_init_0 rfl ?_
  refine g_obj ok q1120 (Nat.le_of_ble_eq_true rfl) ⟨by decide, by decide⟩ dX15_init_1 ?_
  refine g_aload_n ok 0 dX15_init_4 rfl ?_
  refine g_iload_n ok 1 dX15_init_5 rfl ?_
  refine g_putF (C := C) ok hnm (a := a) (c := 14) (n := n) ht (by decide) rfl in_X15 tyX15 tyX15_ok nmX15 0 (by decide) q1121 rfl rfl rfl rfl (C1 := (wDI C 140 a v0)) ⟨rfl, rfl, rfl, rfl, rfl⟩ rfl (fun b hb => sD_I hb) (fun i hi => by
    have : i = 0 ∨ i = 1 ∨ i = 2 := by omega
    rcases this with rfl | rfl | rfl <;> simp [dObj, updV, wDI, up2, va_rf]) dX15_init_6 ?_
  refine g_aload_n ok 0 dX15_init_9 rfl ?_
  refine g_iload_n ok 2 dX15_init_10 rfl ?_
  refine g_putF (C := (wDI C 140 a v0)) ok hnm (a := a) (c := 14) (n := n) ht (by decide) rfl in_X15 tyX15 tyX15_ok nmX15 1 (by decide) q1123 rfl rfl rfl rfl (C1 := (wDI (wDI C 140 a v0) 141 a v1)) ⟨rfl, rfl, rfl, rfl, rfl⟩ rfl (fun b hb => sD_I hb) (fun i hi => by
    have : i = 0 ∨ i = 1 ∨ i = 2 := by omega
    rcases this with rfl | rfl | rfl <;> simp [dObj, updV, wDI, up2, va_rf]) dX15_init_11 ?_
  refine g_aload_n ok 0 dX15_init_14 rfl ?_
  refine g_aload_n ok 3 dX15_init_15 rfl ?_
  refine g_putF (C := (wDI (wDI C 140 a v0) 141 a v1)) ok hnm (a := a) (c := 14) (n := n) ht (by decide) rfl in_X15 tyX15 tyX15_ok nmX15 2 (by decide) q1125 rfl rfl rfl rfl (C1 := (wDR (wDI (wDI C 140 a v0) 141 a v1) 142 a (some v2))) ⟨rfl, rfl, rfl, rfl, rfl⟩ rfl (fun b hb => sD_R hb) (fun i hi => by
    have : i = 0 ∨ i = 1 ∨ i = 2 := by omega
    rcases this with rfl | rfl | rfl <;> simp [dObj, updV, wDR, up2, va_rf]) dX15_init_16 ?_
  exact g_vret ok dX15_init_19 ⟨rfl, rfl⟩
def p_X13_init (C : CS) (a : Nat) (v0 : Int32) : Prop := cT C a = some (62, 0)
def n_X13_init (C : CS) (a : Nat) (v0 : Int32) : CS := wDI (wT C a (some (12, 0))) 120 a v0
theorem cfI_X13_init : CfI yX13_init cX13_init 3 2 := ⟨⟨by decide, by decide, by decide⟩, q96, q1076, rfl, q1075⟩
theorem mc_X13_init {w : WD} (wk : wOk w) (l : Launch) (C : CS) (a : Nat) (v0 : Int32) (hp : p_X13_init C a v0) : MC w l yX13_init cX13_init 3 none 2 0 0 [.ref a, .ref (ad w 0), .int v0] C (pV (n_X13_init C a v0)) := by
  have ht : cT C a = some (50 + 12, 0) := hp
  refine MC.ofN wk (by decide) (Nat.le_of_ble_eq_true rfl) (fun x hx ok hnm => ?_)
  subst hx
  show G w x 3 0 0 (QM w x _ 0 0) C 0 [(0, .ref a), (1, .ref (ad w 0)), (2, .int v0)] []
  refine g_aload_n ok 0 dX13_init_0 rfl ?_
  refine g_aload_n ok 1 dX13_init_1 rfl ?_
  refine g_putT1 ok hnm ht (by decide) (c := 12) rfl in_X13 tyX13 tyX13_ok 1 rfl (fun b hb => nmX13 b (by omega) 1 (by decide) (by omega)) (idx := 1) q1079 rfl rfl rfl rfl rfl dX13_init_2 ?_
  refine g_aload_n ok 0 dX13_init_5 rfl ?_
  refine g_obj ok q1077 (Nat.le_of_ble_eq_true rfl) ⟨by decide, by decide⟩ dX13_init_6 ?_
  refine g_aload_n ok 0 dX13_init_9 rfl ?_
  refine g_iload_n ok 2 dX13_init_10 rfl ?_
  have ht2 : cT (wT C a (some (12, 0))) a = some (12, 0) := by show up1 _ _ _ _ = _; unfold up1; rw [if_pos rfl]
  refine g_putF ok hnm (a := a) (c := 12) (n := 0) ht2 (by decide) rfl in_X13 tyX13 tyX13_ok nmX13 0 (by decide) q1078 rfl rfl rfl rfl (C1 := wDI (wT C a (some (12, 0))) 120 a v0) ⟨rfl, rfl, rfl, rfl, rfl⟩ rfl (fun b hb => sD_I hb) (fun i hi => by
    have : i = 0 ∨ i = 1 := by omega
    rcases this with rfl | rfl <;> simp [dObj, updV, wDI, up2]) dX13_init_11 ?_
  exact g_vret ok dX13_init_14 ⟨rfl, rfl⟩
