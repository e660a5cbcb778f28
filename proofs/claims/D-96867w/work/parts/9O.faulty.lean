/-! Faulty: how it is made and thrown -/

section ROWSO
variable {w : WD} {x : Cx} {cc : ByteArray} {nL : Nat} {own : String} {ret : Option FieldType} {rm : Room} {cells slots : Nat} {Q : State → Prop} {C : CS} {pc : Nat} {lv : List (Nat × Value)} {st : List Value}
/-- a field that isn't final of a dynamic object is written -/
theorem g_putNF (ok : Ok w x cc nL own ret rm) {a c n : Nat} (ht : cT C a = some (c, n)) (hc50 : c < 50) {cn : String} {T : u_T} {N : Nat} (hc : cls[c]? = some (cn, T, N)) (hin : ∀ q ∈ u_ws cn T N, q ∈ lw_all) (ty0 : Nat → FieldType) (hty : ∀ k, k < N → parseFieldDescriptor (T k).2.2.1 = some (ty0 k)) (hnm : ∀ a, a < N → ∀ b, b < N → a ≠ b → (T a).2.1 ≠ (T b).2.1) (k : Nat) (hk : k < N) {idx : Nat} (q : Cond.fieldLink own idx (T k).1 (T k).2.1 (T k).2.2.1 ∈ lw_all) (hfin : (T k).2.2.2 = false) {v : Value} (hnf : narrow (ty0 k) v = v ∧ fits (ty0 k) v = true)
    {C1 : CS} (hF : sameF C1 C) (hT : C1.2.2.2.2.2.1 = C.2.2.2.2.2.1) (hS : ∀ b, b ≠ a → sameD C1 C b) (hV : ∀ i, i < N → dObj w C1 c a i = updV (dObj w C c a) k v i) (d : decode cc pc = .ok (.putfield idx, 3))
    (kk : G w x nL cells slots Q C1 (pc + 3) lv st) : G w x nL cells slots Q C pc lv (v :: .ref a :: st) := by
  intro H locs ls h1 h2 h3
  obtain ⟨hd, hwb, -, -⟩ := h1.2.2.2 a _ ht
  unfold dynAt at hd
  rw [if_pos hc50] at hd
  obtain ⟨r, e1, cell, q1, q2, q3, q4⟩ := hd
  have hr : r = (cn, T, N) := Option.some.inj (e1.symm.trans hc)
  subst hr
  have hap := va_apart (own := own) ok.ts hin ty0 hty hnm ok.K hc
  obtain ⟨hSl, hfc, kC, hkC, hkind⟩ := ok.K.1 c _ hc
  obtain ⟨cf, kf, fi, f, hi, hsl⟩ := hSl k hk
  have hlay := ok.ts _ (hin _ (u_in_lay hk))
  unfold u_lay at hlay
  rw [if_neg (by rw [hfin]; decide)] at hlay
  have hst := (u_facts hfc hkC (u_lays ok.ts hin hk) hi).1
  have h6 := u_store hfc hkC hkind hlay hi (hty k hk) hnf.1 hnf.2
  refine W.putK ok.ex ok.cd (f := f) ⟨ok.ow, ok.wd q, ⟨_, _, _, hi⟩, hst⟩ (by rw [q2]; exact h6) q1 q3 (by rw [hsl]; exact k2_hasslot (q4 k hk)) rfl rfl d fun H' e1' e2' e3' => ?_
  rw [hsl] at e1' ⊢
  have hob : t_OB a ((wD w).1 c) N ((wD w).2 c) H' (updV (dObj w C c a) k v) := ⟨_, e1', q2, q3, t_set q4 hap hk _⟩
  refine kk H' _ ls (hA.stepD (tg := (c, n)) (tg1 := (c, n)) h1 ht e2' e3' hF (fun b _ => by rw [hT]) (by rw [hT]; exact ht) hS ?_) (fun l hl => ?_) h3
  · unfold dynAt
    rw [if_pos hc50]
    exact ⟨_, hc, hob.to fun i hi => (hV i hi).symm⟩
  · rcases List.mem_append.mp hl with h | h
    · exact h2 l h
    · rw [List.mem_singleton.mp h]; exact hwb
/-- a static reference of the start is read -/
theorem g_getst (ok : Ok w x cc nL own ret rm) {idx : Nat} {cn nm ds : String} (ql : Cond.fieldLink own idx cn nm ds ∈ lw_all) (qs : Cond.laysStatic cn nm ds ∈ lw_tbl) (qi : Cond.initialized cn ∈ lw_all) (hr : (Cond.isRef (.static cn nm ds)).before #[Value.ref (wB w)] (wS w) = true) (d : decode cc pc = .ok (.getstatic idx, 3))
    (k : ∀ o : Option Nat, G w x nL cells slots Q C (pc + 3) lv (va_rf o :: st)) : G w x nL cells slots Q C pc lv st := by
  intro H locs ls h1 h2 h3 T hT X
  obtain ⟨c, k0, i, f, a, cell, g1, g2, g3, g4, g5, g6, g7, g8, g9⟩ := Cond.laysStatic_spec (ok.wo.tbl _ qs)
  obtain ⟨k', f1, he⟩ := ff_same (State.WarmedH.alike ok.kw) g2
  have hcell : T.heap[a]? = some cell := by
    rw [hT, h1.2.1 a (Array.getElem?_eq_some_iff.mp g5).1]; exact g5
  obtain ⟨u, hu⟩ := Cond.staticRefV g2 g3 g4 g5 g6 hr
  have hk' := (State.fieldFound?_spec f1).1
  have hfc : (xS x).vm.findClass cn = some c := by rw [(State.WarmedH.alike ok.kw).findClass]; exact g1
  have hinit : k'.init = .initialized := Cond.initialized_spec hfc hk' (ok.wd qi)
  have hkn : cell.vm ≠ .unknown := fun z => by rw [z] at g6; cases g6
  obtain ⟨vm', X', stp⟩ := X.getstatic ok.ex ok.ow (ok.wd ql) f1 g3 hinit (by rw [he]; exact g4) hcell hkn hu (g := F0 (xM x) pc ls st) rfl (by rw [ok.cd]; exact d)
  obtain ⟨v, hv⟩ := u
  have hvo : ∃ o : Option Nat, v = va_rf o := by
    cases v with
    | null => exact ⟨none, rfl⟩
    | ref b => exact ⟨some b, rfl⟩
    | _ => cases hv
  obtain ⟨o, ho⟩ := hvo
  obtain ⟨t, a1, b1⟩ := k o H locs ls h1 h2 h3 (T.setVm vm') hT X'
  exact ⟨t, stp t (by show Steps _ _ _ ((T.setVm vm').setTop (F0 (xM x) (pc + 3) ls (v :: st))) t; rw [ho]; exact a1), b1⟩
end ROWSO
/-- all but the object at a is as it was -/
def fE (C : CS) (a : Nat) (C1 : CS) : Prop := sameF C1 C ∧ C1.2.2.2.2.2.1 = C.2.2.2.2.2.1 ∧ ∀ b, b ≠ a → sameD C1 C b
theorem nfO {t : FieldType} (o : Option Nat) (h : ∀ v : Value, v.isRef = true → narrow t v = v ∧ fits t v = true) : narrow t (va_rf o) = va_rf o ∧ fits t (va_rf o) = true := by
  cases o with
  | none => exact h _ rfl
  | some b => exact h _ rfl
theorem nfT (s : String) : ∀ v : Value, v.isRef = true → narrow (.object s) v = v ∧ fits (.object s) v = true := by
  intro v hv
  cases v with
  | null => exact ⟨rfl, rfl⟩
  | ref b => exact ⟨rfl, rfl⟩
  | _ => cases hv
theorem nfA (t : FieldType) : ∀ v : Value, v.isRef = true → narrow (.array t) v = v ∧ fits (.array t) v = true := by
  intro v hv
  cases v with
  | null => exact ⟨rfl, rfl⟩
  | ref b => exact ⟨rfl, rfl⟩
  | _ => cases hv
theorem cfI_J0_init_3 : CfI yJ0_init_3 cJ0_init_3 5 4 := ⟨⟨by decide, by decide, by decide⟩, q82, q1027, rfl, q1026⟩
theorem cfI_J1_init_2 : CfI yJ1_init_2 cJ1_init_2 5 4 := ⟨⟨by decide, by decide, by decide⟩, q83, q1024, rfl, q1023⟩
theorem cfI_X11_init : CfI yX11_init cX11_init 2 1 := ⟨⟨by decide, by decide, by decide⟩, q94, q1021, rfl, q1020⟩
theorem cf_X0_must : CfV yX0_must "TwoGuilds" cX0_must 2 none 1 := ⟨⟨by decide, by decide, by decide⟩, q72, q1010, q1009, qs23⟩
theorem mc_J0_init_3 {w : WD} (wk : wOk w) (l : Launch) (C : CS) (a n : Nat) (ht : cT C a = some (16, n)) : MC w l yJ0_init_3 cJ0_init_3 5 none 2 0 0 [.ref a, .null, .null, .int 0, .int 0] C (pVR (fE C a)) := by
  refine MC.of wk (by decide) (Nat.le_of_ble_eq_true rfl) (fun x hx ok => ?_)
  subst hx
  show G w x 5 0 0 (QM w x _ 0 0) C 0 [(0, .ref a), (1, va_rf none), (2, va_rf none), (3, .int 0), (4, .int 0)] []
  refine g_aload_n ok 0 dJ0_init_3_0 rfl ?_
  refine g_obj ok q484 (Nat.le_of_ble_eq_true rfl) ⟨by decide, by decide⟩ dJ0_init_3_1 ?_
  refine g_aload_n ok 0 dJ0_init_3_4 rfl ?_
  refine g_aload_n ok 0 dJ0_init_3_5 rfl ?_
  refine g_putNF (C := C) ok (a := a) (c := 16) (n := n) ht (by decide) rfl in_X11 tyX11 tyX11_ok nmX11 0 (by decide) q520 rfl (nfO (some a) (nfT _)) (C1 := (wDR C 160 a (some a))) ⟨rfl, rfl, rfl, rfl, rfl⟩ rfl (fun b hb => sD_R hb) (fun i hi => by
    have : i = 0 ∨ i = 1 ∨ i = 2 ∨ i = 3 ∨ i = 4 ∨ i = 5 ∨ i = 6 := by omega
    rcases this with rfl | rfl | rfl | rfl | rfl | rfl | rfl <;> simp [dObj, updV, wDR, up2, va_rf]) dJ0_init_3_6 ?_
  refine g_aload_n ok 0 dJ0_init_3_9 rfl ?_
  refine g_getst ok q485 q486 q82 (bR (bR (bL (bL (bL (bL (bL (bL (bL ok.wo.nar))))))))) dJ0_init_3_10 (fun o1 => ?_)
  refine g_putNF (C := (wDR C 160 a (some a))) ok (a := a) (c := 16) (n := n) ht (by decide) rfl in_X11 tyX11 tyX11_ok nmX11 1 (by decide) q521 rfl (nfO o1 (nfA _)) (C1 := (wDR (wDR C 160 a (some a)) 161 a o1)) ⟨rfl, rfl, rfl, rfl, rfl⟩ rfl (fun b hb => sD_R hb) (fun i hi => by
    have : i = 0 ∨ i = 1 ∨ i = 2 ∨ i = 3 ∨ i = 4 ∨ i = 5 ∨ i = 6 := by omega
    rcases this with rfl | rfl | rfl | rfl | rfl | rfl | rfl <;> simp [dObj, updV, wDR, up2, va_rf]) dJ0_init_3_13 ?_
  refine g_aload_n ok 0 dJ0_init_3_16 rfl ?_
  refine g_getst ok q487 q488 q82 (bL (bL (bR (bL (bL (bL (bL (bL (bL ok.wo.nar))))))))) dJ0_init_3_17 (fun o2 => ?_)
  refine g_putNF (C := (wDR (wDR C 160 a (some a)) 161 a o1)) ok (a := a) (c := 16) (n := n) ht (by decide) rfl in_X11 tyX11 tyX11_ok nmX11 2 (by decide) q522 rfl (nfO o2 (nfT _)) (C1 := (wDR (wDR (wDR C 160 a (some a)) 161 a o1) 162 a o2)) ⟨rfl, rfl, rfl, rfl, rfl⟩ rfl (fun b hb => sD_R hb) (fun i hi => by
    have : i = 0 ∨ i = 1 ∨ i = 2 ∨ i = 3 ∨ i = 4 ∨ i = 5 ∨ i = 6 := by omega
    rcases this with rfl | rfl | rfl | rfl | rfl | rfl | rfl <;> simp [dObj, updV, wDR, up2, va_rf]) dJ0_init_3_20 ?_
  refine g_iload ok 4 dJ0_init_3_23 rfl ?_
  refine g_if_eq (tgt := 36) ok dJ0_init_3_25 (by decide) (fun _ => ?_) (fun z => absurd rfl z)
  refine g_aload_n ok 0 dJ0_init_3_36 rfl ?_
  refine g_null ok dJ0_init_3_37 ?_
  refine g_putNF (C := (wDR (wDR (wDR C 160 a (some a)) 161 a o1) 162 a o2)) ok (a := a) (c := 16) (n := n) ht (by decide) rfl in_X11 tyX11 tyX11_ok nmX11 1 (by decide) q521 rfl (nfO none (nfA _)) (C1 := (wDR (wDR (wDR (wDR C 160 a (some a)) 161 a o1) 162 a o2) 161 a none)) ⟨rfl, rfl, rfl, rfl, rfl⟩ rfl (fun b hb => sD_R hb) (fun i hi => by
    have : i = 0 ∨ i = 1 ∨ i = 2 ∨ i = 3 ∨ i = 4 ∨ i = 5 ∨ i = 6 := by omega
    rcases this with rfl | rfl | rfl | rfl | rfl | rfl | rfl <;> simp [dObj, updV, wDR, up2, va_rf]) dJ0_init_3_38 ?_
  refine g_aload_n ok 0 dJ0_init_3_41 rfl ?_
  refine g_oload_n ok 1 dJ0_init_3_42 rfl ?_
  refine g_putNF (C := (wDR (wDR (wDR (wDR C 160 a (some a)) 161 a o1) 162 a o2) 161 a none)) ok (a := a) (c := 16) (n := n) ht (by decide) rfl in_X11 tyX11 tyX11_ok nmX11 3 (by decide) q519 rfl (nfO none (nfT _)) (C1 := (wDR (wDR (wDR (wDR (wDR C 160 a (some a)) 161 a o1) 162 a o2) 161 a none) 163 a none)) ⟨rfl, rfl, rfl, rfl, rfl⟩ rfl (fun b hb => sD_R hb) (fun i hi => by
    have : i = 0 ∨ i = 1 ∨ i = 2 ∨ i = 3 ∨ i = 4 ∨ i = 5 ∨ i = 6 := by omega
    rcases this with rfl | rfl | rfl | rfl | rfl | rfl | rfl <;> simp [dObj, updV, wDR, up2, va_rf]) dJ0_init_3_43 ?_
  refine g_aload_n ok 0 dJ0_init_3_46 rfl ?_
  refine g_oload_n ok 2 dJ0_init_3_47 rfl ?_
  refine g_putNF (C := (wDR (wDR (wDR (wDR (wDR C 160 a (some a)) 161 a o1) 162 a o2) 161 a none) 163 a none)) ok (a := a) (c := 16) (n := n) ht (by decide) rfl in_X11 tyX11 tyX11_ok nmX11 0 (by decide) q520 rfl (nfO none (nfT _)) (C1 := (wDR (wDR (wDR (wDR (wDR (wDR C 160 a (some a)) 161 a o1) 162 a o2) 161 a none) 163 a none) 160 a none)) ⟨rfl, rfl, rfl, rfl, rfl⟩ rfl (fun b hb => sD_R hb) (fun i hi => by
    have : i = 0 ∨ i = 1 ∨ i = 2 ∨ i = 3 ∨ i = 4 ∨ i = 5 ∨ i = 6 := by omega
    rcases this with rfl | rfl | rfl | rfl | rfl | rfl | rfl <;> simp [dObj, updV, wDR, up2, va_rf]) dJ0_init_3_48 ?_
  refine g_iload_n ok 3 dJ0_init_3_51 rfl ?_
  refine g_if_ne (tgt := 60) ok dJ0_init_3_52 (by decide) (fun z => absurd rfl z) (fun _ => ?_)
  refine g_aload_n ok 0 dJ0_init_3_55 rfl ?_
  refine g_null ok dJ0_init_3_56 ?_
  refine g_putNF (C := (wDR (wDR (wDR (wDR (wDR (wDR C 160 a (some a)) 161 a o1) 162 a o2) 161 a none) 163 a none) 160 a none)) ok (a := a) (c := 16) (n := n) ht (by decide) rfl in_X11 tyX11 tyX11_ok nmX11 2 (by decide) q522 rfl (nfO none (nfT _)) (C1 := (wDR (wDR (wDR (wDR (wDR (wDR (wDR C 160 a (some a)) 161 a o1) 162 a o2) 161 a none) 163 a none) 160 a none) 162 a none)) ⟨rfl, rfl, rfl, rfl, rfl⟩ rfl (fun b hb => sD_R hb) (fun i hi => by
    have : i = 0 ∨ i = 1 ∨ i = 2 ∨ i = 3 ∨ i = 4 ∨ i = 5 ∨ i = 6 := by omega
    rcases this with rfl | rfl | rfl | rfl | rfl | rfl | rfl <;> simp [dObj, updV, wDR, up2, va_rf]) dJ0_init_3_57 ?_
  refine g_vret ok dJ0_init_3_60 ⟨rfl, ⟨rfl, rfl, rfl, rfl, rfl⟩, rfl, fun b hb => ?_⟩
  exact ((((((sD_R hb).tr (sD_R hb)).tr (sD_R hb)).tr (sD_R hb)).tr (sD_R hb)).tr (sD_R hb)).tr (sD_R hb)
theorem mc_J1_init_2 {w : WD} (wk : wOk w) (l : Launch) (C : CS) (a n : Nat) (ht : cT C a = some (16, n)) : MC w l yJ1_init_2 cJ1_init_2 5 none 4 0 0 [.ref a, .null, .null, .int 0, .int 0] C (pVR (fE C a)) := by
  refine MC.of wk (by decide) (Nat.le_of_ble_eq_true rfl) (fun x hx ok => ?_)
  subst hx
  show G w x 5 0 0 (QM w x _ 0 0) C 0 [(0, .ref a), (1, va_rf none), (2, va_rf none), (3, .int 0), (4, .int 0)] []
  refine g_aload_n ok 0 dJ1_init_2_0 rfl ?_
  refine g_oload_n ok 1 dJ1_init_2_1 rfl ?_
  refine g_oload_n ok 2 dJ1_init_2_2 rfl ?_
  refine g_iload_n ok 3 dJ1_init_2_3 rfl ?_
  refine g_iload ok 4 dJ1_init_2_4 rfl ?_
  refine g_callI ok [.null, .null, .int 0, .int 0] cfI_J0_init_3 q1025 (mc_J0_init_3 ok.wo (xL x) C a n ht) rfl rfl (Nat.le_of_ble_eq_true rfl) ⟨by decide, by decide⟩ ⟨by decide, by decide⟩ dJ1_init_2_6 (resVR fun C1 h1 => ?_)
  exact g_vret ok dJ1_init_2_9 ⟨rfl, h1⟩
/-- a Faulty with the place pl lies at a -/
def fyI (C : CS) (a : Nat) (pl : Int32) (C1 : CS) : Prop := fE C a C1 ∧ cDI C1 166 a = pl
theorem mc_X11_init {w : WD} (wk : wOk w) (l : Launch) (C : CS) (a n : Nat) (pl : Int32) (ht : cT C a = some (16, n)) : MC w l yX11_init cX11_init 2 none 6 0 0 [.ref a, .int pl] C (pVR (fyI C a pl)) := by
  refine MC.ofN wk (by decide) (Nat.le_of_ble_eq_true rfl) (fun x hx ok hnm => ?_)
  subst hx
  show G w x 2 0 0 (QM w x _ 0 0) C 0 [(0, .ref a), (1, .int pl)] []
  refine g_aload_n ok 0 dX11_init_0 rfl ?_
  refine g_null ok dX11_init_1 ?_
  refine g_null ok dX11_init_2 ?_
  refine g_iconst (v := 0) ok dX11_init_3 (by decide) ?_
  refine g_iconst (v := 0) ok dX11_init_4 (by decide) ?_
  refine g_callI ok [.null, .null, .int 0, .int 0] cfI_J1_init_2 q1022 (mc_J1_init_2 ok.wo (xL x) C a n ht) rfl rfl (Nat.le_of_ble_eq_true rfl) ⟨by decide, by decide⟩ ⟨by decide, by decide⟩ dX11_init_5 (resVR fun C1 h1 => ?_)
  refine g_aload_n ok 0 dX11_init_8 rfl ?_
  refine g_iload_n ok 1 dX11_init_9 rfl ?_
  have ht1 : cT C1 a = some (16, n) := by show C1.2.2.2.2.2.1 a = _; rw [h1.2.1]; exact ht
  refine g_putF (C := C1) ok hnm (a := a) (c := 16) (n := n) ht1 (by decide) rfl in_X11 tyX11 tyX11_ok nmX11 6 (by decide) q1028 rfl rfl rfl rfl (C1 := wDI C1 166 a pl) ⟨rfl, rfl, rfl, rfl, rfl⟩ rfl (fun b hb => sD_I hb) (fun i hi => by
    have : i = 0 ∨ i = 1 ∨ i = 2 ∨ i = 3 ∨ i = 4 ∨ i = 5 ∨ i = 6 := by omega
    rcases this with rfl | rfl | rfl | rfl | rfl | rfl | rfl <;> simp [dObj, updV, wDI, up2]) dX11_init_10 ?_
  refine g_vret ok dX11_init_13 ⟨rfl, ⟨⟨h1.1.1, h1.1.2.1, h1.1.2.2.1, h1.1.2.2.2.1, h1.1.2.2.2.2⟩, h1.2.1, fun b hb => (h1.2.2 b hb).tr (sD_I hb)⟩, wDI_s _ _ _ _⟩
theorem exc_dy {w : WD} {C : CS} {H : Heap} {a n : Nat} (wk : wOk w) (h : hA w C H) (ht : cT C a = some (16, n)) : exc w "TwoGuilds$Faulty" a H := by
  obtain ⟨hd, -⟩ := h.2.2.2 a _ ht
  unfold dynAt at hd
  rw [if_pos (show ((16, n) : Nat × Nat).1 < 50 from (by decide : 16 < 50))] at hd
  obtain ⟨r, e1, cell, q1, q2, q3, q4⟩ := hd
  exact ⟨cell, q1, q3, by rw [q2]; exact (wk.K.1 16 _ rfl).2.1⟩
theorem nv_16 {w : WD} {C : CS} (a k : Nat) (h : k < 7) : defaultValue (tyX11 k) = dObj w (nwC C a 16) 16 a k := by
  have : k = 0 ∨ k = 1 ∨ k = 2 ∨ k = 3 ∨ k = 4 ∨ k = 5 ∨ k = 6 := by omega
  rcases this with rfl | rfl | rfl | rfl | rfl | rfl | rfl <;> simp [dObj, nwC, va_rf, tyX11, defaultValue]
/-- a new Faulty with the place pl lies at a, and all else is as it was -/
def fyE (C : CS) (pl : Int32) (a : Nat) (C1 : CS) : Prop := cT C a = none ∧ sameF C1 C ∧ (∃ n, cT C1 a = some (16, n)) ∧ cDI C1 166 a = pl ∧ ∀ b, b ≠ a → cT C1 b = cT C b ∧ sameD C1 C b
theorem mc_X0_must {w : WD} (wk : wOk w) (l : Launch) (C : CS) (a0 : Int32) (hp : ¬ a0 = 0) : MC w l yX0_must cX0_must 2 none 1 0 0 [.ref (ad w 0), .int a0] C (pV C) := by
  refine MC.of wk (by decide) (Nat.le_of_ble_eq_true rfl) (fun x hx ok => ?_)
  subst hx
  show G w x 2 0 0 (QM w x _ 0 0) C 0 [(0, .ref (ad w 0)), (1, .int a0)] []
  refine g_iload_n ok 1 dX0_must_0 rfl ?_
  refine g_if_ne (tgt := 16) ok dX0_must_1 (by decide) (fun _ => ?_) (fun z => absurd z hp)
  exact g_vret ok dX0_must_16 ⟨rfl, rfl⟩
theorem mt_X0_must {w : WD} (wk : wOk w) (l : Launch) (C : CS) : MT w l yX0_must cX0_must 2 none 8 1 7 [.ref (ad w 0), .int 0] C (fun a C1 _ => fyE C (C.1 0 14) a C1) := by
  refine MT.of wk (by decide) (Nat.le_of_ble_eq_true rfl) (fun x hx ok ht => ?_)
  subst hx
  show G w x 2 0 0 (QT w x _ 1 7) C 0 [(0, .ref (ad w 0)), (1, .int 0)] []
  refine g_iload_n ok 1 dX0_must_0 rfl ?_
  refine g_if_ne (tgt := 16) ok dX0_must_1 (by decide) (fun z => absurd rfl z) (fun _ => ?_)
  refine g_newD ok 16 (by decide) rfl in_X11 tyX11 tyX11_ok nv_16 q933 q1011 q94 ⟨by decide, by decide⟩ dX0_must_4 (fun d hd => ?_)
  refine g_dup ok dX0_must_7 rfl ?_
  refine g_aload_n ok 0 dX0_must_8 rfl ?_
  refine g_get ok 0 rfl rfl in_X0 14 (by decide) q196 rfl dX0_must_9 ?_
  refine g_callI ok [.int (C.1 0 14)] cfI_X11_init q1019 (mc_X11_init ok.wo (xL x) (nwC C d 16) d 0 (C.1 0 14) (nwC_T C d 16)) rfl rfl (Nat.le_of_ble_eq_true rfl) ⟨by decide, by decide⟩ ⟨by decide, by decide⟩ dX0_must_12 (resVR fun C1 h1 => ?_)
  have hf : fyE C (C.1 0 14) d C1 := by
    obtain ⟨⟨h2, h3, h4⟩, h5⟩ := h1
    refine ⟨hd, h2, ⟨0, by show C1.2.2.2.2.2.1 d = _; rw [h3]; exact nwC_T C d 16⟩, h5, fun b hb => ⟨by show C1.2.2.2.2.2.1 b = _; rw [h3]; exact nwC_Tn hb, ?_⟩⟩
    exact sameD.tr (⟨fun k => if_neg hb, fun k => if_neg hb, fun _ => rfl, fun _ => rfl⟩ : sameD (nwC C d 16) C b) (h4 b hb)
  refine g_athrow ok (E := fun _ => True) (fun _ _ => trivial) dX0_must_15 ?_
  exact gt_leave ok ht (fun _ _ _ => hf)
