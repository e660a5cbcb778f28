/-! THE HEAP'S ROWS: fields and arrays of the fixed cells; contracts, calls, ends -/
theorem fixAt.kept {w : WD} {C : CS} {H H1 : Heap} {j : Nat} (h : fixAt w C H j) (e : H1[ad w j]? = H[ad w j]?) : fixAt w C H1 j := by
  obtain ⟨a1, a2, a3, a4, a5⟩ := h
  refine ⟨fun t n q => by rw [e]; exact a1 t n q, fun t n q => by rw [e]; exact a2 t n q, fun c V q => ?_, fun q => by rw [e]; exact a4 q, fun q => by rw [e]; exact a5 q⟩
  obtain ⟨r, h1, h2⟩ := a3 c V q
  exact ⟨r, h1, h2.kept e⟩
theorem dynAt.kept {w : WD} {C : CS} {H H1 : Heap} {a : Nat} {tg : Nat × Nat} (h : dynAt w C H a tg) (e : H1[a]? = H[a]?) : dynAt w C H1 a tg := by
  unfold dynAt at h ⊢
  split
  · rename_i g
    rw [if_pos g] at h
    obtain ⟨r, h1, h2⟩ := h
    exact ⟨r, h1, h2.kept e⟩
  · rename_i g
    rw [if_neg g] at h
    split
    · rename_i g2
      rw [if_pos g2] at h
      obtain ⟨r, h1, h2, cell, kC, h3, h4⟩ := h
      exact ⟨r, h1, h2.kept e, cell, kC, e.trans h3, h4⟩
    · rename_i g2
      rw [if_neg g2] at h
      split
      · rename_i g3
        rw [if_pos g3] at h
        rw [e]; exact h
      · rename_i g3
        rw [if_neg g3] at h
        rw [e]; exact h
/-- a fixed cell is written -/
theorem hA.step {w : WD} {C C1 : CS} {H H1 : Heap} {j : Nat} (ok : wOk w) (h : hA w C H) (hj : j < 60) (hz : H1.size = H.size) (ho : ∀ q : Nat, q ≠ ad w j → H1[q]? = H[q]?)
    (hfix : fixAt w C1 H1 j) (hoth : ∀ i, i < 60 → i ≠ j → fixAt w C H1 i → fixAt w C1 H1 i) (hT : C1.2.2.2.2.2.1 = C.2.2.2.2.2.1) (hdyn : ∀ a tg, dynAt w C H1 a tg → dynAt w C1 H1 a tg) : hA w C1 H1 := by
  obtain ⟨b1, b2, b3, b4⟩ := h
  refine ⟨by rw [hz]; exact b1, fun q hq => ?_, fun i hi => ?_, fun a tg ha => ?_⟩
  · rw [ho q (fun e => ?_)]
    · exact b2 q hq
    · have := ok.ge j hj
      rw [e] at hq
      exact absurd hq (Nat.not_lt.mpr this)
  · by_cases hij : i = j
    · subst hij; exact hfix
    · exact hoth i hi hij ((b3 i hi).kept (ho _ (fun e => hij (ok.inj i j hi hj e))))
  · rw [hT] at ha
    obtain ⟨c1, c2, c3, c4⟩ := b4 a tg ha
    exact ⟨hdyn a tg (c1.kept (ho a (c4 j hj))), c2, by rw [hz]; exact c3, c4⟩
theorem fArr_lt {j t n : Nat} (h : fArr j = some (t, n)) : j < 60 := by
  unfold fArr at h
  split at h <;> first | omega | cases h
theorem fRef_lt {j t n : Nat} (h : fRef j = some (t, n)) : j < 60 := by
  unfold fRef at h
  split at h <;> first | omega | cases h
theorem fObj_lt {w : WD} {C : CS} {j c : Nat} {V : Nat → Value} (h : fObj w C j = some (c, V)) : j < 60 := by
  unfold fObj at h
  split at h <;> first | omega | cases h
theorem fArr_ref {j t n : Nat} (h : fArr j = some (t, n)) : fRef j = none := by
  unfold fArr at h
  split at h <;> first | rfl | cases h
theorem fArr_obj {w : WD} {C : CS} {j t n : Nat} (h : fArr j = some (t, n)) : fObj w C j = none := by
  unfold fArr at h
  split at h <;> first | rfl | cases h
theorem fArr_12 {j t n : Nat} (h : fArr j = some (t, n)) : j ≠ 12 ∧ j ≠ 13 := by
  unfold fArr at h
  split at h <;> first | (constructor <;> omega) | cases h
theorem fObj_arr {w : WD} {C : CS} {j c : Nat} {V : Nat → Value} (h : fObj w C j = some (c, V)) : fArr j = none ∧ fRef j = none ∧ j ≠ 12 ∧ j ≠ 13 := by
  unfold fObj at h
  split at h <;> first | (refine ⟨rfl, rfl, ?_, ?_⟩ <;> omega) | cases h
theorem fval_wI {w : WD} {C : CS} {j k : Nat} {v : Int32} {i : Nat} (f : Nat → Option Nat) (h : i ≠ j) (q : Nat) : fval w (wI C j k v) i f q = fval w C i f q := by
  unfold fval
  split
  · simp [wI, up2, h]
  · rfl
theorem fObj_wI_ne {w : WD} {C : CS} {j k : Nat} {v : Int32} {i : Nat} (h : i ≠ j) : fObj w (wI C j k v) i = fObj w C i := by
  have e : ∀ f, fval w (wI C j k v) i f = fval w C i f := fun f => funext fun q => fval_wI f h q
  unfold fObj
  split <;> first | rfl | (rw [e]; rfl) | (simp only [e]; rfl) | rw [e]
/-- a number array of a fixed cell is written -/
theorem hA.stepA {w : WD} {C : CS} {H H1 : Heap} {j t n i : Nat} {v : Int32} (ok : wOk w) (h : hA w C H) (hf : fArr j = some (t, n)) (hz : H1.size = H.size) (ho : ∀ q : Nat, q ≠ ad w j → H1[q]? = H[q]?)
    (hn : H1[ad w j]? = some ((arrV (wC w t) n (fun i => .int (C.2.1 j i))).setSlot i (.int v))) : hA w (wA C j i v) H1 := by
  refine hA.step ok h (fArr_lt hf) hz ho ?_ ?_ rfl ?_
  · refine ⟨fun t2 n2 q => ?_, fun t2 n2 q => ?_, fun c V q => ?_, fun q => absurd q (fArr_12 hf).1, fun q => absurd q (fArr_12 hf).2⟩
    · rw [hf] at q
      cases q
      rw [hn, arrV_store]
      congr 2
      funext m
      by_cases hm : m = i
      · subst hm; simp [updV, wA, up2]
      · simp [updV, wA, up2, hm]
    · rw [fArr_ref hf] at q; cases q
    · rw [fArr_obj hf] at q; cases q
  · intro i2 _ hne hx
    obtain ⟨a1, a2, a3, a4, a5⟩ := hx
    refine ⟨fun t2 n2 q => ?_, a2, a3, a4, a5⟩
    rw [a1 t2 n2 q]
    congr 2
    funext m
    simp [wA, up2, hne]
  · intro a tg hx; exact hx
/-- an int field of a fixed cell is written -/
theorem hA.stepI {w : WD} {C : CS} {H H1 : Heap} {j c k : Nat} {v : Int32} {V : Nat → Value} {r : vw_C} (ok : wOk w) (h : hA w C H) (hf : fObj w C j = some (c, V)) (hr : cls[c]? = some r) (hz : H1.size = H.size) (ho : ∀ q : Nat, q ≠ ad w j → H1[q]? = H[q]?)
    (hn : t_OB (ad w j) ((wD w).1 c) r.2.2 ((wD w).2 c) H1 (updV V k (.int v))) (hV : ∀ c2 V2, fObj w (wI C j k v) j = some (c2, V2) → c2 = c ∧ ∀ i, V2 i = updV V k (.int v) i) : hA w (wI C j k v) H1 := by
  obtain ⟨e1, e2, e3, e4⟩ := fObj_arr hf
  refine hA.step ok h (fObj_lt hf) hz ho ?_ ?_ rfl ?_
  · refine ⟨fun t2 n2 q => ?_, fun t2 n2 q => ?_, fun c2 V2 q => ?_, fun q => absurd q e3, fun q => absurd q e4⟩
    · rw [e1] at q; cases q
    · rw [e2] at q; cases q
    · obtain ⟨rfl, h2⟩ := hV c2 V2 q
      exact ⟨r, hr, hn.to (fun i _ => (h2 i).symm)⟩
  · intro i2 _ hne hx
    obtain ⟨a1, a2, a3, a4, a5⟩ := hx
    refine ⟨a1, a2, fun c2 V2 q => ?_, a4, a5⟩
    rw [fObj_wI_ne hne] at q
    exact a3 c2 V2 q
  · intro a tg hx; exact hx
section HROWS
variable {w : WD} {x : Cx} {cc : ByteArray} {nL : Nat} {own : String} {ret : Option FieldType} {rm : Room} {cells slots : Nat} {Q : State → Prop} {C : CS} {pc : Nat} {lv : List (Nat × Value)} {st : List Value}
/-- a field of a fixed object is read -/
theorem g_get (ok : Ok w x cc nL own ret rm) (j : Nat) {c : Nat} {V : Nat → Value} (ho : fObj w C j = some (c, V)) {cn : String} {T : u_T} {N : Nat} (hc : cls[c]? = some (cn, T, N)) (hin : ∀ q ∈ u_ws cn T N, q ∈ lw_all) (k : Nat) (hk : k < N) {idx : Nat} (q : Cond.fieldLink own idx (T k).1 (T k).2.1 (T k).2.2.1 ∈ lw_all) {v : Value} (hv : V k = v) (d : decode cc pc = .ok (.getfield idx, 3))
    (kk : G w x nL cells slots Q C (pc + 3) lv (v :: st)) : G w x nL cells slots Q C pc lv (.ref (ad w j) :: st) := by
  intro H locs ls h1 h2 h3
  obtain ⟨r, e1, cell, q1, q2, q3, q4⟩ := (h1.2.2.1 j (fObj_lt ho)).2.2.1 c V ho
  have hr : r = (cn, T, N) := Option.some.inj (e1.symm.trans hc)
  subst hr
  obtain ⟨hS, hfc, kC, hkC, hkind⟩ := ok.K.1 c _ hc
  obtain ⟨cf, kf, fi, f, hi, hsl⟩ := hS k hk
  refine W.getf ok.ex ok.cd ok.ow (ok.wd q) hi (u_facts hfc hkC (u_lays ok.ts hin hk) hi).1 q1 (by rw [q3]; exact fun h => by cases h) (v := v) ?_ rfl rfl d (kk H locs ls h1 h2 h3)
  rw [hsl, q4 k hk, hv]
/-- an int field of a fixed object is written -/
theorem g_putI (ok : Ok w x cc nL own ret rm) (j : Nat) {c : Nat} {V : Nat → Value} (ho : fObj w C j = some (c, V)) {cn : String} {T : u_T} {N : Nat} (hc : cls[c]? = some (cn, T, N)) (hin : ∀ q ∈ u_ws cn T N, q ∈ lw_all) (ty0 : Nat → FieldType) (hty : ∀ k, k < N → parseFieldDescriptor (T k).2.2.1 = some (ty0 k)) (hnm : ∀ a, a < N → ∀ b, b < N → a ≠ b → (T a).2.1 ≠ (T b).2.1) (k : Nat) (hk : k < N) {idx : Nat} (q : Cond.fieldLink own idx (T k).1 (T k).2.1 (T k).2.2.1 ∈ lw_all) (hfin : (T k).2.2.2 = false) {v : Int32} (hn : narrow (ty0 k) (.int v) = .int v) (hfit : fits (ty0 k) (.int v) = true)
    (hV : ∀ c2 V2, fObj w (wI C j k v) j = some (c2, V2) → c2 = c ∧ ∀ i, V2 i = updV V k (.int v) i) (d : decode cc pc = .ok (.putfield idx, 3))
    (kk : ∀ C1, C1 = wI C j k v → G w x nL cells slots Q C1 (pc + 3) lv st) : G w x nL cells slots Q C pc lv (.int v :: .ref (ad w j) :: st) := by
  intro H locs ls h1 h2 h3
  obtain ⟨r, e1, cell, q1, q2, q3, q4⟩ := (h1.2.2.1 j (fObj_lt ho)).2.2.1 c V ho
  have hr : r = (cn, T, N) := Option.some.inj (e1.symm.trans hc)
  subst hr
  have hap := va_apart (own := own) ok.ts hin ty0 hty hnm ok.K hc
  obtain ⟨hS, hfc, kC, hkC, hkind⟩ := ok.K.1 c _ hc
  obtain ⟨cf, kf, fi, f, hi, hsl⟩ := hS k hk
  have hlay := ok.ts _ (hin _ (u_in_lay hk))
  unfold u_lay at hlay
  rw [if_neg (by rw [hfin]; decide)] at hlay
  have hst := (u_facts hfc hkC (u_lays ok.ts hin hk) hi).1
  have h6 := u_store hfc hkC hkind hlay hi (hty k hk) hn hfit
  refine W.putK ok.ex ok.cd (f := f) ⟨ok.ow, ok.wd q, ⟨_, _, _, hi⟩, hst⟩ (by rw [q2]; exact h6) q1 q3 (by rw [hsl]; exact k2_hasslot (q4 k hk)) rfl rfl d fun H' e1' e2' e3' => ?_
  rw [hsl] at e1' ⊢
  refine kk _ rfl H' _ ls (hA.stepI ok.wo h1 ho hc e2' e3' ⟨_, e1', q2, q3, t_set q4 hap hk _⟩ hV) (fun l hl => ?_) h3
  rcases List.mem_append.mp hl with h | h
  · exact h2 l h
  · rw [List.mem_singleton.mp h]; exact ok.wo.ge j (fObj_lt ho)
theorem vp_lt {i : Int32} {n : Nat} (h : vp_in i n) : i.toNatClampNeg < n := Nat.not_le.mp fun q => h (Or.inr q)
theorem g_iald (ok : Ok w x cc nL own ret rm) (j : Nat) {n : Nat} (hf : fArr j = some (0, n)) {i : Int32} (hin : vp_in i n) (m : Nat) (hm : i.toNatClampNeg = m) (d : decode cc pc = .ok (.iaload, 1))
    (kk : G w x nL cells slots Q C (pc + 1) lv (.int (C.2.1 j m) :: st)) : G w x nL cells slots Q C pc lv (.int i :: .ref (ad w j) :: st) := by
  subst hm
  intro H locs ls h1 h2 h3
  exact W.iald (v := .int (C.2.1 j i.toNatClampNeg)) ok.ex ok.cd ((h1.2.2.1 j (fArr_lt hf)).1 _ _ hf) ((ok.K.2 0 _ rfl).1 n (fun i => .int (C.2.1 j i))) (fun q => by cases q) (by rw [arrV_size]; exact hin) (by rw [arrV_read _ _ (vp_lt hin)]) rfl rfl d (kk H locs ls h1 h2 h3)
theorem g_bald (ok : Ok w x cc nL own ret rm) (j : Nat) {n : Nat} (hf : fArr j = some (1, n)) {i : Int32} (hin : vp_in i n) (m : Nat) (hm : i.toNatClampNeg = m) (d : decode cc pc = .ok (.baload, 1))
    (kk : G w x nL cells slots Q C (pc + 1) lv (.int (C.2.1 j m) :: st)) : G w x nL cells slots Q C pc lv (.int i :: .ref (ad w j) :: st) := by
  subst hm
  intro H locs ls h1 h2 h3
  exact W.bald (v := .int (C.2.1 j i.toNatClampNeg)) ok.ex ok.cd ((h1.2.2.1 j (fArr_lt hf)).1 _ _ hf) ((ok.K.2 1 _ rfl).1 n (fun i => .int (C.2.1 j i))) (fun q => by cases q) (by rw [arrV_size]; exact hin) (by rw [arrV_read _ _ (vp_lt hin)]) rfl rfl d (kk H locs ls h1 h2 h3)
theorem g_zald (ok : Ok w x cc nL own ret rm) (j : Nat) {n : Nat} (hf : fArr j = some (3, n)) {i : Int32} (hin : vp_in i n) (m : Nat) (hm : i.toNatClampNeg = m) (d : decode cc pc = .ok (.baload, 1))
    (kk : G w x nL cells slots Q C (pc + 1) lv (.int (C.2.1 j m) :: st)) : G w x nL cells slots Q C pc lv (.int i :: .ref (ad w j) :: st) := by
  subst hm
  intro H locs ls h1 h2 h3
  exact W.zald (v := .int (C.2.1 j i.toNatClampNeg)) ok.ex ok.cd ((h1.2.2.1 j (fArr_lt hf)).1 _ _ hf) ((ok.K.2 3 _ rfl).1 n (fun i => .int (C.2.1 j i))) (fun q => by cases q) (by rw [arrV_size]; exact hin) (by rw [arrV_read _ _ (vp_lt hin)]) rfl rfl d (kk H locs ls h1 h2 h3)
theorem g_cald (ok : Ok w x cc nL own ret rm) (j : Nat) {n : Nat} (hf : fArr j = some (2, n)) {i : Int32} (hin : vp_in i n) (m : Nat) (hm : i.toNatClampNeg = m) (d : decode cc pc = .ok (.caload, 1))
    (kk : G w x nL cells slots Q C (pc + 1) lv (.int (C.2.1 j m) :: st)) : G w x nL cells slots Q C pc lv (.int i :: .ref (ad w j) :: st) := by
  subst hm
  intro H locs ls h1 h2 h3
  exact W.cald (v := .int (C.2.1 j i.toNatClampNeg)) ok.ex ok.cd ((h1.2.2.1 j (fArr_lt hf)).1 _ _ hf) ((ok.K.2 2 _ rfl).1 n (fun i => .int (C.2.1 j i))) (fun q => by cases q) (by rw [arrV_size]; exact hin) (by rw [arrV_read _ _ (vp_lt hin)]) rfl rfl d (kk H locs ls h1 h2 h3)
theorem g_iast (ok : Ok w x cc nL own ret rm) (j : Nat) {n : Nat} (hf : fArr j = some (0, n)) {i v : Int32} (hin : vp_in i n) (m : Nat) (hm : i.toNatClampNeg = m) (d : decode cc pc = .ok (.iastore, 1))
    (kk : ∀ C1, C1 = wA C j m v → G w x nL cells slots Q C1 (pc + 1) lv st) : G w x nL cells slots Q C pc lv (.int v :: .int i :: .ref (ad w j) :: st) := by
  subst hm
  intro H locs ls h1 h2 h3
  refine W.iast ok.ex ok.cd ((h1.2.2.1 j (fArr_lt hf)).1 _ _ hf) ((ok.K.2 0 _ rfl).1 n (fun i => .int (C.2.1 j i))) (fun q => by cases q) (by rw [arrV_size]; exact hin) rfl rfl d fun H1 e z oq => ?_
  refine kk _ rfl H1 _ ls (hA.stepA ok.wo h1 hf z oq e) (fun l hl => ?_) h3
  rcases List.mem_append.mp hl with h | h
  · exact h2 l h
  · rw [List.mem_singleton.mp h]; exact ok.wo.ge j (fArr_lt hf)
theorem g_bast (ok : Ok w x cc nL own ret rm) (j : Nat) {n : Nat} (hf : fArr j = some (1, n)) {i v : Int32} (hin : vp_in i n) (m : Nat) (hm : i.toNatClampNeg = m) (hv : narrow .byte (.int v) = .int v) (d : decode cc pc = .ok (.bastore, 1))
    (kk : ∀ C1, C1 = wA C j m v → G w x nL cells slots Q C1 (pc + 1) lv st) : G w x nL cells slots Q C pc lv (.int v :: .int i :: .ref (ad w j) :: st) := by
  subst hm
  intro H locs ls h1 h2 h3
  refine W.bast ok.ex ok.cd ((h1.2.2.1 j (fArr_lt hf)).1 _ _ hf) ((ok.K.2 1 _ rfl).1 n (fun i => .int (C.2.1 j i))) (fun q => by cases q) (by rw [arrV_size]; exact hin) rfl rfl d fun H1 e z oq => ?_
  refine kk _ rfl H1 _ ls (hA.stepA ok.wo h1 hf z oq (by rw [e, hv])) (fun l hl => ?_) h3
  rcases List.mem_append.mp hl with h | h
  · exact h2 l h
  · rw [List.mem_singleton.mp h]; exact ok.wo.ge j (fArr_lt hf)
theorem g_zast (ok : Ok w x cc nL own ret rm) (j : Nat) {n : Nat} (hf : fArr j = some (3, n)) {i v : Int32} (hin : vp_in i n) (m : Nat) (hm : i.toNatClampNeg = m) (hv : narrow .boolean (.int v) = .int v) (d : decode cc pc = .ok (.bastore, 1))
    (kk : ∀ C1, C1 = wA C j m v → G w x nL cells slots Q C1 (pc + 1) lv st) : G w x nL cells slots Q C pc lv (.int v :: .int i :: .ref (ad w j) :: st) := by
  subst hm
  intro H locs ls h1 h2 h3
  refine W.zast ok.ex ok.cd ((h1.2.2.1 j (fArr_lt hf)).1 _ _ hf) ((ok.K.2 3 _ rfl).1 n (fun i => .int (C.2.1 j i))) (fun q => by cases q) (by rw [arrV_size]; exact hin) rfl rfl d fun H1 e z oq => ?_
  refine kk _ rfl H1 _ ls (hA.stepA ok.wo h1 hf z oq (by rw [e, hv])) (fun l hl => ?_) h3
  rcases List.mem_append.mp hl with h | h
  · exact h2 l h
  · rw [List.mem_singleton.mp h]; exact ok.wo.ge j (fArr_lt hf)
end HROWS
/-! contracts -/
abbrev ws1 (y : MethodName) (code : ByteArray) (nL : Nat) (ret : Option FieldType) : List Cond := [Cond.code y code nL ret]
def rmL (L mc ms : Nat) : Room := { frames := L, cells := mc, slots := ms, locals := 40 * L }
def qQ (w : WD) (post : Option Value → CS → Prop) : Array Value → State → Outcome → State → Prop := fun _ _ oc t => ∃ (v : Option Value) (C1 : CS), oc = .returned v ∧ post v C1 ∧ hA w C1 t.heap
/-- the method y, called with args in the world C, returns, and post holds of the answer and the new world; L: how deep; mc, ms: what it makes -/
def MC (w : WD) (l : Launch) (y : MethodName) (code : ByteArray) (nL : Nat) (ret : Option FieldType) (L mc ms : Nat) (args : List Value) (C : CS) (post : Option Value → CS → Prop) : Prop :=
  Met l y (ws1 y code nL ret) (rmL L mc ms) (va_Pc args (fun U => KW w U ∧ hA w C U.heap)) (qQ w post) mc ms (fr w)
abbrev QM (w : WD) (x : Cx) (post : Option Value → CS → Prop) (mc ms : Nat) : State → Prop := MQ (xB x) (qQ w post) (xA x) (xS x) mc ms (fr w)
theorem MC.of {w : WD} {l : Launch} {y : MethodName} {code : ByteArray} {nL : Nat} {ret : Option FieldType} {L mc ms : Nat} {args : List Value} {C : CS} {post : Option Value → CS → Prop} (hw : wOk w) (hy : plainName y.cls = true) (hl : (lg_sl args).length ≤ nL)
    (body : ∀ x : Cx, xL x = l → Ok w x code nL y.cls ret (rmL L mc ms) → G w x nL 0 0 (QM w x post mc ms) C 0 (lv_args 0 args) []) : MC w l y code nL ret L mc ms args C post := by
  refine Met.ofW (cc := code) (maxL := nL) (ret := ret) hy rfl ?_
  intro p e s m a below meth c s₁ B hml hv
  obtain ⟨rfl, hk, hh⟩ := hv
  have h := body (p, l, e, rmL L mc ms, s, m, args.toArray, below, meth, c) rfl ⟨hw, B.exec, B.bytes, hml, findClass_of_methodNamed B.named, hk, B.notSynchronized, B.returns, rfl⟩
  have h2 := h s.heap [] _ hh (fun q hq => by cases hq) (lv_entry args (n := nL) hl)
  rw [lg_entry_eq]
  exact h2
theorem blindA {w : WD} {args : List Value} {C : CS} : FrameBlind (va_Pc args (fun U => KW w U ∧ hA w C U.heap)) := by
  intro a U g mk h
  obtain ⟨h1, h2, h3⟩ := h
  exact ⟨h1, h2, h3⟩
/-- what the tables say of a method that is called: through an object of class cn -/
def CfV (y : MethodName) (cn : String) (code : ByteArray) (nL : Nat) (ret : Option FieldType) (n : Nat) : Prop :=
  (y.cls ≠ "java/lang/invoke/MethodHandle" ∧ y.cls ≠ "java/lang/invoke/VarHandle" ∧ (parseMethodDescriptor y.desc).map (fun d => d.parameters.length) = some n) ∧ Cond.initialized y.cls ∈ lw_all ∧ Cond.code y code nL ret ∈ lw_all ∧ Cond.instanceMethod y ∈ lw_all ∧ Cond.selects cn y y ∈ lw_all
/-- of a static one -/
def CfS (y : MethodName) (code : ByteArray) (nL : Nat) (ret : Option FieldType) (n : Nat) : Prop :=
  (y.cls ≠ "java/lang/invoke/MethodHandle" ∧ y.cls ≠ "java/lang/invoke/VarHandle" ∧ (parseMethodDescriptor y.desc).map (fun d => d.parameters.length) = some n) ∧ Cond.initialized y.cls ∈ lw_all ∧ Cond.code y code nL ret ∈ lw_all ∧ Cond.static y ∈ lw_all
section CALLS
variable {w : WD} {x : Cx} {cc : ByteArray} {nL : Nat} {own : String} {ret : Option FieldType} {rm : Room} {cells slots : Nat} {Q : State → Prop} {C : CS} {pc : Nat} {lv : List (Nat × Value)} {st : List Value}
variable {y : MethodName} {cn : String} {code : ByteArray} {nL2 : Nat} {ret2 : Option FieldType} {n idx L mc ms : Nat} {post : Option Value → CS → Prop} {As rest : List Value} {b : Nat}
theorem callB1 (ok : Ok w x cc nL own ret rm) (hd : y.cls ≠ "java/lang/invoke/MethodHandle" ∧ y.cls ≠ "java/lang/invoke/VarHandle" ∧ (parseMethodDescriptor y.desc).map (fun d => d.parameters.length) = some n) (hini : Cond.initialized y.cls ∈ lw_all) (hcode : Cond.code y code nL2 ret2 ∈ lw_all) (ql : Cond.methodLink own idx y ∈ lw_all) (hR : L + 1 ≤ rm.frames ∧ 8 + (nL2 + 11) + 40 * L ≤ rm.locals) :
    CallB (xR x) (xS x) (xA x) own idx y code nL2 ret2 (ws1 y code nL2 ret2) (rmL L mc ms) mc ms n := by
  refine callB_of (ws' := []) n ok.ts (fun q hq => ?_) rfl rfl rfl (ok.wd hini) (ok.wd ql) hd (by rw [ok.ro]; exact hR)
  rw [List.mem_singleton.mp hq]
  exact lw_self _ hcode
theorem g_run (ok : Ok w x cc nL own ret rm) {a : Array Value} (hr : ∀ (H : Heap) (locs : List Loc) (ls : Array Slot), hA w C H → lv_has ls nL lv → va_Run (xP x) (xL x) (xE x) (xR x) (xS x) (xM x) (xA x) (xB x) (xT x) (xC x) H locs cells slots mc ms (F0 (xM x) pc ls st) rest (qQ w post a) (fr w))
    (k : ∀ v C1, post v C1 → G w x nL (cells + mc) (slots + ms) Q C1 (pc + 3) lv (v.toList ++ rest)) : G w x nL cells slots Q C pc lv st := by
  intro H locs ls h1 h2 h3 T hT X
  obtain ⟨v, st₀, t, T', L2, h0, X', hL, e1, e2, ⟨v2, C1, hv, hp, hb⟩, stp⟩ := hr H locs ls h1 h3 T hT X
  cases hv
  obtain ⟨t2, a1, b1⟩ := k v C1 hp T'.heap (locs ++ L2) ls (by rw [e1]; exact hb) (fun q hq => by
      rcases List.mem_append.mp hq with h | h
      · exact h2 q h
      · exact hL q h) h3 T' rfl X'
  exact ⟨t2, stp t2 a1, b1⟩
/-- a call through an object -/
theorem g_callV (ok : Ok w x cc nL own ret rm) (As : List Value) (cf : CfV y cn code nL2 ret2 n) (ql : Cond.methodLink own idx y ∈ lw_all) (hM : MC w (xL x) y code nL2 ret2 L mc ms (.ref b :: As) C post)
    (hrecv : ∀ H, hA w C H → ∃ cell : Cell, H[b]? = some cell ∧ cell.vm.isStatics = false ∧ (xS x).vm.findClass cn = some cell.cls) (hn : As.length = n) (hs : st = As.reverse ++ .ref b :: rest) (hw : (rest.map fun v => v.category).sum ≤ 8)
    (hR : L + 1 ≤ rm.frames ∧ 8 + (nL2 + 11) + 40 * L ≤ rm.locals) (hcap : cells + mc ≤ rm.cells ∧ slots + ms ≤ rm.slots) (d : decode cc pc = .ok (.invokevirtual idx, 3))
    (k : ∀ v C1, post v C1 → G w x nL (cells + mc) (slots + ms) Q C1 (pc + 3) lv (v.toList ++ rest)) : G w x nL cells slots Q C pc lv st := by
  obtain ⟨c1, c2, c3, c4, c5⟩ := cf
  refine g_run ok (a := (Value.ref b :: As).toArray) (fun H locs ls h1 h3 => ?_) k
  exact va_runV (C := cn) (As := As) (n := n) ⟨ok.ex, ok.cd, ok.ml, ok.ow, ok.ts⟩ hM ⟨callB1 ok c1 c2 c3 ql hR, ok.wd c4, ok.wd c5⟩ ⟨blindA, hrecv H h1, fun U hU hW => ⟨rfl, ok.kw.on hW, by rw [hU]; exact h1⟩⟩ rfl hn h3.1 hs (lv_room hw) d (by rw [ok.ro]; exact hcap)
/-- a static call -/
theorem g_callS (ok : Ok w x cc nL own ret rm) (As : List Value) (cf : CfS y code nL2 ret2 n) (ql : Cond.methodLink own idx y ∈ lw_all) (hM : MC w (xL x) y code nL2 ret2 L mc ms As C post)
    (hn : As.length = n) (hs : st = As.reverse ++ rest) (hw : (rest.map fun v => v.category).sum ≤ 8)
    (hR : L + 1 ≤ rm.frames ∧ 8 + (nL2 + 11) + 40 * L ≤ rm.locals) (hcap : cells + mc ≤ rm.cells ∧ slots + ms ≤ rm.slots) (d : decode cc pc = .ok (.invokestatic idx, 3))
    (k : ∀ v C1, post v C1 → G w x nL (cells + mc) (slots + ms) Q C1 (pc + 3) lv (v.toList ++ rest)) : G w x nL cells slots Q C pc lv st := by
  obtain ⟨c1, c2, c3, c4⟩ := cf
  refine g_run ok (a := As.toArray) (fun H locs ls h1 h3 => ?_) k
  exact va_runS (As := As) (n := n) ⟨ok.ex, ok.cd, ok.ml, ok.ow, ok.ts⟩ hM ⟨callB1 ok c1 c2 c3 ql hR, ok.wd c4⟩ ⟨blindA, fun U hU hW => ⟨rfl, ok.kw.on hW, by rw [hU]; exact h1⟩⟩ rfl hn h3.1 hs (lv_room hw) d (by rw [ok.ro]; exact hcap)
/-- an object of a fixed cell as a receiver -/
theorem recvF (ok : Ok w x cc nL own ret rm) (j : Nat) {c : Nat} {V : Nat → Value} (ho : fObj w C j = some (c, V)) {cn : String} {T : u_T} {N : Nat} (hc : cls[c]? = some (cn, T, N)) : ∀ H, hA w C H → ∃ cell : Cell, H[ad w j]? = some cell ∧ cell.vm.isStatics = false ∧ (xS x).vm.findClass cn = some cell.cls := by
  intro H h1
  obtain ⟨r, e1, cell, q1, q2, q3, q4⟩ := (h1.2.2.1 j (fObj_lt ho)).2.2.1 c V ho
  have hr : r = (cn, T, N) := Option.some.inj (e1.symm.trans hc)
  subst hr
  exact ⟨cell, q1, by rw [q3]; rfl, by rw [q2]; exact (ok.K.1 c _ hc).2.1⟩
theorem g_iret (ok : Ok w x cc nL own (some .int) rm) {v : Int32} (d : decode cc pc = .ok (.ireturn, 1)) (hq : post (some (.int v)) C) : G w x nL cells slots (QM w x post cells slots) C pc lv [.int v] :=
  fun H locs ls h1 h2 h3 => W.iret ok.ex ok.cd ok.rt (fun t ht hW => ⟨_, C, rfl, hq, by rw [ht]; exact h1⟩) h2 d ok.lk
theorem g_zret (ok : Ok w x cc nL own (some .boolean) rm) {v : Int32} (d : decode cc pc = .ok (.ireturn, 1)) (hn : v = 0 ∨ v = 1) (hq : post (some (.int v)) C) : G w x nL cells slots (QM w x post cells slots) C pc lv [.int v] :=
  fun H locs ls h1 h2 h3 => W.zret ok.ex ok.cd ok.rt (by rcases hn with rfl | rfl <;> decide) (fun t ht hW => ⟨_, C, rfl, hq, by rw [ht]; exact h1⟩) h2 d ok.lk
theorem g_vret (ok : Ok w x cc nL own none rm) (d : decode cc pc = .ok (.return_, 1)) (hq : post none C) : G w x nL cells slots (QM w x post cells slots) C pc lv [] :=
  fun H locs ls h1 h2 h3 => W.vret ok.ex ok.cd ok.rt (fun t ht hW => ⟨_, C, rfl, hq, by rw [ht]; exact h1⟩) h2 d ok.lk
end CALLS
