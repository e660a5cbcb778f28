/-! rows for exceptions that the machine makes -/
/-- the cells of the start are as they were -/
def Old (w : WD) (x : Cx) : Prop := wb w ≤ (xS x).heap.size ∧ ∀ q : Nat, q < wb w → (xS x).heap[q]? = (wS w).heap[q]?
theorem MC.of2 {w : WD} {l : Launch} {y : MethodName} {code : ByteArray} {nL : Nat} {ret : Option FieldType} {L mc ms : Nat} {args : List Value} {C : CS} {post : Option Value → CS → Prop} (hw : wOk w) (hy : plainName y.cls = true) (hl : (lg_sl args).length ≤ nL)
    (body : ∀ x : Cx, xL x = l → Ok w x code nL y.cls ret (rmL L mc ms) → Old w x → G w x nL 0 0 (QM w x post mc ms) C 0 (lv_args 0 args) []) : MC w l y code nL ret L mc ms args C post := by
  refine Met.ofW (cc := code) (maxL := nL) (ret := ret) hy rfl ?_
  intro p e s m a below meth c s₁ B hml hv
  obtain ⟨rfl, hk, hh⟩ := hv
  have h := body (p, l, e, rmL L mc ms, s, m, args.toArray, below, meth, c) rfl ⟨hw, B.exec, B.bytes, hml, findClass_of_methodNamed B.named, hk, B.notSynchronized, B.returns, rfl⟩ ⟨hh.1, hh.2.1⟩
  have h2 := h s.heap [] _ hh (fun q hq => by cases hq) (lv_entry args (n := nL) hl)
  rw [lg_entry_eq]
  exact h2
theorem MT.of2 {w : WD} {l : Launch} {y : MethodName} {code : ByteArray} {nL : Nat} {ret : Option FieldType} {L mc ms : Nat} {args : List Value} {C : CS} {post : Nat → CS → Heap → Prop} (hw : wOk w) (hy : plainName y.cls = true) (hl : (lg_sl args).length ≤ nL)
    (body : ∀ x : Cx, xL x = l → Ok w x code nL y.cls ret (rmL L mc ms) → (xC x).exceptionTable.toList = [] → Old w x → G w x nL 0 0 (QT w x post mc ms) C 0 (lv_args 0 args) []) : MT w l y code nL ret L mc ms args C post := by
  refine MetT.ofW (cc := code) (maxL := nL) (ret := ret) (ws' := []) hy rfl ?_
  intro p e s m a below meth c s₁ B hml hT hv
  obtain ⟨rfl, hk, hh⟩ := hv
  have h := body (p, l, e, rmL L mc ms, s, m, args.toArray, below, meth, c) rfl ⟨hw, B.exec, B.bytes, hml, findClass_of_methodNamed B.named, hk, B.notSynchronized, B.returns, rfl⟩ hT ⟨hh.1, hh.2.1⟩
  have h2 := h s.heap [] _ hh (fun q hq => by cases hq) (lv_entry args (n := nL) hl)
  rw [lg_entry_eq]
  exact h2
theorem MCW.of2 {w : WD} {l : Launch} {y : MethodName} {code : ByteArray} {nL : Nat} {ret : Option FieldType} {hh : List (Nat × Nat × Nat × Nat)} {L mc ms : Nat} {args : List Value} {C : CS} {post : Option Value → CS → Prop} (hw : wOk w) (hy : plainName y.cls = true) (hl : (lg_sl args).length ≤ nL)
    (body : ∀ x : Cx, xL x = l → Ok w x code nL y.cls ret (rmL L mc ms) → hTab (xC x) = hh → Old w x → G w x nL 0 0 (QM w x post mc ms) C 0 (lv_args 0 args) []) : MCW w l y code nL ret hh L mc ms args C post := by
  refine va_MetW (cc := code) (maxL := nL) (ret := ret) (hh := hh) (ws' := []) hy rfl ?_
  intro p e s m a below meth c s₁ B hml hv
  obtain ⟨rfl, hk, hh0⟩ := hv
  have hT : hTab c = hh := by
    obtain ⟨m9, meth9, c9, hn9, h1, h2, -, -, h5, -⟩ := Cond.codeWith_spec (atoms_spec (ws := [Cond.codeWith y code nL ret hh]) B.pre _ List.mem_cons_self)
    cases B.named.symm.trans hn9
    cases B.method.symm.trans h1
    have hc := B.here.code
    have : c = c9 := by
      have e1 : s₁.code? m = some c := hc
      rw [State.code?_eq] at e1
      have e2 : s₁.vm = s.vm := by rw [B.state]; rfl
      rw [e2, B.method] at e1
      exact Option.some.inj (e1.symm.trans h2)
    rw [this]
    exact h5
  have h := body (p, l, e, rmL L mc ms, s, m, args.toArray, below, meth, c) rfl ⟨hw, B.exec, B.bytes, hml, findClass_of_methodNamed B.named, hk, B.notSynchronized, B.returns, rfl⟩ hT ⟨hh0.1, hh0.2.1⟩
  have h2 := h s.heap [] _ hh0 (fun q hq => by cases hq) (lv_entry args (n := nL) hl)
  rw [lg_entry_eq]
  exact h2
theorem hA.grow {w : WD} {C : CS} {H H1 : Heap} (h : hA w C H) (hs : H.size ≤ H1.size) (ho : ∀ q : Nat, q < H.size → H1[q]? = H[q]?) : hA w C H1 :=
  ⟨Nat.le_trans h.1 hs, fun q hq => (ho q (Nat.lt_of_lt_of_le hq h.1)).trans (h.2.1 q hq), fun j hj => (h.2.2.1 j hj).kept (ho _ (h.adlt hj)), fun a tg ht => by
    obtain ⟨d1, d2, d3, d4⟩ := h.2.2.2 a tg ht
    exact ⟨d1.kept (ho a d3), d2, Nat.lt_of_lt_of_le d3 hs, d4⟩⟩
theorem ff_same {s U : State} (h : s.vm.Alike U.vm) {o n d : String} {c i : Nat} {k : Class} {f : Field} (hf : s.fieldFound? o n d = some (c, k, i, f)) :
    ∃ k', U.fieldFound? o n d = some (c, k', i, f) ∧ k' = { k with resolved := k'.resolved, nestHost := k'.nestHost, nestHostError := k'.nestHostError } := by
  obtain ⟨k', h1, h2⟩ := State.fieldFound?_setVm h hf
  have : U.fieldFound? = (s.setVm U.vm).fieldFound? := by funext a b c; simp only [State.fieldFound?]; rfl
  exact ⟨k', by rw [this]; exact h1, h2⟩
theorem laysStatic_at {s U : State} (hW : s.WarmedH U.vm) (hh : ∀ q : Nat, q < s.heap.size → U.heap[q]? = s.heap[q]?) {o n d : String} {a a' : Array Value} (h : (Cond.laysStatic o n d).before a s = true) : (Cond.laysStatic o n d).before a' U = true := by
  obtain ⟨c, k, i, f, ad, cell, h1, h2, h3, h4, h5, h6, h7, h8, h9⟩ := Cond.laysStatic_spec h
  obtain ⟨k', e1, he⟩ := ff_same (State.WarmedH.alike hW) h2
  have e2 : U.vm.findClass o = some c := by rw [(State.WarmedH.alike hW).findClass]; exact h1
  have e3 : k'.statics = some ad := by rw [he]; exact h4
  have e4 : U.heap[ad]? = some cell := by rw [hh ad (Array.getElem?_eq_some_iff.mp h5).1]; exact h5
  have e5 : k'.staticTypes[f.slot]? = some f.type := by rw [he]; exact h9
  show (Cond.laysStatic o n d).holds a' U none U [] = true
  simp [Cond.holds, Cond.value, e1, e2, e3, e4, e5, h3, h6, h7, h8]
theorem isRef_at {s U : State} (hW : s.WarmedH U.vm) (hh : ∀ q : Nat, q < s.heap.size → U.heap[q]? = s.heap[q]?) {o n d : String} {a a' a2 : Array Value} (hl : (Cond.laysStatic o n d).before a2 s = true) (h : (Cond.isRef (.static o n d)).before a s = true) : (Cond.isRef (.static o n d)).before a' U = true := by
  obtain ⟨c, k, i, f, ad, cell, h1, h2, h3, h4, h5, h6, h7, h8, h9⟩ := Cond.laysStatic_spec hl
  obtain ⟨k', e1, he⟩ := ff_same (State.WarmedH.alike hW) h2
  have e3 : k'.statics = some ad := by rw [he]; exact h4
  have e4 : U.heap[ad]? = some cell := by rw [hh ad (Array.getElem?_eq_some_iff.mp h5).1]; exact h5
  have he1 : (Term.static o n d).eval a s none [] s = cell.slots[f.slot]? := by simp [Term.eval, State.fieldNamed?, h2, h3, h4, h5, h6]
  have he2 : (Term.static o n d).eval a' U none [] U = cell.slots[f.slot]? := by simp [Term.eval, State.fieldNamed?, e1, h3, e3, e4, h6]
  have h : (Cond.isRef (.static o n d)).holds a s none s [] = true := h
  show (Cond.isRef (.static o n d)).holds a' U none U [] = true
  simp only [Cond.holds, Cond.value] at h ⊢
  rw [he1] at h
  rw [he2]
  exact h
/-- words that go over to a later state -/
def kd : Cond → Bool
  | .castable _ _ => true
  | .declares _ => true
  | .laysStatic _ _ _ => true
  | q => goodWord q
abbrev rs1 : Cond := .isRef (.static "java/lang/Throwable" "UNASSIGNED_STACK" "[Ljava/lang/StackTraceElement;")
abbrev rs2 : Cond := .isRef (.static "java/lang/Throwable" "SUPPRESSED_SENTINEL" "Ljava/util/List;")
def inT (q : Cond) : Prop := (q ∈ lw_tbl ∧ kd q = true) ∨ q = rs1 ∨ q = rs2
def noRef : Cond → Bool
  | .isRef _ => false
  | _ => true
theorem inT.of (L : List Cond) (ps : List Nat) (hp : L.filter noRef = ps.filterMap (fun i => lw_tbl[i]?)) (hg : (L.filter noRef).all kd = true) (hr : L.filter (fun q => !noRef q) = [rs1, rs2]) : ∀ q ∈ L, inT q := by
  intro q hq
  by_cases hn : noRef q = true
  · have h1 : q ∈ L.filter noRef := List.mem_filter.mpr ⟨hq, hn⟩
    have h2 := List.all_eq_true.mp hg q h1
    rw [hp] at h1
    obtain ⟨i, -, hi⟩ := List.mem_filterMap.mp h1
    exact Or.inl ⟨List.mem_of_getElem? hi, h2⟩
  · have h1 : q ∈ L.filter (fun q => !noRef q) := List.mem_filter.mpr ⟨hq, by simpa using hn⟩
    rw [hr] at h1
    rcases List.mem_cons.mp h1 with h | h
    · exact Or.inr (Or.inl h)
    · exact Or.inr (Or.inr (List.mem_singleton.mp h))
section ROWS6
variable {w : WD} {x : Cx} {cc : ByteArray} {nL : Nat} {own : String} {ret : Option FieldType} {rm : Room} {cells slots : Nat} {Q : State → Prop} {C : CS} {pc : Nat} {lv : List (Nat × Value)} {st : List Value}
theorem Ok.atom (ok : Ok w x cc nL own ret rm) (ho : Old w x) {q : Cond} (h : inT q) : q.before (xA x) (xS x) = true := by
  have hh : ∀ q : Nat, q < (wS w).heap.size → (xS x).heap[q]? = (wS w).heap[q]? := ho.2
  rcases h with ⟨h, k⟩ | rfl | rfl
  · by_cases g : goodWord q = true
    · exact ok.wd (lw_g h g)
    · cases q with
      | castable a b => exact va_Nw.use rfl (ok.ca h)
      | declares y => exact va_Nw.use rfl (va_Nw.warmD ok.kw (ok.tb h rfl))
      | laysStatic o n d => exact laysStatic_at ok.kw hh (ok.wo.tbl _ h)
      | _ => exact absurd k g
  · exact isRef_at ok.kw hh (ok.wo.tbl _ q486) (bR (bR (bL (bL (bL (bL (bL (bL (bL ok.wo.nar)))))))))
  · exact isRef_at ok.kw hh (ok.wo.tbl _ q488) (bL (bL (bR (bL (bL (bL (bL (bL (bL ok.wo.nar)))))))))
theorem Ok.hSt (ok : Ok w x cc nL own ret rm) {locs : List Loc} (h2 : ∀ q ∈ locs, wb w ≤ q.base) : hSt (xS x) locs := by
  intro c k aS h1 h3 h4 i hi
  obtain ⟨c', k', i', f', a', cell, g1, g2, g3, g4, g5, g6, g7, g8, g9⟩ := Cond.laysStatic_spec (ok.wo.tbl _ q486)
  have e1 : c = c' := Option.some.inj (h1.symm.trans (by rw [(State.WarmedH.alike ok.kw).findClass]; exact g1))
  subst e1
  obtain ⟨k2, hk2, he⟩ := (State.WarmedH.alike ok.kw).2.2 _ _ (State.fieldFound?_spec g2).1
  cases h3.symm.trans hk2
  have e3 : aS = a' := Option.some.inj (h4.symm.trans (by rw [he]; exact g4))
  have h6 : wb w ≤ aS := h2 _ hi
  have h5 : a' < wb w := (Array.getElem?_eq_some_iff.mp g5).1
  exact absurd h6 (Nat.not_le.mpr (by rw [e3]; exact h5))
theorem Ok.htr (hl : (xL x).stackTraces = false) {T : State} {locs : List Loc} (X : Stand (xP x) (xL x) (xE x) (xR x) (xS x) (xM x) (xA x) (xB x) (xT x) (xC x) T locs cells slots) : (xE x).platform.stackTraces = false := by
  have h := X.admits.platform
  rw [h]
  exact hl
end ROWS6
abbrev nmS : List String := ["java/lang/RuntimeException", "java/lang/Exception"]

theorem npeL : ∀ q ∈ Bundle.npeArmAtoms 8, inT q := inT.of _ [82, 550, 490, 512, 515, 517, 551, 552, 111, 112, 484, 489, 513, 520, 544, 521, 545, 522, 546, 485, 486, 487, 488, 547, 509, 499, 500, 1178, 1180, 506, 507, 1192, 1169, 1170, 1171, 1172, 537, 1172, 1173, 1174, 1175, 539, 1175, 1176, 1177, 551, 541, 100, 504, 1190, 1191, 498, 1186, 1187, 1189, 518, 548, 1184] (by decide +kernel) (by decide +kernel) (by decide +kernel)
theorem cceL : ∀ q ∈ Bundle.messageArmAtoms "java/lang/ClassCastException" nmS, inT q := inT.of _ [82, 550, 490, 512, 515, 517, 551, 552, 111, 112, 484, 489, 513, 520, 544, 521, 545, 522, 546, 485, 486, 487, 488, 547, 482, 483, 519, 547, 473, 474, 475, 476, 538, 476, 477, 478, 479, 540, 479, 480, 481, 482, 542, 86, 553, 179, 554, 556, 555, 557, 85, 472, 536, 543, 495, 527, 529, 533, 525, 518, 548, 523] (by decide +kernel) (by decide +kernel) (by decide +kernel)
theorem nseL : ∀ q ∈ Bundle.messageArmAtoms "java/lang/NegativeArraySizeException" nmS, inT q := inT.of _ [82, 550, 490, 512, 515, 517, 551, 552, 111, 112, 484, 489, 513, 520, 544, 521, 545, 522, 546, 485, 486, 487, 488, 547, 482, 483, 519, 547, 1148, 1149, 1150, 476, 538, 476, 477, 478, 479, 540, 479, 480, 481, 482, 542, 86, 553, 179, 554, 556, 555, 557, 99, 1147, 1158, 1159, 497, 1153, 1154, 1156, 1152, 518, 548, 1151] (by decide +kernel) (by decide +kernel) (by decide +kernel)
theorem areL : ∀ q ∈ Bundle.messageArmAtoms "java/lang/ArithmeticException" nmS, inT q := inT.of _ [82, 550, 490, 512, 515, 517, 551, 552, 111, 112, 484, 489, 513, 520, 544, 521, 545, 522, 546, 485, 486, 487, 488, 547, 482, 483, 519, 547, 1316, 1317, 1318, 476, 538, 476, 477, 478, 479, 540, 479, 480, 481, 482, 542, 86, 553, 179, 554, 556, 555, 557, 104, 1315, 1326, 1327, 493, 1321, 1322, 1324, 1320, 518, 548, 1319] (by decide +kernel) (by decide +kernel) (by decide +kernel)
theorem ioeL : ∀ q ∈ Bundle.ownAtoms0 "TwoGuilds" 439 "java/lang/IndexOutOfBoundsException" nmS, inT q := inT.of _ [82, 550, 490, 512, 515, 517, 551, 552, 111, 112, 484, 489, 513, 520, 544, 521, 545, 522, 546, 485, 486, 487, 488, 547, 1224, 1225, 1226, 1172, 537, 1172, 1173, 1174, 1175, 539, 1175, 1176, 1177, 551, 541, 1223, 1215, 1216, 1217, 496, 1218, 1219, 1220, 1221, 518, 548, 1222] (by decide +kernel) (by decide +kernel) (by decide +kernel)
/-- the machine is about to make an exception -/
def GN (w : WD) (x : Cx) (nL cells slots : Nat) (Q : State → Prop) (C : CS) (pc : Nat) (lv : List (Nat × Value)) (st : List Value) (cn : String) (msg : Option String) : Prop :=
  ∀ (H : Heap) (locs : List Loc) (ls : Array Slot), hA w C H → (∀ q ∈ locs, wb w ≤ q.base) → lv_has ls nL lv → ∀ T : State, T.heap = H → Stand (xP x) (xL x) (xE x) (xR x) (xS x) (xM x) (xA x) (xB x) (xT x) (xC x) T locs cells slots →
    ∃ t, Steps (xP x).tables (xE x) (xB x) ((T.setTop (F0 (xM x) pc ls st)).pushFrame (.throwNew cn msg none)) t ∧ Q t
abbrev NPE : String := "java/lang/NullPointerException"
abbrev CCE : String := "java/lang/ClassCastException"
abbrev NSE : String := "java/lang/NegativeArraySizeException"
abbrev ARE : String := "java/lang/ArithmeticException"
abbrev IOE : String := "java/lang/IndexOutOfBoundsException"
section ROWS7
variable {w : WD} {x : Cx} {cc : ByteArray} {nL : Nat} {own : String} {ret : Option FieldType} {rm : Room} {cells slots : Nat} {Q : State → Prop} {C : CS} {pc : Nat} {lv : List (Nat × Value)} {st : List Value}
theorem fc_back (ok : Ok w x cc nL own ret rm) {n : String} {c : ClassId} (h : (xS x).vm.findClass n = some c) : (wS w).vm.findClass n = some c := by
  rw [(State.WarmedH.alike ok.kw).findClass] at h; exact h
theorem gn_npe (ok : Ok w x cc nL own ret rm) (ho : Old w x) (hl : (xL x).stackTraces = false) (hcap : cells + 1 ≤ rm.cells ∧ slots + 8 ≤ rm.slots) (hR : 8 ≤ rm.frames ∧ 10300 ≤ rm.locals) (hw : (st.map fun v => v.category).sum ≤ 8)
    (k : ∀ a, GT w x nL (cells + 1) (slots + 8) Q C pc lv st a (exc w NPE a)) : GN w x nL cells slots Q C pc lv st NPE none := by
  intro H locs ls h1 h2 h3 T hT X
  obtain ⟨T2, cell, X2, z1, z2, z3, z4, z5, stp⟩ := npeAt X ok.ex (Ok.htr hl X) (n := 8) (fun q hq => ok.atom ho (npeL q hq)) (ok.hSt h2) (g := F0 (xM x) pc ls st) rfl (h3.1.trans ok.ml.symm) (by rw [ok.ro]; omega)
    (by rw [ok.ro]; have : 2 * (F0 (xM x) pc ls st).monitorRoom + ((F0 (xM x) pc ls st).stack.map fun v => v.category).sum ≤ 8 := lv_room (m := xM x) (pc := pc) (ls := ls) (rest := st) hw; omega) (by rw [ok.ro]; exact hcap.1) (by rw [ok.ro]; exact hcap.2)
  obtain ⟨t, a1, b1⟩ := k T.heap.size T2.heap locs ls (by rw [← hT] at h1; exact h1.grow (by omega) z2) h2 h3 ⟨cell, z3, z4, fc_back ok z5⟩ T2 rfl X2
  exact ⟨t, stp t a1, b1⟩
theorem gn_msg (ok : Ok w x cc nL own ret rm) (ho : Old w x) (hl : (xL x).stackTraces = false) {cn text : String} (hfit : Bundle.fit cn = true) (hsoe : (cn == "java/lang/StackOverflowError") = false) (hoom : (cn == "java/lang/OutOfMemoryError") = false) (hat : ∀ q ∈ Bundle.messageArmAtoms cn nmS, inT q)
    (htext : (text == notModelled) = false) {K : Nat} (hK : (stringBytes (stringToUtf16 text)).size ≤ K) (hK1 : K ≤ 100000) (hcap : cells + 3 ≤ rm.cells ∧ slots + (K + 10) ≤ rm.slots) (hR : 8 ≤ rm.frames ∧ 10300 ≤ rm.locals) (hw : (st.map fun v => v.category).sum ≤ 8)
    (k : ∀ a, GT w x nL (cells + 3) (slots + (K + 10)) Q C pc lv st a (exc w cn a)) : GN w x nL cells slots Q C pc lv st cn (some text) := by
  intro H locs ls h1 h2 h3 T hT X
  obtain ⟨T2, cell, X2, z1, z2, z3, z4, z5, stp⟩ := msgAt X ok.ex (Ok.htr hl X) (names := nmS) hfit (by decide) hsoe hoom (fun q hq => ok.atom ho (hat q hq)) (ok.hSt h2) htext hK hK1 (g := F0 (xM x) pc ls st) rfl (h3.1.trans ok.ml.symm) (by rw [ok.ro]; show 2 + 4 < _; omega)
    (by rw [ok.ro]; have : 2 * (F0 (xM x) pc ls st).monitorRoom + ((F0 (xM x) pc ls st).stack.map fun v => v.category).sum ≤ 8 := lv_room (m := xM x) (pc := pc) (ls := ls) (rest := st) hw; omega) (by decide) (by rw [ok.ro]; exact hcap.1) (by rw [ok.ro]; exact hcap.2)
  obtain ⟨t, a1, b1⟩ := k (T.heap.size + 2) T2.heap locs ls (by rw [← hT] at h1; exact h1.grow (by omega) z2) h2 h3 ⟨cell, z3, z4, fc_back ok z5⟩ T2 rfl X2
  exact ⟨t, stp t a1, b1⟩
theorem g_alen0 (ok : Ok w x cc nL own ret rm) (ho : Old w x) (hl : (xL x).stackTraces = false) (hcap : cells + 1 ≤ rm.cells ∧ slots + 8 ≤ rm.slots) (hR : 8 ≤ rm.frames ∧ 10300 ≤ rm.locals) (hw : (st.map fun v => v.category).sum ≤ 8)
    (d : decode cc pc = .ok (.arraylength, 1)) (k : ∀ a, GT w x nL (cells + 1) (slots + 8) Q C pc lv st a (exc w NPE a)) : G w x nL cells slots Q C pc lv (.null :: st) := by
  intro H locs ls h1 h2 h3 T hT X
  obtain ⟨t, a1, b1⟩ := gn_npe ok ho hl hcap hR hw k H locs ls h1 h2 h3 T hT X
  exact ⟨t, X.arraylengthNull ok.ex (g := F0 (xM x) pc ls (.null :: st)) rfl rfl (by rw [ok.cd]; exact d) t a1, b1⟩
theorem g_getf0 (ok : Ok w x cc nL own ret rm) (ho : Old w x) (hl : (xL x).stackTraces = false) {c : Nat} {cn : String} {T0 : u_T} {N : Nat} (hc : cls[c]? = some (cn, T0, N)) (hin : ∀ q ∈ u_ws cn T0 N, q ∈ lw_all) (i : Nat) (hi : i < N) {idx : Nat} (q : Cond.fieldLink own idx (T0 i).1 (T0 i).2.1 (T0 i).2.2.1 ∈ lw_all)
    (hcap : cells + 1 ≤ rm.cells ∧ slots + 8 ≤ rm.slots) (hR : 8 ≤ rm.frames ∧ 10300 ≤ rm.locals) (hw : (st.map fun v => v.category).sum ≤ 8)
    (d : decode cc pc = .ok (.getfield idx, 3)) (k : ∀ a, GT w x nL (cells + 1) (slots + 8) Q C pc lv st a (exc w NPE a)) : G w x nL cells slots Q C pc lv (.null :: st) := by
  intro H locs ls h1 h2 h3 T hT X
  obtain ⟨hS, hfc, kC, hkC, hkind⟩ := ok.K.1 c _ hc
  obtain ⟨cf, kf, fi, f, hi', hsl⟩ := hS i hi
  obtain ⟨vm', X', stp⟩ := X.getfieldNull ok.ex ok.ow (ok.wd q) hi' (u_facts hfc hkC (u_lays ok.ts hin hi) hi').1 (g := F0 (xM x) pc ls (.null :: st)) rfl rfl (by rw [ok.cd]; exact d)
  obtain ⟨t, a1, b1⟩ := gn_npe ok ho hl hcap hR hw k H locs ls h1 h2 h3 (T.setVm vm') hT X'
  exact ⟨t, stp t a1, b1⟩
theorem g_ifc0 (ok : Ok w x cc nL own ret rm) (ho : Old w x) (hl : (xL x).stackTraces = false) {y : MethodName} {idx cnt : Nat} (ql : Cond.methodLink own idx y ∈ lw_all) (qd : Cond.declares y ∈ lw_tbl) (qi : Cond.interfaceMethod y.cls y.cls y.name y.desc ∈ lw_tbl) (hx : y.cls ≠ "java/lang/invoke/MethodHandle" ∧ y.cls ≠ "java/lang/invoke/VarHandle") (hn : (parseMethodDescriptor y.desc).map (fun d => d.parameters.length) = some 0)
    (hcap : cells + 1 ≤ rm.cells ∧ slots + 8 ≤ rm.slots) (hR : 8 ≤ rm.frames ∧ 10300 ≤ rm.locals) (hw : (st.map fun v => v.category).sum ≤ 8)
    (d : decode cc pc = .ok (.invokeinterface idx cnt, 5)) (k : ∀ a, GT w x nL (cells + 1) (slots + 8) Q C pc lv st a (exc w NPE a)) : G w x nL cells slots Q C pc lv (.null :: st) := by
  intro H locs ls h1 h2 h3 T hT X
  obtain ⟨m0, r0, e1, e2, e3, e4⟩ := Cond.declares_spec (va_Nw.use (A := xA x) rfl (va_Nw.warmD ok.kw (ok.tb qd rfl)))
  obtain ⟨c1, k1, m1, f1, f2, f3, f4, f5⟩ := Cond.interfaceMethod_spec (ok.wo.tbl _ qi)
  have hcm : m0.cls = c1 := by
    have g1 := findClass_of_methodNamed e1
    have g2 : (xS x).vm.findClass y.cls = some c1 := by rw [(State.WarmedH.alike ok.kw).findClass]; exact f1
    exact Option.some.inj (g1.symm.trans g2)
  obtain ⟨k2, hk2, he⟩ := (State.WarmedH.alike ok.kw).2.2 _ _ f2
  obtain ⟨vm', X', stp⟩ := X.invokeinterfaceNull ok.ex ok.ow (ok.wd ql) e1 e2 e3 (ki := k2) (by rw [hcm]; exact hk2) (by rw [he]; exact f3) hx (g := F0 (xM x) pc ls (.null :: st)) rfl (argsL := []) (rest := st) (lenOf rfl hn e4) rfl (by rw [ok.cd]; exact d)
  obtain ⟨t, a1, b1⟩ := gn_npe ok ho hl hcap hR hw k H locs ls h1 h2 h3 (T.setVm vm') hT X'
  exact ⟨t, stp t a1, b1⟩
theorem g_newNeg (ok : Ok w x cc nL own ret rm) (ho : Old w x) (hl : (xL x).stackTraces = false) {n : Int32} (hn : n < 0) {at_ : ArrayType} (hcap : cells + 3 ≤ rm.cells ∧ slots + 54 ≤ rm.slots) (hR : 8 ≤ rm.frames ∧ 10300 ≤ rm.locals) (hw : (st.map fun v => v.category).sum ≤ 8)
    (d : decode cc pc = .ok (.newarray at_, 2)) (k : ∀ a, GT w x nL (cells + 3) (slots + 54) Q C pc lv st a (exc w NSE a)) : G w x nL cells slots Q C pc lv (.int n :: st) := by
  intro H locs ls h1 h2 h3 T hT X
  obtain ⟨t, a1, b1⟩ := gn_msg ok ho hl (cn := NSE) (text := toString n) (by decide) (by decide) (by decide) nseL (negative_text_modelled hn) (negative_text_bytes n) (by omega) hcap hR hw k H locs ls h1 h2 h3 T hT X
  exact ⟨t, X.newarrayNegative ok.ex (g := F0 (xM x) pc ls (.int n :: st)) rfl hn rfl (by rw [ok.cd]; exact d) t a1, b1⟩
theorem g_irem0 (ok : Ok w x cc nL own ret rm) (ho : Old w x) (hl : (xL x).stackTraces = false) {n : Int32} (hcap : cells + 3 ≤ rm.cells ∧ slots + 54 ≤ rm.slots) (hR : 8 ≤ rm.frames ∧ 10300 ≤ rm.locals) (hw : (st.map fun v => v.category).sum ≤ 8)
    (d : decode cc pc = .ok (.irem, 1)) (k : ∀ a, GT w x nL (cells + 3) (slots + 54) Q C pc lv st a (exc w ARE a)) : G w x nL cells slots Q C pc lv (.int 0 :: .int n :: st) := by
  intro H locs ls h1 h2 h3 T hT X
  obtain ⟨t, a1, b1⟩ := gn_msg ok ho hl (cn := ARE) (text := "/ by zero") (K := 44) (by decide) (by decide) (by decide) areL (by decide +kernel) (by decide +kernel) (by omega) hcap hR hw k H locs ls h1 h2 h3 T hT X
  refine ⟨t, ?_, b1⟩
  have hd : decode (xC x).code pc = .ok (.irem, 1) := by rw [ok.cd]; exact d
  jvm_step X.here [X.here.top, ok.ex, hd]
  exact a1
end ROWS7
/-! a cast that fails -/
theorem findMore {vm : Vm} {n : String} {c : ClassId} (h : vm.findClass n = some c) : ∃ k, vm.classes[c]? = some k ∧ k.name = n ∧ k.hidden = none ∧ k.loader = none := by
  obtain ⟨hlt, hp, _⟩ := Array.findIdx?_eq_some_iff_getElem.mp h
  rw [Bool.and_eq_true, Bool.and_eq_true, Bool.and_eq_true] at hp
  exact ⟨vm.classes[c], by simp [hlt], by simpa using hp.1.1.1, by simpa using hp.1.1.2, by have : (vm.classes[c]).loader.isNone = true := hp.2; simpa using this⟩
def nmOk (n : String) : Bool := decide ((dotted n).length ≤ 60) && castPackages_1.contains (packageOf n)
theorem home_le {vm : Vm} {k : Class} (hl : k.loader = none) (hm : (vm.modules.all fun m => m.loader.isSome || m.name == "java.base" || !(castPackages_1.any fun p => m.packages.contains p)) = true) (hp : castPackages_1.contains (packageOf k.name) = true) : (vm.home k).length ≤ 60 := by
  have key : ∀ m, vm.moduleOf k = some m → m.name = "java.base" := by
    intro m hmo
    unfold Vm.moduleOf at hmo
    split at hmo
    · have := List.find?_some hmo; simpa using this
    · have h1 := List.find?_some hmo
      have h2 := List.mem_of_find?_eq_some hmo
      have h3 := List.all_eq_true.mp hm m h2
      rw [Bool.and_eq_true, beq_iff_eq, hl] at h1
      rw [h1.1] at h3
      rw [Bool.or_eq_true, Bool.or_eq_true] at h3
      rcases h3 with (h3 | h3) | h3
      · cases h3
      · simpa using h3
      · have : (castPackages_1.any fun p => m.packages.contains p) = true := List.any_eq_true.mpr ⟨packageOf k.name, by simpa using hp, h1.2⟩
        rw [this] at h3
        cases h3
  unfold Vm.home
  rw [hl]
  cases hmo : vm.moduleOf k with
  | none => show (("unnamed module" ++ " of loader ") ++ "'bootstrap'").length ≤ 60; decide
  | some m =>
    show ((("module " ++ m.name) ++ " of loader ") ++ "'bootstrap'").length ≤ 60
    rw [key m hmo]
    decide
theorem msg_le {vm : Vm} {a b : Class} (ha : a.shown.length ≤ 60) (hb : b.shown.length ≤ 60) (h1 : (vm.home a).length ≤ 60) (h2 : (vm.home b).length ≤ 60) : (Op.checkcast.message vm a b).length ≤ 600 := by
  have l1 : "class ".length = 6 := by decide
  have l2 : " cannot be cast to class ".length = 25 := by decide
  have l3 : " (".length = 2 := by decide
  have l4 : ")".length = 1 := by decide
  have l5 : " and ".length = 5 := by decide
  have l6 : " are in ".length = 8 := by decide
  have l7 : " is in ".length = 7 := by decide
  have l8 : "; ".length = 2 := by decide
  have hh : (vm.homes a b).length ≤ 300 := by
    unfold Vm.homes
    split
    · show (((a.shown ++ " and ") ++ b.shown) ++ " are in " ++ vm.home a).length ≤ 300
      simp only [String.length_append, l5, l6]
      omega
    · show ((((((a.shown ++ " is in ") ++ vm.home a) ++ "; ") ++ b.shown) ++ " is in ") ++ vm.home b).length ≤ 300
      simp only [String.length_append, l7, l8]
      omega
  show (((((("class " ++ a.shown) ++ " cannot be cast to class ") ++ b.shown) ++ " (") ++ vm.homes a b) ++ ")").length ≤ 600
  simp only [String.length_append, l1, l2, l3, l4]
  omega
theorem msg_ne {vm : Vm} {a b : Class} : (Op.checkcast.message vm a b == notModelled) = false := by
  rw [beq_eq_false_iff_ne]
  intro h
  have h : (((((("class " ++ a.shown) ++ " cannot be cast to class ") ++ b.shown) ++ " (") ++ vm.homes a b) ++ ")") = notModelled := h
  have h2 := congrArg (fun s : String => s.toList.head?) h
  simp only [String.append_assoc, String.toList_append] at h2
  have h3 : "class ".toList = ['c', 'l', 'a', 's', 's', ' '] := by decide
  have h4 : notModelled.toList.head? = some '\x00' := by decide
  rw [h3, h4] at h2
  simp at h2
section CASTNO
variable {p : Program} {l : Launch} {e : Env} {R : Room} {s : State} {m : MethodId} {args : Array Value} {below : List Frame} {meth : Method} {c : Code} {T : State} {locs : List Loc} {cells slots : Nat}
theorem castNo (X : Stand p l e R s m args below meth c T locs cells slots) (hexec : p.tables.exec = Jvm.exec)
    {own name : String} {index : Nat} (hown : s.vm.findClass own = some m.cls) (hlink : (Cond.classLink own index name).before args s = true)
    {a : Addr} {cell : Cell} {cT : ClassId} {ks : Class} (hcell : T.heap[a]? = some cell) (hobj : ∀ k, cell.vm ≠ .statics k) (hks : s.vm.classes[cell.cls]? = some ks)
    (hcT : s.vm.findClass name = some cT) (hasg : s.vm.assignable cell.cls cT = false)
    {g : JFrame} (hg : g.method = m) {rest : List Value} (hstack : g.stack = .ref a :: rest) (hdg : decode c.code g.pc = .ok (.checkcast index, 3)) :
    ∃ vm' ks' kt', s.WarmedH vm' ∧ vm'.classes[cell.cls]? = some ks' ∧ vm'.classes[cT]? = some kt' ∧ Stand p l e R s m args below meth c (T.setVm vm') locs cells slots ∧
      ∀ target, Steps p.tables e below (((T.setVm vm').setTop g).pushFrame (.throwNew "java/lang/ClassCastException" (some (Op.checkcast.message vm' ks' kt')) none)) target → Steps p.tables e below (T.setTop g) target := by
  have hpl : e.platform.magicAccessors = ({} : Platform).magicAccessors := by rw [X.admits.platform]
  obtain ⟨c', hc', hcl⟩ := Cond.classLink_spec hown hlink e.platform hpl
  cases hcT.symm.trans hc'
  obtain ⟨dk, _, _, kt, hd, _, _, _, _, hkt, _, hopen⟩ := hcl.here
  have hcl₀ := X.warmed.classLinks hcl
  have hW' : s.WarmedH (T.vm.noted m.cls index (.cls cT)) := X.warmed.noted hd hopen (State.rightAt_cls hcl)
  obtain ⟨ks', hks', -⟩ := hW'.alike.2.2 _ _ hks
  obtain ⟨kt', hkt', -⟩ := hW'.alike.2.2 _ _ hkt
  refine ⟨_, ks', kt', hW', hks', hkt', X.noted hW', fun target hrest => ?_⟩
  subst hg
  jvm_step X.here [hexec, hdg, Op.checkcast.wp_cold (e := e) (s := T) (f := g) X.here.top hstack (resolveClass_links e.toSetting hcl₀) hcl₀.ready,
    Op.checkcast.wp_ready (e := e) (s := T.setVm (T.vm.noted g.method.cls index (.cls cT))) (f := g) X.here.top hcl₀.ready hstack]
  refine ⟨cell, hcell, hobj, ks', hks', kt', hkt', ?_⟩
  rw [if_neg (by rw [hW'.alike.assignable, hasg]; decide)]
  exact hrest
end CASTNO
section ROWS8
variable {w : WD} {x : Cx} {cc : ByteArray} {nL : Nat} {own : String} {ret : Option FieldType} {rm : Room} {cells slots : Nat} {Q : State → Prop} {C : CS} {pc : Nat} {lv : List (Nat × Value)} {st : List Value}
theorem g_castNo (ok : Ok w x cc nL own ret rm) (ho : Old w x) (hl : (xL x).stackTraces = false) {a idx : Nat} {cn nm : String} (ql : Cond.classLink own idx nm ∈ lw_all) (hc : va_Nc cn nm (wS w)) (hr : Recv w x C a cn) (hn1 : nmOk cn = true) (hn2 : nmOk nm = true)
    (hcap : cells + 3 ≤ rm.cells ∧ slots + 2410 ≤ rm.slots) (hR : 8 ≤ rm.frames ∧ 10300 ≤ rm.locals) (hw : ((Value.ref a :: st).map fun v => v.category).sum ≤ 8)
    (d : decode cc pc = .ok (.checkcast idx, 3)) (k : ∀ e, GT w x nL (cells + 3) (slots + 2410) Q C pc lv (.ref a :: st) e (exc w CCE e)) : G w x nL cells slots Q C pc lv (.ref a :: st) := by
  intro H locs ls h1 h2 h3 T hT X
  obtain ⟨cell, r1, r2, r3⟩ := hr H h1
  obtain ⟨c0, t0, f1, f2, f3⟩ := ok.nc hc
  cases r3.symm.trans f1
  obtain ⟨ks, hks, n1, n2, n3⟩ := findMore r3
  obtain ⟨kt, hkt, m1, m2, m3⟩ := findMore f2
  obtain ⟨vm', ks', kt', hW, e1, e2, X', stp⟩ := castNo X ok.ex ok.ow (ok.wd ql) (by rw [hT]; exact r1) (fun k h => by rw [h] at r2; cases r2) hks f2 f3 (g := F0 (xM x) pc ls (.ref a :: st)) rfl rfl (by rw [ok.cd]; exact d)
  obtain ⟨ks2, z1, z2⟩ := hW.alike.2.2 _ _ hks
  cases e1.symm.trans z1
  obtain ⟨kt2, y1, y2⟩ := hW.alike.2.2 _ _ hkt
  cases e2.symm.trans y1
  have hmod : vm'.modules = (wS w).vm.modules := by
    have hK : KW w (T.setVm vm') := ok.kw.on (U := T.setVm vm') hW
    have := (State.WarmedH.alike hK).1
    have h9 : (T.setVm vm').vm.modules = (wS w).vm.modules := by rw [this]
    exact h9
  have hm : (vm'.modules.all fun m => m.loader.isSome || m.name == "java.base" || !(castPackages_1.any fun p => m.packages.contains p)) = true := by rw [hmod]; exact ok.wo.mods
  unfold nmOk at hn1 hn2
  rw [Bool.and_eq_true, decide_eq_true_eq] at hn1 hn2
  have a1 : ks'.name = cn := by rw [z2]; exact n1
  have a2 : ks'.hidden = none := by rw [z2]; exact n2
  have a3 : ks'.loader = none := by rw [z2]; exact n3
  have b1 : kt'.name = nm := by rw [y2]; exact m1
  have b2 : kt'.hidden = none := by rw [y2]; exact m2
  have b3 : kt'.loader = none := by rw [y2]; exact m3
  have len := msg_le (vm := vm') (a := ks') (b := kt') (by unfold Class.shown; rw [a2, a1]; exact hn1.1) (by unfold Class.shown; rw [b2, b1]; exact hn2.1) (home_le a3 hm (by rw [a1]; exact hn1.2)) (home_le b3 hm (by rw [b1]; exact hn2.2))
  have hb : (stringBytes (stringToUtf16 (Op.checkcast.message vm' ks' kt'))).size ≤ 2400 := by
    have u1 := stringBytes_size_le (stringToUtf16 (Op.checkcast.message vm' ks' kt'))
    have u2 := utf16_size_le (Op.checkcast.message vm' ks' kt')
    rw [String.length_toList] at u2
    omega
  obtain ⟨t, b1, b2⟩ := gn_msg ok ho hl (cn := CCE) (by decide) (by decide) (by decide) cceL msg_ne hb (by omega) hcap hR hw k H locs ls h1 h2 h3 (T.setVm vm') hT X'
  exact ⟨t, stp t b1, b2⟩
/-- throw new IndexOutOfBoundsException() -/
theorem g_thrIOE (ok : Ok w x cc nL "TwoGuilds" ret rm) (ho : Old w x) (hl : (xL x).stackTraces = false) (hcap : cells + 1 ≤ rm.cells ∧ slots + 6 ≤ rm.slots) (hR : 8 ≤ rm.frames ∧ 10300 ≤ rm.locals) (hw : (st.map fun v => v.category).sum ≤ 6)
    (d0 : decode cc pc = .ok (.new 437, 3)) (d1 : decode cc (pc + 3) = .ok (.dup, 1)) (d2 : decode cc (pc + 4) = .ok (.invokespecial 439, 3)) (d3 : decode cc (pc + 7) = .ok (.athrow, 1))
    (k : ∀ e, GT w x nL (cells + 1) (slots + 6) Q C (pc + 7) lv st e (exc w IOE e)) : G w x nL cells slots Q C pc lv st := by
  intro H locs ls h1 h2 h3 T hT X
  obtain ⟨vm', cC, kC, g1, g2, g3, g4, X1, st1⟩ := X.newCold ok.ex ok.ow (ok.wd q1193) (ok.wd q1215) (ok.wd q101) (g := F0 (xM x) pc ls st) rfl (by rw [ok.cd]; exact d0) (by rw [ok.ro]; exact hcap.1) (by rw [ok.ro]; exact hcap.2)
  have hge : (xS x).heap.size ≤ T.heap.size := X.same.2.1
  obtain ⟨T2, cell, X2, z1, z2, z3, z4, z5, stp⟩ := ctor0At X1 ok.ex (Ok.htr hl X) (own := "TwoGuilds") (cls := IOE) (names := nmS) (ic := 439) ok.ow (by decide) (by decide) (fun q hq => ok.atom ho (ioeL q hq)) (ok.hSt h2) (a := T.heap.size) g1 g2
    (State.heap_pushCell_size (T.setVm vm') _) hge (g := F0 (xM x) (pc + 4) ls (.ref T.heap.size :: .ref T.heap.size :: st)) rfl (h3.1.trans ok.ml.symm) (rest := .ref T.heap.size :: st) rfl (by rw [ok.cd]; exact d2) (by rw [ok.ro]; show 2 + 3 < _; omega)
    (by
      rw [ok.ro]
      have := lv_room (m := xM x) (pc := pc + 4) (ls := ls) (rest := .ref T.heap.size :: .ref T.heap.size :: st) (st := .ref T.heap.size :: st) (by show 1 + (st.map fun v => v.category).sum ≤ 8; omega)
      show _ + (13 * (2 + 1) + 41) ≤ _
      omega)
  have hz : ((T.setVm vm').pushCell { cls := cC, slots := kC.instanceTypes.map defaultValue, vm := .none }).heap.size = T.heap.size + 1 := State.heap_size_pushCell _ _
  have hq : ∀ q : Nat, q < T.heap.size → T2.heap[q]? = T.heap[q]? := fun q hq => (z2 q (Nat.ne_of_lt hq)).trans (by
    show (T.heap.push _)[q]? = _
    rw [Array.getElem?_push, if_neg (Nat.ne_of_lt hq)])
  obtain ⟨t, a1, b1⟩ := k T.heap.size T2.heap locs ls (by rw [← hT] at h1; exact h1.grow (by rw [z1, hz]; omega) hq) h2 h3 ⟨cell, z3, z4, fc_back ok z5⟩ T2 rfl X2
  refine ⟨t, st1 t ?_, b1⟩
  have hd1 : decode (xC x).code (pc + 3) = .ok (.dup, 1) := by rw [ok.cd]; exact d1
  have hd3 : decode (xC x).code (pc + 7) = .ok (.athrow, 1) := by rw [ok.cd]; exact d3
  have hs2 : Steps (xP x).tables (xE x) (xB x) (T2.setTop (F0 (xM x) (pc + 7) ls (.ref T.heap.size :: st))) t := by
    jvm_step X2.here [ok.ex, hd3, athrow.wp_sem]
    exact a1
  have hs1 := stp t hs2
  clear stp z1 z2 hz hq st1
  generalize (T.setVm vm').pushCell { cls := cC, slots := kC.instanceTypes.map defaultValue, vm := .none } = T1 at hs1 X1 ⊢
  show Steps (xP x).tables (xE x) (xB x) (T1.setTop (F0 (xM x) (pc + 3) ls (.ref T.heap.size :: st))) t
  jvm_step X1.here [X1.here.top, ok.ex, hd1]
  exact ⟨rfl, hs1⟩
end ROWS8

