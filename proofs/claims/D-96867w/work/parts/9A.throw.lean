/-! methods that throw -/
/-- y throws: Qt holds of the exception and of the state behind -/
def MetT (l : Launch) (y : MethodName) (ws : List Cond) (rm : Room) (Pc : Array Value → State → Prop) (Qt : Array Value → State → Nat → State → Prop) (mc ms : Nat) (free : Addr → Prop) : Prop :=
  MetFree l y (headSpec ws rm) Pc (fun _ _ _ _ _ => True) (fun a st o t => ∃ x : Nat, o = .threw x ∧ Qt a st x t ∧ ∃ L, (st.WarmedH t.vm ∧ st.sameButNew ({ t with vm := st.vm } : State) L mc ms) ∧ ∀ q ∈ L, free q.base)
def MQT (below : List Frame) (Qt : Array Value → State → Nat → State → Prop) (a : Array Value) (s : State) (mc ms : Nat) (free : Addr → Prop) : State → Prop := fun t =>
  ∃ x : Nat, t.status = .running ∧ Ended t below (.threw x) ∧ Qt a s x t ∧ ∃ L, (s.WarmedH t.vm ∧ s.sameButNew ({ t with vm := s.vm } : State) L mc ms) ∧ ∀ q ∈ L, free q.base
theorem emptyTab {c : Code} (h : c.exceptionTable.isEmpty = true) : c.exceptionTable.toList = [] := by
  have h0 : c.exceptionTable.size = 0 := by simpa [Array.isEmpty] using h
  exact List.eq_nil_of_length_eq_zero (by simpa using h0)
theorem MetT.ofW {l : Launch} {y : MethodName} {ws ws' : List Cond} {rm : Room} {Pc : Array Value → State → Prop} {Qt : Array Value → State → Nat → State → Prop} {mc ms : Nat} {free : Addr → Prop} {cc : ByteArray} {maxL : Nat} {ret : Option FieldType}
    (hy : plainName y.cls = true) (hw : ws = Cond.code y cc maxL ret :: ws')
    (body : ∀ p e s m args below meth c s₁, BodyLoose p l y (headSpec ws rm) cc maxL ret e s m args below meth c s₁ → c.maxLocals = maxL → c.exceptionTable.toList = [] → Pc args s →
      W p l e (headSpec ws rm).room s m args below meth c s.heap [] 0 0 (MQT below Qt args s mc ms free) (entryFrame m args maxL)) : MetT l y ws rm Pc Qt mc ms free := by
  refine MetFree.of_bodyS (code := cc) (maxLocals := maxL) (ret := ret) hy ?_ ?_
  · intro args s m h hn
    obtain ⟨meth, c, h1, h2, h3, h4, h5, h6, -, -⟩ := Cond.code_spec hn (atoms_spec (ws := ws) h _ (by rw [hw]; exact List.mem_cons_self))
    exact ⟨meth, c, h1, h2, h3, h4, h5, h6⟩
  · intro p e s m args below meth c s₁ B hml hP _
    have hh0 : s₁.heap = s.heap := by rw [B.state]; rfl
    have hcode := atoms_spec (ws := ws) B.pre _ (by rw [hw]; exact List.mem_cons_self)
    have hT := emptyTab (B.noHandlers hcode)
    obtain ⟨t, a1, x, b1, b2, b3, b4⟩ := body p e s m args below meth c s₁ B hml hT hP s₁ hh0 (Stand.of_body B)
    exact ⟨t, .threw x, a1, b1, b2, x, rfl, b3, b4⟩
section CALLTH
variable {p : Program} {l : Launch} {e : Env} {R : Room} {s : State} {m : MethodId} {args : Array Value} {below : List Frame} {meth : Method} {c : Code} {T : State} {locs : List Loc} {cells slots : Nat}
theorem callTh (X : Stand p l e R s m args below meth c T locs cells slots) {y : MethodName} {ws : List Cond} {rm : Room} {Pc : Array Value → State → Prop} {Qt : Array Value → State → Nat → State → Prop} {mc ms : Nat} {free : Addr → Prop} {bytes : ByteArray} {maxL : Nat} {ret : Option FieldType}
    (hM : MetT l y ws rm Pc Qt mc ms free) (hblind : FrameBlind Pc) (hrc : rm.cells = mc) (hrs : rm.slots = ms) (hframes : rm.frames + 1 ≤ R.frames) (hlocals : 8 + (maxL + 11) + rm.locals ≤ R.locals)
    (hws : ∀ w ∈ ws, ∀ (a' : Array Value) (U : State), s.WarmedH U.vm → w.before a' U = true) (hcode : Cond.code y bytes maxL ret ∈ ws) (hinit : ∀ (a' : Array Value) (U : State), s.WarmedH U.vm → (Cond.initialized y.cls).before a' U = true)
    {g : JFrame} (hg : g.method = m) (hsize : g.locals.size = c.maxLocals) {ig : Instr} {len : Nat} (hdg : decode c.code g.pc = .ok (ig, len)) (hW : 2 * g.monitorRoom + (g.stack.map fun v => v.category).sum ≤ 8)
    {mk : MethodId} (hn : T.methodNamed? y = some mk) {a : Array Value} (hf : cells + mc ≤ R.cells ∧ slots + ms ≤ R.slots) (hPc : Pc a T) :
    ∃ (x : Nat) (t T' : State) (L : List Loc), Stand p l e R s m args below meth c T' (locs ++ L) (cells + mc) (slots + ms) ∧ (∀ q ∈ L, free q.base) ∧ T'.heap = t.heap ∧ Qt a (T.calling g mk a) x t ∧
      Steps p.tables e below (doInvoke e (T.setTop g) [] mk a).1 ((T'.setTop g).pushFrame (.throwing x)) := by
  obtain ⟨methY, cY, hmY, hcY, -, hlY, -, -, -, -⟩ := Cond.code_spec hn (hws _ hcode a T X.warmed)
  obtain ⟨kY, hkY, -⟩ := className_of_methodNamed hn
  have hinitY : kY.init = .initialized := Cond.initialized_spec (findClass_of_methodNamed hn) hkY (hinit a T X.warmed)
  have h : At T g.method c below := by rw [hg]; exact X.here
  have happ : (headSpec ws rm).appliesLoose y e.platform (T.calling g mk a) = true :=
    Spec.appliesLoose_calling (g := g) h hdg hn hkY hinitY
      (X.room_calling (g := g) (R' := (headSpec ws rm).room) hsize hmY hcY hframes (by rw [hlY]; show _ + _ + rm.locals ≤ _; omega) (by show cells + rm.cells ≤ _; rw [hrc]; exact hf.1) (by show slots + rm.slots ≤ _; rw [hrs]; exact hf.2)) (atoms_intro fun w hw => hws w hw _ _ X.warmed)
  obtain ⟨mid, hmid⟩ := h.above
  have hfr : (T.setTop g).frames = (.java g :: mid) ++ below := by rw [State.frames_setTop' g h.top, hmid]; rfl
  obtain ⟨o, s₂, hsteps, -, hend, hq⟩ := Steps.callFree hM p X.admits X.cas X.clock (acts := []) hfr happ (hblind _ _ _ _ hPc) trivial
  rw [State.frames_setTop' g h.top, X.tail] at hend
  obtain ⟨x, rfl, hqt, L, ⟨hW2, hs2⟩, hL⟩ := hq
  obtain ⟨T', X', -, hsm, ht⟩ := X.outOfThrown hg hend hW2 hs2
  refine ⟨x, s₂, T', L, X', hL, ?_, hqt, by rw [← ht]; exact hsteps⟩
  rw [ht, Stand.throwing_heap]
end CALLTH
/-- an exception of class cn lies at a -/
def exc (w : WD) (cn : String) (a : Nat) (H : Heap) : Prop := ∃ cell : Cell, H[a]? = some cell ∧ cell.vm = .none ∧ (wS w).vm.findClass cn = some cell.cls
def Wt (x : Cx) (H : Heap) (locs : List Loc) (cells slots : Nat) (Q : State → Prop) (g : JFrame) (a : Nat) : Prop :=
  ∀ T : State, T.heap = H → Stand (xP x) (xL x) (xE x) (xR x) (xS x) (xM x) (xA x) (xB x) (xT x) (xC x) T locs cells slots → ∃ t, Steps (xP x).tables (xE x) (xB x) ((T.setTop g).pushFrame (.throwing a)) t ∧ Q t
/-- a is being thrown at pc -/
def GT (w : WD) (x : Cx) (nL cells slots : Nat) (Q : State → Prop) (C : CS) (pc : Nat) (lv : List (Nat × Value)) (st : List Value) (a : Nat) (E : Heap → Prop) : Prop :=
  ∀ (H : Heap) (locs : List Loc) (ls : Array Slot), hA w C H → (∀ q ∈ locs, wb w ≤ q.base) → lv_has ls nL lv → E H → Wt x H locs cells slots Q (F0 (xM x) pc ls st) a
def qT (w : WD) (post : Nat → CS → Heap → Prop) : Array Value → State → Nat → State → Prop := fun _ _ a t => ∃ C1, post a C1 t.heap ∧ hA w C1 t.heap
/-- the method y, called with args in the world C, throws -/
def MT (w : WD) (l : Launch) (y : MethodName) (code : ByteArray) (nL : Nat) (ret : Option FieldType) (L mc ms : Nat) (args : List Value) (C : CS) (post : Nat → CS → Heap → Prop) : Prop :=
  MetT l y (ws1 y code nL ret) (rmL L mc ms) (va_Pc args (fun U => KW w U ∧ hA w C U.heap)) (qT w post) mc ms (fr w)
abbrev QT (w : WD) (x : Cx) (post : Nat → CS → Heap → Prop) (mc ms : Nat) : State → Prop := MQT (xB x) (qT w post) (xA x) (xS x) mc ms (fr w)
theorem MT.of {w : WD} {l : Launch} {y : MethodName} {code : ByteArray} {nL : Nat} {ret : Option FieldType} {L mc ms : Nat} {args : List Value} {C : CS} {post : Nat → CS → Heap → Prop} (hw : wOk w) (hy : plainName y.cls = true) (hl : (lg_sl args).length ≤ nL)
    (body : ∀ x : Cx, xL x = l → Ok w x code nL y.cls ret (rmL L mc ms) → (xC x).exceptionTable.toList = [] → G w x nL 0 0 (QT w x post mc ms) C 0 (lv_args 0 args) []) : MT w l y code nL ret L mc ms args C post := by
  refine MetT.ofW (cc := code) (maxL := nL) (ret := ret) (ws' := []) hy rfl ?_
  intro p e s m a below meth c s₁ B hml hT hv
  obtain ⟨rfl, hk, hh⟩ := hv
  have h := body (p, l, e, rmL L mc ms, s, m, args.toArray, below, meth, c) rfl ⟨hw, B.exec, B.bytes, hml, findClass_of_methodNamed B.named, hk, B.notSynchronized, B.returns, rfl⟩ hT
  have h2 := h s.heap [] _ hh (fun q hq => by cases hq) (lv_entry args (n := nL) hl)
  rw [lg_entry_eq]
  exact h2
theorem MT.post {w : WD} {l : Launch} {y : MethodName} {code : ByteArray} {nL : Nat} {ret : Option FieldType} {L mc ms : Nat} {args : List Value} {C : CS} {post post2 : Nat → CS → Heap → Prop} (hp : ∀ a C1 H, post a C1 H → post2 a C1 H) (h : MT w l y code nL ret L mc ms args C post) : MT w l y code nL ret L mc ms args C post2 := by
  intro p e h1 h2 h3 s m a below h4 h5 h6 h7
  obtain ⟨n, o, g1, g2, g3, x, g4, ⟨C1, e1, e2⟩, g5⟩ := h p e h1 h2 h3 s m a below h4 h5 h6 h7
  exact ⟨n, o, g1, g2, g3, x, g4, ⟨C1, hp _ _ _ e1, e2⟩, g5⟩
section GTS
variable {w : WD} {x : Cx} {cc : ByteArray} {nL : Nat} {own : String} {ret : Option FieldType} {rm : Room} {cells slots : Nat} {Q : State → Prop} {C : CS} {pc : Nat} {lv : List (Nat × Value)} {st : List Value}
/-- nothing here catches it -/
theorem gt_leave (ok : Ok w x cc nL own ret rm) (hT : (xC x).exceptionTable.toList = []) {post : Nat → CS → Heap → Prop} {a : Nat} {E : Heap → Prop} (hp : ∀ H, hA w C H → E H → post a C H) : GT w x nL cells slots (QT w x post cells slots) C pc lv st a E := by
  intro H locs ls h1 h2 h3 h4 T hT2 X
  obtain ⟨s1, s2, s3, s4, s5⟩ := X.leaveThrown a (g := F0 (xM x) pc ls st) rfl rfl rfl (by rw [hT]; intro y hy; cases hy) ok.lk
  have eh : (T.setFrames (.throwing a :: (xB x))).heap = H := hT2
  exact ⟨_, s1, a, s2, s3, ⟨C, by rw [eh]; exact hp H h1 h4, by rw [eh]; exact h1⟩, locs, ⟨s4, s5⟩, h2⟩
theorem g_athrow (ok : Ok w x cc nL own ret rm) {a : Nat} {E : Heap → Prop} (hE : ∀ H, hA w C H → E H) (d : decode cc pc = .ok (.athrow, 1)) (k : GT w x nL cells slots Q C pc lv st a E) : G w x nL cells slots Q C pc lv (.ref a :: st) := by
  intro H locs ls h1 h2 h3 T hT X
  obtain ⟨t, a1, b1⟩ := k H locs ls h1 h2 h3 (hE H h1) T hT X
  refine ⟨t, ?_, b1⟩
  have hd : decode (xC x).code pc = .ok (.athrow, 1) := by rw [ok.cd]; exact d
  jvm_step X.here [ok.ex, hd, athrow.wp_sem]
  exact a1
variable {y : MethodName} {cn : String} {code : ByteArray} {nL2 : Nat} {ret2 : Option FieldType} {n idx L mc ms : Nat} {post : Nat → CS → Heap → Prop} {rest : List Value} {b : Nat}
theorem wsw (ok : Ok w x cc nL own ret rm) {q : Cond} (hq : q ∈ lw_all) (a' : Array Value) (U : State) (hW : (xS x).WarmedH U.vm) : q.before a' U = true := word_at hW (lw_self _ hq).2 (ok.wd hq)
theorem lenOf {n k : Nat} {y : MethodName} {sig : MethodDescriptor} (hn : k = n) (h1 : (parseMethodDescriptor y.desc).map (fun d => d.parameters.length) = some n) (h2 : parseMethodDescriptor y.desc = some sig) : k = sig.parameters.length := by
  rw [h2] at h1
  have : sig.parameters.length = n := by simpa using h1
  omega
/-- a static call that throws -/
theorem g_callST (ok : Ok w x cc nL own ret rm) (As : List Value) (cf : CfS y code nL2 ret2 n) (ql : Cond.methodLink own idx y ∈ lw_all) (hM : MT w (xL x) y code nL2 ret2 L mc ms As C post)
    (hn : As.length = n) (hs : st = As.reverse ++ rest) (hw : (rest.map fun v => v.category).sum ≤ 8)
    (hR : L + 1 ≤ rm.frames ∧ 8 + (nL2 + 11) + 40 * L ≤ rm.locals) (hcap : cells + mc ≤ rm.cells ∧ slots + ms ≤ rm.slots) (d : decode cc pc = .ok (.invokestatic idx, 3))
    (k : ∀ a C1, GT w x nL (cells + mc) (slots + ms) Q C1 pc lv rest a (fun H => post a C1 H)) : G w x nL cells slots Q C pc lv st := by
  obtain ⟨c1, c2, c3, c4⟩ := cf
  intro H locs ls h1 h2 h3 T hT X
  have hcode := ok.wd c3
  obtain ⟨mk, hnamed⟩ := Cond.code_named hcode
  obtain ⟨methM, cM, hmethM, -, -, -, -, -, -, hsigM⟩ := Cond.code_spec hnamed hcode
  have hstatic : methM.isStatic = true := Cond.static_spec hnamed hmethM (ok.wd c4)
  obtain ⟨kP, hkP, -⟩ := className_of_methodNamed hnamed
  have hinitP : kP.init = .initialized := Cond.initialized_spec (findClass_of_methodNamed hnamed) hkP (ok.wd c2)
  have hd : decode (xC x).code pc = .ok (.invokestatic idx, 3) := by rw [ok.cd]; exact d
  obtain ⟨vm₁, X₁, hstep₁⟩ := X.invokestatic ok.ex ok.ow (ok.wd ql) hnamed hmethM hstatic hkP hinitP ⟨c1.1, c1.2.1⟩ (g := F0 (xM x) pc ls st) rfl (argsL := As) (rest := rest) (lenOf hn c1.2.2 hsigM) hs hd
  obtain ⟨a, t, T', L2, X', hL, e1, ⟨C1, hp, hb⟩, hst⟩ := callTh X₁ hM blindA rfl rfl (by rw [ok.ro]; exact hR.1) (by rw [ok.ro]; show 8 + (nL2 + 11) + 40 * L ≤ _; exact hR.2)
    (fun q hq a' U hW => by rw [List.mem_singleton.mp hq]; exact wsw ok c3 a' U hW) (bytes := code) (maxL := nL2) (ret := ret2) (List.mem_singleton.mpr rfl) (fun a' U hW => wsw ok c2 a' U hW)
    (g := F0 (xM x) pc ls rest) rfl (h3.1.trans ok.ml.symm) hd (lv_room hw) (X₁.named hnamed) (a := As.toArray) (by rw [ok.ro]; exact hcap) ⟨rfl, ok.kw.on X₁.warmed, by show hA w C T.heap; rw [hT]; exact h1⟩
  obtain ⟨t2, a1, b1⟩ := k a C1 T'.heap (locs ++ L2) ls (by rw [e1]; exact hb) (fun q hq => by
      rcases List.mem_append.mp hq with h | h
      · exact h2 q h
      · exact hL q h) h3 (by rw [e1]; exact hp) T' rfl X'
  exact ⟨t2, hstep₁ _ fun acts => by rw [doInvoke_state]; exact hst.trans a1, b1⟩
/-- a call through an object that throws -/
theorem g_callVT (ok : Ok w x cc nL own ret rm) (As : List Value) (cf : CfV y cn code nL2 ret2 n) (ql : Cond.methodLink own idx y ∈ lw_all) (hM : MT w (xL x) y code nL2 ret2 L mc ms (.ref b :: As) C post)
    (hrecv : ∀ H, hA w C H → ∃ cell : Cell, H[b]? = some cell ∧ cell.vm.isStatics = false ∧ (xS x).vm.findClass cn = some cell.cls) (hn : As.length = n) (hs : st = As.reverse ++ .ref b :: rest) (hw : (rest.map fun v => v.category).sum ≤ 8)
    (hR : L + 1 ≤ rm.frames ∧ 8 + (nL2 + 11) + 40 * L ≤ rm.locals) (hcap : cells + mc ≤ rm.cells ∧ slots + ms ≤ rm.slots) (d : decode cc pc = .ok (.invokevirtual idx, 3))
    (k : ∀ a C1, GT w x nL (cells + mc) (slots + ms) Q C1 pc lv rest a (fun H => post a C1 H)) : G w x nL cells slots Q C pc lv st := by
  obtain ⟨c1, c2, c3, c4, c5⟩ := cf
  intro H locs ls h1 h2 h3 T hT X
  obtain ⟨cellB, hcB, hoB, hclB⟩ := hrecv H h1
  have hcode := ok.wd c3
  obtain ⟨mk, methM, hnamed, hmethM, hstM, habM⟩ := Cond.instanceMethod_spec (ok.wd c4)
  obtain ⟨methM', cM, hmethM', -, -, -, -, -, -, hsigM⟩ := Cond.code_spec hnamed hcode
  cases hmethM.symm.trans hmethM'
  obtain ⟨k2, r2, m2, q1, q2, q3, q4, kP, hkP, hkPi⟩ := Cond.selects_spec (ok.wd c5)
  cases hclB.symm.trans q1
  cases (State.methodFound?_of_named hnamed ⟨c1.1, c1.2.1⟩).symm.trans q2
  cases hnamed.symm.trans q3
  have hselP : selectMethod (xE x).platform (xS x).vm cellB.cls mk = .method mk := by rw [Launch.admits_selectMethod X.admits]; exact q4
  have hd : decode (xC x).code pc = .ok (.invokevirtual idx, 3) := by rw [ok.cd]; exact d
  obtain ⟨vm₁, X₁, hstep₁⟩ := X.invokevirtual ok.ex ok.ow (ok.wd ql) hnamed hmethM hstM hkP hkPi ⟨c1.1, c1.2.1⟩ (a := b) (cell := cellB) (by rw [hT]; exact hcB)
    (fun z h => by rw [h] at hoB; cases hoB) hselP hmethM habM hkP hkPi (g := F0 (xM x) pc ls st) rfl (argsL := As) (rest := rest) (lenOf hn c1.2.2 hsigM) hs hd
  obtain ⟨a, t, T', L2, X', hL, e1, ⟨C1, hp, hb⟩, hst⟩ := callTh X₁ hM blindA rfl rfl (by rw [ok.ro]; exact hR.1) (by rw [ok.ro]; show 8 + (nL2 + 11) + 40 * L ≤ _; exact hR.2)
    (fun q hq a' U hW => by rw [List.mem_singleton.mp hq]; exact wsw ok c3 a' U hW) (bytes := code) (maxL := nL2) (ret := ret2) (List.mem_singleton.mpr rfl) (fun a' U hW => wsw ok c2 a' U hW)
    (g := F0 (xM x) pc ls rest) rfl (h3.1.trans ok.ml.symm) hd (lv_room hw) (X₁.named hnamed) (a := (Value.ref b :: As).toArray) (by rw [ok.ro]; exact hcap) ⟨rfl, ok.kw.on X₁.warmed, by show hA w C T.heap; rw [hT]; exact h1⟩
  obtain ⟨t2, a1, b1⟩ := k a C1 T'.heap (locs ++ L2) ls (by rw [e1]; exact hb) (fun q hq => by
      rcases List.mem_append.mp hq with h | h
      · exact h2 q h
      · exact hL q h) h3 (by rw [e1]; exact hp) T' rfl X'
  exact ⟨t2, hstep₁ _ fun acts => by rw [doInvoke_state]; exact hst.trans a1, b1⟩
end GTS
/-! handlers: which one is found; the class that a row names may be resolved here for the first time -/
def FindsW (e : Env) (s : State) (f : JFrame) (a : Addr) (h : Handler) (vm' : Vm) : Prop :=
  ∀ (Q : Handler → Pre) (E : CtlPost) (d : Bool) (acts : List Action), wp (findHandler f a) Q E e d acts s ↔ Q h d acts (s.setVm vm')
theorem stepThrowing_catchW {e : Env} {s : State} {a : Addr} {f : JFrame} {r : List Frame} {pc : Nat} {vm' : Vm} (hfind : FindsW e s f a (.found pc) vm') :
    (stepThrowing e s a (.java f :: r)).Is ((s.setVm vm').setFrames (.java { f with pc := pc, stack := [.ref a] } :: r)) [] := by
  simp only [stepThrowing, searchFrame, vmDo]
  generalize hr : Sem.go _ e false [] s = res
  obtain ⟨as, rfl, ha⟩ := Sem.eq_ok_of hr (a := Handler.found pc) (s' := s.setVm vm') (acts' := []) (by simp [hfind _ _ _ _])
  exact ⟨rfl, ha⟩
theorem Steps.caughtW {tb : Tables} {e : Env} {s target : State} {g : JFrame} {c : Code} {below : List Frame} {a : Addr} {vm' : Vm} (h : At s g.method c below) {pc : Nat} (hfind : FindsW e ((s.setTop g).pushFrame (.throwing a)) g a (.found pc) vm')
    (hrest : Steps tb e below ((s.setVm vm').setTop { g with pc := pc, stack := [.ref a] }) target) :
    Steps tb e below ((s.setTop g).pushFrame (.throwing a)) target := by
  obtain ⟨hgo, hw⟩ := h.throwing a
  refine Steps.head hgo hw ?_
  rw [stepThread_throwing (frames_entered h.top _), (stepThrowing_catchW (s := (s.setTop g).pushFrame (.throwing a)) hfind).1]
  obtain ⟨g₀, hg⟩ := Option.isSome_iff_exists.mp h.top
  obtain ⟨r, hr⟩ := State.topJava?_eq_some.mp hg
  have hr' : (s.setVm vm').frames = .java g₀ :: r := hr
  rw [State.setTop_of_frames _ hr'] at hrest
  have e1 : (((s.setTop g).pushFrame (.throwing a)).setVm vm').setFrames (.java { g with pc := pc, stack := [.ref a] } :: s.frames.tail) = (s.setVm vm').setFrames (.java { g with pc := pc, stack := [.ref a] } :: r) := by
    rw [State.pushFrame, State.setTop_of_frames _ hr, hr]
    show (((s.setFrames (.java g :: r)).setFrames _).setVm vm').setFrames _ = _
    rw [State.setFrames_setFrames]
    show ((s.setFrames _).setFrames _).setVm vm' = (s.setFrames _).setVm vm'
    rw [State.setFrames_setFrames]
    rfl
  rw [e1]
  exact hrest
/-- the handler z is found among the rows for an exception of class cn at pc -/
def Srch (w : WD) (own cn : String) (pc : Nat) : List (Nat × Nat × Nat × Nat) → Nat → Prop
  | [], _ => False
  | (a, b, h, k) :: t, z => if a ≤ pc ∧ pc < b then (if k = 0 then z = h else ∃ kn, Cond.classLink own k kn ∈ lw_all ∧ ((Cond.castable cn kn ∈ lw_tbl ∧ z = h) ∨ (va_Nc cn kn (wS w) ∧ Srch w own cn pc t z))) else Srch w own cn pc t z
theorem findW {p : Program} {l : Launch} {e : Env} {R : Room} {s : State} {m : MethodId} {args : Array Value} {below : List Frame} {meth : Method} {c : Code} {T : State} {locs : List Loc} {cells slots : Nat} {w : WD} {own cn : String} {f : JFrame} {a z : Nat}
    (X : Stand p l e R s m args below meth c T locs cells slots) (hown : s.vm.findClass own = some m.cls) (hk : KW w s) (hwk : wOk w) (hf : f.method = m) {cell : Cell} (hvm : cell.vm = .none) (hcl : (wS w).vm.findClass cn = some cell.cls) :
    ∀ (hh : List ExceptionTableEntry), Srch w own cn f.pc (hh.map (fun h => (h.startPc, h.endPc, h.handlerPc, h.catchType))) z → ∀ U : State, s.WarmedH U.vm → U.heap[a]? = some cell →
      ∃ vm', s.WarmedH vm' ∧ ∀ (Q : Handler → Pre) (E : CtlPost) (d : Bool) (acts : List Action), wp (findHandler.go f a hh) Q E e d acts U ↔ Q (.found z) d acts (U.setVm vm') := by
  intro hh
  induction hh with
  | nil => intro h; exact h.elim
  | cons x t ih =>
    intro h U hW hcell
    have h' : (if x.startPc ≤ f.pc ∧ f.pc < x.endPc then (if x.catchType = 0 then z = x.handlerPc else ∃ kn, Cond.classLink own x.catchType kn ∈ lw_all ∧ ((Cond.castable cn kn ∈ lw_tbl ∧ z = x.handlerPc) ∨ (va_Nc cn kn (wS w) ∧ Srch w own cn f.pc (t.map (fun h => (h.startPc, h.endPc, h.handlerPc, h.catchType))) z))) else Srch w own cn f.pc (t.map (fun h => (h.startPc, h.endPc, h.handlerPc, h.catchType))) z) := h
    by_cases hc : x.startPc ≤ f.pc ∧ f.pc < x.endPc
    · rw [if_pos hc] at h'
      have hx : covers x f.pc = true := by simp [covers, hc]
      by_cases h0 : x.catchType = 0
      · rw [if_pos h0] at h'
        refine ⟨U.vm, hW, fun Q E d acts => ?_⟩
        rw [W.findHandler_go_any hx h0, h', State.setVm_self]
      · rw [if_neg h0] at h'
        obtain ⟨kn, hl, hor⟩ := h'
        have hpl : e.platform.magicAccessors = ({} : Platform).magicAccessors := by rw [X.admits.platform]
        obtain ⟨cT, hcT, hcln⟩ := Cond.classLink_spec hown (hk.word hwk hl args) e.platform hpl
        obtain ⟨dk, _, _, kt, hd, _, _, _, _, hkt, _, hopen⟩ := hcln.here
        have hcl₀ := hW.classLinks hcln
        have hW' : s.WarmedH (U.vm.noted m.cls x.catchType (.cls cT)) := hW.noted hd hopen (State.rightAt_cls hcln)
        obtain ⟨ha, ht⟩ := (resolveClass_links e.toSetting hcl₀).op (op := VmOp.resolveClass m.cls x.catchType) rfl
        have hcls : s.vm.findClass cn = some cell.cls := by rw [(State.WarmedH.alike hk).findClass]; exact hcl
        obtain ⟨ks, hks, -⟩ := Vm.findClass_spec hcls
        obtain ⟨ks', hks', -⟩ := hW'.alike.2.2 _ _ hks
        obtain ⟨kt', hkt', -⟩ := hW'.alike.2.2 _ _ hkt
        have hobj : ∀ k, cell.vm ≠ .statics k := fun k h => by rw [hvm] at h; cases h
        have hx' : (x.startPc ≤ f.pc && decide (f.pc < x.endPc)) = true := by simp [hc]
        have hgo : ∀ (Q : Handler → Pre) (E : CtlPost) (d : Bool) (acts : List Action), wp (findHandler.go f a (x :: t)) Q E e d acts U ↔ if s.vm.assignable cell.cls cT = true then Q (.found x.handlerPc) d acts (U.setVm (U.vm.noted m.cls x.catchType (.cls cT))) else wp (findHandler.go f a t) Q E e d acts (U.setVm (U.vm.noted m.cls x.catchType (.cls cT))) := by
          intro Q E d acts
          have hr : (U.setVm (U.vm.noted m.cls x.catchType (.cls cT))).vm.classReady f.method.cls x.catchType cT := by rw [hf]; exact hcl₀.ready
          have h2 := W.findHandler_go_class (E := E) (e := e) (d := d) (acts := acts) (s := U.setVm (U.vm.noted m.cls x.catchType (.cls cT))) (f := f) (a := a) (Q := Q) (x := x) (t := t) (c := cT) (cell := cell) hx h0 hr hcell hobj ⟨ks', hks'⟩ ⟨kt', hkt'⟩
          have e3 : (U.setVm (U.vm.noted m.cls x.catchType (.cls cT))).vm.assignable cell.cls cT = s.vm.assignable cell.cls cT := hW'.alike.assignable _ _
          rw [e3] at h2
          rw [← h2]
          have hsz : (U.vm.noted m.cls x.catchType (.cls cT)).classes.size ≤ U.vm.classes.size := by no_record
          obtain ⟨ha2, ht2⟩ := resolveClass_memo (vm := U.vm.noted m.cls x.catchType (.cls cT)) (d := m.cls) (index := x.catchType) (c := cT) e hcl₀.ready.choose_spec.1 hcl₀.ready.choose_spec.2
          simp only [findHandler.go, hx', if_true, h0, hf]
          simp [ha, ht, hsz, ha2, ht2, VmOp.dirties, VmOp.acts]
          rw [if_neg h0, if_neg h0]
          exact Iff.rfl
        rcases hor with ⟨hy, hz⟩ | ⟨hno, hs⟩
        · obtain ⟨c0, t0, f1, f2, f3⟩ := Cond.castable_spec (va_Nw.use (A := args) rfl (va_Nw.warmC hk (va_Nw.of rfl (hwk.tbl _ hy))))
          cases hcls.symm.trans f1
          cases hcT.symm.trans f2
          refine ⟨_, hW', fun Q E d acts => ?_⟩
          rw [hgo, if_pos f3, hz]
        · obtain ⟨c0, t0, f1, f2, f3⟩ := va_Nc.moved (State.WarmedH.alike hk) hno
          cases hcls.symm.trans f1
          cases hcT.symm.trans f2
          obtain ⟨vm2, hW2, h2⟩ := ih hs (U.setVm (U.vm.noted m.cls x.catchType (.cls cT))) hW' hcell
          refine ⟨vm2, hW2, fun Q E d acts => ?_⟩
          rw [hgo, if_neg (by rw [f3]; decide), h2]
          rfl
    · rw [if_neg hc] at h'
      obtain ⟨vm', hW', h2⟩ := ih h' U hW hcell
      refine ⟨vm', hW', fun Q E d acts => ?_⟩
      rw [W.findHandler_go_skip (by simp only [covers, Bool.and_eq_false_imp, decide_eq_true_eq, decide_eq_false_iff_not]; intro q; exact fun q2 => hc ⟨q, q2⟩)]
      exact h2 Q E d acts
section CATCH
variable {w : WD} {x : Cx} {cc : ByteArray} {nL : Nat} {own : String} {ret : Option FieldType} {rm : Room} {cells slots : Nat} {Q : State → Prop} {C : CS} {pc : Nat} {lv : List (Nat × Value)} {st : List Value}
/-- a handler of the method's own takes it -/
theorem gt_catch (ok : Ok w x cc nL own ret rm) {hh : List (Nat × Nat × Nat × Nat)} (hT : hTab (xC x) = hh) {cn : String} {a z : Nat} {E : Heap → Prop} (hE : ∀ H, hA w C H → E H → exc w cn a H) (hs : Srch w own cn pc hh z)
    (k : G w x nL cells slots Q C z lv [.ref a]) : GT w x nL cells slots Q C pc lv st a E := by
  intro H locs ls h1 h2 h3 h4 T hT2 X
  obtain ⟨cell, e1, e2, e3⟩ := hE H h1 h4
  have hfm : ((T.setTop (F0 (xM x) pc ls st)).pushFrame (.throwing a)).vm = T.vm := Stand.throwing_vm _ _ _
  have hfh : ((T.setTop (F0 (xM x) pc ls st)).pushFrame (.throwing a)).heap = T.heap := Stand.throwing_heap _ _ _
  obtain ⟨vm', hW', hfind⟩ := findW (f := F0 (xM x) pc ls st) (a := a) (z := z) (w := w) (own := own) (cn := cn) X ok.ow ok.kw ok.wo rfl e2 e3 (xC x).exceptionTable.toList (by
      have : hTab (xC x) = (xC x).exceptionTable.toList.map (fun h => (h.startPc, h.endPc, h.handlerPc, h.catchType)) := rfl
      rw [← this, hT]; exact hs) ((T.setTop (F0 (xM x) pc ls st)).pushFrame (.throwing a)) (by rw [hfm]; exact X.warmed) (by rw [hfh, hT2]; exact e1)
  obtain ⟨t, a1, b1⟩ := k H locs ls h1 h2 h3 (T.setVm vm') hT2 (X.noted hW')
  refine ⟨t, Steps.caughtW (g := F0 (xM x) pc ls st) X.here (vm' := vm') (pc := z) (fun Q E d acts => ?_) a1, b1⟩
  rw [W.findHandler_eq (meth := xT x) (code := xC x) (by rw [hfm]; exact X.method') X.code]
  exact hfind Q E d acts
end CATCH
