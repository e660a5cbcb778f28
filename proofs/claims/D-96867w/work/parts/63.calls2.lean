/-! calls: overriding methods, super, through an interface, nest mates, constructors -/
theorem goodL {ws : List Cond} (h : ∀ q ∈ ws, q ∈ lw_all) : GoodIn lw_all ws := fun q hq => lw_self q (h q hq)
/-- what the tables say of a call that names y0 and runs y, on an object of class cn -/
def CfO (y0 y : MethodName) (cn : String) (code : ByteArray) (nL : Nat) (ret : Option FieldType) (n : Nat) : Prop :=
  (y0.cls ≠ "java/lang/invoke/MethodHandle" ∧ y0.cls ≠ "java/lang/invoke/VarHandle" ∧ (parseMethodDescriptor y0.desc).map (fun d => d.parameters.length) = some n) ∧ Cond.initialized y.cls ∈ lw_all ∧ Cond.code y code nL ret ∈ lw_all ∧ Cond.instanceMethod y ∈ lw_all ∧ Cond.selects cn y0 y ∈ lw_all ∧ Cond.sameMethod y0.cls y0.cls y0.name y0.desc ∈ lw_all ∧ Cond.instanceMethod ⟨y0.cls, y0.name, y0.desc⟩ ∈ lw_all ∧ ∃ b0 m0 r0, Cond.code ⟨y0.cls, y0.name, y0.desc⟩ b0 m0 r0 ∈ lw_all
/-- of super.m() -/
def CfP (own : String) (y : MethodName) (code : ByteArray) (nL : Nat) (ret : Option FieldType) (n : Nat) : Prop :=
  (y.name ≠ "<init>" ∧ (parseMethodDescriptor y.desc).map (fun d => d.parameters.length) = some n) ∧ Cond.initialized y.cls ∈ lw_all ∧ Cond.code y code nL ret ∈ lw_all ∧ Cond.instanceMethod y ∈ lw_all ∧ Cond.sameMethod y.cls y.cls y.name y.desc ∈ lw_all ∧ Cond.superclass own y.cls ∈ lw_all
/-- of a call through an interface -/
def CfF (y0 y : MethodName) (cn : String) (code : ByteArray) (nL : Nat) (ret : Option FieldType) (n : Nat) : Prop :=
  (y0.cls ≠ "java/lang/invoke/MethodHandle" ∧ y0.cls ≠ "java/lang/invoke/VarHandle" ∧ (parseMethodDescriptor y0.desc).map (fun d => d.parameters.length) = some n) ∧ Cond.initialized y.cls ∈ lw_all ∧ Cond.code y code nL ret ∈ lw_all ∧ Cond.instanceMethod y ∈ lw_all ∧ Cond.selects cn y0 y ∈ lw_all ∧ Cond.declares y0 ∈ lw_tbl ∧ Cond.interfaceMethod y0.cls y0.cls y0.name y0.desc ∈ lw_tbl ∧ Cond.publicMethod y ∈ lw_tbl ∧ Cond.unhidden cn y0.name y0.desc ∈ lw_tbl ∧ Cond.castable cn y0.cls ∈ lw_tbl
/-- of a constructor -/
def CfI (y : MethodName) (code : ByteArray) (nL n : Nat) : Prop :=
  (y.cls ≠ "java/lang/invoke/MethodHandle" ∧ y.cls ≠ "java/lang/invoke/VarHandle" ∧ (parseMethodDescriptor y.desc).map (fun d => d.parameters.length) = some n) ∧ Cond.initialized y.cls ∈ lw_all ∧ Cond.code y code nL none ∈ lw_all ∧ y.name = "<init>" ∧ Cond.instanceMethod y ∈ lw_all
section CALLS3
variable {w : WD} {x : Cx} {cc : ByteArray} {nL : Nat} {own : String} {ret : Option FieldType} {rm : Room} {cells slots : Nat} {Q : State → Prop} {C : CS} {pc : Nat} {lv : List (Nat × Value)} {st : List Value}
variable {y0 y : MethodName} {cn : String} {code : ByteArray} {nL2 : Nat} {ret2 : Option FieldType} {n idx L mc ms : Nat} {post : Option Value → CS → Prop} {rest : List Value} {b : Nat}
abbrev Recv (w : WD) (x : Cx) (C : CS) (b : Nat) (cn : String) : Prop := ∀ H, hA w C H → ∃ cell : Cell, H[b]? = some cell ∧ cell.vm.isStatics = false ∧ (xS x).vm.findClass cn = some cell.cls
theorem g_callO (ok : Ok w x cc nL own ret rm) (As : List Value) (cf : CfO y0 y cn code nL2 ret2 n) (ql : Cond.methodLink own idx y0 ∈ lw_all) (hM : MC w (xL x) y code nL2 ret2 L mc ms (.ref b :: As) C post)
    (hrecv : Recv w x C b cn) (hn : As.length = n) (hs : st = As.reverse ++ .ref b :: rest) (hw : (rest.map fun v => v.category).sum ≤ 8)
    (hR : L + 1 ≤ rm.frames ∧ 8 + (nL2 + 11) + 40 * L ≤ rm.locals) (hcap : cells + mc ≤ rm.cells ∧ slots + ms ≤ rm.slots) (d : decode cc pc = .ok (.invokevirtual idx, 3))
    (k : ∀ v C1, post v C1 → G w x nL (cells + mc) (slots + ms) Q C1 (pc + 3) lv (v.toList ++ rest)) : G w x nL cells slots Q C pc lv st := by
  obtain ⟨c1, c2, c3, c4, c5, c6, c7, b0, m0, r0, c8⟩ := cf
  refine g_run ok (a := (Value.ref b :: As).toArray) (fun H locs ls h1 h3 => ?_) k
  refine va_runU (C := cn) (owner := y0.cls) (x := y0) (As := As) (n := n) (bytes := code) (maxL := nL2) (ret := ret2) (ws := ws1 y code nL2 ret2) (rm := rmL L mc ms) ⟨ok.ex, ok.cd, ok.ml, ok.ow, ok.ts⟩ hM (va_cwO (ws' := []) n ok.ts (goodL fun q hq => ?_) rfl rfl rfl c8 c1 (by rw [ok.ro]; exact hR)) ⟨blindA, hrecv H h1, fun U hU hW => ⟨rfl, ok.kw.on hW, by rw [hU]; exact h1⟩⟩ rfl hn h3.1 hs (lv_room hw) d (by rw [ok.ro]; exact hcap)
  simp only [va_wsO, ws1, List.cons_append, List.nil_append, List.mem_cons, List.not_mem_nil, or_false] at hq
  rcases hq with h | h | h | h | h | h | h
  · rw [h]; exact ql
  · rw [h]; exact c6
  · rw [h]; exact c7
  · rw [h]; exact c5
  · rw [h]; exact c4
  · rw [h]; exact c2
  · rw [h]; exact c3
theorem g_callSup (ok : Ok w x cc nL own ret rm) (As : List Value) (cf : CfP own y code nL2 ret2 n) (ql : Cond.methodLink own idx y ∈ lw_all) (hM : MC w (xL x) y code nL2 ret2 L mc ms (.ref b :: As) C post)
    {cC : ClassId} (hat : ClassAt (xS x) cn cC) (hrecv : Recv w x C b cn) (hn : As.length = n) (hs : st = As.reverse ++ .ref b :: rest) (hw : (rest.map fun v => v.category).sum ≤ 8)
    (hR : L + 1 ≤ rm.frames ∧ 8 + (nL2 + 11) + 40 * L ≤ rm.locals) (hcap : cells + mc ≤ rm.cells ∧ slots + ms ≤ rm.slots) (d : decode cc pc = .ok (.invokespecial idx, 3))
    (k : ∀ v C1, post v C1 → G w x nL (cells + mc) (slots + ms) Q C1 (pc + 3) lv (v.toList ++ rest)) : G w x nL cells slots Q C pc lv st := by
  obtain ⟨c1, c2, c3, c4, c5, c6⟩ := cf
  refine g_run ok (a := (Value.ref b :: As).toArray) (fun H locs ls h1 h3 => ?_) k
  refine va_runSU hat (As := As) (n := n) (bytes := code) (maxL := nL2) (ret := ret2) (ws := ws1 y code nL2 ret2) (rm := rmL L mc ms) ⟨ok.ex, ok.cd, ok.ml, ok.ow, ok.ts⟩ hM (va_cwSU (ws' := []) n ok.ts (goodL fun q hq => ?_) rfl rfl rfl c1 (by rw [ok.ro]; exact hR)) ⟨blindA, hrecv H h1, fun U hU hW => ⟨rfl, ok.kw.on hW, by rw [hU]; exact h1⟩⟩ rfl hn h3.1 hs (lv_room hw) d (by rw [ok.ro]; exact hcap)
  simp only [va_wsSU, ws1, List.cons_append, List.nil_append, List.mem_cons, List.not_mem_nil, or_false] at hq
  rcases hq with h | h | h | h | h | h
  · rw [h]; exact ql
  · rw [h]; exact c5
  · rw [h]; exact c6
  · rw [h]; exact c4
  · rw [h]; exact c2
  · rw [h]; exact c3
theorem g_callVN (ok : Ok w x cc nL own ret rm) (As : List Value) (cf : CfV y cn code nL2 ret2 n) {host : String} (ql : Cond.methodLinkNest own idx y host ∈ lw_tbl) (hM : MC w (xL x) y code nL2 ret2 L mc ms (.ref b :: As) C post)
    (hrecv : Recv w x C b cn) (hn : As.length = n) (hs : st = As.reverse ++ .ref b :: rest) (hw : (rest.map fun v => v.category).sum ≤ 8)
    (hR : L + 1 ≤ rm.frames ∧ 8 + (nL2 + 11) + 40 * L ≤ rm.locals) (hcap : cells + mc ≤ rm.cells ∧ slots + ms ≤ rm.slots) (d : decode cc pc = .ok (.invokevirtual idx, 3))
    (k : ∀ v C1, post v C1 → G w x nL (cells + mc) (slots + ms) Q C1 (pc + 3) lv (v.toList ++ rest)) : G w x nL cells slots Q C pc lv st := by
  obtain ⟨c1, c2, c3, c4, c5⟩ := cf
  refine g_run ok (a := (Value.ref b :: As).toArray) (fun H locs ls h1 h3 => ?_) k
  exact va_runVN (C := cn) (As := As) (n := n) (ws := ws1 y code nL2 ret2) (rm := rmL L mc ms) ⟨ok.ex, ok.cd, ok.ml, ok.ow, ok.ts⟩ hM ⟨va_cnB (ws' := []) n ok.ts (goodL fun q hq => by rw [List.mem_singleton.mp hq]; exact c3) rfl rfl rfl (ok.nm ql) (ok.wd c2) c1 (by rw [ok.ro]; exact hR), ok.wd c4, ok.wd c5⟩ ⟨blindA, hrecv H h1, fun U hU hW => ⟨rfl, ok.kw.on hW, by rw [hU]; exact h1⟩⟩ rfl hn h3.1 hs (lv_room hw) d (by rw [ok.ro]; exact hcap)
theorem g_callSN (ok : Ok w x cc nL own ret rm) (As : List Value) (cf : CfS y code nL2 ret2 n) {host : String} (ql : Cond.methodLinkNest own idx y host ∈ lw_tbl) (hM : MC w (xL x) y code nL2 ret2 L mc ms As C post)
    (hn : As.length = n) (hs : st = As.reverse ++ rest) (hw : (rest.map fun v => v.category).sum ≤ 8)
    (hR : L + 1 ≤ rm.frames ∧ 8 + (nL2 + 11) + 40 * L ≤ rm.locals) (hcap : cells + mc ≤ rm.cells ∧ slots + ms ≤ rm.slots) (d : decode cc pc = .ok (.invokestatic idx, 3))
    (k : ∀ v C1, post v C1 → G w x nL (cells + mc) (slots + ms) Q C1 (pc + 3) lv (v.toList ++ rest)) : G w x nL cells slots Q C pc lv st := by
  obtain ⟨c1, c2, c3, c4⟩ := cf
  refine g_run ok (a := As.toArray) (fun H locs ls h1 h3 => ?_) k
  exact va_runSN (As := As) (n := n) (ws := ws1 y code nL2 ret2) (rm := rmL L mc ms) ⟨ok.ex, ok.cd, ok.ml, ok.ow, ok.ts⟩ hM ⟨va_cnB (ws' := []) n ok.ts (goodL fun q hq => by rw [List.mem_singleton.mp hq]; exact c3) rfl rfl rfl (ok.nm ql) (ok.wd c2) c1 (by rw [ok.ro]; exact hR), ok.wd c4, trivial⟩ ⟨blindA, fun U hU hW => ⟨rfl, ok.kw.on hW, by rw [hU]; exact h1⟩⟩ rfl hn h3.1 hs (lv_room hw) d (by rw [ok.ro]; exact hcap)
theorem g_callI (ok : Ok w x cc nL own ret rm) (As : List Value) (cf : CfI y code nL2 n) (ql : Cond.methodLink own idx y ∈ lw_all) (hM : MC w (xL x) y code nL2 none L mc ms (.ref b :: As) C post)
    (hn : As.length = n) (hs : st = As.reverse ++ .ref b :: rest) (hw : (rest.map fun v => v.category).sum ≤ 8)
    (hR : L + 1 ≤ rm.frames ∧ 8 + (nL2 + 11) + 40 * L ≤ rm.locals) (hcap : cells + mc ≤ rm.cells ∧ slots + ms ≤ rm.slots) (d : decode cc pc = .ok (.invokespecial idx, 3))
    (k : ∀ v C1, post v C1 → G w x nL (cells + mc) (slots + ms) Q C1 (pc + 3) lv (v.toList ++ rest)) : G w x nL cells slots Q C pc lv st := by
  obtain ⟨c1, c2, c3, c4, c5⟩ := cf
  refine g_run ok (a := (Value.ref b :: As).toArray) (fun H locs ls h1 h3 => ?_) k
  exact va_runI (As := As) (n := n) ⟨ok.ex, ok.cd, ok.ml, ok.ow, ok.ts⟩ hM ⟨callB1 ok c1 c2 c3 ql hR, c4, ok.wd c5⟩ ⟨blindA, fun U hU hW => ⟨rfl, ok.kw.on hW, by rw [hU]; exact h1⟩⟩ rfl hn h3.1 hs (lv_room hw) d (by rw [ok.ro]; exact hcap)
theorem g_callIN (ok : Ok w x cc nL own ret rm) (As : List Value) (cf : CfI y code nL2 n) {host : String} (ql : Cond.methodLinkNest own idx y host ∈ lw_tbl) (hM : MC w (xL x) y code nL2 none L mc ms (.ref b :: As) C post)
    (hn : As.length = n) (hs : st = As.reverse ++ .ref b :: rest) (hw : (rest.map fun v => v.category).sum ≤ 8)
    (hR : L + 1 ≤ rm.frames ∧ 8 + (nL2 + 11) + 40 * L ≤ rm.locals) (hcap : cells + mc ≤ rm.cells ∧ slots + ms ≤ rm.slots) (d : decode cc pc = .ok (.invokespecial idx, 3))
    (k : ∀ v C1, post v C1 → G w x nL (cells + mc) (slots + ms) Q C1 (pc + 3) lv (v.toList ++ rest)) : G w x nL cells slots Q C pc lv st := by
  obtain ⟨c1, c2, c3, c4, c5⟩ := cf
  refine g_run ok (a := (Value.ref b :: As).toArray) (fun H locs ls h1 h3 => ?_) k
  exact va_runIN (As := As) (n := n) (ws := ws1 y code nL2 none) (rm := rmL L mc ms) ⟨ok.ex, ok.cd, ok.ml, ok.ow, ok.ts⟩ hM ⟨va_cnB (ws' := []) n ok.ts (goodL fun q hq => by rw [List.mem_singleton.mp hq]; exact c3) rfl rfl rfl (ok.nm ql) (ok.wd c2) c1 (by rw [ok.ro]; exact hR), c4, ok.wd c5⟩ ⟨blindA, fun U hU hW => ⟨rfl, ok.kw.on hW, by rw [hU]; exact h1⟩⟩ rfl hn h3.1 hs (lv_room hw) d (by rw [ok.ro]; exact hcap)
theorem g_run5 (ok : Ok w x cc nL own ret rm) {a : Array Value} (hr : ∀ (H : Heap) (locs : List Loc) (ls : Array Slot), hA w C H → lv_has ls nL lv → va_Run5 (xP x) (xL x) (xE x) (xR x) (xS x) (xM x) (xA x) (xB x) (xT x) (xC x) H locs cells slots mc ms (F0 (xM x) pc ls st) rest (qQ w post a) (fr w))
    (k : ∀ v C1, post v C1 → G w x nL (cells + mc) (slots + ms) Q C1 (pc + 5) lv (v.toList ++ rest)) : G w x nL cells slots Q C pc lv st := by
  intro H locs ls h1 h2 h3 T hT X
  obtain ⟨v, st₀, t, T', L2, h0, X', hL, e1, e2, ⟨v2, C1, hv, hp, hb⟩, stp⟩ := hr H locs ls h1 h3 T hT X
  cases hv
  obtain ⟨t2, a1, b1⟩ := k v C1 hp T'.heap (locs ++ L2) ls (by rw [e1]; exact hb) (fun q hq => by
      rcases List.mem_append.mp hq with h | h
      · exact h2 q h
      · exact hL q h) h3 T' rfl X'
  exact ⟨t2, stp t2 a1, b1⟩
theorem g_callF (ok : Ok w x cc nL own ret rm) (As : List Value) (cf : CfF y0 y cn code nL2 ret2 n) (ql : Cond.methodLink own idx y0 ∈ lw_all) (hM : MC w (xL x) y code nL2 ret2 L mc ms (.ref b :: As) C post)
    {cC : ClassId} (hat : ClassAt (xS x) cn cC) (hrecv : Recv w x C b cn) (hn : As.length = n) (hs : st = As.reverse ++ .ref b :: rest) (hw : (rest.map fun v => v.category).sum ≤ 8)
    (hR : L + 1 ≤ rm.frames ∧ 8 + (nL2 + 11) + 40 * L ≤ rm.locals) (hcap : cells + mc ≤ rm.cells ∧ slots + ms ≤ rm.slots) {count : Nat} (d : decode cc pc = .ok (.invokeinterface idx count, 5))
    (k : ∀ v C1, post v C1 → G w x nL (cells + mc) (slots + ms) Q C1 (pc + 5) lv (v.toList ++ rest)) : G w x nL cells slots Q C pc lv st := by
  obtain ⟨c1, c2, c3, c4, c5, c6, c7, c8, c9, c10⟩ := cf
  have hF0 : va_Fw cn y0 y (wS w) := va_Fw.of (ok.wo.tbl _ c6) (ok.wo.tbl _ c7) (ok.wo.tbl _ c8) (ok.wo.tbl _ c9) (ok.wo.tbl _ c10)
  have hF : va_Fw cn y0 y (xS x) := va_Fw.moved ⟨c1.1, c1.2.1⟩ (State.WarmedH.alike ok.kw) hF0
  refine g_run5 ok (a := (Value.ref b :: As).toArray) (fun H locs ls h1 h3 => ?_) k
  refine va_runF hat (x := y0) (As := As) (n := n) (bytes := code) (maxL := nL2) (ret := ret2) (ws := ws1 y code nL2 ret2) (rm := rmL L mc ms) ⟨ok.ex, ok.cd, ok.ml, ok.ow, ok.ts⟩ hM (va_cwF (ws' := []) n ok.ts (goodL fun q hq => ?_) rfl rfl rfl hF c1 (by rw [ok.ro]; exact hR)) ⟨blindA, hrecv H h1, fun U hU hW => ⟨rfl, ok.kw.on hW, by rw [hU]; exact h1⟩⟩ rfl hn h3.1 hs (lv_room hw) d (by rw [ok.ro]; exact hcap)
  simp only [va_wsF, ws1, List.cons_append, List.nil_append, List.mem_cons, List.not_mem_nil, or_false] at hq
  rcases hq with h | h | h | h | h
  · rw [h]; exact ql
  · rw [h]; exact c5
  · rw [h]; exact c4
  · rw [h]; exact c2
  · rw [h]; exact c3
/-- a dynamic object as a receiver -/
theorem recvD (ok : Ok w x cc nL own ret rm) {a c m : Nat} (ht : C.2.2.2.2.2.1 a = some (c, m)) (h50 : c < 50) {T : u_T} {N : Nat} (hc : cls[c]? = some (cn, T, N)) : Recv w x C a cn := by
  intro H h1
  have hd := (h1.2.2.2 a _ ht).1
  unfold dynAt at hd
  rw [if_pos h50] at hd
  obtain ⟨r, e1, cell, q1, q2, q3, q4⟩ := hd
  have hr : r = (cn, T, N) := Option.some.inj (e1.symm.trans hc)
  subst hr
  exact ⟨cell, q1, by rw [q3]; rfl, by rw [q2]; exact (ok.K.1 c _ hc).2.1⟩
theorem classAtD (ok : Ok w x cc nL own ret rm) {c : Nat} {T : u_T} {N : Nat} (hc : cls[c]? = some (cn, T, N)) : ClassAt (xS x) cn ((wD w).1 c) := (ok.K.1 c _ hc).2
theorem g_aret (ok : Ok w x cc nL own (some (.object cn)) rm) {a : Nat} (d : decode cc pc = .ok (.areturn, 1)) (hq : post (some (.ref a)) C) : G w x nL cells slots (QM w x post cells slots) C pc lv [.ref a] :=
  fun H locs ls h1 h2 h3 => W.aret ok.ex ok.cd ok.rt (Or.inl ⟨_, rfl⟩) (Or.inr ⟨_, rfl⟩) (fun t ht hW => ⟨_, C, rfl, hq, by rw [ht]; exact h1⟩) h2 d ok.lk
/-- contracts may ask for less room than is there -/
theorem MC.ask {w : WD} {l : Launch} {L mc ms : Nat} {args : List Value} {q : Prop} (h : q → MC w l y code nL ret L mc ms args C post) (hq : q) : MC w l y code nL ret L mc ms args C post := h hq
end CALLS3
