/-! functional contracts: the answer and the next world are said outright -/
abbrev pI (a : Int32) (C0 : CS) : Option Value → CS → Prop := fun v C1 => v = some (.int a) ∧ C1 = C0
abbrev pV (C0 : CS) : Option Value → CS → Prop := fun v C1 => v = none ∧ C1 = C0
theorem MC.post {w : WD} {l : Launch} {y : MethodName} {code : ByteArray} {nL : Nat} {ret : Option FieldType} {L mc ms : Nat} {args : List Value} {C : CS} {post post2 : Option Value → CS → Prop} (hp : ∀ v C1, post v C1 → post2 v C1) (h : MC w l y code nL ret L mc ms args C post) : MC w l y code nL ret L mc ms args C post2 := by
  intro p e h1 h2 h3 s m a below h4 h5 h6 h7
  obtain ⟨n, o, g1, g2, g3, ⟨v, C1, e1, e2, e3⟩, g5⟩ := h p e h1 h2 h3 s m a below h4 h5 h6 h7
  exact ⟨n, o, g1, g2, g3, ⟨v, C1, e1, hp v C1 e2, e3⟩, g5⟩
theorem MC.postI {w : WD} {l : Launch} {y : MethodName} {code : ByteArray} {nL : Nat} {ret : Option FieldType} {L mc ms : Nat} {args : List Value} {C : CS} {a : Int32} {C0 : CS} (h : MC w l y code nL ret L mc ms args C (fun v C1 => ∃ r : Int32, v = some (.int r) ∧ r = a ∧ C1 = C0)) : MC w l y code nL ret L mc ms args C (pI a C0) :=
  h.post (fun v C1 q => by obtain ⟨r, e1, e2, e3⟩ := q; exact ⟨by rw [e1, e2], e3⟩)
theorem MC.postV {w : WD} {l : Launch} {y : MethodName} {code : ByteArray} {nL : Nat} {ret : Option FieldType} {L mc ms : Nat} {args : List Value} {C : CS} {C0 : CS} (h : MC w l y code nL ret L mc ms args C (fun v C1 => v = none ∧ C1 = C0)) : MC w l y code nL ret L mc ms args C (pV C0) := h
theorem nb_of {v : Int32} (h : v = 0 ∨ v = 1) : narrow .boolean (.int v) = .int v := by rcases h with rfl | rfl <;> decide
theorem fb_of {v : Int32} (h : v = 0 ∨ v = 1) : fits .boolean (.int v) = true := by rcases h with rfl | rfl <;> decide
theorem putV_m {w : WD} {C : CS} {k : Nat} {v : Int32} (hk : mk k = none) : ∀ c2 V2, fObj w (wI C 1 k v) 1 = some (c2, V2) → c2 = 1 ∧ ∀ i, V2 i = updV (fval w C 1 mk) k (.int v) i := by
  intro c2 V2 h
  have h2 : some (1, fval w (wI C 1 k v) 1 mk) = some (c2, V2) := h
  cases h2
  refine ⟨rfl, fun i => ?_⟩
  unfold fval updV
  by_cases hi : i = k
  · subst hi
    rw [hk]
    simp [wI, up2]
  · simp [wI, up2, hi]
abbrev pIR (a : Int32) (q : CS → Prop) : Option Value → CS → Prop := fun v C1 => v = some (.int a) ∧ q C1
abbrev pVR (q : CS → Prop) : Option Value → CS → Prop := fun v C1 => v = none ∧ q C1
theorem MC.postIR {w : WD} {l : Launch} {y : MethodName} {code : ByteArray} {nL : Nat} {ret : Option FieldType} {L mc ms : Nat} {args : List Value} {C : CS} {a : Int32} {q : CS → Prop} (h : MC w l y code nL ret L mc ms args C (fun v C1 => ∃ r : Int32, v = some (.int r) ∧ r = a ∧ q C1)) : MC w l y code nL ret L mc ms args C (pIR a q) :=
  h.post (fun v C1 q => by obtain ⟨r, e1, e2, e3⟩ := q; exact ⟨by rw [e1, e2], e3⟩)
theorem MC.postVR {w : WD} {l : Launch} {y : MethodName} {code : ByteArray} {nL : Nat} {ret : Option FieldType} {L mc ms : Nat} {args : List Value} {C : CS} {q : CS → Prop} (h : MC w l y code nL ret L mc ms args C (fun v C1 => v = none ∧ q C1)) : MC w l y code nL ret L mc ms args C (pVR q) := h
section CALLS2
variable {w : WD} {x : Cx} {cc : ByteArray} {nL : Nat} {own : String} {ret : Option FieldType} {rm : Room} {cells slots : Nat} {Q : State → Prop} {C C1 : CS} {pc : Nat} {lv : List (Nat × Value)} {st : List Value}
variable {y : MethodName} {cn : String} {code : ByteArray} {nL2 : Nat} {ret2 : Option FieldType} {n idx L : Nat} {rest : List Value} {b : Nat} {r : Int32}
theorem g_nmI {a : Int32} (k : ∀ z : Int32, z = a → G w x nL cells slots Q C pc lv (.int z :: st)) : G w x nL cells slots Q C pc lv (.int a :: st) := k a rfl
theorem g_nmC (k : ∀ z : CS, z = C → G w x nL cells slots Q z pc lv st) : G w x nL cells slots Q C pc lv st := k C rfl
theorem g_callVI (ok : Ok w x cc nL own ret rm) (As : List Value) (cf : CfV y cn code nL2 ret2 n) (ql : Cond.methodLink own idx y ∈ lw_all) (hM : MC w (xL x) y code nL2 ret2 L 0 0 (.ref b :: As) C (pI r C1))
    (hrecv : ∀ H, hA w C H → ∃ cell : Cell, H[b]? = some cell ∧ cell.vm.isStatics = false ∧ (xS x).vm.findClass cn = some cell.cls) (hn : As.length = n) (hs : st = As.reverse ++ .ref b :: rest) (hw : (rest.map fun v => v.category).sum ≤ 8)
    (hR : L + 1 ≤ rm.frames ∧ 8 + (nL2 + 11) + 40 * L ≤ rm.locals) (hcap : cells + 0 ≤ rm.cells ∧ slots + 0 ≤ rm.slots) (d : decode cc pc = .ok (.invokevirtual idx, 3))
    (k : G w x nL cells slots Q C1 (pc + 3) lv (.int r :: rest)) : G w x nL cells slots Q C pc lv st :=
  g_callV ok As cf ql hM hrecv hn hs hw hR hcap d (fun v C2 h => by obtain ⟨rfl, rfl⟩ := h; exact k)
theorem g_callVV (ok : Ok w x cc nL own ret rm) (As : List Value) (cf : CfV y cn code nL2 ret2 n) (ql : Cond.methodLink own idx y ∈ lw_all) (hM : MC w (xL x) y code nL2 ret2 L 0 0 (.ref b :: As) C (pV C1))
    (hrecv : ∀ H, hA w C H → ∃ cell : Cell, H[b]? = some cell ∧ cell.vm.isStatics = false ∧ (xS x).vm.findClass cn = some cell.cls) (hn : As.length = n) (hs : st = As.reverse ++ .ref b :: rest) (hw : (rest.map fun v => v.category).sum ≤ 8)
    (hR : L + 1 ≤ rm.frames ∧ 8 + (nL2 + 11) + 40 * L ≤ rm.locals) (hcap : cells + 0 ≤ rm.cells ∧ slots + 0 ≤ rm.slots) (d : decode cc pc = .ok (.invokevirtual idx, 3))
    (k : G w x nL cells slots Q C1 (pc + 3) lv rest) : G w x nL cells slots Q C pc lv st :=
  g_callV ok As cf ql hM hrecv hn hs hw hR hcap d (fun v C2 h => by obtain ⟨rfl, rfl⟩ := h; exact k)
theorem g_callSI (ok : Ok w x cc nL own ret rm) (As : List Value) (cf : CfS y code nL2 ret2 n) (ql : Cond.methodLink own idx y ∈ lw_all) (hM : MC w (xL x) y code nL2 ret2 L 0 0 As C (pI r C1))
    (hn : As.length = n) (hs : st = As.reverse ++ rest) (hw : (rest.map fun v => v.category).sum ≤ 8)
    (hR : L + 1 ≤ rm.frames ∧ 8 + (nL2 + 11) + 40 * L ≤ rm.locals) (hcap : cells + 0 ≤ rm.cells ∧ slots + 0 ≤ rm.slots) (d : decode cc pc = .ok (.invokestatic idx, 3))
    (k : G w x nL cells slots Q C1 (pc + 3) lv (.int r :: rest)) : G w x nL cells slots Q C pc lv st :=
  g_callS ok As cf ql hM hn hs hw hR hcap d (fun v C2 h => by obtain ⟨rfl, rfl⟩ := h; exact k)
theorem g_callSV (ok : Ok w x cc nL own ret rm) (As : List Value) (cf : CfS y code nL2 ret2 n) (ql : Cond.methodLink own idx y ∈ lw_all) (hM : MC w (xL x) y code nL2 ret2 L 0 0 As C (pV C1))
    (hn : As.length = n) (hs : st = As.reverse ++ rest) (hw : (rest.map fun v => v.category).sum ≤ 8)
    (hR : L + 1 ≤ rm.frames ∧ 8 + (nL2 + 11) + 40 * L ≤ rm.locals) (hcap : cells + 0 ≤ rm.cells ∧ slots + 0 ≤ rm.slots) (d : decode cc pc = .ok (.invokestatic idx, 3))
    (k : G w x nL cells slots Q C1 (pc + 3) lv rest) : G w x nL cells slots Q C pc lv st :=
  g_callS ok As cf ql hM hn hs hw hR hcap d (fun v C2 h => by obtain ⟨rfl, rfl⟩ := h; exact k)
theorem g_callVIR (ok : Ok w x cc nL own ret rm) {q : CS → Prop} (As : List Value) (cf : CfV y cn code nL2 ret2 n) (ql : Cond.methodLink own idx y ∈ lw_all) (hM : MC w (xL x) y code nL2 ret2 L 0 0 (.ref b :: As) C (pIR r q))
    (hrecv : ∀ H, hA w C H → ∃ cell : Cell, H[b]? = some cell ∧ cell.vm.isStatics = false ∧ (xS x).vm.findClass cn = some cell.cls) (hn : As.length = n) (hs : st = As.reverse ++ .ref b :: rest) (hw : (rest.map fun v => v.category).sum ≤ 8)
    (hR : L + 1 ≤ rm.frames ∧ 8 + (nL2 + 11) + 40 * L ≤ rm.locals) (hcap : cells + 0 ≤ rm.cells ∧ slots + 0 ≤ rm.slots) (d : decode cc pc = .ok (.invokevirtual idx, 3))
    (k : ∀ C1, q C1 → G w x nL cells slots Q C1 (pc + 3) lv (.int r :: rest)) : G w x nL cells slots Q C pc lv st :=
  g_callV ok As cf ql hM hrecv hn hs hw hR hcap d (fun v C2 h => by obtain ⟨rfl, h⟩ := h; exact k _ h)
theorem g_callVVR (ok : Ok w x cc nL own ret rm) {q : CS → Prop} (As : List Value) (cf : CfV y cn code nL2 ret2 n) (ql : Cond.methodLink own idx y ∈ lw_all) (hM : MC w (xL x) y code nL2 ret2 L 0 0 (.ref b :: As) C (pVR q))
    (hrecv : ∀ H, hA w C H → ∃ cell : Cell, H[b]? = some cell ∧ cell.vm.isStatics = false ∧ (xS x).vm.findClass cn = some cell.cls) (hn : As.length = n) (hs : st = As.reverse ++ .ref b :: rest) (hw : (rest.map fun v => v.category).sum ≤ 8)
    (hR : L + 1 ≤ rm.frames ∧ 8 + (nL2 + 11) + 40 * L ≤ rm.locals) (hcap : cells + 0 ≤ rm.cells ∧ slots + 0 ≤ rm.slots) (d : decode cc pc = .ok (.invokevirtual idx, 3))
    (k : ∀ C1, q C1 → G w x nL cells slots Q C1 (pc + 3) lv rest) : G w x nL cells slots Q C pc lv st :=
  g_callV ok As cf ql hM hrecv hn hs hw hR hcap d (fun v C2 h => by obtain ⟨rfl, h⟩ := h; exact k _ h)
theorem g_callSIR (ok : Ok w x cc nL own ret rm) {q : CS → Prop} (As : List Value) (cf : CfS y code nL2 ret2 n) (ql : Cond.methodLink own idx y ∈ lw_all) (hM : MC w (xL x) y code nL2 ret2 L 0 0 As C (pIR r q))
    (hn : As.length = n) (hs : st = As.reverse ++ rest) (hw : (rest.map fun v => v.category).sum ≤ 8)
    (hR : L + 1 ≤ rm.frames ∧ 8 + (nL2 + 11) + 40 * L ≤ rm.locals) (hcap : cells + 0 ≤ rm.cells ∧ slots + 0 ≤ rm.slots) (d : decode cc pc = .ok (.invokestatic idx, 3))
    (k : ∀ C1, q C1 → G w x nL cells slots Q C1 (pc + 3) lv (.int r :: rest)) : G w x nL cells slots Q C pc lv st :=
  g_callS ok As cf ql hM hn hs hw hR hcap d (fun v C2 h => by obtain ⟨rfl, h⟩ := h; exact k _ h)
theorem g_callSVR (ok : Ok w x cc nL own ret rm) {q : CS → Prop} (As : List Value) (cf : CfS y code nL2 ret2 n) (ql : Cond.methodLink own idx y ∈ lw_all) (hM : MC w (xL x) y code nL2 ret2 L 0 0 As C (pVR q))
    (hn : As.length = n) (hs : st = As.reverse ++ rest) (hw : (rest.map fun v => v.category).sum ≤ 8)
    (hR : L + 1 ≤ rm.frames ∧ 8 + (nL2 + 11) + 40 * L ≤ rm.locals) (hcap : cells + 0 ≤ rm.cells ∧ slots + 0 ≤ rm.slots) (d : decode cc pc = .ok (.invokestatic idx, 3))
    (k : ∀ C1, q C1 → G w x nL cells slots Q C1 (pc + 3) lv rest) : G w x nL cells slots Q C pc lv st :=
  g_callS ok As cf ql hM hn hs hw hR hcap d (fun v C2 h => by obtain ⟨rfl, h⟩ := h; exact k _ h)
end CALLS2
theorem ib_ite {c : Prop} [Decidable c] {a b : Int32} (ha : a = 0 ∨ a = 1) (hb : b = 0 ∨ b = 1) : (if c then a else b) = 0 ∨ (if c then a else b) = 1 := by
  split
  · exact ha
  · exact hb
