/-! methods with an exception table -/
abbrev hTab (c : Code) : List (Nat × Nat × Nat × Nat) := c.exceptionTable.toList.map (fun h => (h.startPc, h.endPc, h.handlerPc, h.catchType))
def MCW (w : WD) (l : Launch) (y : MethodName) (code : ByteArray) (nL : Nat) (ret : Option FieldType) (hh : List (Nat × Nat × Nat × Nat)) (L mc ms : Nat) (args : List Value) (C : CS) (post : Option Value → CS → Prop) : Prop :=
  Met l y [Cond.codeWith y code nL ret hh] (rmL L mc ms) (va_Pc args (fun U => KW w U ∧ hA w C U.heap)) (qQ w post) mc ms (fr w)
theorem MCW.of {w : WD} {l : Launch} {y : MethodName} {code : ByteArray} {nL : Nat} {ret : Option FieldType} {hh : List (Nat × Nat × Nat × Nat)} {L mc ms : Nat} {args : List Value} {C : CS} {post : Option Value → CS → Prop} (hw : wOk w) (hy : plainName y.cls = true) (hl : (lg_sl args).length ≤ nL)
    (body : ∀ x : Cx, xL x = l → Ok w x code nL y.cls ret (rmL L mc ms) → hTab (xC x) = hh → G w x nL 0 0 (QM w x post mc ms) C 0 (lv_args 0 args) []) : MCW w l y code nL ret hh L mc ms args C post := by
  refine va_MetW (cc := code) (maxL := nL) (ret := ret) (hh := hh) (ws' := []) hy rfl ?_
  intro p e s m a below meth c s₁ B hml hv
  obtain ⟨rfl, hk, hh0⟩ := hv
  have hT : hTab c = hh := by
    obtain ⟨m9, meth9, c9, hn9, h1, h2, -, -, h5, -⟩ := Cond.codeWith_spec (atoms_spec (ws := [Cond.codeWith y code nL ret hh]) B.pre _ List.mem_cons_self)
    cases B.named.symm.trans hn9
    cases B.method.symm.trans h1
    have hc := B.here.code
    have : c = c9 := by
      have e1 : s₁.code? m = some c := hc
      rw [State.code?_eq] at e1
      have e2 : s₁.vm = s.vm := by rw [B.state]; rfl
      rw [e2, B.method] at e1
      exact Option.some.inj (e1.symm.trans h2)
    rw [this]
    exact h5
  have h := body (p, l, e, rmL L mc ms, s, m, args.toArray, below, meth, c) rfl ⟨hw, B.exec, B.bytes, hml, findClass_of_methodNamed B.named, hk, B.notSynchronized, B.returns, rfl⟩ hT
  have h2 := h s.heap [] _ hh0 (fun q hq => by cases hq) (lv_entry args (n := nL) hl)
  rw [lg_entry_eq]
  exact h2
theorem MCW.post {w : WD} {l : Launch} {y : MethodName} {code : ByteArray} {nL : Nat} {ret : Option FieldType} {hh : List (Nat × Nat × Nat × Nat)} {L mc ms : Nat} {args : List Value} {C : CS} {post post2 : Option Value → CS → Prop} (hp : ∀ v C1, post v C1 → post2 v C1) (h : MCW w l y code nL ret hh L mc ms args C post) : MCW w l y code nL ret hh L mc ms args C post2 := by
  intro p e h1 h2 h3 s m a below h4 h5 h6 h7
  obtain ⟨n, o, g1, g2, g3, ⟨v, C1, e1, e2, e3⟩, g5⟩ := h p e h1 h2 h3 s m a below h4 h5 h6 h7
  exact ⟨n, o, g1, g2, g3, ⟨v, C1, e1, hp v C1 e2, e3⟩, g5⟩
theorem MCW.postIR {w : WD} {l : Launch} {y : MethodName} {code : ByteArray} {nL : Nat} {ret : Option FieldType} {hh : List (Nat × Nat × Nat × Nat)} {L mc ms : Nat} {args : List Value} {C : CS} {a : Int32} {q : CS → Prop} (h : MCW w l y code nL ret hh L mc ms args C (fun v C1 => ∃ r : Int32, v = some (.int r) ∧ r = a ∧ q C1)) : MCW w l y code nL ret hh L mc ms args C (pIR a q) :=
  h.post (fun v C1 q => by obtain ⟨r, e1, e2, e3⟩ := q; exact ⟨by rw [e1, e2], e3⟩)
theorem MCW.postI {w : WD} {l : Launch} {y : MethodName} {code : ByteArray} {nL : Nat} {ret : Option FieldType} {hh : List (Nat × Nat × Nat × Nat)} {L mc ms : Nat} {args : List Value} {C : CS} {a : Int32} {C0 : CS} (h : MCW w l y code nL ret hh L mc ms args C (fun v C1 => ∃ r : Int32, v = some (.int r) ∧ r = a ∧ C1 = C0)) : MCW w l y code nL ret hh L mc ms args C (pI a C0) :=
  h.post (fun v C1 q => by obtain ⟨r, e1, e2, e3⟩ := q; exact ⟨by rw [e1, e2], e3⟩)
