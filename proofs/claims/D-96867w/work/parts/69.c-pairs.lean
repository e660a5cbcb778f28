/-! the statement's premises: leaves of narrow_1 -/
theorem bL {a b : Cond} {A : Array Value} {s : State} (h : (Cond.and a b).before A s = true) : a.before A s = true := by
  rw [Cond.before_and, Bool.and_eq_true] at h
  exact h.1
theorem bR {a b : Cond} {A : Array Value} {s : State} (h : (Cond.and a b).before A s = true) : b.before A s = true := by
  rw [Cond.before_and, Bool.and_eq_true] at h
  exact h.2
theorem wOk.nar {w : WD} (h : wOk w) : narrow_1.before #[Value.ref (wB w)] (wS w) = true := bR h.2.2.2.2.1
theorem wOk.mods {w : WD} (h : wOk w) : modulesRight_1 (wS w) = true := h.2.2.2.2.2

theorem nl_Forged {w : WD} (h : wOk w) : (Cond.landsInDefault "TwoGuilds$Forged" ⟨"TwoGuilds$Glove", "isLike", "(LTwoGuilds$Glove;LTwoGuilds$Glove;)Z"⟩ yX17_isLike).before #[Value.ref (wB w)] (wS w) = true := (bR (bL (bL (bR (bR (bR (bR (bR (bR (h.nar))))))))))
theorem nl_Furred {w : WD} (h : wOk w) : (Cond.landsInDefault "TwoGuilds$Furred" ⟨"TwoGuilds$Glove", "isLike", "(LTwoGuilds$Glove;LTwoGuilds$Glove;)Z"⟩ yX17_isLike).before #[Value.ref (wB w)] (wS w) = true := (bL (bR (bL (bR (bR (bR (bR (bR (bR (h.nar))))))))))
theorem nl_Glove {w : WD} (h : wOk w) : (Cond.landsInDefault "TwoGuilds$Glove" ⟨"TwoGuilds$Glove", "isLike", "(LTwoGuilds$Glove;LTwoGuilds$Glove;)Z"⟩ yX17_isLike).before #[Value.ref (wB w)] (wS w) = true := (bR (bR (bL (bR (bR (bR (bR (bR (bR (h.nar))))))))))
theorem nl_Lined {w : WD} (h : wOk w) : (Cond.landsInDefault "TwoGuilds$Lined" ⟨"TwoGuilds$Glove", "isLike", "(LTwoGuilds$Glove;LTwoGuilds$Glove;)Z"⟩ yX17_isLike).before #[Value.ref (wB w)] (wS w) = true := (bL (bL (bR (bR (bR (bR (bR (bR (bR (h.nar))))))))))
theorem nl_Loose {w : WD} (h : wOk w) : (Cond.landsInDefault "TwoGuilds$Loose" ⟨"TwoGuilds$Glove", "isLike", "(LTwoGuilds$Glove;LTwoGuilds$Glove;)Z"⟩ yX17_isLike).before #[Value.ref (wB w)] (wS w) = true := (bR (bL (bR (bR (bR (bR (bR (bR (bR (h.nar))))))))))
theorem nl_Mitten {w : WD} (h : wOk w) : (Cond.landsInDefault "TwoGuilds$Mitten" ⟨"TwoGuilds$Glove", "isLike", "(LTwoGuilds$Glove;LTwoGuilds$Glove;)Z"⟩ yX17_isLike).before #[Value.ref (wB w)] (wS w) = true := (bL (bR (bR (bR (bR (bR (bR (bR (bR (h.nar))))))))))
theorem nd_link {w : WD} (h : wOk w) : (Cond.methodLink "TwoGuilds$Glove" 36 ⟨"TwoGuilds$Glove", "isLike", "(LTwoGuilds$Glove;LTwoGuilds$Glove;)Z"⟩).before #[Value.ref (wB w)] (wS w) = true := bL (bL (bL (bL (bL (bL (bL (bL (bL (bL (h.nar))))))))))
theorem nd_same {w : WD} (h : wOk w) : (Cond.sameMethod "TwoGuilds$Glove" "TwoGuilds$Fits" "isLike" "(LTwoGuilds$Glove;LTwoGuilds$Glove;)Z").before #[Value.ref (wB w)] (wS w) = true := bL (bR (bL (bL (bL (bL (bL (bL (bL (bL (bL (h.nar)))))))))))
/-! a call that lands in an interface's default -/
theorem nk_any {vm vm' : Vm} (h : vm.Alike vm') (f : Class → Bool) (hf : ∀ k : Class, f k.bare = f k) (c : ClassId) : (vm'.classes[c]?).any f = (vm.classes[c]?).any f := by
  cases hk : vm.classes[c]? with
  | none => rw [h.none hk]
  | some k =>
    obtain ⟨k', hk', he⟩ := h.2.2 _ _ hk
    rw [hk', Option.any_some, Option.any_some, ← hf k', Class.bare_of he, hf]
theorem nk_held {vm vm' : Vm} (h : vm.Alike vm') (c : ClassId) (name desc : String) : nearestHeld vm' c name desc = nearestHeld vm c name desc := by
  have a1 : superinterfaceMethods vm' = superinterfaceMethods vm := by rw [← superinterfaceMethods_bare vm', h.bare_eq, superinterfaceMethods_bare]
  have a2 : maximallySpecific vm' = maximallySpecific vm := by rw [← maximallySpecific_bare vm', h.bare_eq, maximallySpecific_bare]
  have a3 : ∀ k : ClassId, (vm'.classes[k]?).any (·.isInterface) = (vm.classes[k]?).any (·.isInterface) := nk_any h _ fun _ => rfl
  have a4 : ∀ k : ClassId, ((vm'.classes[k]?).any fun q => q.methods.any fun m => !m.isAbstract && !m.isStatic) = (vm.classes[k]?).any fun q => q.methods.any fun m => !m.isAbstract && !m.isStatic := nk_any h _ fun _ => rfl
  have a5 : ∀ (g : ClassId → Bool) (k : ClassId), (vm'.classes[k]?).any (·.interfaces.any g) = (vm.classes[k]?).any (·.interfaces.any g) := fun g => nk_any h _ fun _ => rfl
  simp only [nearestHeld, held, h.superclasses, h.declaredIn, h.superinterfaces, h.method?, a1, a2, a3, a4, a5]
/-- what the table of the nearest class holds is m, or nothing -/
def nkOk (vm : Vm) (c : ClassId) (name desc : String) (m : MethodId) : Prop := match nearestHeld vm c name desc with
  | some (_, .default d) => d = m
  | some (_, .thrower _) => False
  | _ => True
/-- what landsInDefault says -/
theorem nk_spec {A : Array Value} {s : State} {cn : String} {y0 y : MethodName} (h : (Cond.landsInDefault cn y0 y).before A s = true) :
    ∃ c r m rm mk, s.vm.findClass cn = some c ∧ s.methodFound? y0.cls y0.name y0.desc = some r ∧ s.methodNamed? y = some m ∧ s.vm.method? r = some rm ∧ selectMethod {} s.vm c r = .method m ∧ s.vm.classes[m.cls]? = some mk ∧ mk.isInterface = true ∧ nkOk s.vm c rm.name rm.desc m := by
  simp only [Cond.before, Cond.holds, Cond.value] at h
  cases h1 : s.vm.findClass cn with
  | none => simp [h1] at h
  | some c =>
    cases h2 : s.methodFound? y0.cls y0.name y0.desc with
    | none => simp [h1, h2] at h
    | some r =>
      cases h3 : s.methodNamed? y with
      | none => simp [h1, h2, h3] at h
      | some m =>
        cases h4 : s.vm.method? r with
        | none => simp [h1, h2, h3, h4] at h
        | some rm =>
          simp only [h1, h2, h3, h4, Option.map_some, beq_iff_eq, Option.some.injEq] at h
          cases h5 : selectMethod {} s.vm c r with
          | method m2 =>
            rw [h5] at h
            simp only [Bool.and_eq_true, decide_eq_true_eq, Option.any_eq_true] at h
            obtain ⟨⟨⟨⟨e1, mk, e2, e3⟩, -⟩, -⟩, e6⟩ := h
            subst e1
            refine ⟨c, r, m2, rm, mk, rfl, rfl, rfl, h4, h5, e2, e3, ?_⟩
            unfold nkOk
            split
            · rename_i d hd
              rw [hd] at e6
              simpa using e6
            · rename_i hd
              rw [hd] at e6
              cases e6
            · trivial
          | _ => rw [h5] at h; simp at h
theorem nk_sv {e : Env} {S : State} {cl : ClassId} {r0 m1 : MethodId} {r meth1 : Method} {mk : Class} (z1 : selectMethod e.platform S.vm cl r0 = .method m1) (z2 : S.vm.method? r0 = some r) (z3 : S.vm.method? m1 = some meth1) (z4 : S.vm.classes[m1.cls]? = some mk) (z5 : mk.isInterface = true) (z6 : nkOk S.vm cl r.name r.desc m1)
    {Q : Selection → Jvm.Pre} {E : Jvm.CtlPost} {d : Bool} {acts : List Action} : Sem.wp (Op.invokeinterface.selectVirtual cl r0) Q E e d acts S ↔ Q (.method m1) d acts S := by
  cases hp : e.platform.privateHidesDefault with
  | false => simp [Op.invokeinterface.selectVirtual, z2, Op.selectFor_method z1 z3, z4, z5, hp]
  | true =>
    unfold nkOk at z6
    cases hq : nearestHeld S.vm cl r.name r.desc with
    | none => simp [Op.invokeinterface.selectVirtual, z2, Op.selectFor_method z1 z3, z4, z5, hp, hq]
    | some kh =>
      obtain ⟨k, hd⟩ := kh
      rw [hq] at z6
      cases hd with
      | nothing => simp [Op.invokeinterface.selectVirtual, z2, Op.selectFor_method z1 z3, z4, z5, hp, hq]
      | default d' =>
        have z7 : d' = m1 := z6
        subst z7
        simp [Op.invokeinterface.selectVirtual, z2, Op.selectFor_method z1 z3, z4, z5, hp, hq]
      | thrower b => exact z6.elim
theorem nk_op {e : Env} {S : State} {g : JFrame} {index ci nt a : Nat} {cn : ClassId} {dk ck kr mk : Class} {cfile : ClassFile.ClassFile} {r0 m1 : MethodId} {r meth1 : Method} {As rest : List Value} {cell : Cell}
    (hs : S.topJava?.isSome) (h1 : S.vm.classes[g.method.cls]? = some dk) (h2 : dk.cf = some cfile) (h3 : cfile.constantPool[index]? = some (.methodref ci nt)) (h4 : S.vm.classReady g.method.cls ci cn) (hck : S.vm.classes[cn]? = some ck) (hni : ck.isInterface = false)
    (hr : S.vm.methodReady g.method.cls index r0) (hkr : S.vm.classes[r0.cls]? = some kr) (hrm : S.vm.method? r0 = some r) (hpoly : signaturePolymorphic kr r = false) (hst : r.isStatic = false) (hlen : As.length = r.sig.parameters.length) (hstack : g.stack = As.reverse ++ .ref a :: rest)
    (hcell : S.heap[a]? = some cell) (hobj : ∀ c, cell.vm ≠ .statics c) (hsel : selectMethod e.platform S.vm cell.cls r0 = .method m1) (hm1 : S.vm.method? m1 = some meth1) (habs : meth1.isAbstract = false) (hmk : S.vm.classes[m1.cls]? = some mk) (hitf : mk.isInterface = true) (hnear : nkOk S.vm cell.cls r.name r.desc m1)
    {Q : Unit → Jvm.Pre} {E : Jvm.CtlPost} {d : Bool} {acts : List Action} : Sem.wp (Op.invokevirtual.sem index) Q E e d acts (S.setTop g) ↔ E (.invoke m1 (.ref a :: As).toArray) acts (S.setTop { g with stack := rest }) := by
  have hpre : ∀ {Q' : ClassId → Jvm.Pre}, Sem.wp (Jvm.refClassAt index) Q' E e d acts (S.setTop g) ↔ Q' cn d acts (S.setTop g) := by
    intro Q'
    simp [Jvm.refClassAt, Jvm.constantAt, State.method?_setTop g hs, h1, h2, h3, W.resolveClassAt_ready (State.method?_setTop g hs) h4]
  simp only [Op.invokevirtual.sem, Sem.wp_bind', hpre, W.theClass, State.vm_setTop, hck, Option.some.injEq, exists_eq_left', W.ite, hni, Bool.false_eq_true, if_false, Sem.wp_pure', W.resolveMethodAt_ready (State.method?_setTop g hs) hr]
  simp only [W.theMethod, State.vm_setTop, hrm, Option.some.injEq, exists_eq_left', Seam.isPolymorphic, Sem.wp_bind', W.theClass, hkr, Sem.wp_pure', hpoly, W.ite, Bool.false_eq_true, if_false, hst, Jvm.popArgs, ← hlen, popN_top hs hstack]
  simp [hs, hcell, hobj, nk_sv (S := S.setTop _) (show selectMethod e.platform (S.setTop _).vm cell.cls r0 = .method m1 from hsel) hrm hm1 hmk hitf hnear, hm1, habs]
theorem nk_step {p : Program} {l : Launch} {e : Env} {R : Room} {s : State} {m : MethodId} {args : Array Value} {below : List Frame} {meth : Method} {c : Code} {T : State} {locs : List Loc} {cells slots : Nat}
    (X : Stand p l e R s m args below meth c T locs cells slots) (hexec : p.tables.exec = Jvm.exec) {own owner : String} {index : Nat} {y0 : MethodName} (hown : s.vm.findClass own = some m.cls) (hlink : (Cond.methodLink own index y0).before args s = true)
    (hsame : (Cond.sameMethod y0.cls owner y0.name y0.desc).before args s = true) (ho : owner ≠ "java/lang/invoke/MethodHandle" ∧ owner ≠ "java/lang/invoke/VarHandle")
    {r0 : MethodId} {r : Method} (hn : s.methodNamed? ⟨owner, y0.name, y0.desc⟩ = some r0) (hrm : s.vm.method? r0 = some r) (hst : r.isStatic = false)
    {a : Addr} {cell : Cell} (hcell : T.heap[a]? = some cell) (hobj : ∀ c, cell.vm ≠ .statics c)
    {m1 : MethodId} {meth1 : Method} {mk : Class} (hsel : selectMethod e.platform s.vm cell.cls r0 = .method m1) (hm1 : s.vm.method? m1 = some meth1) (habs : meth1.isAbstract = false)
    (hmk : s.vm.classes[m1.cls]? = some mk) (hitf : mk.isInterface = true) (hnear : nkOk s.vm cell.cls r.name r.desc m1)
    {g : JFrame} (hg : g.method = m) {As rest : List Value} (hlen : As.length = r.sig.parameters.length) (hstack : g.stack = As.reverse ++ .ref a :: rest) (hdg : decode c.code g.pc = .ok (.invokevirtual index, 3)) :
    ∃ vm', Stand p l e R s m args below meth c (T.setVm vm') locs cells slots ∧
      ∀ target, (∀ acts, Steps p.tables e below (doInvoke e ((T.setVm vm').setTop { g with stack := rest }) acts m1 (.ref a :: As).toArray).1 target) → Steps p.tables e below (T.setTop g) target := by
  have hpl : e.platform.magicAccessors = ({} : Platform).magicAccessors := by rw [X.admits.platform]
  obtain ⟨cn, ck, r1, hcn, hck, hni, hf, hn1⟩ := Cond.sameMethod_found hsame
  cases hn.symm.trans hn1
  obtain ⟨ci, hl, hright⟩ := Cond.methodLink_specUp hown hcn hck hni hf hlink e.platform hpl (by rw [X.admits.platform])
  have hE : s.MethodEntryUp e T.vm m.cls index cn r0 ci := State.methodEntryUp X.warmed hl hright
  obtain ⟨kr, hkr, hnr⟩ := className_of_methodNamed hn
  obtain ⟨dk, cfile, nt, _, _, _, _, _, hd, hcf, hcp, -⟩ := hl.here
  have al := hE.warmed.alike
  obtain ⟨dk2, hdk2, hres⟩ := hE.classReady
  obtain ⟨dk3, hdk3, hed⟩ := al.2.2 _ _ hd
  cases hdk2.symm.trans hdk3
  obtain ⟨kr2, hkr2, her⟩ := al.2.2 _ _ hkr
  obtain ⟨ck2, hck2, hec⟩ := al.2.2 _ _ hck
  obtain ⟨mk2, hmk2, hem⟩ := al.2.2 _ _ hmk
  refine ⟨T.vm.calledUp m.cls ci index cn r0, X.noted hE.warmed, fun target hrest => ?_⟩
  subst hg
  have hnear2 : nkOk (T.vm.calledUp g.method.cls ci index cn r0) cell.cls r.name r.desc m1 := by
    unfold nkOk at hnear ⊢
    rw [nk_held al]
    exact hnear
  have hsel2 : selectMethod e.platform (T.vm.calledUp g.method.cls ci index cn r0) cell.cls r0 = .method m1 := by rw [al.selectMethod]; exact hsel
  have hrm2 : (T.vm.calledUp g.method.cls ci index cn r0).method? r0 = some r := by rw [al.method?]; exact hrm
  have hm2 : (T.vm.calledUp g.method.cls ci index cn r0).method? m1 = some meth1 := by rw [al.method?]; exact hm1
  have hpoly : signaturePolymorphic kr2 r = false := by rw [her]; show signaturePolymorphic kr r = false; simp [signaturePolymorphic, hnr, ho.1, ho.2]
  have hop : ∀ {Q : Unit → Jvm.Pre} {E : Jvm.CtlPost} {d : Bool} {acts : List Action}, Sem.wp (Op.invokevirtual.sem index) Q E e d acts ((T.setVm (T.vm.calledUp g.method.cls ci index cn r0)).setTop g) ↔ E (.invoke m1 (.ref a :: As).toArray) acts ((T.setVm (T.vm.calledUp g.method.cls ci index cn r0)).setTop { g with stack := rest }) :=
    nk_op (S := T.setVm (T.vm.calledUp g.method.cls ci index cn r0)) (ck := ck2) (mk := mk2) X.here.top (show (T.setVm (T.vm.calledUp g.method.cls ci index cn r0)).vm.classes[g.method.cls]? = some dk2 from hdk2) (show dk2.cf = some cfile by rw [hed]; exact hcf) hcp ⟨dk2, hdk2, hres⟩ hck2 (by rw [hec]; exact hni) hE.ready hkr2 hrm2 hpoly hst hlen hstack hcell hobj hsel2 hm2 habs hmk2 (by rw [hem]; exact hitf) hnear2
  jvm_step X.here [hexec, hdg, Op.invokevirtual.wp_coldUp (e := e) (s := T) (s₀ := s) (f := g) X.here.top X.warmed hE hd hcf (Or.inl hcp) hck hni, hop]
  exact hrest
def p_GL_isLike (C : CS) (a b c : Nat) : Prop := isGl C a ∧ p_X17_isLike C a b c
def v_GL_isLike (C : CS) (a b c : Nat) : Int32 := v_X17_isLike C a b c
theorem vb_GL_isLike (C : CS) (a b c : Nat) : v_GL_isLike C a b c = 0 ∨ v_GL_isLike C a b c = 1 := vb_X17_isLike C a b c
section LIKE
variable {w : WD} {x : Cx} {cc : ByteArray} {nL : Nat} {ret : Option FieldType} {rm : Room} {cells slots : Nat} {Q : State → Prop} {C : CS} {pc : Nat} {lv : List (Nat × Value)} {rest : List Value} {a b c : Nat}
theorem g_GL_isLike (ok : Ok w x cc nL "TwoGuilds$Glove" ret rm) (hp : p_GL_isLike C a b c) (_ : True) (hR : 5 ≤ rm.frames ∧ 182 ≤ rm.locals) (hw : (rest.map fun v => v.category).sum ≤ 8) (hcap : cells ≤ rm.cells ∧ slots ≤ rm.slots) (d : decode cc pc = .ok (.invokevirtual 36, 3))
    (k : G w x nL cells slots Q C (pc + 3) lv (.int (v_GL_isLike C a b c) :: rest)) : G w x nL cells slots Q C pc lv (.ref c :: .ref b :: .ref a :: rest) := by
  obtain ⟨hg, hp⟩ := hp
  obtain ⟨ci, n0, cn, T0, t1, t2, t3, t4⟩ := hg.cn
  refine g_run ok (mc := 0) (ms := 0) (post := pI (v_X17_isLike C a b c) C) (a := #[.ref a, .ref b, .ref c]) (fun H locs ls h1 h3 => ?_) (resI k)
  have hK := back0 (l := xL x) (R := xR x) (p := xP x) (e := xE x) (below := xB x) (s := xS x) (sargs := xA x) (y := yX17_isLike) ok.wo (by decide) (Nat.le_of_ble_eq_true rfl) (mb_X17_isLike ok.wo (xL x) C a b c hp) ok.ex (fun a' U hW => word_at hW (lw_self _ q654).2 (ok.wd q654)) (by rw [ok.ro]; exact hR.1) (by rw [ok.ro]; have := hR.2; omega)
  obtain ⟨cellB, hcB, hoB, hclB⟩ := recvD ok t1 t2 t3 H h1
  have hsel : (Cond.landsInDefault cn ⟨"TwoGuilds$Glove", "isLike", "(LTwoGuilds$Glove;LTwoGuilds$Glove;)Z"⟩ yX17_isLike).before #[Value.ref (wB w)] (wS w) = true := by
    simp only [glN, List.mem_cons, List.not_mem_nil, or_false] at t4
    rcases t4 with h | h | h | h | h | h <;> subst h
    · exact nl_Glove ok.wo
    · exact nl_Lined ok.wo
    · exact nl_Loose ok.wo
    · exact nl_Furred ok.wo
    · exact nl_Forged ok.wo
    · exact nl_Mitten ok.wo
  obtain ⟨c9, r9, m9, rm9, mk9, n1, n2, n3, n4, n5, n6, n7, n8⟩ := nk_spec hsel
  obtain ⟨z1, z2, z3, z4, z5, z6, z7, z8⟩ := Cond.sameMethod_found (nd_same ok.wo)
  have hr9 : r9 = m9 := by
    have e1 : r9 = z3 := Option.some.inj (n2.symm.trans z7)
    have e2 : m9 = z3 := Option.some.inj (n3.symm.trans z8)
    rw [e1, e2]
  subst hr9
  have al := State.WarmedH.alike ok.kw
  have w1 : (xS x).vm.findClass cn = some c9 := by rw [al.findClass]; exact n1
  have hc9 : cellB.cls = c9 := Option.some.inj (hclB.symm.trans w1)
  have w3 : (xS x).methodNamed? yX17_isLike = some r9 := by
    have : ((wS w).setVm (xS x).vm).methodNamed? yX17_isLike = some r9 := by rw [State.methodNamed?_setVm al]; exact n3
    exact this
  have w4 : (xS x).vm.method? r9 = some rm9 := by rw [al.method?]; exact n4
  obtain ⟨mk, methM, hnamed, hmethM, hstM, habM⟩ := Cond.instanceMethod_spec (ok.wd q652)
  cases hnamed.symm.trans w3
  cases hmethM.symm.trans w4
  obtain ⟨methM', cM, hmethM', -, -, -, -, -, -, hsigM⟩ := Cond.code_spec hnamed (ok.wd q654)
  cases hmethM.symm.trans hmethM'
  obtain ⟨mkx, w6, w7⟩ := al.2.2 _ _ n6
  have w8 : nkOk (xS x).vm c9 rm9.name rm9.desc r9 := by
    unfold nkOk at n8 ⊢
    rw [nk_held al]
    exact n8
  intro T hT X
  have hselP : selectMethod (xE x).platform (xS x).vm cellB.cls r9 = .method r9 := by
    rw [Launch.admits_selectMethod X.admits, hc9, al.selectMethod]
    exact n5
  obtain ⟨vm₁, X₁, hstep₁⟩ := nk_step X ok.ex (own := "TwoGuilds$Glove") (owner := "TwoGuilds$Fits") (index := 36) (y0 := ⟨"TwoGuilds$Glove", "isLike", "(LTwoGuilds$Glove;LTwoGuilds$Glove;)Z"⟩) ok.ow (word_at ok.kw (Or.inl rfl) (nd_link ok.wo)) (word_at ok.kw (Or.inl rfl) (nd_same ok.wo)) ⟨by decide, by decide⟩ w3 w4 hstM (a := a) (cell := cellB) (by rw [hT]; exact hcB) (fun z h => by rw [h] at hoB; cases hoB) hselP w4 habM w6 (by rw [w7]; exact n7) (by rw [hc9]; exact w8)
    (g := F0 (xM x) pc ls (.ref c :: .ref b :: .ref a :: rest)) rfl (As := [.ref b, .ref c]) (rest := rest) (by
      have h0 : (parseMethodDescriptor yX17_isLike.desc).map (fun d => d.parameters.length) = some 2 := by decide
      exact Option.some.inj (h0.symm.trans (congrArg (Option.map (fun d => d.parameters.length)) hsigM))) rfl (by rw [ok.cd]; exact d)
  obtain ⟨v, ⟨U', l2, c2, s2⟩, X', ⟨g', mk', t, L2, e1, e2, hq, r1, hL, r2, r3⟩, st⟩ := hK (xM x) (xT x) (xC x) ⟨T.setVm vm₁, locs, cells, slots⟩ { F0 (xM x) pc ls (.ref c :: .ref b :: .ref a :: rest) with stack := rest } (.invokevirtual 36) r9 #[.ref a, .ref b, .ref c] X₁ rfl (h3.1.trans ok.ml.symm) (by rw [ok.cd]; exact d) (lv_room hw) (X₁.named hnamed) ⟨by rw [ok.ro]; exact hcap.1, by rw [ok.ro]; exact hcap.2, rfl, ok.kw.on X₁.warmed, by show hA w C T.heap; rw [hT]; exact h1⟩
  dsimp only [Pt.U, Pt.locs, Pt.cells, Pt.slots] at X' e1 e2 r1 r2 r3 st
  subst r1; subst r2; subst r3
  exact ⟨v, (T.setVm vm₁).calling g' mk' #[.ref a, .ref b, .ref c], t, U', L2, hT, X', hL, e1, e2, hq, fun target h => hstep₁ _ fun acts => by rw [doInvoke_state]; exact st.trans h⟩
end LIKE
def v_X4_pairs (C : CS) (a : Nat) (a0 : Nat) : Int32 :=
  if a0 = a then
    (0)
    else
    (if (cDI C 44 a) = 0 then
      (if (cDI C 44 a0) = 0 then
        (if (cDI C 40 a) = (cDI C 40 a0) then
          (if (v_GL_turns C a) = 0 then
            (if (v_GL_turns C a0) = 0 then
              (0)
              else
              (if (v_GL_isLike C a a a0) = 0 then
                (0)
                else
                (1)))
            else
            (if (v_GL_isLike C a a a0) = 0 then
              (0)
              else
              (1)))
          else
          (if (v_GL_isLike C a a a0) = 0 then
            (0)
            else
            (1)))
        else
        (0))
      else
      (0))
theorem vb_X4_pairs (C : CS) (a : Nat) (a0 : Nat) : v_X4_pairs C a a0 = 0 ∨ v_X4_pairs C a a0 = 1 := by
  unfold v_X4_pairs
  exact (ib_ite (Or.inl rfl) (ib_ite (ib_ite (ib_ite (ib_ite (ib_ite (Or.inl rfl) (ib_ite (Or.inl rfl) (Or.inr rfl))) (ib_ite (Or.inl rfl) (Or.inr rfl))) (ib_ite (Or.inl rfl) (Or.inr rfl))) (Or.inl rfl)) (Or.inl rfl)))
def p_X4_pairs (C : CS) (a : Nat) (a0 : Nat) : Prop :=
  (a0 = a → 
    True) ∧
    (¬ a0 = a → 
    isGl C a ∧
      (((cDI C 44 a) = 0 → 
      isGl C a0 ∧
        (((cDI C 44 a0) = 0 → 
        ((cDI C 40 a) = (cDI C 40 a0) → 
          p_GL_turns C a ∧
            (((v_GL_turns C a) = 0 → 
            p_GL_turns C a0 ∧
              (((v_GL_turns C a0) = 0 → 
              True) ∧
              (¬ (v_GL_turns C a0) = 0 → 
              p_GL_isLike C a a a0 ∧
                (True)))) ∧
            (¬ (v_GL_turns C a) = 0 → 
            p_GL_isLike C a a a0 ∧
              (True)))) ∧
          (¬ (cDI C 40 a) = (cDI C 40 a0) → 
          p_GL_isLike C a a a0 ∧
            (True))) ∧
        (¬ (cDI C 44 a0) = 0 → 
        True))) ∧
      (¬ (cDI C 44 a) = 0 → 
      True)))
set_option maxHeartbeats 4000000 in
set_option maxRecDepth 100000 in
theorem mc_X4_pairs {w : WD} (wk : wOk w) (l : Launch) (C : CS) (a : Nat) (a0 : Nat) (hw : p_X4_pairs C a a0) : MC w l yX4_pairs cX4_pairs 2 (some .boolean) 5 0 0 [.ref a, .ref a0] C (pI (v_X4_pairs C a a0) C) := by
  unfold p_X4_pairs at hw
  refine MC.of wk (by decide) (Nat.le_of_ble_eq_true rfl) (fun x hx ok => ?_)
  subst hx
  show G w x 2 0 0 (QM w x _ 0 0) C 0 [(0, .ref a), (1, .ref a0)] []
  refine g_aload_n ok 1 dX4_pairs_0 rfl ?_
  refine g_aload_n ok 0 dX4_pairs_1 rfl ?_
  refine g_acmp_eq (tgt := 57) ok dX4_pairs_2 (by decide) (fun c1 => ?_) (fun c1 => ?_)
  · have hw := hw.1 c1
    refine g_iconst (v := 0) ok dX4_pairs_57 (by decide) ?_
    exact g_zret ok dX4_pairs_58 (Or.inl rfl) ⟨by first | (simp only [v_X4_pairs, if_pos c1]; done) | contradiction, rfl⟩
  · have hw := hw.2 c1
    refine g_aload_n ok 0 dX4_pairs_5 rfl ?_
    obtain ⟨hf2, hw⟩ := hw
    refine g_gget ok hf2 4 (by decide) q308 (Or.inl rfl) dX4_pairs_6 ?_
    refine g_if_ne (tgt := 57) ok dX4_pairs_9 (by decide) (fun c3 => ?_) (fun c3 => ?_)
    · have hw := hw.2 c3
      refine g_iconst (v := 0) ok dX4_pairs_57 (by decide) ?_
      exact g_zret ok dX4_pairs_58 (Or.inl rfl) ⟨by first | (simp only [v_X4_pairs, if_neg c1, if_neg c3]; done) | contradiction, rfl⟩
    · have hw := hw.1 c3
      refine g_aload_n ok 1 dX4_pairs_12 rfl ?_
      obtain ⟨hf4, hw⟩ := hw
      refine g_gget ok hf4 4 (by decide) q308 (Or.inl rfl) dX4_pairs_13 ?_
      refine g_if_ne (tgt := 57) ok dX4_pairs_16 (by decide) (fun c5 => ?_) (fun c5 => ?_)
      · have hw := hw.2 c5
        refine g_iconst (v := 0) ok dX4_pairs_57 (by decide) ?_
        exact g_zret ok dX4_pairs_58 (Or.inl rfl) ⟨by first | (simp only [v_X4_pairs, if_neg c1, if_pos c3, if_neg c5]; done) | contradiction, rfl⟩
      · have hw := hw.1 c5
        refine g_aload_n ok 0 dX4_pairs_19 rfl ?_
        refine g_gget ok hf2 0 (by decide) q290 (Or.inl rfl) dX4_pairs_20 ?_
        refine g_aload_n ok 1 dX4_pairs_23 rfl ?_
        refine g_gget ok hf4 0 (by decide) q290 (Or.inl rfl) dX4_pairs_24 ?_
        refine g_icmp_ne (tgt := 44) ok dX4_pairs_27 (by decide) (fun c6 => ?_) (fun c6 => ?_)
        · have hw := hw.2 c6
          refine g_aload_n ok 0 dX4_pairs_44 rfl ?_
          refine g_aload_n ok 0 dX4_pairs_45 rfl ?_
          refine g_aload_n ok 1 dX4_pairs_46 rfl ?_
          obtain ⟨hp7, hw⟩ := hw
          refine g_GL_isLike ok hp7 trivial ⟨by decide, by decide⟩ (Nat.le_of_ble_eq_true rfl) ⟨by decide, by decide⟩ dX4_pairs_47 ?_
          refine g_if_eq (tgt := 57) ok dX4_pairs_50 (by decide) (fun c8 => ?_) (fun c8 => ?_)
          · refine g_iconst (v := 0) ok dX4_pairs_57 (by decide) ?_
            exact g_zret ok dX4_pairs_58 (Or.inl rfl) ⟨by first | (simp only [v_X4_pairs, if_neg c1, if_pos c3, if_pos c5, if_neg c6, if_pos c8]; done) | contradiction, rfl⟩
          · refine g_iconst (v := 1) ok dX4_pairs_53 (by decide) ?_
            refine g_goto (tgt := 58) ok dX4_pairs_54 (by decide) ?_
            exact g_zret ok dX4_pairs_58 (Or.inr rfl) ⟨by first | (simp only [v_X4_pairs, if_neg c1, if_pos c3, if_pos c5, if_neg c6, if_neg c8]; done) | contradiction, rfl⟩
        · have hw := hw.1 c6
          refine g_aload_n ok 0 dX4_pairs_30 rfl ?_
          obtain ⟨hp9, hw⟩ := hw
          refine g_GL_turns ok hp9 q644 ⟨by decide, by decide⟩ (Nat.le_of_ble_eq_true rfl) ⟨by decide, by decide⟩ dX4_pairs_31 ?_
          refine g_if_ne (tgt := 44) ok dX4_pairs_34 (by decide) (fun c10 => ?_) (fun c10 => ?_)
          · have hw := hw.2 c10
            refine g_aload_n ok 0 dX4_pairs_44 rfl ?_
            refine g_aload_n ok 0 dX4_pairs_45 rfl ?_
            refine g_aload_n ok 1 dX4_pairs_46 rfl ?_
            obtain ⟨hp11, hw⟩ := hw
            refine g_GL_isLike ok hp11 trivial ⟨by decide, by decide⟩ (Nat.le_of_ble_eq_true rfl) ⟨by decide, by decide⟩ dX4_pairs_47 ?_
            refine g_if_eq (tgt := 57) ok dX4_pairs_50 (by decide) (fun c12 => ?_) (fun c12 => ?_)
            · refine g_iconst (v := 0) ok dX4_pairs_57 (by decide) ?_
              exact g_zret ok dX4_pairs_58 (Or.inl rfl) ⟨by first | (simp only [v_X4_pairs, if_neg c1, if_pos c3, if_pos c5, if_pos c6, if_neg c10, if_pos c12]; done) | contradiction, rfl⟩
            · refine g_iconst (v := 1) ok dX4_pairs_53 (by decide) ?_
              refine g_goto (tgt := 58) ok dX4_pairs_54 (by decide) ?_
              exact g_zret ok dX4_pairs_58 (Or.inr rfl) ⟨by first | (simp only [v_X4_pairs, if_neg c1, if_pos c3, if_pos c5, if_pos c6, if_neg c10, if_neg c12]; done) | contradiction, rfl⟩
          · have hw := hw.1 c10
            refine g_aload_n ok 1 dX4_pairs_37 rfl ?_
            obtain ⟨hp13, hw⟩ := hw
            refine g_GL_turns ok hp13 q644 ⟨by decide, by decide⟩ (Nat.le_of_ble_eq_true rfl) ⟨by decide, by decide⟩ dX4_pairs_38 ?_
            refine g_if_eq (tgt := 57) ok dX4_pairs_41 (by decide) (fun c14 => ?_) (fun c14 => ?_)
            · have hw := hw.1 c14
              refine g_iconst (v := 0) ok dX4_pairs_57 (by decide) ?_
              exact g_zret ok dX4_pairs_58 (Or.inl rfl) ⟨by first | (simp only [v_X4_pairs, if_neg c1, if_pos c3, if_pos c5, if_pos c6, if_pos c10, if_pos c14]; done) | contradiction, rfl⟩
            · have hw := hw.2 c14
              refine g_aload_n ok 0 dX4_pairs_44 rfl ?_
              refine g_aload_n ok 0 dX4_pairs_45 rfl ?_
              refine g_aload_n ok 1 dX4_pairs_46 rfl ?_
              obtain ⟨hp15, hw⟩ := hw
              refine g_GL_isLike ok hp15 trivial ⟨by decide, by decide⟩ (Nat.le_of_ble_eq_true rfl) ⟨by decide, by decide⟩ dX4_pairs_47 ?_
              refine g_if_eq (tgt := 57) ok dX4_pairs_50 (by decide) (fun c16 => ?_) (fun c16 => ?_)
              · refine g_iconst (v := 0) ok dX4_pairs_57 (by decide) ?_
                exact g_zret ok dX4_pairs_58 (Or.inl rfl) ⟨by first | (simp only [v_X4_pairs, if_neg c1, if_pos c3, if_pos c5, if_pos c6, if_pos c10, if_neg c14, if_pos c16]; done) | contradiction, rfl⟩
              · refine g_iconst (v := 1) ok dX4_pairs_53 (by decide) ?_
                refine g_goto (tgt := 58) ok dX4_pairs_54 (by decide) ?_
                exact g_zret ok dX4_pairs_58 (Or.inr rfl) ⟨by first | (simp only [v_X4_pairs, if_neg c1, if_pos c3, if_pos c5, if_pos c6, if_pos c10, if_neg c14, if_neg c16]; done) | contradiction, rfl⟩
