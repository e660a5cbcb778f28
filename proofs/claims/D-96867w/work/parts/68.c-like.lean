/-- a method's run, said of its body: for a method whose class isn't known to be initialised (an interface's default) -/
def MCB (w : WD) (l : Launch) (y : MethodName) (code : ByteArray) (nL : Nat) (ret : Option FieldType) (L mc ms : Nat) (args : List Value) (C : CS) (post : Option Value → CS → Prop) : Prop :=
  ∀ x : Cx, xL x = l → Ok w x code nL y.cls ret (rmL L mc ms) → G w x nL 0 0 (QM w x post mc ms) C 0 (lv_args 0 args) []
def v_X17_isLike (C : CS) (a : Nat) (a0 : Nat) (a1 : Nat) : Int32 :=
  if (v_GL_fits C a a1) = 0 then
    (0)
    else
    (if (v_GL_fits C a1 a0) = 0 then
      (0)
      else
      (1))
theorem vb_X17_isLike (C : CS) (a : Nat) (a0 : Nat) (a1 : Nat) : v_X17_isLike C a a0 a1 = 0 ∨ v_X17_isLike C a a0 a1 = 1 := by
  unfold v_X17_isLike
  exact (ib_ite (Or.inl rfl) (ib_ite (Or.inl rfl) (Or.inr rfl)))
def p_X17_isLike (C : CS) (a : Nat) (a0 : Nat) (a1 : Nat) : Prop :=
  p_GL_fits C a a1 ∧
    (((v_GL_fits C a a1) = 0 → 
    True) ∧
    (¬ (v_GL_fits C a a1) = 0 → 
    p_GL_fits C a1 a0 ∧
      (True)))
set_option maxHeartbeats 4000000 in
set_option maxRecDepth 100000 in
theorem mb_X17_isLike {w : WD} (wk : wOk w) (l : Launch) (C : CS) (a : Nat) (a0 : Nat) (a1 : Nat) (hw : p_X17_isLike C a a0 a1) : MCB w l yX17_isLike cX17_isLike 3 (some .boolean) 4 0 0 [.ref a, .ref a0, .ref a1] C (pI (v_X17_isLike C a a0 a1) C) := by
  unfold p_X17_isLike at hw
  intro x hx ok
  subst hx
  show G w x 3 0 0 (QM w x _ 0 0) C 0 [(0, .ref a), (1, .ref a0), (2, .ref a1)] []
  refine g_aload_n ok 0 dX17_isLike_0 rfl ?_
  refine g_aload_n ok 2 dX17_isLike_1 rfl ?_
  obtain ⟨hp1, hw⟩ := hw
  refine g_GF_fits ok hp1 q656 ⟨by decide, by decide⟩ (Nat.le_of_ble_eq_true rfl) ⟨by decide, by decide⟩ dX17_isLike_2 ?_
  refine g_if_eq (tgt := 22) ok dX17_isLike_7 (by decide) (fun c2 => ?_) (fun c2 => ?_)
  · have hw := hw.1 c2
    refine g_iconst (v := 0) ok dX17_isLike_22 (by decide) ?_
    exact g_zret ok dX17_isLike_23 (Or.inl rfl) ⟨by first | (simp only [v_X17_isLike, if_pos c2]; done) | contradiction, rfl⟩
  · have hw := hw.2 c2
    refine g_aload_n ok 2 dX17_isLike_10 rfl ?_
    refine g_aload_n ok 1 dX17_isLike_11 rfl ?_
    obtain ⟨hp3, hw⟩ := hw
    refine g_GL_fits ok hp3 q683 ⟨by decide, by decide⟩ (Nat.le_of_ble_eq_true rfl) ⟨by decide, by decide⟩ dX17_isLike_12 ?_
    refine g_if_eq (tgt := 22) ok dX17_isLike_15 (by decide) (fun c4 => ?_) (fun c4 => ?_)
    · refine g_iconst (v := 0) ok dX17_isLike_22 (by decide) ?_
      exact g_zret ok dX17_isLike_23 (Or.inl rfl) ⟨by first | (simp only [v_X17_isLike, if_neg c2, if_pos c4]; done) | contradiction, rfl⟩
    · refine g_iconst (v := 1) ok dX17_isLike_18 (by decide) ?_
      refine g_goto (tgt := 23) ok dX17_isLike_19 (by decide) ?_
      exact g_zret ok dX17_isLike_23 (Or.inr rfl) ⟨by first | (simp only [v_X17_isLike, if_neg c2, if_neg c4]; done) | contradiction, rfl⟩
theorem back0 {w : WD} {l : Launch} {R : Room} {p : Program} {e : Env} {below : List Frame} {s : State} {sargs : Array Value} {y : MethodName} {code : ByteArray} {nL : Nat} {ret : Option FieldType} {L mc ms : Nat} {args : List Value} {C : CS} {post : Option Value → CS → Prop}
    (hwk : wOk w) (hy : plainName y.cls = true) (hl : (lg_sl args).length ≤ nL) (hB : MCB w l y code nL ret L mc ms args C post) (hexec : p.tables.exec = Jvm.exec) (hcd : ∀ a' U, s.WarmedH U.vm → (Cond.code y code nL ret).before a' U = true)
    (hfr : L + 1 ≤ R.frames) (hlo : 8 + (nL + 11) + 40 * L ≤ R.locals) :
    Back l R p e below s sargs y 3 8 (PreOf R mc ms (va_Pc args (fun U => KW w U ∧ hA w C U.heap))) (PostOf (qQ w post) mc ms (fr w)) := by
  intro m meth c A g ig mk a X hg hsize hdg hW hn hp
  obtain ⟨U, Ls, c0, s0⟩ := A
  dsimp only [Pt.U, Pt.locs, Pt.cells, Pt.slots] at X hn ⊢
  obtain ⟨hp1, hp2, rfl, hk, hh⟩ := hp
  dsimp only [Pt.U, Pt.locs, Pt.cells, Pt.slots] at hp1 hp2 hk hh
  obtain ⟨methY, cY, hmY, hcY, hbY, hlY, hrY, hloY, -, -⟩ := Cond.code_spec hn (hcd args.toArray U X.warmed)
  have h : At U g.method c below := by rw [hg]; exact X.here
  have hroom : (U.calling g mk args.toArray).hasRoom e.platform (rmL L mc ms) = true := X.room_calling (g := g) (R' := rmL L mc ms) hsize hmY hcY hfr (by rw [hlY]; show _ + _ + (nL + 11) + 40 * L ≤ R.locals; omega) hp1 hp2
  have hf : (U.calling g mk args.toArray).frames = .invoking mk args.toArray :: .java g :: U.frames.tail := State.frames_calling h.top g mk args.toArray
  have hcur := State.cur_lt_of_frames hf
  have hrun : (U.calling g mk args.toArray).status = .running := h.running
  have hable : (U.calling g mk args.toArray).curStatus? = some .runnable := by simpa [State.calling] using h.runnable
  have halone : (U.calling g mk args.toArray).alone = true := by simpa [State.calling] using h.alone
  have hcode2 : (U.calling g mk args.toArray).code? g.method = some c := by
    have := h.code
    rw [State.code?_eq] at this ⊢
    simpa [State.calling, State.pushFrame, State.setFrames] using this
  have hhears : (U.calling g mk args.toArray).hears mk (.java g :: U.frames.tail) = true := by simp [State.hears, hcode2, hdg, Except.toOption]
  have hname : (U.calling g mk args.toArray).methodNamed? y = some mk := hn
  have hmeth : (U.calling g mk args.toArray).vm.method? mk = some methY := hmY
  have hf1 : ((U.calling g mk args.toArray).setFrames (.java (entryFrame mk args.toArray nL) :: .java g :: U.frames.tail)).frames = .java (entryFrame mk args.toArray nL) :: .java g :: U.frames.tail := State.frames_setFrames _ hcur
  have ht1 := State.topJava?_of_frames hf1
  have hplain : ((U.calling g mk args.toArray).setFrames (.java (entryFrame mk args.toArray nL) :: .java g :: U.frames.tail)).plainMethod mk := by
    refine State.plainMethod.of_name ?_
    intro k hk
    obtain ⟨k', hk', hn'⟩ := className_of_methodNamed hname
    cases (show (U.calling g mk args.toArray).vm.classes[mk.cls]? = some k from hk).symm.trans hk'
    rw [hn']; exact hy
  have hAt : At ((U.calling g mk args.toArray).setFrames (.java (entryFrame mk args.toArray nL) :: .java g :: U.frames.tail)) mk cY (.java g :: U.frames.tail) :=
    ⟨by rw [ht1]; rfl, ⟨[], by rw [hf1]; rfl⟩, hrun, by simpa using hable, by simpa using halone,
      by rw [State.code?_eq]; simp [State.setFrames, hmeth, hcY], hplain⟩
  obtain ⟨tt, htt, -⟩ := State.frames_cons hf
  have hst : Stand p l e (rmL L mc ms) (U.calling g mk args.toArray) mk args.toArray (.java g :: U.frames.tail) methY cY ((U.calling g mk args.toArray).setFrames (.java (entryFrame mk args.toArray nL) :: .java g :: U.frames.tail)) [] 0 0 := by
    refine ⟨X.admits, X.cas, X.clock, hf, hroom, hhears, hmeth, hcY, hAt, by rw [hf1]; rfl, State.WarmedH.refl _, by rw [State.stackLimits_setFrames], by rw [State.stackBytes_setFrames], ?_⟩
    exact (State.sameButNew.refl _ htt).setFrames (.java (entryFrame mk args.toArray nL) :: .java g :: U.frames.tail) hcur
  have hG := hB (p, l, e, rmL L mc ms, U.calling g mk args.toArray, mk, args.toArray, .java g :: U.frames.tail, methY, cY) rfl ⟨hwk, hexec, hbY, hlY, findClass_of_methodNamed hname, hk, hloY, hrY, rfl⟩
  have h2 := hG (U.calling g mk args.toArray).heap [] _ hh (fun q hq => by cases hq) (lv_entry args (n := nL) hl)
  have h2 : Wx (p, l, e, rmL L mc ms, U.calling g mk args.toArray, mk, args.toArray, .java g :: U.frames.tail, methY, cY) (U.calling g mk args.toArray).heap [] 0 0 (QM w (p, l, e, rmL L mc ms, U.calling g mk args.toArray, mk, args.toArray, .java g :: U.frames.tail, methY, cY) post mc ms) (entryFrame mk args.toArray nL) := by
    rw [lg_entry_eq]
    exact h2
  obtain ⟨s₂, a1, o, b1, hend, hq, L2, hfe, hL2⟩ := h2 ((U.calling g mk args.toArray).setFrames (.java (entryFrame mk args.toArray nL) :: .java g :: U.frames.tail)) rfl hst
  have hstep : (doInvoke e (U.setTop g) [] mk args.toArray).1 = ((U.calling g mk args.toArray).setFrames (.java (entryFrame mk args.toArray nL) :: .java g :: U.frames.tail)).setTop (entryFrame mk args.toArray nL) := by
    have hfull : e.platform.stackFull (U.setTop g).me (U.setTop g).frames cY.maxLocals = false := by
      obtain ⟨-, z1, -, z2⟩ := State.hasRoom_stack hroom
      rw [hf, List.length_cons] at z1
      rw [State.localsInUse_invoking hf hmeth hcY] at z2
      have hw := stackUse_le_stackWeight (Frame.java g :: U.frames.tail)
      have e0 : (U.setTop g).frames = .java g :: U.frames.tail := State.frames_setTop' g h.top
      rw [e0]
      have e1 : e.platform.stackLimits (U.calling g mk args.toArray).me = e.platform.stackLimits (U.setTop g).me := by
        rw [State.calling, State.stackLimits_pushFrame]
      rw [e1] at z1 z2
      exact Platform.stackFull_eq_false (by omega) (by omega)
    rw [(doInvoke_java (s := U.setTop g) (e := e) (meth := methY) (code := cY) hmY hcY hloY hfull).1, State.setTop_self ht1]
    rw [State.calling, State.pushFrame, State.pushFrame, State.setFrames_setFrames, State.frames_setTop' g h.top, hlY]
    rfl
  obtain ⟨⟨v, rfl⟩, hW₂, e2, q2, q3, q4, q5, q6⟩ := id hfe
  have e3 : s₂ = ({ (U.calling g mk args.toArray).setFrames s₂.frames with heap := s₂.heap, slotsUsed := s₂.slotsUsed } : State).setVm s₂.vm := by
    have : s₂ = ({ s₂ with vm := (U.calling g mk args.toArray).vm } : State).setVm s₂.vm := rfl
    rw [e2] at this
    exact this
  obtain ⟨c₂, i₂, len₂, hc₂, hd₂, hf₂⟩ := hend
  have hW' : U.WarmedH s₂.vm := hW₂
  have hcc : c₂ = c := by
    have h1 : s₂.code? g.method = U.code? g.method := by
      rw [State.code?_eq, State.code?_eq, hW'.alike.method?]
    exact Option.some.inj (hc₂.symm.trans (h1.trans h.code))
  subst hcc
  have hlen : len₂ = 3 := by rw [hdg] at hd₂; cases hd₂; rfl
  subst hlen
  obtain ⟨g₀, hg0⟩ := Option.isSome_iff_exists.mp h.top
  obtain ⟨r, hr⟩ := State.topJava?_eq_some.mp hg0
  have hs₂ : s₂ = (({ U with heap := s₂.heap, slotsUsed := s₂.slotsUsed } : State).setVm s₂.vm).setTop { g with pc := g.pc + 3, stack := v.toList ++ g.stack } := by
    have hr' : (({ U with heap := s₂.heap, slotsUsed := s₂.slotsUsed } : State).setVm s₂.vm).frames = .java g₀ :: r := hr
    refine e3.trans ?_
    rw [hf₂, State.calling_eq h.top, State.setFrames_setFrames, State.setTop_of_frames _ hr', hr]
    rfl
  have hsame : U.sameButNew ({ U with heap := s₂.heap, slotsUsed := s₂.slotsUsed } : State) L2 mc ms := by
    refine ⟨?_, q2, q3, q4, q5, q6⟩
    obtain ⟨t, ht, -⟩ := State.frames_cons hr
    show ({ U with heap := s₂.heap, slotsUsed := s₂.slotsUsed } : State) = { U.setFrames U.frames with heap := s₂.heap, slotsUsed := s₂.slotsUsed }
    rw [State.setFrames_self ht]
  subst hg
  refine ⟨v, ⟨(({ U with heap := s₂.heap, slotsUsed := s₂.slotsUsed } : State).setVm s₂.vm), Ls ++ L2, c0 + mc, s0 + ms⟩,
    ⟨X.admits, X.cas, X.clock, X.frames, X.room, X.hears, X.method, X.code, (X.here.setHeapUsed s₂.heap s₂.slotsUsed).setVm hW'.alike, X.tail, State.WarmedH.trans X.warmed hW', X.limits, X.bytes, X.same.trans (hsame.setVm s.vm)⟩,
    ⟨g, mk, s₂, L2, rfl, rfl, hq, rfl, hL2, rfl, rfl⟩, ?_⟩
  show Steps p.tables e below _ ((({ U with heap := s₂.heap, slotsUsed := s₂.slotsUsed } : State).setVm s₂.vm).setTop { g with pc := g.pc + 3, stack := v.toList ++ g.stack })
  rw [← hs₂, hstep]
  obtain ⟨nn, hn1, hn2⟩ := a1
  obtain ⟨mid, hmid⟩ := h.above
  refine ⟨nn, hn1, fun j hj => ?_⟩
  obtain ⟨above, z1, z2, z3⟩ := hn2 j hj
  refine ⟨above ++ (.java g :: mid), z1.trans ?_, by simp, fun a h => ?_⟩
  · show above ++ (Frame.java g :: U.frames.tail) = _
    rw [hmid]
    simp
  · have hl := congrArg List.length h
    cases above with
    | nil => exact z2 rfl
    | cons q t =>
      simp at hl
