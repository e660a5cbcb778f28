/-! objects are made -/
theorem MC.ofN {w : WD} {l : Launch} {y : MethodName} {code : ByteArray} {nL : Nat} {ret : Option FieldType} {L mc ms : Nat} {args : List Value} {C : CS} {post : Option Value → CS → Prop} (hw : wOk w) (hy : plainName y.cls = true) (hl : (lg_sl args).length ≤ nL)
    (body : ∀ x : Cx, xL x = l → Ok w x code nL y.cls ret (rmL L mc ms) → (xT x).name = y.name → G w x nL 0 0 (QM w x post mc ms) C 0 (lv_args 0 args) []) : MC w l y code nL ret L mc ms args C post := by
  refine Met.ofW (cc := code) (maxL := nL) (ret := ret) hy rfl ?_
  intro p e s m a below meth c s₁ B hml hv
  obtain ⟨rfl, hk, hh⟩ := hv
  have h := body (p, l, e, rmL L mc ms, s, m, args.toArray, below, meth, c) rfl ⟨hw, B.exec, B.bytes, hml, findClass_of_methodNamed B.named, hk, B.notSynchronized, B.returns, rfl⟩ (name_of_methodNamed B.named B.method).1
  have h2 := h s.heap [] _ hh (fun q hq => by cases hq) (lv_entry args (n := nL) hl)
  rw [lg_entry_eq]
  exact h2
/-- a new object at a, its fields 0 and null -/
def nwC (C : CS) (a tg : Nat) : CS := (C.1, C.2.1, C.2.2.1, C.2.2.2.1, C.2.2.2.2.1, up1 C.2.2.2.2.2.1 a (some (tg, 0)), fun k b => if b = a then 0 else C.2.2.2.2.2.2.1 k b, fun k b => if b = a then none else C.2.2.2.2.2.2.2.1 k b, C.2.2.2.2.2.2.2.2)
theorem nwC_T (C : CS) (a tg : Nat) : cT (nwC C a tg) a = some (tg, 0) := if_pos rfl
theorem nwC_Tn {C : CS} {a tg b : Nat} (h : b ≠ a) : cT (nwC C a tg) b = cT C b := if_neg h
theorem nwC_I (C : CS) (a tg k : Nat) : cDI (nwC C a tg) k a = 0 := if_pos rfl
theorem nwC_In {C : CS} {a tg b : Nat} (k : Nat) (h : b ≠ a) : cDI (nwC C a tg) k b = cDI C k b := if_neg h
theorem nwC_R (C : CS) (a tg k : Nat) : cDR (nwC C a tg) k a = none := if_pos rfl
theorem nwC_Rn {C : CS} {a tg b : Nat} (k : Nat) (h : b ≠ a) : cDR (nwC C a tg) k b = cDR C k b := if_neg h
theorem t_OB.less {o : Nat} {cC : ClassId} {N M : Nat} {iS : Nat → Nat} {H : Heap} {V : Nat → Value} (h : t_OB o cC N iS H V) (hM : M ≤ N) : t_OB o cC M iS H V := by
  obtain ⟨cell, q1, q2, q3, q4⟩ := h
  exact ⟨cell, q1, q2, q3, fun k hk => q4 k (by omega)⟩
section NEWS
variable {w : WD} {x : Cx} {cc : ByteArray} {nL : Nat} {own : String} {ret : Option FieldType} {rm : Room} {cells slots : Nat} {Q : State → Prop} {C : CS} {pc : Nat} {lv : List (Nat × Value)} {st : List Value}
theorem g_obj (ok : Ok w x cc nL own ret rm) {a idx : Nat} (ql : Cond.methodLink own idx ⟨"java/lang/Object", "<init>", "()V"⟩ ∈ lw_all) (hw : (st.map fun v => v.category).sum ≤ 8) (hR : 1 ≤ rm.frames ∧ 20 ≤ rm.locals) (d : decode cc pc = .ok (.invokespecial idx, 3)) (k : G w x nL cells slots Q C (pc + 3) lv st) : G w x nL cells slots Q C pc lv (.ref a :: st) := by
  intro H locs ls h1 h2 h3
  refine W.objInit ok.ex ok.cd ok.ow (ok.wd ql) (ok.wd q111) (ok.wd q112) rfl (h3.1.trans ok.ml.symm) rfl d (by rw [ok.ro]; exact hR.1) ?_ (k H locs ls h1 h2 h3)
  rw [ok.ro]
  show 2 * 0 + _ + 12 ≤ _
  have := hR.2
  omega
/-- an object all of whose fields are known from the start -/
theorem g_newD (ok : Ok w x cc nL own ret rm) (c : Nat) {n0 : Nat} {cn : String} {T : u_T} {N : Nat} (hc50 : c < 50) (hc : cls[c]? = some (cn, T, N)) (hin : ∀ q ∈ u_ws cn T N, q ∈ lw_all) (ty : Nat → FieldType) (hty : ∀ k, k < N → parseFieldDescriptor (T k).2.2.1 = some (ty k)) (hv : ∀ a k, k < N → defaultValue (ty k) = dObj w (nwC C a c) c a k) {idx : Nat} (qc : Cond.classLink own idx cn ∈ lw_all) (qi : Cond.instantiable cn n0 ∈ lw_all) (qn : Cond.initialized cn ∈ lw_all) (hcap : cells + 1 ≤ rm.cells ∧ slots + n0 ≤ rm.slots) (d : decode cc pc = .ok (.new idx, 3))
    (kk : ∀ a, cT C a = none → G w x nL (cells + 1) (slots + n0) Q (nwC C a c) (pc + 3) lv (.ref a :: st)) : G w x nL cells slots Q C pc lv st := by
  intro H locs ls h1 h2 h3
  have hKn := ok.K.1 c _ hc
  refine W.newcK ok.ex ok.cd ok.ow (ok.wd qc) (ok.wd qi) (ok.wd qn) rfl d (by rw [ok.ro]; exact hcap.1) (by rw [ok.ro]; exact hcap.2) hKn.2.1 rfl fun H1 kC hkC e1 z1 o1 => ?_
  have hob : t_OB H.size ((wD w).1 c) N ((wD w).2 c) H1 (fun k => defaultValue (ty k)) := u_born ty ok.ts hin hKn hkC e1 hty
  refine kk H.size h1.fresh H1 locs ls ?_ h2 h3
  refine hA.newD (tg1 := (c, 0)) h1 z1 o1 ⟨rfl, rfl, rfl, rfl, rfl⟩ (fun b hb => if_neg hb) (if_pos rfl) (fun b hb => ⟨fun k => if_neg hb, fun k => if_neg hb, fun _ => rfl, fun _ => rfl⟩) ?_
  unfold dynAt
  rw [if_pos hc50]
  exact ⟨_, hc, hob.to (fun k hk => hv H.size k hk)⟩
/-- an object whose last field isn't known yet -/
theorem g_newR (ok : Ok w x cc nL own ret rm) (c : Nat) {n0 : Nat} {cn : String} {T : u_T} {N : Nat} (hc50 : c < 50) (hc : cls[c]? = some (cn, T, N)) (hin : ∀ q ∈ u_ws cn T N, q ∈ lw_all) (ty : Nat → FieldType) (hty : ∀ k, k < N → parseFieldDescriptor (T k).2.2.1 = some (ty k)) (hv : ∀ a k, k < N - 1 → defaultValue (ty k) = dObj w (nwC C a (50 + c)) c a k) {idx : Nat} (qc : Cond.classLink own idx cn ∈ lw_all) (qi : Cond.instantiable cn n0 ∈ lw_all) (qn : Cond.initialized cn ∈ lw_all) (hcap : cells + 1 ≤ rm.cells ∧ slots + n0 ≤ rm.slots) (d : decode cc pc = .ok (.new idx, 3))
    (kk : ∀ a, cT C a = none → G w x nL (cells + 1) (slots + n0) Q (nwC C a (50 + c)) (pc + 3) lv (.ref a :: st)) : G w x nL cells slots Q C pc lv st := by
  intro H locs ls h1 h2 h3
  have hKn := ok.K.1 c _ hc
  refine W.newcK ok.ex ok.cd ok.ow (ok.wd qc) (ok.wd qi) (ok.wd qn) rfl d (by rw [ok.ro]; exact hcap.1) (by rw [ok.ro]; exact hcap.2) hKn.2.1 rfl fun H1 kC hkC e1 z1 o1 => ?_
  have hob : t_OB H.size ((wD w).1 c) N ((wD w).2 c) H1 (fun k => defaultValue (ty k)) := u_born ty ok.ts hin hKn hkC e1 hty
  refine kk H.size h1.fresh H1 locs ls ?_ h2 h3
  refine hA.newD (tg1 := (50 + c, 0)) h1 z1 o1 ⟨rfl, rfl, rfl, rfl, rfl⟩ (fun b hb => if_neg hb) (if_pos rfl) (fun b hb => ⟨fun k => if_neg hb, fun k => if_neg hb, fun _ => rfl, fun _ => rfl⟩) ?_
  unfold dynAt
  rw [if_neg (show ¬ (50 + c, 0).1 < 50 from by show ¬ 50 + c < 50; omega), if_pos (show (50 + c, 0).1 < 100 from by show 50 + c < 100; omega)]
  have e50 : (50 + c, 0).1 - 50 = c := by show 50 + c - 50 = c; omega
  rw [e50]
  obtain ⟨k0, hk0, -⟩ := Vm.findClass_spec (ok.wo.K.1 c _ hc).2.1
  obtain ⟨k1, hk1, he⟩ := (State.WarmedH.alike ok.kw).2.2 _ _ hk0
  refine ⟨_, hc, (hob.less (M := N - 1) (by omega)).to (fun k hk => hv H.size k hk), _, k0, e1, hk0, ?_⟩
  have : kC = k1 := Option.some.inj (hkC.symm.trans hk1)
  rw [this, he]
  simp [blank]
/-- a final field of an object whose fields are known is written in its constructor -/
theorem g_putF (ok : Ok w x cc nL own ret rm) (hnm1 : (xT x).name = "<init>") {a c n : Nat} (ht : cT C a = some (c, n)) (hc50 : c < 50) {T : u_T} {N : Nat} (hc : cls[c]? = some (own, T, N)) (hin : ∀ q ∈ u_ws own T N, q ∈ lw_all) (ty0 : Nat → FieldType) (hty : ∀ k, k < N → parseFieldDescriptor (T k).2.2.1 = some (ty0 k)) (hnm : ∀ a, a < N → ∀ b, b < N → a ≠ b → (T a).2.1 ≠ (T b).2.1) (k : Nat) (hk : k < N) {idx : Nat} (q : Cond.fieldLink own idx (T k).1 (T k).2.1 (T k).2.2.1 ∈ lw_all) (hfin : (T k).2.2.2 = true) (hdecl : (T k).1 = own) {v : Value} (hn : narrow (ty0 k) v = v) (hfit : fits (ty0 k) v = true)
    {C1 : CS} (hF : sameF C1 C) (hT : C1.2.2.2.2.2.1 = C.2.2.2.2.2.1) (hS : ∀ b, b ≠ a → sameD C1 C b) (hV : ∀ i, i < N → dObj w C1 c a i = updV (dObj w C c a) k v i) (d : decode cc pc = .ok (.putfield idx, 3))
    (kk : G w x nL cells slots Q C1 (pc + 3) lv st) : G w x nL cells slots Q C pc lv (v :: .ref a :: st) := by
  intro H locs ls h1 h2 h3
  obtain ⟨hd, hwb, -, -⟩ := h1.2.2.2 a _ ht
  unfold dynAt at hd
  rw [if_pos hc50] at hd
  obtain ⟨r, e1, cell, q1, q2, q3, q4⟩ := hd
  have hr : r = (own, T, N) := Option.some.inj (e1.symm.trans hc)
  subst hr
  have hap := va_apart (own := own) ok.ts hin ty0 hty hnm ok.K hc
  obtain ⟨hSl, hfc, kC, hkC, hkind⟩ := ok.K.1 c _ hc
  obtain ⟨cf, kf, fi, f, hi, hsl⟩ := hSl k hk
  have hlay := ok.ts _ (hin _ (u_in_lay hk))
  unfold u_lay at hlay
  rw [if_pos hfin] at hlay
  have hst := (u_facts hfc hkC (u_lays ok.ts hin hk) hi).1
  have hcf : (xM x).cls = cf := by
    obtain ⟨_, _, c', _, _, _, -, -, hf', -, -, -, hown2, -⟩ := Cond.laysFinal_spec hlay
    have e1 : c' = cf := by have := hi.symm.trans hf'; simp at this; exact this.1.symm
    rw [hdecl] at hown2
    rw [← e1]; exact Option.some.inj (ok.ow.symm.trans hown2)
  have h6 := u_fits hfc hkC hkind (Or.inr hlay) hi (hty k hk) hn hfit
  refine W.putFinK ok.ex ok.cd ok.ow (ok.wd q) hi hst hcf hnm1 (by rw [q2]; exact h6) q1 q3 (by rw [hsl]; exact k2_hasslot (q4 k hk)) rfl rfl d fun H' e1' e2' e3' => ?_
  rw [hsl] at e1' ⊢
  have hob : t_OB a ((wD w).1 c) N ((wD w).2 c) H' (updV (dObj w C c a) k v) := ⟨_, e1', q2, q3, t_set q4 hap hk _⟩
  refine kk H' _ ls (hA.stepD (tg := (c, n)) (tg1 := (c, n)) h1 ht e2' e3' hF (fun b _ => by rw [hT]) (by rw [hT]; exact ht) hS ?_) (fun l hl => ?_) h3
  · unfold dynAt
    rw [if_pos hc50]
    exact ⟨_, hc, hob.to fun i hi => (hV i hi).symm⟩
  · rcases List.mem_append.mp hl with h | h
    · exact h2 l h
    · rw [List.mem_singleton.mp h]; exact hwb
/-- a final field of an object that is being made is written, one that isn't looked at (k ≥ N of the whole table T, Nf) -/
theorem g_putT0 (ok : Ok w x cc nL own ret rm) (hnm1 : (xT x).name = "<init>") {a c : Nat} (ht : cT C a = some (50 + c, 0)) (hc50 : c < 50) {cn : String} {T : u_T} {N Nf : Nat} (hc : cls[c]? = some (cn, T, N)) (hin : ∀ q ∈ u_ws cn T Nf, q ∈ lw_all) (ty0 : Nat → FieldType) (hty : ∀ k, k < Nf → parseFieldDescriptor (T k).2.2.1 = some (ty0 k)) (k : Nat) (hk : k < Nf) (hN : N ≤ Nf) (hnm : ∀ b, b < N - 1 → (T b).2.1 ≠ (T k).2.1) {idx : Nat} (q : Cond.fieldLink own idx (T k).1 (T k).2.1 (T k).2.2.1 ∈ lw_all) (hfin : (T k).2.2.2 = true) (hdecl : (T k).1 = own) {v : Value} (hn : narrow (ty0 k) v = v) (hfit : fits (ty0 k) v = true) (d : decode cc pc = .ok (.putfield idx, 3))
    (kk : G w x nL cells slots Q C (pc + 3) lv st) : G w x nL cells slots Q C pc lv (v :: .ref a :: st) := by
  intro H locs ls h1 h2 h3
  obtain ⟨hd, hwb, -, -⟩ := h1.2.2.2 a _ ht
  have n50 : ¬ (50 + c, 0).1 < 50 := by show ¬ 50 + c < 50; omega
  have n100 : (50 + c, 0).1 < 100 := by show 50 + c < 100; omega
  have e50 : (50 + c, 0).1 - 50 = c := by show 50 + c - 50 = c; omega
  unfold dynAt at hd
  rw [if_neg n50, if_pos n100, e50] at hd
  obtain ⟨r, e1, ⟨cell, q1, q2, q3, q4⟩, cell2, k0, r1, r2, r3⟩ := hd
  have hr : r = (cn, T, N) := Option.some.inj (e1.symm.trans hc)
  subst hr
  have hce : cell2 = cell := Option.some.inj (r1.symm.trans q1)
  subst hce
  obtain ⟨hSl, hfc, kC, hkC, hkind⟩ := ok.K.1 c _ hc
  have hlay := ok.ts _ (hin _ (u_in_lay hk))
  unfold u_lay at hlay
  rw [if_pos hfin] at hlay
  obtain ⟨_, _, c', kf, fi, f, -, -, hi, -, -, -, hown2, -⟩ := Cond.laysFinal_spec hlay
  have hfa := u_facts hfc hkC (u_lays ok.ts hin hk) hi
  have hcf : (xM x).cls = c' := by
    rw [hdecl] at hown2
    exact Option.some.inj (ok.ow.symm.trans hown2)
  have h6 := u_fits hfc hkC hkind (Or.inr hlay) hi (hty k hk) hn hfit
  obtain ⟨k1, hk1, he⟩ := (State.WarmedH.alike ok.kw).2.2 _ _ r2
  have hkk : kC = k1 := Option.some.inj (hkC.symm.trans hk1)
  have hlt : f.slot < cell2.slots.size := by
    rw [r3]
    have := (Array.getElem?_eq_some_iff.mp hfa.2.2).1
    rw [hkk, he] at this
    exact this
  have hap : ∀ b, b < N - 1 → (wD w).2 c b ≠ f.slot := by
    intro b hb
    obtain ⟨_, _, _, fb, hib, eb⟩ := hSl b (by show b < N; omega)
    rw [← eb]
    refine u_apart (u_lays ok.ts hin (show b < Nf by omega)) (u_lays ok.ts hin hk) hib hi ?_
    rw [(State.fieldFound?_type hib (hty b (by omega))).1, (State.fieldFound?_type hi (hty k hk)).1]
    exact hnm b hb
  refine W.putFinK ok.ex ok.cd ok.ow (ok.wd q) hi hfa.1 hcf hnm1 (by rw [q2]; exact h6) q1 q3 hlt rfl rfl d fun H' e1' e2' e3' => ?_
  refine kk H' _ ls (hA.stepD (tg := (50 + c, 0)) (tg1 := (50 + c, 0)) h1 ht e2' e3' ⟨rfl, rfl, rfl, rfl, rfl⟩ (fun _ _ => rfl) ht (fun b _ => ⟨fun _ => rfl, fun _ => rfl, fun _ => rfl, fun _ => rfl⟩) ?_) (fun l hl => ?_) h3
  · unfold dynAt
    rw [if_neg n50, if_pos n100, e50]
    refine ⟨_, hc, ⟨_, e1', q2, q3, fun b hb => ?_⟩, _, k0, e1', r2, ?_⟩
    · rw [slot_ne _ _ (Ne.symm (hap b hb))]
      exact q4 b hb
    · rw [← r3]
      simp [Cell.setSlot]
  · rcases List.mem_append.mp hl with h | h
    · exact h2 l h
    · rw [List.mem_singleton.mp h]; exact hwb
/-- the last field of an object that is being made is written: it is made -/
theorem g_putT1 (ok : Ok w x cc nL own ret rm) (hnm1 : (xT x).name = "<init>") {a c : Nat} (ht : cT C a = some (50 + c, 0)) (hc50 : c < 50) {cn : String} {T : u_T} {N : Nat} (hc : cls[c]? = some (cn, T, N)) (hin : ∀ q ∈ u_ws cn T N, q ∈ lw_all) (ty0 : Nat → FieldType) (hty : ∀ k, k < N → parseFieldDescriptor (T k).2.2.1 = some (ty0 k)) (k : Nat) (hk : k + 1 = N) (hnm : ∀ b, b < k → (T b).2.1 ≠ (T k).2.1) {idx : Nat} (q : Cond.fieldLink own idx (T k).1 (T k).2.1 (T k).2.2.1 ∈ lw_all) (hfin : (T k).2.2.2 = true) (hdecl : (T k).1 = own) {v : Value} (hn : narrow (ty0 k) v = v) (hfit : fits (ty0 k) v = true) (hv : dObj w C c a k = v) (d : decode cc pc = .ok (.putfield idx, 3))
    (kk : G w x nL cells slots Q (wT C a (some (c, 0))) (pc + 3) lv st) : G w x nL cells slots Q C pc lv (v :: .ref a :: st) := by
  intro H locs ls h1 h2 h3
  obtain ⟨hd, hwb, -, -⟩ := h1.2.2.2 a _ ht
  have n50 : ¬ (50 + c, 0).1 < 50 := by show ¬ 50 + c < 50; omega
  have n100 : (50 + c, 0).1 < 100 := by show 50 + c < 100; omega
  have e50 : (50 + c, 0).1 - 50 = c := by show 50 + c - 50 = c; omega
  unfold dynAt at hd
  rw [if_neg n50, if_pos n100, e50] at hd
  obtain ⟨r, e1, ⟨cell, q1, q2, q3, q4⟩, cell2, k0, r1, r2, r3⟩ := hd
  have hr : r = (cn, T, N) := Option.some.inj (e1.symm.trans hc)
  subst hr
  have hce : cell2 = cell := Option.some.inj (r1.symm.trans q1)
  subst hce
  obtain ⟨hSl, hfc, kC, hkC, hkind⟩ := ok.K.1 c _ hc
  have hkN : k < N := by omega
  obtain ⟨cf, kf, fi, f, hi, hsl⟩ := hSl k hkN
  have hlay := ok.ts _ (hin _ (u_in_lay hkN))
  unfold u_lay at hlay
  rw [if_pos hfin] at hlay
  have hfa := u_facts hfc hkC (u_lays ok.ts hin hkN) hi
  have hcf : (xM x).cls = cf := by
    obtain ⟨_, _, c', _, _, _, -, -, hf', -, -, -, hown2, -⟩ := Cond.laysFinal_spec hlay
    have e1 : c' = cf := by have := hi.symm.trans hf'; simp at this; exact this.1.symm
    rw [hdecl] at hown2
    rw [← e1]; exact Option.some.inj (ok.ow.symm.trans hown2)
  have h6 := u_fits hfc hkC hkind (Or.inr hlay) hi (hty k hkN) hn hfit
  obtain ⟨k1, hk1, he⟩ := (State.WarmedH.alike ok.kw).2.2 _ _ r2
  have hkk : kC = k1 := Option.some.inj (hkC.symm.trans hk1)
  have hlt : f.slot < cell2.slots.size := by
    rw [r3]
    have := (Array.getElem?_eq_some_iff.mp hfa.2.2).1
    rw [hkk, he] at this
    exact this
  have hap : ∀ b, b < k → (wD w).2 c b ≠ f.slot := by
    intro b hb
    obtain ⟨_, _, _, fb, hib, eb⟩ := hSl b (by show b < N; omega)
    rw [← eb]
    refine u_apart (u_lays ok.ts hin (show b < N by omega)) (u_lays ok.ts hin hkN) hib hi ?_
    rw [(State.fieldFound?_type hib (hty b (by omega))).1, (State.fieldFound?_type hi (hty k hkN)).1]
    exact hnm b hb
  refine W.putFinK ok.ex ok.cd ok.ow (ok.wd q) hi hfa.1 hcf hnm1 (by rw [q2]; exact h6) q1 q3 hlt rfl rfl d fun H' e1' e2' e3' => ?_
  refine kk H' _ ls (hA.stepD (tg := (50 + c, 0)) (tg1 := (c, 0)) h1 ht e2' e3' ⟨rfl, rfl, rfl, rfl, rfl⟩ (fun b hb => if_neg hb) (if_pos rfl) (fun b _ => ⟨fun _ => rfl, fun _ => rfl, fun _ => rfl, fun _ => rfl⟩) ?_) (fun l hl => ?_) h3
  · unfold dynAt
    rw [if_pos hc50]
    refine ⟨_, hc, _, e1', q2, q3, fun b hb => ?_⟩
    have hb : b < N := hb
    show _ = some (dObj w C c a b)
    by_cases hbk : b = k
    · subst hbk
      rw [hv, ← hsl]
      simp [Cell.setSlot, hlt]
    · rw [slot_ne _ _ (Ne.symm (hap b (by omega)))]
      exact q4 b (by show b < N - 1; omega)
  · rcases List.mem_append.mp hl with h | h
    · exact h2 l h
    · rw [List.mem_singleton.mp h]; exact hwb
end NEWS
