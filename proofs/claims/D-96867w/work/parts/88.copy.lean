/-! System.arraycopy -/
section WCOPY
variable {p : Program} {l : Launch} {e : Env} {R : Room} {s : State} {m : MethodId} {args : Array Value} {below : List Frame} {meth : Method} {c : Code} {H : Heap} {locs : List Loc} {cells slots : Nat} {Q : State → Prop}
variable {cc : ByteArray} {pc : Nat} {ls : Array Slot} {rest : List Value}
theorem W.copyG {α : Type} (mk : α → Value) (hexec : p.tables.exec = Jvm.exec) (hb : c.code = cc) (hml : c.maxLocals = ls.size) {own : String} {index : Nat} (hown : s.vm.findClass own = some m.cls) (hlink : (Cond.methodLink own index arraycopyName).before args s = true) (hnat : (Cond.native arraycopyName).before args s = true) (hstat : (Cond.static arraycopyName).before args s = true) (hini : (Cond.initialized "java/lang/System").before args s = true)
    {a0 a : Nat} {c0 c1 : ClassId} {n0 n1 : Nat} {f g : Nat → α} {ty0 ty1 : FieldType} {cm0 cm1 : ClassId} {k0 k1 : Class} (hc0 : H[a0]? = some (arrV c0 n0 (fun j => mk (f j)))) (hc1 : H[a]? = some (arrV c1 n1 (fun j => mk (g j)))) (hk0 : s.vm.classes[c0]? = some k0) (hk1 : s.vm.classes[c1]? = some k1) (hkk0 : k0.kind = .array cm0 ty0) (hkk1 : k1.kind = .array cm1 ty1) (hty : ((refKind ty0 != refKind ty1) || (!refKind ty0 && ty0 != ty1)) = false)
    {sp dp n : Int32} (h1 : ¬ sp < 0) (h2 : ¬ dp < 0) (h3 : ¬ n < 0) (h4 : sp.toNatClampNeg + n.toNatClampNeg ≤ n0) (h5 : dp.toNatClampNeg + n.toNatClampNeg ≤ n1)
    (hv : ∀ T : State, T.heap = H → ∀ vm', s.vm.Alike vm' → ∀ i, i < n.toNatClampNeg → fits ty1 (mk (f (sp.toNatClampNeg + i))) = true ∧ (T.setVm vm').takes cm1 (mk (f (sp.toNatClampNeg + i))))
    (hframes : 1 ≤ R.frames) (hlocals : (rest.map fun v => v.category).sum + (nativeFrameWords "java/lang/System" "arraycopy" 5 + 11) ≤ R.locals) (hdg : decode cc pc = .ok (.invokestatic index, 3))
    (kk : ∀ (H1 : Heap) (locs1 : List Loc), H1.size = H.size → (∀ q : Nat, q ≠ a → H1[q]? = H[q]?) → H1[a]? = some (arrV c1 n1 (fun j => mk (va_cpy f g sp.toNatClampNeg dp.toNatClampNeg n.toNatClampNeg j))) → (∀ q ∈ locs1, q ∈ locs ∨ q.base = a) → W p l e R s m args below meth c H1 locs1 cells slots Q (F0 m (pc + 3) ls rest)) : W p l e R s m args below meth c H locs cells slots Q (F0 m pc ls (.int n :: .int dp :: .ref a :: .int sp :: .ref a0 :: rest)) := by
  have nn : ∀ z : Int32, ¬ z < 0 → z.toInt = (z.toNatClampNeg : Int) := by
    intro z hz
    have hz0 : (0 : Int) ≤ z.toInt := by
      have := Int32.not_lt.mp hz
      simpa using Int32.le_iff_toInt_le.mp this
    show z.toInt = ((z.toInt.toNat : Nat) : Int)
    omega
  intro T hT X
  obtain ⟨vm', X', step⟩ := X.arraycopy hexec hown hlink hnat hstat hini (src := a0) (dst := a) (cs := arrV c0 n0 (fun j => mk (f j))) (cd := arrV c1 n1 (fun j => mk (g j))) (srcPos := sp) (destPos := dp) (n := n) (by rw [hT]; exact hc0) (by rw [hT]; exact hc1)
    (fun _ h => by cases h) (fun _ h => by cases h) (fun h => by cases h) (fun h => by cases h) hk0 hk1 hkk0 hkk1 hty h1 h2 h3
    (by rw [nn sp h1, nn n h3, arrV_size]; omega)
    (by rw [nn dp h2, nn n h3, arrV_size]; omega)
    (fun vm₁ hal i hi => by
      have e : (arrV c0 n0 (fun j => mk (f j))).slots.getD (sp.toNatClampNeg + i) .null = mk (f (sp.toNatClampNeg + i)) := by
        rw [Array.getD_eq_getD_getElem?, arrV_read _ _ (by omega)]
        rfl
      rw [e]
      exact hv T hT vm₁ hal i hi)
    (g := F0 m pc ls (.int n :: .int dp :: .ref a :: .int sp :: .ref a0 :: rest)) rfl (by rw [hml]) (rest := rest) rfl (by rw [hb]; exact hdg) hframes (by show 2 * 0 + _ + _ ≤ _; omega)
  have e1 : copied (arrV c0 n0 (fun j => mk (f j))) (arrV c1 n1 (fun j => mk (g j))) sp dp n = arrV c1 n1 (fun j => mk (va_cpy f g sp.toNatClampNeg dp.toNatClampNeg n.toNatClampNeg j)) := va_copied mk c0 c1 f g h4
  rw [e1] at X' step
  have hl : a < H.size := (Array.getElem?_eq_some_iff.mp hc1).1
  have hheap : ((T.setVm vm').setCell a (arrV c1 n1 (fun j => mk (va_cpy f g sp.toNatClampNeg dp.toNatClampNeg n.toNatClampNeg j)))).heap = H.setIfInBounds a (arrV c1 n1 (fun j => mk (va_cpy f g sp.toNatClampNeg dp.toNatClampNeg n.toNatClampNeg j))) := by rw [← hT]; rfl
  obtain ⟨t, a1, b1⟩ := kk _ _ (by simp) (fun q hq => by simp [Array.getElem?_setIfInBounds, Ne.symm hq]) (by simp [Array.getElem?_setIfInBounds, hl]) (fun q hq => by
      rcases List.mem_append.mp hq with h | h
      · exact Or.inl h
      · obtain ⟨z, -, hz⟩ := List.mem_map.mp h
        rw [← hz]
        exact Or.inr rfl) _ hheap X'
  exact ⟨t, step t a1, b1⟩
end WCOPY
/-- the first n of array j0 come to array j1 -/
def cyA (C : CS) (j0 j1 n : Nat) : CS := (C.1, fun x k => if x = j1 ∧ k < n then C.2.1 j0 k else C.2.1 x k, C.2.2)
def cyG (C : CS) (j0 j1 n : Nat) : CS := (C.1, C.2.1, fun x k => if x = j1 ∧ k < n then C.2.2.1 j0 k else C.2.2.1 x k, C.2.2.2)
section GCOPY
variable {w : WD} {x : Cx} {cc : ByteArray} {nL : Nat} {own : String} {ret : Option FieldType} {rm : Room} {cells slots : Nat} {Q : State → Prop} {C : CS} {pc : Nat} {lv : List (Nat × Value)} {st : List Value}
theorem g_cpA (ok : Ok w x cc nL own ret rm) {J0 J1 N m : Nat} (hf0 : fArr J0 = some (0, N)) (hf1 : fArr J1 = some (0, N)) {n : Int32} (h3 : ¬ n < 0) (hm : n.toNatClampNeg = m) (hmN : m ≤ N) {index : Nat} (ql : Cond.methodLink own index arraycopyName ∈ lw_all) (hR : 1 ≤ rm.frames ∧ 30 ≤ rm.locals) (hw : (st.map fun v => v.category).sum ≤ 8) (d : decode cc pc = .ok (.invokestatic index, 3))
    (kk : ∀ C1, C1 = cyA C J0 J1 m → G w x nL cells slots Q C1 (pc + 3) lv st) : G w x nL cells slots Q C pc lv (.int n :: .int 0 :: .ref (ad w J1) :: .int 0 :: .ref (ad w J0) :: st) := by
  intro H locs ls h1 h2 h3'
  obtain ⟨-, k0, hk0, cm0, hkk0⟩ := (ok.K.2 0 _ rfl).1 N (fun i => .int (C.2.1 J0 i))
  refine W.copyG (fun z : Int32 => Value.int z) (f := C.2.1 J0) (g := C.2.1 J1) (n0 := N) (n1 := N) (sp := 0) (dp := 0) (n := n) ok.ex ok.cd (ok.ml.trans h3'.1.symm) ok.ow (ok.wd ql) (ok.wd q862) (ok.wd q861) (ok.wd q90) ((h1.2.2.1 J0 (fArr_lt hf0)).1 _ _ hf0) ((h1.2.2.1 J1 (fArr_lt hf1)).1 _ _ hf1) hk0 hk0 hkk0 hkk0 rfl (by decide) (by decide) h3 (by rw [hm]; show 0 + m ≤ N; omega) (by rw [hm]; show 0 + m ≤ N; omega) (fun T hT vm' hal i hi => ⟨rfl, trivial⟩) (by rw [ok.ro]; exact hR.1) (by
    rw [ok.ro]
    have := hR.2
    have e : nativeFrameWords "java/lang/System" "arraycopy" 5 + 11 ≤ 22 := by decide +kernel
    omega) d fun H1 locs1 hz ho hn hl => ?_
  rw [hm] at hn
  refine kk _ rfl H1 locs1 ls ?_ (fun q hq => ?_) h3'
  · refine hA.step ok.wo h1 (fArr_lt hf1) hz ho ?_ ?_ rfl ?_
    · refine ⟨fun t2 n2 q => ?_, fun t2 n2 q => ?_, fun c V q => ?_, fun q => absurd q (fArr_12 hf1).1, fun q => absurd q (fArr_12 hf1).2⟩
      · rw [hf1] at q
        cases q
        rw [hn]
        congr 2
        funext k
        show Value.int (va_cpy _ _ 0 0 m k) = Value.int (if J1 = J1 ∧ k < m then _ else _)
        unfold va_cpy
        by_cases c : k < m
        · rw [if_pos ⟨by omega, by omega⟩, if_pos ⟨rfl, c⟩]
          simp
        · rw [if_neg (by omega), if_neg (fun h => c h.2)]
      · rw [fArr_ref hf1] at q; cases q
      · rw [fArr_obj hf1] at q; cases q
    · intro i2 _ hne hx
      obtain ⟨a1, a2, a3, a4, a5⟩ := hx
      refine ⟨fun t2 n2 q => ?_, a2, a3, a4, a5⟩
      rw [a1 t2 n2 q]
      congr 2
      funext k
      simp [cyA, hne]
    · intro a tg hx; exact hx
  · rcases hl q hq with h | h
    · exact h2 q h
    · rw [h]; exact ok.wo.ge J1 (fArr_lt hf1)
theorem g_cpG (ok : Ok w x cc nL own ret rm) {J0 J1 N m : Nat} (hf0 : fRef J0 = some (7, N)) (hf1 : fRef J1 = some (7, N)) (hx : ∀ i y, i < m → C.2.2.1 J0 i = some y → isDy C 14 y) {n : Int32} (h3 : ¬ n < 0) (hm : n.toNatClampNeg = m) (hmN : m ≤ N) {index : Nat} (ql : Cond.methodLink own index arraycopyName ∈ lw_all) (hR : 1 ≤ rm.frames ∧ 30 ≤ rm.locals) (hw : (st.map fun v => v.category).sum ≤ 8) (d : decode cc pc = .ok (.invokestatic index, 3))
    (kk : ∀ C1, C1 = cyG C J0 J1 m → G w x nL cells slots Q C1 (pc + 3) lv st) : G w x nL cells slots Q C pc lv (.int n :: .int 0 :: .ref (ad w J1) :: .int 0 :: .ref (ad w J0) :: st) := by
  have hno : fArr J1 = none ∧ J1 ≠ 12 ∧ J1 ≠ 13 ∧ ∀ C : CS, fObj w C J1 = none := by
    unfold fRef at hf1
    split at hf1 <;> first | (refine ⟨rfl, by omega, by omega, fun _ => rfl⟩) | cases hf1
  intro H locs ls h1 h2 h3'
  obtain ⟨-, k0, hk0, cm0, hkk0⟩ := (ok.K.2 7 _ rfl).1 N (fun i => va_rf (C.2.2.1 J0 i))
  obtain ⟨kA, comp, r1, r2, r3, -⟩ := (ok.K.2 7 _ rfl).2
  cases hk0.symm.trans r1
  have hcm : cm0 = comp := by have := hkk0.symm.trans r2; cases this; rfl
  subst hcm
  refine W.copyG (fun z : Option Nat => va_rf z) (f := C.2.2.1 J0) (g := C.2.2.1 J1) (n0 := N) (n1 := N) (sp := 0) (dp := 0) (n := n) ok.ex ok.cd (ok.ml.trans h3'.1.symm) ok.ow (ok.wd ql) (ok.wd q862) (ok.wd q861) (ok.wd q90) ((h1.2.2.1 J0 (fRef_lt hf0)).2.1 _ _ hf0) ((h1.2.2.1 J1 (fRef_lt hf1)).2.1 _ _ hf1) hk0 hk0 hkk0 hkk0 rfl (by decide) (by decide) h3 (by rw [hm]; show 0 + m ≤ N; omega) (by rw [hm]; show 0 + m ≤ N; omega) (fun T hT vm₁ hal i hi => ?_) (by rw [ok.ro]; exact hR.1) (by
    rw [ok.ro]
    have := hR.2
    have e : nativeFrameWords "java/lang/System" "arraycopy" 5 + 11 ≤ 22 := by decide +kernel
    omega) d fun H1 locs1 hz ho hn hl => ?_
  · rw [hm] at hi
    cases hy : C.2.2.1 J0 (Int32.toNatClampNeg 0 + i) with
    | none => exact ⟨rfl, trivial⟩
    | some y =>
      obtain ⟨ny, hd⟩ := hx i y hi (by rw [← hy, show Int32.toNatClampNeg 0 + i = i by show 0 + i = i; omega])
      have hd := (h1.2.2.2 y _ hd).1
      unfold dynAt at hd
      rw [if_pos (show (14, ny).1 < 50 by show 14 < 50; decide)] at hd
      obtain ⟨r, e1, cellV, g1, g2, g3, -⟩ := hd
      obtain ⟨hfc, kC, hkC, -⟩ := (ok.K.1 14 _ rfl).2
      obtain ⟨kE, hkE, -⟩ := Vm.findClass_spec r3
      obtain ⟨kC', hkC', -⟩ := hal.2.2 _ _ hkC
      obtain ⟨kE', hkE', -⟩ := hal.2.2 _ _ hkE
      have hcl : cellV.cls = (wD w).1 14 := g2
      refine ⟨rfl, cellV, (show T.heap[y]? = some cellV by rw [hT]; exact g1), (fun q h => by rw [h] at g3; cases g3), ⟨kC', by rw [hcl]; exact hkC'⟩, ⟨kE', hkE'⟩, ?_⟩
      have e2 : cm0 = (wD w).1 14 := Option.some.inj (r3.symm.trans hfc)
      show vm₁.assignable _ _ = true
      rw [hal.assignable, hcl, e2]
      exact Vm.assignable_self _ _
  rw [hm] at hn
  refine kk _ rfl H1 locs1 ls ?_ (fun q hq => ?_) h3'
  · refine hA.step ok.wo h1 (fRef_lt hf1) hz ho ?_ ?_ rfl (fun _ _ hx => hx)
    · refine ⟨fun t2 n2 q => ?_, fun t2 n2 q => ?_, fun c V q => ?_, fun q => absurd q hno.2.1, fun q => absurd q hno.2.2.1⟩
      · rw [hno.1] at q; cases q
      · rw [hf1] at q
        cases q
        rw [hn]
        congr 2
        funext k
        show va_rf (va_cpy _ _ 0 0 m k) = va_rf (if J1 = J1 ∧ k < m then _ else _)
        unfold va_cpy
        by_cases c : k < m
        · rw [if_pos ⟨by omega, by omega⟩, if_pos ⟨rfl, c⟩]
          simp
        · rw [if_neg (by omega), if_neg (fun h => c h.2)]
      · rw [hno.2.2.2] at q; cases q
    · intro i2 _ hne hx
      obtain ⟨a1, a2, a3, a4, a5⟩ := hx
      refine ⟨a1, fun t2 n2 q => ?_, a3, a4, a5⟩
      rw [a2 t2 n2 q]
      congr 2
      funext k
      simp [cyG, hne]
  · rcases hl q hq with h | h
    · exact h2 q h
    · rw [h]; exact ok.wo.ge J1 (fRef_lt hf1)
end GCOPY
