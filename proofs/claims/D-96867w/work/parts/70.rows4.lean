/-! references are written: the table at hand, what a holder holds, places of the tables' arrays -/
theorem hA.stepO {w : WD} {C C1 : CS} {H H1 : Heap} {j c k : Nat} {v : Value} {V : Nat → Value} {r : vw_C} (ok : wOk w) (h : hA w C H) (hf : fObj w C j = some (c, V)) (hr : cls[c]? = some r) (hz : H1.size = H.size) (ho : ∀ q : Nat, q ≠ ad w j → H1[q]? = H[q]?)
    (hn : t_OB (ad w j) ((wD w).1 c) r.2.2 ((wD w).2 c) H1 (updV V k v)) (hV : ∀ c2 V2, fObj w C1 j = some (c2, V2) → c2 = c ∧ ∀ i, i < r.2.2 → V2 i = updV V k v i)
    (hoth : ∀ i, i < 60 → i ≠ j → fixAt w C H1 i → fixAt w C1 H1 i) (hT : C1.2.2.2.2.2.1 = C.2.2.2.2.2.1) (hdyn : ∀ a tg, dynAt w C H1 a tg → dynAt w C1 H1 a tg) : hA w C1 H1 := by
  obtain ⟨e1, e2, e3, e4⟩ := fObj_arr hf
  refine hA.step ok h (fObj_lt hf) hz ho ?_ hoth hT hdyn
  refine ⟨fun t2 n2 q => ?_, fun t2 n2 q => ?_, fun c2 V2 q => ?_, fun q => absurd q e3, fun q => absurd q e4⟩
  · rw [e1] at q; cases q
  · rw [e2] at q; cases q
  · obtain ⟨rfl, h2⟩ := hV c2 V2 q
    exact ⟨r, hr, hn.to (fun i hi => (h2 i hi).symm)⟩
theorem fObj_wN {w : WD} {C : CS} {n i : Nat} (h : i ≠ 0) : fObj w (wN C n) i = fObj w C i := by
  unfold fObj
  split <;> first | exact absurd rfl h | rfl
theorem fObj_wH {w : WD} {C : CS} {j : Nat} {o : Option Nat} {i : Nat} (h : i ≠ j) : fObj w (wH C j o) i = fObj w C i := by
  have e : (wH C j o).2.2.2.1 i = C.2.2.2.1 i := by
    show up1 _ _ _ _ = _
    unfold up1
    rw [if_neg h]
  unfold fObj
  split <;> first | rfl | (rw [e])
section ROWS4
variable {w : WD} {x : Cx} {cc : ByteArray} {nL : Nat} {own : String} {ret : Option FieldType} {rm : Room} {cells slots : Nat} {Q : State → Prop} {C : CS} {pc : Nat} {lv : List (Nat × Value)} {st : List Value}
theorem g_putO (ok : Ok w x cc nL own ret rm) (j : Nat) {c : Nat} {V : Nat → Value} (ho : fObj w C j = some (c, V)) {cn : String} {T : u_T} {N : Nat} (hc : cls[c]? = some (cn, T, N)) (hin : ∀ q ∈ u_ws cn T N, q ∈ lw_all) (ty0 : Nat → FieldType) (hty : ∀ k, k < N → parseFieldDescriptor (T k).2.2.1 = some (ty0 k)) (hnm : ∀ a, a < N → ∀ b, b < N → a ≠ b → (T a).2.1 ≠ (T b).2.1) (k : Nat) (hk : k < N) {idx : Nat} (q : Cond.fieldLink own idx (T k).1 (T k).2.1 (T k).2.2.1 ∈ lw_all) (hfin : (T k).2.2.2 = false) {v : Value} (hn : narrow (ty0 k) v = v) (hfit : fits (ty0 k) v = true)
    {C1 : CS} (hV : ∀ c2 V2, fObj w C1 j = some (c2, V2) → c2 = c ∧ ∀ i, i < N → V2 i = updV V k v i) (hoth : ∀ H1 i, i < 60 → i ≠ j → fixAt w C H1 i → fixAt w C1 H1 i) (hT : C1.2.2.2.2.2.1 = C.2.2.2.2.2.1) (hdyn : ∀ H1 a tg, dynAt w C H1 a tg → dynAt w C1 H1 a tg) (d : decode cc pc = .ok (.putfield idx, 3))
    (kk : G w x nL cells slots Q C1 (pc + 3) lv st) : G w x nL cells slots Q C pc lv (v :: .ref (ad w j) :: st) := by
  intro H locs ls h1 h2 h3
  obtain ⟨r, e1, cell, q1, q2, q3, q4⟩ := (h1.2.2.1 j (fObj_lt ho)).2.2.1 c V ho
  have hr : r = (cn, T, N) := Option.some.inj (e1.symm.trans hc)
  subst hr
  have hap := va_apart (own := own) ok.ts hin ty0 hty hnm ok.K hc
  obtain ⟨hS, hfc, kC, hkC, hkind⟩ := ok.K.1 c _ hc
  obtain ⟨cf, kf, fi, f, hi, hsl⟩ := hS k hk
  have hlay := ok.ts _ (hin _ (u_in_lay hk))
  unfold u_lay at hlay
  rw [if_neg (by rw [hfin]; decide)] at hlay
  have hst := (u_facts hfc hkC (u_lays ok.ts hin hk) hi).1
  have h6 := u_store hfc hkC hkind hlay hi (hty k hk) hn hfit
  refine W.putK ok.ex ok.cd (f := f) ⟨ok.ow, ok.wd q, ⟨_, _, _, hi⟩, hst⟩ (by rw [q2]; exact h6) q1 q3 (by rw [hsl]; exact k2_hasslot (q4 k hk)) rfl rfl d fun H' e1' e2' e3' => ?_
  rw [hsl] at e1' ⊢
  refine kk H' _ ls (hA.stepO ok.wo h1 ho hc e2' e3' ⟨_, e1', q2, q3, t_set q4 hap hk _⟩ hV (hoth H') hT (hdyn H')) (fun l hl => ?_) h3
  rcases List.mem_append.mp hl with h | h
  · exact h2 l h
  · rw [List.mem_singleton.mp h]; exact ok.wo.ge j (fObj_lt ho)
theorem g_putN (ok : Ok w x cc nL own ret rm) {j : Nat} (_ : isTb j) {idx : Nat} (q : Cond.fieldLink own idx "TwoGuilds" "now" "LTwoGuilds$Table;" ∈ lw_all) (d : decode cc pc = .ok (.putfield idx, 3))
    (kk : ∀ C1, C1 = wN C j → G w x nL cells slots Q C1 (pc + 3) lv st) : G w x nL cells slots Q C pc lv (.ref (ad w j) :: .ref (ad w 0) :: st) := by
  refine g_putO ok 0 (c := 0) (C := C) (C1 := wN C j) rfl rfl in_X0 tyX0 tyX0_ok nmX0 0 (by decide) q rfl rfl rfl ?_ ?_ rfl (fun _ _ _ h => h) d (kk _ rfl)
  · intro c2 V2 h
    have h2 : some (0, fun k2 => if k2 = 0 then Value.ref (ad w j) else fval w C 0 xk k2) = some (c2, V2) := h
    cases h2
    refine ⟨rfl, fun i _ => ?_⟩
    unfold updV
    by_cases hi : i = 0
    · rw [if_pos hi]; exact if_pos hi
    · rw [if_neg hi]
      show (if i = 0 then _ else _) = (if i = 0 then _ else _)
      rw [if_neg hi, if_neg hi]
  · intro H1 i _ hne hx
    obtain ⟨a1, a2, a3, a4, a5⟩ := hx
    exact ⟨a1, a2, fun c2 V2 e => a3 c2 V2 (by rw [fObj_wN hne] at e; exact e), a4, a5⟩
theorem g_putH (ok : Ok w x cc nL own ret rm) {j : Nat} {o : Option Nat} (hj1 : 27 ≤ j) (hj2 : j ≤ 35) {idx : Nat} (q : Cond.fieldLink own idx "TwoGuilds$Holder" "held" "Ljava/lang/Object;" ∈ lw_all) (d : decode cc pc = .ok (.putfield idx, 3))
    (kk : ∀ C1, C1 = wH C j o → G w x nL cells slots Q C1 (pc + 3) lv st) : G w x nL cells slots Q C pc lv (va_rf o :: .ref (ad w j) :: st) := by
  refine g_putO ok j (c := 3) (C := C) (C1 := wH C j o) (fObjH hj1 hj2) rfl in_X2 tyX2 tyX2_ok nmX2 0 (by decide) q rfl (by cases o <;> rfl) (by cases o <;> rfl) ?_ ?_ rfl (fun _ _ _ h => h) d (kk _ rfl)
  · intro c2 V2 h
    rw [fObjH hj1 hj2] at h
    cases h
    refine ⟨rfl, fun i hi1 => ?_⟩
    have e : (wH C j o).2.2.2.1 j = o := by
      show up1 _ _ _ _ = _
      unfold up1
      rw [if_pos rfl]
    show va_rf ((wH C j o).2.2.2.1 j) = _
    rw [e]
    unfold updV
    rw [if_pos (show i = 0 by omega)]
  · intro H1 i _ hne hx
    obtain ⟨a1, a2, a3, a4, a5⟩ := hx
    exact ⟨a1, a2, fun c2 V2 e => a3 c2 V2 (by rw [fObj_wH hne] at e; exact e), a4, a5⟩
/-- a field of a dynamic object of a known class is read -/
theorem g_dgetE (ok : Ok w x cc nL own ret rm) {a c : Nat} (ht : isDy C c a) (hc50 : c < 50) {cn : String} {T : u_T} {N : Nat} (hc : cls[c]? = some (cn, T, N)) (hin : ∀ q ∈ u_ws cn T N, q ∈ lw_all) (k : Nat) (hk : k < N) {idx : Nat} {v : Value} (q : Cond.fieldLink own idx (T k).1 (T k).2.1 (T k).2.2.1 ∈ lw_all) (hv : dObj w C c a k = v) (d : decode cc pc = .ok (.getfield idx, 3))
    (kk : G w x nL cells slots Q C (pc + 3) lv (v :: st)) : G w x nL cells slots Q C pc lv (.ref a :: st) := by
  obtain ⟨n, hn⟩ := ht
  exact g_dget ok hn hc50 hc hin k hk q hv d kk
/-- the outer object of a glove -/
theorem g_gthis (ok : Ok w x cc nL own ret rm) {a : Nat} (hg : isGl C a) {idx : Nat} (q : Cond.fieldLink own idx "TwoGuilds$Glove" "this$0" "LTwoGuilds;" ∈ lw_all) (d : decode cc pc = .ok (.getfield idx, 3))
    (kk : G w x nL cells slots Q C (pc + 3) lv (.ref (ad w 0) :: st)) : G w x nL cells slots Q C pc lv (.ref a :: st) := by
  obtain ⟨c, n, h1, -, h6⟩ := hg.tag
  obtain ⟨cn, T, hc, hin, hTk⟩ := tx_gl h6
  have e5 := hTk 5 (by decide)
  refine g_dget ok h1 (by omega) hc hin 5 (by decide) (idx := idx) (v := .ref (ad w 0)) ?_ ?_ d kk
  · rw [e5]; exact q
  · rcases h6 with h | h | h | h | h | h <;> subst h <;> rfl
/-- a place of an array of references is written -/
theorem hA.stepR {w : WD} {C : CS} {H H1 : Heap} {J t n i : Nat} {v : Option Nat} (ok : wOk w) (h : hA w C H) (hf : fRef J = some (t, n)) (hz : H1.size = H.size) (ho : ∀ q : Nat, q ≠ ad w J → H1[q]? = H[q]?)
    (hn : H1[ad w J]? = some ((arrV (wC w t) n (fun i => va_rf (C.2.2.1 J i))).setSlot i (va_rf v))) : hA w (wG C J i v) H1 := by
  have hno : fArr J = none ∧ J ≠ 12 ∧ J ≠ 13 ∧ ∀ C : CS, fObj w C J = none := by
    unfold fRef at hf
    split at hf <;> first | (refine ⟨rfl, by omega, by omega, fun _ => rfl⟩) | cases hf
  refine hA.step ok h (fRef_lt hf) hz ho ?_ ?_ rfl (fun _ _ hx => hx)
  · refine ⟨fun t2 n2 q => ?_, fun t2 n2 q => ?_, fun c V q => ?_, fun q => absurd q hno.2.1, fun q => absurd q hno.2.2.1⟩
    · rw [hno.1] at q; cases q
    · rw [hf] at q
      cases q
      rw [hn, arrV_store]
      congr 2
      funext m
      by_cases hm : m = i
      · subst hm; simp [updV, wG, up2]
      · simp [updV, wG, up2, hm]
    · rw [hno.2.2.2] at q; cases q
  · intro i2 _ hne hx
    obtain ⟨a1, a2, a3, a4, a5⟩ := hx
    refine ⟨a1, fun t2 n2 q => ?_, a3, a4, a5⟩
    rw [a2 t2 n2 q]
    congr 2
    funext m
    simp [wG, up2, hne]
theorem g_gast (ok : Ok w x cc nL own ret rm) {J n v : Nat} (hf : fRef J = some (6, n)) {i : Int32} (hin : vp_in i n) (hg : isGl C v) (d : decode cc pc = .ok (.aastore, 1))
    (kk : ∀ C1, C1 = wG C J i.toNatClampNeg (some v) → G w x nL cells slots Q C1 (pc + 1) lv st) : G w x nL cells slots Q C pc lv (.ref v :: .int i :: .ref (ad w J) :: st) := by
  intro H locs ls h1 h2 h3
  obtain ⟨c, m0, cn, T, t1, t2, t3, t4⟩ := hg.cn
  have hd := (h1.2.2.2 v _ t1).1
  unfold dynAt at hd
  rw [if_pos t2] at hd
  obtain ⟨r, e1, cellV, g1, g2, g3, -⟩ := hd
  have hlt := vp_lt hin
  have h0 : ¬ i < 0 := fun q => hin (Or.inl q)
  obtain ⟨hfc, kC, hkC, -⟩ := (ok.K.1 c _ t3).2
  obtain ⟨kA, comp, k1, k2, k3, -⟩ := (ok.K.2 6 _ rfl).2
  obtain ⟨kE, hkE, -⟩ := Vm.findClass_spec k3
  have hasg : (xS x).vm.assignable cellV.cls comp = true := by
    rw [g2]
    simp only [glN, List.mem_cons, List.not_mem_nil, or_false] at t4
    have hsame : cn = "TwoGuilds$Glove" → (xS x).vm.assignable ((wD w).1 c) comp = true := by
      intro h
      subst h
      have : comp = (wD w).1 c := Option.some.inj (k3.symm.trans hfc)
      rw [this]
      exact va_assign (C := "TwoGuilds$Glove") (ok.K.1 c _ t3).2
    have hother : va_Nw (.castable cn "TwoGuilds$Glove") (xS x) → (xS x).vm.assignable ((wD w).1 c) comp = true := by
      intro h
      obtain ⟨c0, t1, f1, f2, f3⟩ := Cond.castable_spec (va_Nw.use (A := xA x) rfl h)
      cases hfc.symm.trans f1
      cases k3.symm.trans f2
      exact f3
    rcases t4 with h | h | h | h | h | h
    · exact hsame h
    · rw [h] at hother; exact hother (ok.ca q1852)
    · rw [h] at hother; exact hother (ok.ca q1853)
    · rw [h] at hother; exact hother (ok.ca q1851)
    · rw [h] at hother; exact hother (ok.ca q1850)
    · rw [h] at hother; exact hother (ok.ca q1854)
  refine W.aast ok.ex ok.cd ((h1.2.2.1 J (fRef_lt hf)).2.1 _ _ hf) (fun q h => by cases h) (fun h => by cases h) k1 k2 rfl hkE ⟨h0, by rw [arrV_size]; exact hlt⟩ g1 (fun q h => by rw [g3] at h; cases h) (by rw [g2]; exact hkC) hasg rfl rfl d fun H1 e z oq => ?_
  refine kk _ rfl H1 _ ls (hA.stepR (v := some v) ok.wo h1 hf z oq e) (fun l hl => ?_) h3
  rcases List.mem_append.mp hl with h | h
  · exact h2 l h
  · rw [List.mem_singleton.mp h]; exact ok.wo.ge J (fRef_lt hf)
theorem g_xast (ok : Ok w x cc nL own ret rm) {J n v : Nat} (hf : fRef J = some (7, n)) {i : Int32} (hin : vp_in i n) (hg : isDy C 14 v) (d : decode cc pc = .ok (.aastore, 1))
    (kk : ∀ C1, C1 = wG C J i.toNatClampNeg (some v) → G w x nL cells slots Q C1 (pc + 1) lv st) : G w x nL cells slots Q C pc lv (.ref v :: .int i :: .ref (ad w J) :: st) := by
  intro H locs ls h1 h2 h3
  obtain ⟨m0, t1⟩ := hg
  have hd := (h1.2.2.2 v _ t1).1
  unfold dynAt at hd
  rw [if_pos (show (14, m0).1 < 50 from (by decide : (14 : Nat) < 50))] at hd
  obtain ⟨r, e1, cellV, g1, g2, g3, -⟩ := hd
  have hlt := vp_lt hin
  have h0 : ¬ i < 0 := fun q => hin (Or.inl q)
  obtain ⟨hfc, kC, hkC, -⟩ := (ok.K.1 14 _ rfl).2
  obtain ⟨kA, comp, k1, k2, k3, -⟩ := (ok.K.2 7 _ rfl).2
  obtain ⟨kE, hkE, -⟩ := Vm.findClass_spec k3
  have hcc : comp = (wD w).1 14 := Option.some.inj (k3.symm.trans hfc)
  have hasg : (xS x).vm.assignable cellV.cls comp = true := by
    rw [g2, hcc]
    exact va_assign (ok.K.1 14 _ rfl).2
  refine W.aast ok.ex ok.cd ((h1.2.2.1 J (fRef_lt hf)).2.1 _ _ hf) (fun q h => by cases h) (fun h => by cases h) k1 k2 rfl hkE ⟨h0, by rw [arrV_size]; exact hlt⟩ g1 (fun q h => by rw [g3] at h; cases h) (by rw [g2]; exact hkC) hasg rfl rfl d fun H1 e z oq => ?_
  refine kk _ rfl H1 _ ls (hA.stepR (v := some v) ok.wo h1 hf z oq e) (fun l hl => ?_) h3
  rcases List.mem_append.mp hl with h | h
  · exact h2 l h
  · rw [List.mem_singleton.mp h]; exact ok.wo.ge J (fRef_lt hf)
end ROWS4
