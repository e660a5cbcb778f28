/-! rows on what holders hold: a glove, a figure, a row of shorts, a row of floats, nothing -/
def tgO (C : CS) (o : Option Nat) : Nat := match o.bind C.2.2.2.2.2.1 with
  | some t => t.1
  | none => 0
def lnO (C : CS) (o : Option Nat) : Nat := match o.bind C.2.2.2.2.2.1 with
  | some t => t.2
  | none => 0
def atS (C : CS) (o : Option Nat) (i : Nat) : Int32 := match o with
  | some a => C.2.2.2.2.2.2.2.2.1 a i
  | none => 0
def atF (C : CS) (o : Option Nat) (i : Nat) : UInt32 := match o with
  | some a => C.2.2.2.2.2.2.2.2.2 a i
  | none => 0
def stS (C : CS) (o : Option Nat) (i : Nat) (v : Int32) : CS := match o with
  | some a => wDA C a i v
  | none => C
def stF (C : CS) (o : Option Nat) (i : Nat) (v : UInt32) : CS := match o with
  | some a => wDF C a i v
  | none => C
def vFig (C : CS) (o : Option Nat) : Int32 := match o with
  | some a => C.2.2.2.2.2.2.1 150 a
  | none => 0
theorem tgO.get {C : CS} {o : Option Nat} {t : Nat} (h : tgO C o = t) (ht : t ≠ 0) : ∃ a, o = some a ∧ C.2.2.2.2.2.1 a = some (t, lnO C o) := by
  cases o with
  | none => exact absurd h.symm ht
  | some a =>
    refine ⟨a, rfl, ?_⟩
    unfold tgO at h
    unfold lnO
    simp only [Option.bind_some] at h ⊢
    cases hb : C.2.2.2.2.2.1 a with
    | none => rw [hb] at h; exact absurd h.symm ht
    | some q => rw [hb] at h; subst h; rfl
theorem tgO.of {C : CS} {a t n : Nat} (h : C.2.2.2.2.2.1 a = some (t, n)) : tgO C (some a) = t ∧ lnO C (some a) = n := by
  unfold tgO lnO
  simp only [Option.bind_some, h]
  exact ⟨trivial, trivial⟩
abbrev thL : List Nat := [4, 5, 6, 7, 8, 9, 15, 104, 105]
abbrev thT (t : Nat) : Prop := t ∈ thL
theorem thT.cases {t : Nat} (h : thT t) : t = 4 ∨ t = 5 ∨ t = 6 ∨ t = 7 ∨ t = 8 ∨ t = 9 ∨ t = 15 ∨ t = 104 ∨ t = 105 := by
  have h : t ∈ thL := h
  simpa only [List.mem_cons, List.not_mem_nil, or_false] using h
/-- what a holder may hold -/
def thO (C : CS) (o : Option Nat) : Prop := o = none ∨ thT (tgO C o)
def nmO : Nat → String := fun t => match t with
  | 4 => "TwoGuilds$Glove" | 5 => "TwoGuilds$Lined" | 6 => "TwoGuilds$Loose" | 7 => "TwoGuilds$Furred" | 8 => "TwoGuilds$Forged" | 9 => "TwoGuilds$Mitten" | 15 => "TwoGuilds$Figure" | 104 => "[S" | 105 => "[F" | _ => ""
/-- s is under t -/
def subT (s t : Nat) : Bool := s == t || (t == 4 && decide (4 ≤ s) && decide (s ≤ 9)) || (s == 7 && t == 5) || (s == 8 && t == 6)
def isO (C : CS) (o : Option Nat) (t : Nat) : Int32 := if subT (tgO C o) t = true then 1 else 0
theorem nmO_ok {t : Nat} (h : thT t) : nmOk (nmO t) = true := by
  rcases thT.cases h with rfl | rfl | rfl | rfl | rfl | rfl | rfl | rfl | rfl <;> decide +kernel
theorem sub0 {t : Nat} (h : thT t) : subT 0 t = false := by
  rcases thT.cases h with rfl | rfl | rfl | rfl | rfl | rfl | rfl | rfl | rfl <;> decide
abbrev pO (o : Option Nat) (C0 : CS) : Option Value → CS → Prop := fun v C1 => v = some (va_rf o) ∧ C1 = C0
/-- it throws, and nothing is changed -/
abbrev pT (w : WD) (cn : String) (C : CS) : Nat → CS → Heap → Prop := fun a C1 H => exc w cn a H ∧ C1 = C
theorem subN {w : WD} (h : wOk w) {s t : Nat} (hs : thT s) (ht : thT t) (hn : subT s t = false) : va_Nc (nmO s) (nmO t) (wS w) := by
  rcases thT.cases hs with rfl | rfl | rfl | rfl | rfl | rfl | rfl | rfl | rfl <;> rcases thT.cases ht with rfl | rfl | rfl | rfl | rfl | rfl | rfl | rfl | rfl
  · exact absurd hn (by decide)
  · exact nc_Glove_Lined h
  · exact nc_Glove_Loose h
  · exact nc_Glove_Furred h
  · exact nc_Glove_Forged h
  · exact nc_Glove_Mitten h
  · exact nc_Glove_Figure h
  · exact nc_Glove_S h
  · exact nc_Glove_F h
  · exact absurd hn (by decide)
  · exact absurd hn (by decide)
  · exact nc_Lined_Loose h
  · exact nc_Lined_Furred h
  · exact nc_Lined_Forged h
  · exact nc_Lined_Mitten h
  · exact nc_Lined_Figure h
  · exact nc_Lined_S h
  · exact nc_Lined_F h
  · exact absurd hn (by decide)
  · exact nc_Loose_Lined h
  · exact absurd hn (by decide)
  · exact nc_Loose_Furred h
  · exact nc_Loose_Forged h
  · exact nc_Loose_Mitten h
  · exact nc_Loose_Figure h
  · exact nc_Loose_S h
  · exact nc_Loose_F h
  · exact absurd hn (by decide)
  · exact absurd hn (by decide)
  · exact nc_Furred_Loose h
  · exact absurd hn (by decide)
  · exact nc_Furred_Forged h
  · exact nc_Furred_Mitten h
  · exact nc_Furred_Figure h
  · exact nc_Furred_S h
  · exact nc_Furred_F h
  · exact absurd hn (by decide)
  · exact nc_Forged_Lined h
  · exact absurd hn (by decide)
  · exact nc_Forged_Furred h
  · exact absurd hn (by decide)
  · exact nc_Forged_Mitten h
  · exact nc_Forged_Figure h
  · exact nc_Forged_S h
  · exact nc_Forged_F h
  · exact absurd hn (by decide)
  · exact nc_Mitten_Lined h
  · exact nc_Mitten_Loose h
  · exact nc_Mitten_Furred h
  · exact nc_Mitten_Forged h
  · exact absurd hn (by decide)
  · exact nc_Mitten_Figure h
  · exact nc_Mitten_S h
  · exact nc_Mitten_F h
  · exact nc_Figure_Glove h
  · exact nc_Figure_Lined h
  · exact nc_Figure_Loose h
  · exact nc_Figure_Furred h
  · exact nc_Figure_Forged h
  · exact nc_Figure_Mitten h
  · exact absurd hn (by decide)
  · exact nc_Figure_S h
  · exact nc_Figure_F h
  · exact nc_S_Glove h
  · exact nc_S_Lined h
  · exact nc_S_Loose h
  · exact nc_S_Furred h
  · exact nc_S_Forged h
  · exact nc_S_Mitten h
  · exact nc_S_Figure h
  · exact absurd hn (by decide)
  · exact nc_S_F h
  · exact nc_F_Glove h
  · exact nc_F_Lined h
  · exact nc_F_Loose h
  · exact nc_F_Furred h
  · exact nc_F_Forged h
  · exact nc_F_Mitten h
  · exact nc_F_Figure h
  · exact nc_F_S h
  · exact absurd hn (by decide)
theorem subY {w : WD} {x : Cx} {cc : ByteArray} {nL : Nat} {own : String} {ret : Option FieldType} {rm : Room} (ok : Ok w x cc nL own ret rm) {s t : Nat} (hs : thT s) (ht : thT t) (hn : subT s t = true) : Cst x (nmO s) (nmO t) := by
  rcases thT.cases hs with rfl | rfl | rfl | rfl | rfl | rfl | rfl | rfl | rfl <;> rcases thT.cases ht with rfl | rfl | rfl | rfl | rfl | rfl | rfl | rfl | rfl
  · exact Cst.self (ok.K.1 4 _ rfl).2.1
  · exact absurd hn (by decide)
  · exact absurd hn (by decide)
  · exact absurd hn (by decide)
  · exact absurd hn (by decide)
  · exact absurd hn (by decide)
  · exact absurd hn (by decide)
  · exact absurd hn (by decide)
  · exact absurd hn (by decide)
  · exact Cst.of ok q1852
  · exact Cst.self (ok.K.1 5 _ rfl).2.1
  · exact absurd hn (by decide)
  · exact absurd hn (by decide)
  · exact absurd hn (by decide)
  · exact absurd hn (by decide)
  · exact absurd hn (by decide)
  · exact absurd hn (by decide)
  · exact absurd hn (by decide)
  · exact Cst.of ok q1853
  · exact absurd hn (by decide)
  · exact Cst.self (ok.K.1 6 _ rfl).2.1
  · exact absurd hn (by decide)
  · exact absurd hn (by decide)
  · exact absurd hn (by decide)
  · exact absurd hn (by decide)
  · exact absurd hn (by decide)
  · exact absurd hn (by decide)
  · exact Cst.of ok q1851
  · exact Cst.of ok q1855
  · exact absurd hn (by decide)
  · exact Cst.self (ok.K.1 7 _ rfl).2.1
  · exact absurd hn (by decide)
  · exact absurd hn (by decide)
  · exact absurd hn (by decide)
  · exact absurd hn (by decide)
  · exact absurd hn (by decide)
  · exact Cst.of ok q1850
  · exact absurd hn (by decide)
  · exact Cst.of ok q1856
  · exact absurd hn (by decide)
  · exact Cst.self (ok.K.1 8 _ rfl).2.1
  · exact absurd hn (by decide)
  · exact absurd hn (by decide)
  · exact absurd hn (by decide)
  · exact absurd hn (by decide)
  · exact Cst.of ok q1854
  · exact absurd hn (by decide)
  · exact absurd hn (by decide)
  · exact absurd hn (by decide)
  · exact absurd hn (by decide)
  · exact Cst.self (ok.K.1 9 _ rfl).2.1
  · exact absurd hn (by decide)
  · exact absurd hn (by decide)
  · exact absurd hn (by decide)
  · exact absurd hn (by decide)
  · exact absurd hn (by decide)
  · exact absurd hn (by decide)
  · exact absurd hn (by decide)
  · exact absurd hn (by decide)
  · exact absurd hn (by decide)
  · exact Cst.self (ok.K.1 15 _ rfl).2.1
  · exact absurd hn (by decide)
  · exact absurd hn (by decide)
  · exact absurd hn (by decide)
  · exact absurd hn (by decide)
  · exact absurd hn (by decide)
  · exact absurd hn (by decide)
  · exact absurd hn (by decide)
  · exact absurd hn (by decide)
  · exact absurd hn (by decide)
  · exact Cst.self (fcS ok)
  · exact absurd hn (by decide)
  · exact absurd hn (by decide)
  · exact absurd hn (by decide)
  · exact absurd hn (by decide)
  · exact absurd hn (by decide)
  · exact absurd hn (by decide)
  · exact absurd hn (by decide)
  · exact absurd hn (by decide)
  · exact absurd hn (by decide)
  · exact Cst.self (fcF ok)
section ROWS9
variable {w : WD} {x : Cx} {cc : ByteArray} {nL : Nat} {own : String} {ret : Option FieldType} {rm : Room} {cells slots : Nat} {Q : State → Prop} {C : CS} {pc : Nat} {lv : List (Nat × Value)} {st : List Value}
theorem recvO (ok : Ok w x cc nL own ret rm) {a t n : Nat} (ht : thT t) (h : C.2.2.2.2.2.1 a = some (t, n)) : Recv w x C a (nmO t) := by
  rcases thT.cases ht with rfl | rfl | rfl | rfl | rfl | rfl | rfl | rfl | rfl
  · exact recvD ok h (by decide) rfl
  · exact recvD ok h (by decide) rfl
  · exact recvD ok h (by decide) rfl
  · exact recvD ok h (by decide) rfl
  · exact recvD ok h (by decide) rfl
  · exact recvD ok h (by decide) rfl
  · exact recvD ok h (by decide) rfl
  · exact recvS ok h
  · exact recvFl ok h
theorem g_inst (ok : Ok w x cc nL own ret rm) {o : Option Nat} (h : thO C o) {t idx : Nat} (ht : thT t) (ql : Cond.classLink own idx (nmO t) ∈ lw_all) (d : decode cc pc = .ok (.instanceof idx, 3))
    (k : G w x nL cells slots Q C (pc + 3) lv (.int (isO C o t) :: st)) : G w x nL cells slots Q C pc lv (va_rf o :: st) := by
  rcases h with rfl | h
  · have e : isO C none t = 0 := by unfold isO; rw [show tgO C none = 0 from rfl, sub0 ht]; rfl
    rw [e] at k
    exact g_inst0 ok d k
  · obtain ⟨a, rfl, e⟩ := tgO.get rfl (show tgO C o ≠ 0 from fun z => by rw [z] at h; exact absurd h (by decide))
    by_cases hs : subT (tgO C (some a)) t = true
    · have e1 : isO C (some a) t = 1 := by unfold isO; rw [if_pos hs]
      rw [e1] at k
      exact g_instY ok ql (subY ok h ht hs) (recvO ok h e) d k
    · have e1 : isO C (some a) t = 0 := by unfold isO; rw [if_neg hs]
      rw [e1] at k
      exact g_instN ok ql (subN ok.wo h ht (by simpa using hs)) (recvO ok h e) d k
theorem g_castO (ok : Ok w x cc nL own ret rm) {o : Option Nat} (h : thO C o) {t idx : Nat} (ht : thT t) (ql : Cond.classLink own idx (nmO t) ∈ lw_all) (d : decode cc pc = .ok (.checkcast idx, 3)) (hs : o = none ∨ subT (tgO C o) t = true)
    (k : G w x nL cells slots Q C (pc + 3) lv (va_rf o :: st)) : G w x nL cells slots Q C pc lv (va_rf o :: st) := by
  rcases h with rfl | h
  · exact g_cast0 ok d k
  · obtain ⟨a, rfl, e⟩ := tgO.get rfl (show tgO C o ≠ 0 from fun z => by rw [z] at h; exact absurd h (by decide))
    rcases hs with hs | hs
    · cases hs
    · exact g_castY ok ql (subY ok h ht hs) (recvO ok h e) d k
theorem g_castOx (ok : Ok w x cc nL own ret rm) (ho : Old w x) (hl : (xL x).stackTraces = false) {o : Option Nat} (h : thO C o) {t idx : Nat} (ht : thT t) (ql : Cond.classLink own idx (nmO t) ∈ lw_all) (d : decode cc pc = .ok (.checkcast idx, 3)) (hs : ¬ o = none ∧ subT (tgO C o) t = false)
    (hcap : cells + 3 ≤ rm.cells ∧ slots + 2410 ≤ rm.slots) (hR : 8 ≤ rm.frames ∧ 10300 ≤ rm.locals) (hw : (st.map fun v => v.category).sum ≤ 7)
    (k : ∀ e, GT w x nL (cells + 3) (slots + 2410) Q C pc lv (va_rf o :: st) e (exc w CCE e)) : G w x nL cells slots Q C pc lv (va_rf o :: st) := by
  rcases h with h | h
  · exact absurd h hs.1
  · obtain ⟨a, rfl, e⟩ := tgO.get rfl (show tgO C o ≠ 0 from fun z => by rw [z] at h; exact absurd h (by decide))
    exact g_castNo ok ho hl ql (subN ok.wo h ht hs.2) (recvO ok h e) (nmO_ok h) (nmO_ok ht) hcap hR (by show 1 + (st.map fun v => v.category).sum ≤ 8; omega) d k
theorem rwO {o : Option Nat} (h : tgO C o = 104 ∨ tgO C o = 105) : ∃ a, o = some a ∧ isRw C a (lnO C o) := by
  rcases h with h | h
  · obtain ⟨a, e, e2⟩ := tgO.get h (by decide)
    exact ⟨a, e, Or.inl e2⟩
  · obtain ⟨a, e, e2⟩ := tgO.get h (by decide)
    exact ⟨a, e, Or.inr e2⟩
theorem g_alenO (ok : Ok w x cc nL own ret rm) {o : Option Nat} (h : tgO C o = 104 ∨ tgO C o = 105) (d : decode cc pc = .ok (.arraylength, 1)) (k : G w x nL cells slots Q C (pc + 1) lv (.int (nI (lnO C o)) :: st)) : G w x nL cells slots Q C pc lv (va_rf o :: st) := by
  obtain ⟨a, rfl, e⟩ := rwO h
  exact g_alenR ok e d k
theorem g_alenOx (ok : Ok w x cc nL own ret rm) (ho : Old w x) (hl : (xL x).stackTraces = false) {o : Option Nat} (h : o = none) (hcap : cells + 1 ≤ rm.cells ∧ slots + 8 ≤ rm.slots) (hR : 8 ≤ rm.frames ∧ 10300 ≤ rm.locals) (hw : (st.map fun v => v.category).sum ≤ 8)
    (d : decode cc pc = .ok (.arraylength, 1)) (k : ∀ a, GT w x nL (cells + 1) (slots + 8) Q C pc lv st a (exc w NPE a)) : G w x nL cells slots Q C pc lv (va_rf o :: st) := by
  subst h
  exact g_alen0 ok ho hl hcap hR hw d k
theorem g_saldO (ok : Ok w x cc nL own ret rm) {o : Option Nat} (h : tgO C o = 104) {i : Int32} (hin : vp_in i (lnO C o)) (d : decode cc pc = .ok (.saload, 1)) (k : G w x nL cells slots Q C (pc + 1) lv (.int (atS C o i.toNatClampNeg) :: st)) : G w x nL cells slots Q C pc lv (.int i :: va_rf o :: st) := by
  obtain ⟨a, rfl, e⟩ := tgO.get h (by decide)
  exact g_saldD ok e hin d k
theorem g_faldO (ok : Ok w x cc nL own ret rm) {o : Option Nat} (h : tgO C o = 105) {i : Int32} (hin : vp_in i (lnO C o)) (d : decode cc pc = .ok (.faload, 1)) (k : G w x nL cells slots Q C (pc + 1) lv (.float (atF C o i.toNatClampNeg) :: st)) : G w x nL cells slots Q C pc lv (.int i :: va_rf o :: st) := by
  obtain ⟨a, rfl, e⟩ := tgO.get h (by decide)
  exact g_faldD ok e hin d k
theorem g_sastO (ok : Ok w x cc nL own ret rm) {o : Option Nat} (h : tgO C o = 104) {i v : Int32} (hin : vp_in i (lnO C o)) (hv : narrow .short (.int v) = .int v) (d : decode cc pc = .ok (.sastore, 1))
    (kk : ∀ C1, C1 = stS C o i.toNatClampNeg v → G w x nL cells slots Q C1 (pc + 1) lv st) : G w x nL cells slots Q C pc lv (.int v :: .int i :: va_rf o :: st) := by
  obtain ⟨a, rfl, e⟩ := tgO.get h (by decide)
  exact g_sastD ok e hin hv d kk
theorem g_fastO (ok : Ok w x cc nL own ret rm) {o : Option Nat} (h : tgO C o = 105) {i : Int32} {v : UInt32} (hin : vp_in i (lnO C o)) (d : decode cc pc = .ok (.fastore, 1))
    (kk : ∀ C1, C1 = stF C o i.toNatClampNeg v → G w x nL cells slots Q C1 (pc + 1) lv st) : G w x nL cells slots Q C pc lv (.float v :: .int i :: va_rf o :: st) := by
  obtain ⟨a, rfl, e⟩ := tgO.get h (by decide)
  exact g_fastD ok e hin d kk
theorem g_figO (ok : Ok w x cc nL own ret rm) {o : Option Nat} (h : tgO C o = 15) {idx : Nat} (q : Cond.fieldLink own idx "TwoGuilds$Figure" "v" "I" ∈ lw_all) (d : decode cc pc = .ok (.getfield idx, 3)) (k : G w x nL cells slots Q C (pc + 3) lv (.int (vFig C o) :: st)) : G w x nL cells slots Q C pc lv (va_rf o :: st) := by
  obtain ⟨a, rfl, e⟩ := tgO.get h (by decide)
  exact g_dgetE ok ⟨_, e⟩ (by decide) rfl in_X16 0 (by decide) q rfl d k
theorem g_figOx (ok : Ok w x cc nL own ret rm) (ho : Old w x) (hl : (xL x).stackTraces = false) {o : Option Nat} (h : o = none) {idx : Nat} (q : Cond.fieldLink own idx "TwoGuilds$Figure" "v" "I" ∈ lw_all) (hcap : cells + 1 ≤ rm.cells ∧ slots + 8 ≤ rm.slots) (hR : 8 ≤ rm.frames ∧ 10300 ≤ rm.locals) (hw : (st.map fun v => v.category).sum ≤ 8)
    (d : decode cc pc = .ok (.getfield idx, 3)) (k : ∀ a, GT w x nL (cells + 1) (slots + 8) Q C pc lv st a (exc w NPE a)) : G w x nL cells slots Q C pc lv (va_rf o :: st) := by
  subst h
  exact g_getf0 ok ho hl (c := 15) rfl in_X16 0 (by decide) q hcap hR hw d k
theorem g_oD {o : Option Nat} {a : Nat} (h : o = some a) (k : G w x nL cells slots Q C pc lv (.ref a :: st)) : G w x nL cells slots Q C pc lv (va_rf o :: st) := by
  subst h
  exact k
theorem g_o0 {o : Option Nat} (h : o = none) (k : G w x nL cells slots Q C pc lv (.null :: st)) : G w x nL cells slots Q C pc lv (va_rf o :: st) := by
  subst h
  exact k
theorem g_newS24 (ok : Ok w x cc nL own ret rm) {v : Int32} {n : Nat} (hv : v = nI n ∧ n ≤ 24) (hcap : cells + 1 ≤ rm.cells ∧ slots + 24 ≤ rm.slots) (d : decode cc pc = .ok (.newarray .short, 2))
    (kk : ∀ a, cT C a = none → G w x nL (cells + 1) (slots + 24) Q (nwS C a n) (pc + 2) lv (.ref a :: st)) : G w x nL cells slots Q C pc lv (.int v :: st) := by
  rw [hv.1]
  exact g_newS ok (by omega) ⟨hcap.1, by omega⟩ d (fun a ha => g_widen _ _ (Nat.le_refl _) (by omega) (kk a ha))
theorem g_newF24 (ok : Ok w x cc nL own ret rm) {v : Int32} {n : Nat} (hv : v = nI n ∧ n ≤ 24) (hcap : cells + 1 ≤ rm.cells ∧ slots + 24 ≤ rm.slots) (d : decode cc pc = .ok (.newarray .float, 2))
    (kk : ∀ a, cT C a = none → G w x nL (cells + 1) (slots + 24) Q (nwF C a n) (pc + 2) lv (.ref a :: st)) : G w x nL cells slots Q C pc lv (.int v :: st) := by
  rw [hv.1]
  exact g_newF ok (by omega) ⟨hcap.1, by omega⟩ d (fun a ha => g_widen _ _ (Nat.le_refl _) (by omega) (kk a ha))
theorem resO {o : Option Nat} {C0 : CS} {rest : List Value} (k : G w x nL cells slots Q C0 pc lv (va_rf o :: rest)) : ∀ v C1, pO o C0 v C1 → G w x nL cells slots Q C1 pc lv (v.toList ++ rest) := by
  intro v C1 h
  obtain ⟨rfl, rfl⟩ := h
  exact k
theorem g_oret {cn : String} (ok : Ok w x cc nL own (some (.object cn)) rm) {o : Option Nat} {post : Option Value → CS → Prop} (d : decode cc pc = .ok (.areturn, 1)) (hq : post (some (va_rf o)) C) : G w x nL cells slots (QM w x post cells slots) C pc lv [va_rf o] := by
  cases o with
  | none => exact fun H locs ls h1 h2 h3 => W.aret ok.ex ok.cd ok.rt (Or.inl ⟨_, rfl⟩) (Or.inl rfl) (fun t ht hW => ⟨_, C, rfl, hq, by rw [ht]; exact h1⟩) h2 d ok.lk
  | some a => exact g_aret ok d hq
variable {y : MethodName} {code : ByteArray} {nL2 : Nat} {ret2 : Option FieldType} {n idx L mc ms : Nat} {rest : List Value}
theorem g_callTx (ok : Ok w x cc nL own ret rm) (As : List Value) (cf : CfS y code nL2 ret2 n) (ql : Cond.methodLink own idx y ∈ lw_all) {cn : String} (hM : MT w (xL x) y code nL2 ret2 L mc ms As C (pT w cn C))
    (hn : As.length = n) (hs : st = As.reverse ++ rest) (hw : (rest.map fun v => v.category).sum ≤ 8)
    (hR : L + 1 ≤ rm.frames ∧ 8 + (nL2 + 11) + 40 * L ≤ rm.locals) (hcap : cells + mc ≤ rm.cells ∧ slots + ms ≤ rm.slots) (d : decode cc pc = .ok (.invokestatic idx, 3))
    (k : ∀ a, GT w x nL (cells + mc) (slots + ms) Q C pc lv rest a (exc w cn a)) : G w x nL cells slots Q C pc lv st := by
  refine g_callST ok As cf ql hM hn hs hw hR hcap d (fun a C1 => ?_)
  intro H locs ls h1 h2 h3 h4
  obtain ⟨h4, rfl⟩ := h4
  exact k a H locs ls h1 h2 h3 h4
theorem Srch.skip {cn : String} {a b h c z : Nat} {t : List (Nat × Nat × Nat × Nat)} (hc : ¬ (a ≤ pc ∧ pc < b)) (k : Srch w own cn pc t z) : Srch w own cn pc ((a, b, h, c) :: t) z := by
  show if a ≤ pc ∧ pc < b then _ else _
  rw [if_neg hc]
  exact k
theorem Srch.hit {cn kn : String} {a b c z : Nat} {t : List (Nat × Nat × Nat × Nat)} (hc : a ≤ pc ∧ pc < b) (h0 : ¬ c = 0) (ql : Cond.classLink own c kn ∈ lw_all) (qc : Cond.castable cn kn ∈ lw_tbl) : Srch w own cn pc ((a, b, z, c) :: t) z := by
  show if a ≤ pc ∧ pc < b then _ else _
  rw [if_pos hc, if_neg h0]
  exact ⟨kn, ql, Or.inl ⟨qc, rfl⟩⟩
theorem Srch.miss {cn kn : String} {a b h c z : Nat} {t : List (Nat × Nat × Nat × Nat)} (hc : a ≤ pc ∧ pc < b) (h0 : ¬ c = 0) (ql : Cond.classLink own c kn ∈ lw_all) (hn : va_Nc cn kn (wS w)) (k : Srch w own cn pc t z) : Srch w own cn pc ((a, b, h, c) :: t) z := by
  show if a ≤ pc ∧ pc < b then _ else _
  rw [if_pos hc, if_neg h0]
  exact ⟨kn, ql, Or.inr ⟨hn, k⟩⟩
theorem Srch.any {cn : String} {a b z : Nat} {t : List (Nat × Nat × Nat × Nat)} (hc : a ≤ pc ∧ pc < b) : Srch w own cn pc ((a, b, z, 0) :: t) z := by
  show if a ≤ pc ∧ pc < b then _ else _
  rw [if_pos hc, if_pos rfl]
end ROWS9
