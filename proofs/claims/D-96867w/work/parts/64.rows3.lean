/-! further rows: references that may be null, longs, comparisons; answers of calls -/
section ROWS3
variable {w : WD} {x : Cx} {cc : ByteArray} {nL : Nat} {own : String} {ret : Option FieldType} {rm : Room} {cells slots : Nat} {Q : State → Prop} {C : CS} {pc : Nat} {lv : List (Nat × Value)} {st : List Value}
theorem g_oload_n (ok : Ok w x cc nL own ret rm) {n : Fin 4} {o : Option Nat} (p0 : Nat) (d : decode cc pc = .ok (.aload_n n, 1)) (hi : lv[p0]? = some ((n : Nat), va_rf o)) (k : G w x nL cells slots Q C (pc + 1) lv (va_rf o :: st)) : G w x nL cells slots Q C pc lv st := by
  intro H locs ls h1 h2 h3
  have hl := lv_at h3 p0 hi
  cases o with
  | none => exact lv_aload_nN ok.ex ok.cd d rfl hl (k H locs ls h1 h2 h3)
  | some a => exact lv_aload_n ok.ex ok.cd d rfl hl (k H locs ls h1 h2 h3)
theorem g_oload (ok : Ok w x cc nL own ret rm) {n : Nat} {o : Option Nat} (p0 : Nat) (d : decode cc pc = .ok (.aload n, 2)) (hi : lv[p0]? = some (n, va_rf o)) (k : G w x nL cells slots Q C (pc + 2) lv (va_rf o :: st)) : G w x nL cells slots Q C pc lv st := by
  intro H locs ls h1 h2 h3
  have hl := lv_at h3 p0 hi
  cases o with
  | none => exact lv_aloadN ok.ex ok.cd d hl (k H locs ls h1 h2 h3)
  | some a => exact lv_aload ok.ex ok.cd d hl (k H locs ls h1 h2 h3)
theorem g_ostore_n (ok : Ok w x cc nL own ret rm) {n : Fin 4} {o : Option Nat} (lv1 : List (Nat × Value)) (d : decode cc pc = .ok (.astore_n n, 1)) (hn : (n : Nat) < nL) (hl : ((n : Nat), va_rf o) :: lv.filter (fun q => !(q.1 == (n : Nat)) && !(q.1 + 1 == (n : Nat) && q.2.category == 2)) = lv1) (k : G w x nL cells slots Q C (pc + 1) lv1 st) : G w x nL cells slots Q C pc lv (va_rf o :: st) := by
  intro H locs ls h1 h2 h3
  cases o with
  | none => exact lv_astore_nN ok.ex ok.cd d rfl h3 hn hl (fun ls2 h4 => k H locs ls2 h1 h2 h4)
  | some a => exact lv_astore_n ok.ex ok.cd d rfl h3 hn hl (fun ls2 h4 => k H locs ls2 h1 h2 h4)
theorem g_ostore (ok : Ok w x cc nL own ret rm) {n : Nat} {o : Option Nat} (lv1 : List (Nat × Value)) (d : decode cc pc = .ok (.astore n, 2)) (hn : n < nL) (hl : (n, va_rf o) :: lv.filter (fun q => !(q.1 == n) && !(q.1 + 1 == n && q.2.category == 2)) = lv1) (k : G w x nL cells slots Q C (pc + 2) lv1 st) : G w x nL cells slots Q C pc lv (va_rf o :: st) := by
  intro H locs ls h1 h2 h3
  cases o with
  | none => exact lv_astoreN ok.ex ok.cd d h3 hn hl (fun ls2 h4 => k H locs ls2 h1 h2 h4)
  | some a => exact lv_astore ok.ex ok.cd d h3 hn hl (fun ls2 h4 => k H locs ls2 h1 h2 h4)
theorem g_ifnull (ok : Ok w x cc nL own ret rm) {o : Option Nat} {off : Int} {tgt : Nat} (d : decode cc pc = .ok (.ifnull off, 3)) (ht : (pc : Int) + off = (tgt : Int)) (kt : o = none → G w x nL cells slots Q C tgt lv st) (kf : ¬ o = none → G w x nL cells slots Q C (pc + 3) lv st) : G w x nL cells slots Q C pc lv (va_rf o :: st) := by
  intro H locs ls h1 h2 h3
  cases o with
  | none => exact lv_ifnullN ok.ex ok.cd d ht (kt rfl H locs ls h1 h2 h3)
  | some a => exact lv_ifnull ok.ex ok.cd d (kf (fun h => by cases h) H locs ls h1 h2 h3)
theorem g_ifnonnull (ok : Ok w x cc nL own ret rm) {o : Option Nat} {off : Int} {tgt : Nat} (d : decode cc pc = .ok (.ifnonnull off, 3)) (ht : (pc : Int) + off = (tgt : Int)) (kt : ¬ o = none → G w x nL cells slots Q C tgt lv st) (kf : o = none → G w x nL cells slots Q C (pc + 3) lv st) : G w x nL cells slots Q C pc lv (va_rf o :: st) := by
  intro H locs ls h1 h2 h3
  cases o with
  | none => exact lv_ifnonnullN ok.ex ok.cd d (kf rfl H locs ls h1 h2 h3)
  | some a => exact lv_ifnonnull ok.ex ok.cd d ht (kt (fun h => by cases h) H locs ls h1 h2 h3)
theorem g_acmp_eq (ok : Ok w x cc nL own ret rm) {a b : Nat} {off : Int} {tgt : Nat} (d : decode cc pc = .ok (.if_acmp .eq off, 3)) (ht : (pc : Int) + off = (tgt : Int)) (kt : a = b → G w x nL cells slots Q C tgt lv st) (kf : ¬ a = b → G w x nL cells slots Q C (pc + 3) lv st) : G w x nL cells slots Q C pc lv (.ref b :: .ref a :: st) :=
  fun H locs ls h1 h2 h3 => lv_acmp_eq (rx := some a) (ry := some b) ok.ex ok.cd d ht (fun c9 => kt (Option.some.inj c9) H locs ls h1 h2 h3) (fun c9 => kf (fun e => c9 (congrArg some e)) H locs ls h1 h2 h3)
theorem g_lload_n (ok : Ok w x cc nL own ret rm) {n : Fin 4} {y : Int64} (p0 : Nat) (d : decode cc pc = .ok (.lload_n n, 1)) (hi : lv[p0]? = some ((n : Nat), Value.long y)) (k : G w x nL cells slots Q C (pc + 1) lv (.long y :: st)) : G w x nL cells slots Q C pc lv st :=
  fun H locs ls h1 h2 h3 => lv_lload_n ok.ex ok.cd d rfl (lv_at h3 p0 hi) (k H locs ls h1 h2 h3)
theorem g_lload (ok : Ok w x cc nL own ret rm) {n : Nat} {y : Int64} (p0 : Nat) (d : decode cc pc = .ok (.lload n, 2)) (hi : lv[p0]? = some (n, Value.long y)) (k : G w x nL cells slots Q C (pc + 2) lv (.long y :: st)) : G w x nL cells slots Q C pc lv st :=
  fun H locs ls h1 h2 h3 => lv_lload ok.ex ok.cd d (lv_at h3 p0 hi) (k H locs ls h1 h2 h3)
theorem g_ldc2 (ok : Ok w x cc nL own ret rm) {i : Nat} {v : Int64} (q : Cond.constantLong own i v ∈ lw_all) (d : decode cc pc = .ok (.ldc2_w i, 3)) (k : G w x nL cells slots Q C (pc + 3) lv (.long v :: st)) : G w x nL cells slots Q C pc lv st :=
  fun H locs ls h1 h2 h3 => lv_ldc2 ok.ex ok.cd ok.ow (ok.wd q) d (k H locs ls h1 h2 h3)
theorem g_lcmp (ok : Ok w x cc nL own ret rm) {a b : Int64} (d : decode cc pc = .ok (.lcmp, 1)) (k : G w x nL cells slots Q C (pc + 1) lv (.int (lg_cmp a b) :: st)) : G w x nL cells slots Q C pc lv (.long b :: .long a :: st) :=
  fun H locs ls h1 h2 h3 => W.lcmp ok.ex ok.cd d (k H locs ls h1 h2 h3)
/-- answers of calls -/
theorem resI {r : Int32} {C0 : CS} {rest : List Value} (k : G w x nL cells slots Q C0 pc lv (.int r :: rest)) : ∀ v C1, pI r C0 v C1 → G w x nL cells slots Q C1 pc lv (v.toList ++ rest) := by
  intro v C1 h
  obtain ⟨rfl, rfl⟩ := h
  exact k
theorem resV {C0 : CS} {rest : List Value} (k : G w x nL cells slots Q C0 pc lv rest) : ∀ v C1, pV C0 v C1 → G w x nL cells slots Q C1 pc lv (v.toList ++ rest) := by
  intro v C1 h
  obtain ⟨rfl, rfl⟩ := h
  exact k
theorem resIR {r : Int32} {q : CS → Prop} {rest : List Value} (k : ∀ C1, q C1 → G w x nL cells slots Q C1 pc lv (.int r :: rest)) : ∀ v C1, pIR r q v C1 → G w x nL cells slots Q C1 pc lv (v.toList ++ rest) := by
  intro v C1 h
  obtain ⟨rfl, h⟩ := h
  exact k C1 h
theorem resVR {q : CS → Prop} {rest : List Value} (k : ∀ C1, q C1 → G w x nL cells slots Q C1 pc lv rest) : ∀ v C1, pVR q v C1 → G w x nL cells slots Q C1 pc lv (v.toList ++ rest) := by
  intro v C1 h
  obtain ⟨rfl, h⟩ := h
  exact k C1 h
abbrev pRR (q : Nat → CS → Prop) : Option Value → CS → Prop := fun v C1 => ∃ r : Nat, v = some (.ref r) ∧ q r C1
theorem resRR {q : Nat → CS → Prop} {rest : List Value} (k : ∀ r C1, q r C1 → G w x nL cells slots Q C1 pc lv (.ref r :: rest)) : ∀ v C1, pRR q v C1 → G w x nL cells slots Q C1 pc lv (v.toList ++ rest) := by
  intro v C1 h
  obtain ⟨r, rfl, h⟩ := h
  exact k r C1 h
/-- gloves as receivers -/
def glN : List String := ["TwoGuilds$Glove", "TwoGuilds$Lined", "TwoGuilds$Loose", "TwoGuilds$Furred", "TwoGuilds$Forged", "TwoGuilds$Mitten"]
theorem isGl.cn {a : Nat} (hg : isGl C a) : ∃ c n cn T, C.2.2.2.2.2.1 a = some (c, n) ∧ c < 50 ∧ cls[c]? = some (cn, T, 6) ∧ cn ∈ glN := by
  obtain ⟨c, n, h1, -, h6⟩ := hg.tag
  rcases h6 with h | h | h | h | h | h <;> subst h
  · exact ⟨4, n, _, _, h1, by decide, rfl, by decide⟩
  · exact ⟨5, n, _, _, h1, by decide, rfl, by decide⟩
  · exact ⟨6, n, _, _, h1, by decide, rfl, by decide⟩
  · exact ⟨7, n, _, _, h1, by decide, rfl, by decide⟩
  · exact ⟨8, n, _, _, h1, by decide, rfl, by decide⟩
  · exact ⟨9, n, _, _, h1, by decide, rfl, by decide⟩
variable {y0 y : MethodName} {cn : String} {code : ByteArray} {nL2 : Nat} {ret2 : Option FieldType} {n idx L mc ms : Nat} {post : Option Value → CS → Prop} {rest : List Value} {a : Nat}
/-- a method of Glove that no class overrides -/
theorem g_callG (ok : Ok w x cc nL own ret rm) (As : List Value) (cf : ∀ cn ∈ glN, CfO y y cn code nL2 ret2 n) (ql : Cond.methodLink own idx y ∈ lw_all) (hM : MC w (xL x) y code nL2 ret2 L mc ms (.ref a :: As) C post)
    (hg : isGl C a) (hn : As.length = n) (hs : st = As.reverse ++ .ref a :: rest) (hw : (rest.map fun v => v.category).sum ≤ 8)
    (hR : L + 1 ≤ rm.frames ∧ 8 + (nL2 + 11) + 40 * L ≤ rm.locals) (hcap : cells + mc ≤ rm.cells ∧ slots + ms ≤ rm.slots) (d : decode cc pc = .ok (.invokevirtual idx, 3))
    (k : ∀ v C1, post v C1 → G w x nL (cells + mc) (slots + ms) Q C1 (pc + 3) lv (v.toList ++ rest)) : G w x nL cells slots Q C pc lv st := by
  obtain ⟨c, n, cn, T, h1, h2, h3, h4⟩ := hg.cn
  exact g_callO ok As (cf cn h4) ql hM (recvD ok h1 h2 h3) hn hs hw hR hcap d k
/-- super.m() on a glove -/
theorem g_supG (ok : Ok w x cc nL own ret rm) (As : List Value) (cf : CfP own y code nL2 ret2 n) (ql : Cond.methodLink own idx y ∈ lw_all) (hM : MC w (xL x) y code nL2 ret2 L mc ms (.ref a :: As) C post)
    (hg : isGl C a) (hn : As.length = n) (hs : st = As.reverse ++ .ref a :: rest) (hw : (rest.map fun v => v.category).sum ≤ 8)
    (hR : L + 1 ≤ rm.frames ∧ 8 + (nL2 + 11) + 40 * L ≤ rm.locals) (hcap : cells + mc ≤ rm.cells ∧ slots + ms ≤ rm.slots) (d : decode cc pc = .ok (.invokespecial idx, 3))
    (k : ∀ v C1, post v C1 → G w x nL (cells + mc) (slots + ms) Q C1 (pc + 3) lv (v.toList ++ rest)) : G w x nL cells slots Q C pc lv st := by
  obtain ⟨c, n, cn, T, h1, h2, h3, h4⟩ := hg.cn
  exact g_callSup ok As cf ql hM (classAtD ok h3) (recvD ok h1 h2 h3) hn hs hw hR hcap d k
end ROWS3
