/-! dynamic cells: what is kept, what is written, what is made -/
theorem fxk : ∀ j : Nat, j < 60 → (fArr j).isSome = true ∨ (fRef j).isSome = true ∨ (j ≤ 4 ∨ (27 ≤ j ∧ j ≤ 35)) ∨ j = 12 ∨ j = 13 := by decide
theorem fObj_is {w : WD} {C : CS} {j : Nat} (h : j ≤ 4 ∨ (27 ≤ j ∧ j ≤ 35)) : ∃ c V, fObj w C j = some (c, V) := by
  have : j = 0 ∨ j = 1 ∨ j = 2 ∨ j = 3 ∨ j = 4 ∨ j = 27 ∨ j = 28 ∨ j = 29 ∨ j = 30 ∨ j = 31 ∨ j = 32 ∨ j = 33 ∨ j = 34 ∨ j = 35 := by omega
  rcases this with h | h | h | h | h | h | h | h | h | h | h | h | h | h <;> subst h <;> exact ⟨_, _, rfl⟩
theorem hA.adlt {w : WD} {C : CS} {H : Heap} (h : hA w C H) {j : Nat} (hj : j < 60) : ad w j < H.size := by
  obtain ⟨a1, a2, a3, a4, a5⟩ := h.2.2.1 j hj
  have lt : ∀ {x : Cell}, H[ad w j]? = some x → ad w j < H.size := fun h => (Array.getElem?_eq_some_iff.mp h).1
  rcases fxk j hj with h | h | h | h | h
  · obtain ⟨⟨t, n⟩, e⟩ := Option.isSome_iff_exists.mp h
    exact lt (a1 t n e)
  · obtain ⟨⟨t, n⟩, e⟩ := Option.isSome_iff_exists.mp h
    exact lt (a2 t n e)
  · obtain ⟨c, V, e⟩ := fObj_is (w := w) (C := C) h
    obtain ⟨r, _, cell, q1, _⟩ := a3 c V e
    exact lt q1
  · exact lt (a4 h)
  · exact lt (a5 h)
theorem hA.fresh {w : WD} {C : CS} {H : Heap} (h : hA w C H) : C.2.2.2.2.2.1 H.size = none := by
  cases e : C.2.2.2.2.2.1 H.size with
  | none => rfl
  | some tg => exact absurd (h.2.2.2 _ tg e).2.2.1 (Nat.lt_irrefl _)
/-- C1 says of the dynamic cell b what C says -/
def sameD (C1 C : CS) (b : Nat) : Prop := (∀ k, C1.2.2.2.2.2.2.1 k b = C.2.2.2.2.2.2.1 k b) ∧ (∀ k, C1.2.2.2.2.2.2.2.1 k b = C.2.2.2.2.2.2.2.1 k b) ∧ (∀ i, C1.2.2.2.2.2.2.2.2.1 b i = C.2.2.2.2.2.2.2.2.1 b i) ∧ (∀ i, C1.2.2.2.2.2.2.2.2.2 b i = C.2.2.2.2.2.2.2.2.2 b i)
theorem dObj_same {w : WD} {C1 C : CS} {c b : Nat} (h : sameD C1 C b) : dObj w C1 c b = dObj w C c b := by
  funext k
  unfold dObj
  obtain ⟨h1, h2, -, -⟩ := h
  split <;> simp only [h1, h2]
theorem dynAt.same {w : WD} {C1 C : CS} {H : Heap} {b : Nat} {tg : Nat × Nat} (h : sameD C1 C b) (hd : dynAt w C H b tg) : dynAt w C1 H b tg := by
  unfold dynAt at hd ⊢
  rw [dObj_same h, dObj_same h]
  have e1 : (fun i => Value.int (C1.2.2.2.2.2.2.2.2.1 b i)) = fun i => Value.int (C.2.2.2.2.2.2.2.2.1 b i) := funext fun i => by rw [h.2.2.1]
  have e2 : (fun i => Value.float (C1.2.2.2.2.2.2.2.2.2 b i)) = fun i => Value.float (C.2.2.2.2.2.2.2.2.2 b i) := funext fun i => by rw [h.2.2.2]
  rw [e1, e2]
  exact hd
/-- C1's fixed cells are C's -/
def sameF (C1 C : CS) : Prop := C1.1 = C.1 ∧ C1.2.1 = C.2.1 ∧ C1.2.2.1 = C.2.2.1 ∧ C1.2.2.2.1 = C.2.2.2.1 ∧ C1.2.2.2.2.1 = C.2.2.2.2.1
theorem fval_same {w : WD} {C1 C : CS} (h : C1.1 = C.1) : fval w C1 = fval w C := by
  funext j f k
  unfold fval
  rw [h]
theorem fixAt.same {w : WD} {C1 C : CS} {H : Heap} {j : Nat} (h : sameF C1 C) (hx : fixAt w C H j) : fixAt w C1 H j := by
  obtain ⟨h1, h2, h3, h4, h5⟩ := h
  obtain ⟨a1, a2, a3, a4, a5⟩ := hx
  refine ⟨by rw [h2]; exact a1, by rw [h3]; exact a2, ?_, a4, a5⟩
  have e : fObj w C1 j = fObj w C j := by
    unfold fObj
    rw [fval_same h1, h4, h5]
  rw [e]
  exact a3
/-- a dynamic cell is written -/
theorem hA.stepD {w : WD} {C C1 : CS} {H H1 : Heap} {a : Nat} {tg tg1 : Nat × Nat} (h : hA w C H) (hta : C.2.2.2.2.2.1 a = some tg) (hz : H1.size = H.size) (ho : ∀ q : Nat, q ≠ a → H1[q]? = H[q]?)
    (hF : sameF C1 C) (hT : ∀ b, b ≠ a → C1.2.2.2.2.2.1 b = C.2.2.2.2.2.1 b) (hta1 : C1.2.2.2.2.2.1 a = some tg1) (hS : ∀ b, b ≠ a → sameD C1 C b) (hd : dynAt w C1 H1 a tg1) : hA w C1 H1 := by
  obtain ⟨b1, b2, b3, b4⟩ := h
  obtain ⟨-, g2, g3, g4⟩ := b4 a tg hta
  refine ⟨by rw [hz]; exact b1, fun q hq => ?_, fun i hi => ?_, fun b tg2 hb => ?_⟩
  · rw [ho q (fun e => absurd (e ▸ hq) (Nat.not_lt.mpr g2))]
    exact b2 q hq
  · exact ((b3 i hi).kept (ho _ (fun e => g4 i hi e.symm))).same hF
  · by_cases hba : b = a
    · subst hba
      rw [hta1] at hb
      cases hb
      exact ⟨hd, g2, by rw [hz]; exact g3, g4⟩
    · rw [hT b hba] at hb
      obtain ⟨c1, c2, c3, c4⟩ := b4 b tg2 hb
      exact ⟨(c1.kept (ho b hba)).same (hS b hba), c2, by rw [hz]; exact c3, c4⟩
/-- a dynamic cell is made -/
theorem hA.newD {w : WD} {C C1 : CS} {H H1 : Heap} {tg1 : Nat × Nat} (h : hA w C H) (hz : H1.size = H.size + 1) (ho : ∀ q : Nat, q < H.size → H1[q]? = H[q]?)
    (hF : sameF C1 C) (hT : ∀ b, b ≠ H.size → C1.2.2.2.2.2.1 b = C.2.2.2.2.2.1 b) (hta1 : C1.2.2.2.2.2.1 H.size = some tg1) (hS : ∀ b, b ≠ H.size → sameD C1 C b) (hd : dynAt w C1 H1 H.size tg1) : hA w C1 H1 := by
  have hadl : ∀ j, j < 60 → ad w j < H.size := fun j hj => h.adlt hj
  obtain ⟨b1, b2, b3, b4⟩ := h
  refine ⟨by rw [hz]; omega, fun q hq => ?_, fun i hi => ?_, fun b tg2 hb => ?_⟩
  · rw [ho q (by omega)]
    exact b2 q hq
  · exact ((b3 i hi).kept (ho _ (hadl i hi))).same hF
  · by_cases hba : b = H.size
    · subst hba
      rw [hta1] at hb
      cases hb
      exact ⟨hd, b1, by rw [hz]; omega, fun j hj e => by have := hadl j hj; omega⟩
    · rw [hT b hba] at hb
      obtain ⟨c1, c2, c3, c4⟩ := b4 b tg2 hb
      exact ⟨(c1.kept (ho b c3)).same (hS b hba), c2, by rw [hz]; omega, c4⟩
/-- gloves -/
def isGl (C : CS) (a : Nat) : Prop := ∃ c n, C.2.2.2.2.2.1 a = some (c, n) ∧ 4 ≤ c ∧ c ≤ 9
def kdN (C : CS) (a : Nat) : Nat := match C.2.2.2.2.2.1 a with | some (c, _) => c - 4 | none => 0
def kdG (C : CS) (a : Nat) : Int32 := nI (kdN C a)
/-- a dynamic object of class c -/
def isDy (C : CS) (c a : Nat) : Prop := ∃ n, C.2.2.2.2.2.1 a = some (c, n)
theorem isGl.tag {C : CS} {a : Nat} (h : isGl C a) : ∃ c n, C.2.2.2.2.2.1 a = some (c, n) ∧ kdN C a = c - 4 ∧ (c = 4 ∨ c = 5 ∨ c = 6 ∨ c = 7 ∨ c = 8 ∨ c = 9) := by
  obtain ⟨c, n, h1, h2, h3⟩ := h
  exact ⟨c, n, h1, by unfold kdN; rw [h1], by omega⟩
theorem tx_gl {c : Nat} (h : c = 4 ∨ c = 5 ∨ c = 6 ∨ c = 7 ∨ c = 8 ∨ c = 9) : ∃ (cn : String) (T : u_T), cls[c]? = some (cn, T, 6) ∧ (∀ q ∈ u_ws cn T 6, q ∈ lw_all) ∧ ∀ k, k < 6 → T k = TX4 k := by
  rcases h with h | h | h | h | h | h <;> subst h
  · exact ⟨_, _, rfl, u_ws_le (by decide) in_X4, fun k hk => rfl⟩
  · exact ⟨_, _, rfl, u_ws_le (by decide) in_X5, fun k hk => by
      have : k = 0 ∨ k = 1 ∨ k = 2 ∨ k = 3 ∨ k = 4 ∨ k = 5 := by omega
      rcases this with h | h | h | h | h | h <;> subst h <;> rfl⟩
  · exact ⟨_, _, rfl, u_ws_le (by decide) in_X6, fun k hk => by
      have : k = 0 ∨ k = 1 ∨ k = 2 ∨ k = 3 ∨ k = 4 ∨ k = 5 := by omega
      rcases this with h | h | h | h | h | h <;> subst h <;> rfl⟩
  · exact ⟨_, _, rfl, u_ws_le (by decide) in_X7, fun k hk => by
      have : k = 0 ∨ k = 1 ∨ k = 2 ∨ k = 3 ∨ k = 4 ∨ k = 5 := by omega
      rcases this with h | h | h | h | h | h <;> subst h <;> rfl⟩
  · exact ⟨_, _, rfl, u_ws_le (by decide) in_X8, fun k hk => by
      have : k = 0 ∨ k = 1 ∨ k = 2 ∨ k = 3 ∨ k = 4 ∨ k = 5 := by omega
      rcases this with h | h | h | h | h | h <;> subst h <;> rfl⟩
  · exact ⟨_, _, rfl, u_ws_le (by decide) in_X9, fun k hk => by
      have : k = 0 ∨ k = 1 ∨ k = 2 ∨ k = 3 ∨ k = 4 ∨ k = 5 := by omega
      rcases this with h | h | h | h | h | h <;> subst h <;> rfl⟩
theorem dObj_gl {w : WD} {C : CS} {c a k : Nat} (h : c = 4 ∨ c = 5 ∨ c = 6 ∨ c = 7 ∨ c = 8 ∨ c = 9) (hk : k < 5) : dObj w C c a k = .int (C.2.2.2.2.2.2.1 (40 + k) a) := by
  rcases h with h | h | h | h | h | h <;> subst h <;> exact if_neg (by omega)
def ty4 : Nat → FieldType := fun k => match k with | 4 => .boolean | 5 => .object "TwoGuilds" | _ => .int
theorem ty4_ok : ∀ k, k < 6 → parseFieldDescriptor (TX4 k).2.2.1 = some (ty4 k) := by decide +kernel
theorem nm4 : ∀ a, a < 6 → ∀ b, b < 6 → a ≠ b → (TX4 a).2.1 ≠ (TX4 b).2.1 := by decide +kernel
section DROWS2
variable {w : WD} {x : Cx} {cc : ByteArray} {nL : Nat} {own : String} {ret : Option FieldType} {rm : Room} {cells slots : Nat} {Q : State → Prop} {C : CS} {pc : Nat} {lv : List (Nat × Value)} {st : List Value}
/-- a field of a glove is read; the reference may name a class that only inherits it -/
theorem g_gget (ok : Ok w x cc nL own ret rm) {a : Nat} (hg : isGl C a) (k : Nat) (hk : k < 5) {idx : Nat} {ref : String} (q : Cond.fieldLink own idx ref (TX4 k).2.1 (TX4 k).2.2.1 ∈ lw_all) (hs : ref = (TX4 k).1 ∨ Cond.sameField ref (TX4 k).1 (TX4 k).2.1 (TX4 k).2.2.1 ∈ lw_all) (d : decode cc pc = .ok (.getfield idx, 3))
    (kk : G w x nL cells slots Q C (pc + 3) lv (.int (C.2.2.2.2.2.2.1 (40 + k) a) :: st)) : G w x nL cells slots Q C pc lv (.ref a :: st) := by
  intro H locs ls h1 h2 h3
  obtain ⟨c, n, ht, -, hc6⟩ := hg.tag
  obtain ⟨cn, T, hc, hin, hTk⟩ := tx_gl hc6
  have hd := (h1.2.2.2 a _ ht).1
  unfold dynAt at hd
  rw [if_pos (show c < 50 by omega)] at hd
  obtain ⟨r, e1, cell, q1, q2, q3, q4⟩ := hd
  have hr : r = (cn, T, 6) := Option.some.inj (e1.symm.trans hc)
  subst hr
  have hk6 : k < 6 := by omega
  obtain ⟨hS, hfc, kC, hkC, hkind⟩ := ok.K.1 c _ hc
  obtain ⟨cf, kf, fi, f, hi, hsl⟩ := hS k hk6
  have hst := (u_facts hfc hkC (u_lays ok.ts hin hk6) hi).1
  have hi0 : (xS x).fieldFound? (TX4 k).1 (TX4 k).2.1 (TX4 k).2.2.1 = some (cf, kf, fi, f) := by
    have := hi
    dsimp only at this
    rw [hTk k hk6] at this
    exact this
  have hi2 : (xS x).fieldFound? ref (TX4 k).2.1 (TX4 k).2.2.1 = some (cf, kf, fi, f) := by
    rcases hs with h | h
    · rw [h]; exact hi0
    · exact u_same (ok.wd h) _ hi0
  refine W.getf ok.ex ok.cd ok.ow (ok.wd q) hi2 hst q1 (by rw [q3]; exact fun h => by cases h) (v := .int (C.2.2.2.2.2.2.1 (40 + k) a)) ?_ rfl rfl d (kk H locs ls h1 h2 h3)
  rw [hsl, q4 k hk6, dObj_gl hc6 hk]
/-- a field of a glove is written -/
theorem g_gput (ok : Ok w x cc nL own ret rm) {a : Nat} (hg : isGl C a) (k : Nat) (hk : k < 5) {idx : Nat} (q : Cond.fieldLink own idx (TX4 k).1 (TX4 k).2.1 (TX4 k).2.2.1 ∈ lw_all) {v : Int32} (hn : narrow (ty4 k) (.int v) = .int v) (hfit : fits (ty4 k) (.int v) = true) (d : decode cc pc = .ok (.putfield idx, 3))
    (kk : ∀ C1, C1 = wDI C (40 + k) a v → G w x nL cells slots Q C1 (pc + 3) lv st) : G w x nL cells slots Q C pc lv (.int v :: .ref a :: st) := by
  intro H locs ls h1 h2 h3
  obtain ⟨c, n, ht, -, hc6⟩ := hg.tag
  obtain ⟨cn, T, hc, hin, hTk⟩ := tx_gl hc6
  obtain ⟨hd, hwb, -, -⟩ := h1.2.2.2 a _ ht
  unfold dynAt at hd
  rw [if_pos (show c < 50 by omega)] at hd
  obtain ⟨r, e1, cell, q1, q2, q3, q4⟩ := hd
  have hr : r = (cn, T, 6) := Option.some.inj (e1.symm.trans hc)
  subst hr
  have hk6 : k < 6 := by omega
  have hap := va_apart (own := own) ok.ts hin ty4 (fun k hk => by rw [hTk k hk]; exact ty4_ok k hk) (fun a ha b hb h => by rw [hTk a ha, hTk b hb]; exact nm4 a ha b hb h) ok.K hc
  obtain ⟨hS, hfc, kC, hkC, hkind⟩ := ok.K.1 c _ hc
  obtain ⟨cf, kf, fi, f, hi, hsl⟩ := hS k hk6
  have hfin : (T k).2.2.2 = false := by
    rw [hTk k hk6]
    have : k = 0 ∨ k = 1 ∨ k = 2 ∨ k = 3 ∨ k = 4 := by omega
    rcases this with h | h | h | h | h <;> subst h <;> rfl
  have hlay := ok.ts _ (hin _ (u_in_lay hk6))
  unfold u_lay at hlay
  rw [if_neg (by rw [hfin]; decide)] at hlay
  have hst := (u_facts hfc hkC (u_lays ok.ts hin hk6) hi).1
  have hty : parseFieldDescriptor (T k).2.2.1 = some (ty4 k) := by rw [hTk k hk6]; exact ty4_ok k hk6
  have h6 := u_store hfc hkC hkind hlay hi hty hn hfit
  have hi0 : (xS x).fieldFound? (TX4 k).1 (TX4 k).2.1 (TX4 k).2.2.1 = some (cf, kf, fi, f) := by
    have := hi
    dsimp only at this
    rw [hTk k hk6] at this
    exact this
  refine W.putK ok.ex ok.cd (f := f) ⟨ok.ow, ok.wd q, ⟨_, _, _, hi0⟩, hst⟩ (by rw [q2]; exact h6) q1 q3 (by rw [hsl]; exact k2_hasslot (q4 k hk6)) rfl rfl d fun H' e1' e2' e3' => ?_
  rw [hsl] at e1' ⊢
  have hob : t_OB a ((wD w).1 c) 6 ((wD w).2 c) H' (updV (dObj w C c a) k (.int v)) := ⟨_, e1', q2, q3, t_set q4 hap hk6 _⟩
  refine kk _ rfl H' _ ls (hA.stepD (tg := (c, n)) (tg1 := (c, n)) h1 ht e2' e3' ⟨rfl, rfl, rfl, rfl, rfl⟩ (fun _ _ => rfl) ht ?_ ?_) (fun l hl => ?_) h3
  · intro b hb
    refine ⟨fun k2 => ?_, fun _ => rfl, fun _ => rfl, fun _ => rfl⟩
    show up2 _ _ _ _ _ _ = _
    unfold up2
    rw [if_neg (fun h => hb h.2)]
  · unfold dynAt
    rw [if_pos (show c < 50 by omega)]
    refine ⟨_, hc, hob.to fun i hi6 => ?_⟩
    unfold updV
    by_cases hik : i = k
    · subst hik
      rw [if_pos rfl, dObj_gl hc6 hk]
      show _ = Value.int (up2 _ _ _ _ _ _)
      unfold up2
      rw [if_pos ⟨rfl, rfl⟩]
    · rw [if_neg hik]
      by_cases h5 : i < 5
      · rw [dObj_gl hc6 h5, dObj_gl hc6 h5]
        show _ = Value.int (up2 _ _ _ _ _ _)
        unfold up2
        rw [if_neg (fun h => hik (by omega))]
      · have h55 : i = 5 := by omega
        subst h55
        rcases hc6 with h | h | h | h | h | h <;> subst h <;> rfl
  · rcases List.mem_append.mp hl with h | h
    · exact h2 l h
    · rw [List.mem_singleton.mp h]; exact hwb
/-- arrays of references: a place is read -/
theorem g_rald (ok : Ok w x cc nL own ret rm) (J : Nat) {t n : Nat} (hf : fRef J = some (t, n)) (ht : t = 6 ∨ t = 7) {i : Int32} (hin : vp_in i n) {v : Value} (hv : va_rf (C.2.2.1 J i.toNatClampNeg) = v) (d : decode cc pc = .ok (.aaload, 1))
    (kk : G w x nL cells slots Q C (pc + 1) lv (v :: st)) : G w x nL cells slots Q C pc lv (.int i :: .ref (ad w J) :: st) := by
  subst hv
  intro H locs ls h1 h2 h3
  have hcell := (h1.2.2.1 J (fRef_lt hf)).2.1 _ _ hf
  have hlt := vp_lt hin
  rcases ht with rfl | rfl
  · exact W.aald (v := va_rf (C.2.2.1 J i.toNatClampNeg)) (ty := .object "TwoGuilds$Glove") ok.ex ok.cd hcell ((ok.K.2 6 _ rfl).1 n (fun j => va_rf (C.2.2.1 J j))) rfl (fun q => by cases q) (by rw [arrV_size]; exact hin) (by rw [arrV_read _ _ hlt]) rfl rfl d (kk H locs ls h1 h2 h3)
  · exact W.aald (v := va_rf (C.2.2.1 J i.toNatClampNeg)) (ty := .object "TwoGuilds$Text") ok.ex ok.cd hcell ((ok.K.2 7 _ rfl).1 n (fun j => va_rf (C.2.2.1 J j))) rfl (fun q => by cases q) (by rw [arrV_size]; exact hin) (by rw [arrV_read _ _ hlt]) rfl rfl d (kk H locs ls h1 h2 h3)
/-- the holders' arrays: a place is read -/
theorem g_hald12 (ok : Ok w x cc nL own ret rm) {i : Int32} (hin : vp_in i 4) (d : decode cc pc = .ok (.aaload, 1))
    (kk : G w x nL cells slots Q C (pc + 1) lv (.ref (ad w (27 + i.toNatClampNeg)) :: st)) : G w x nL cells slots Q C pc lv (.int i :: .ref (ad w 12) :: st) := by
  intro H locs ls h1 h2 h3
  have hcell := (h1.2.2.1 12 (by decide)).2.2.2.1 rfl
  have hlt := vp_lt hin
  exact W.aald (v := .ref (ad w (27 + i.toNatClampNeg))) (ty := .object "TwoGuilds$Holder") ok.ex ok.cd hcell ((ok.K.2 8 _ rfl).1 4 (fun i => .ref (ad w (27 + i)))) rfl (fun q => by cases q) (by rw [arrV_size]; exact hin) (by rw [arrV_read _ _ hlt]) rfl rfl d (kk H locs ls h1 h2 h3)
theorem g_hald13 (ok : Ok w x cc nL own ret rm) {i : Int32} (hin : vp_in i 5) (d : decode cc pc = .ok (.aaload, 1))
    (kk : G w x nL cells slots Q C (pc + 1) lv (.ref (ad w (31 + i.toNatClampNeg)) :: st)) : G w x nL cells slots Q C pc lv (.int i :: .ref (ad w 13) :: st) := by
  intro H locs ls h1 h2 h3
  have hcell := (h1.2.2.1 13 (by decide)).2.2.2.2 rfl
  have hlt := vp_lt hin
  exact W.aald (v := .ref (ad w (31 + i.toNatClampNeg))) (ty := .object "TwoGuilds$Holder") ok.ex ok.cd hcell ((ok.K.2 8 _ rfl).1 5 (fun i => .ref (ad w (31 + i)))) rfl (fun q => by cases q) (by rw [arrV_size]; exact hin) (by rw [arrV_read _ _ hlt]) rfl rfl d (kk H locs ls h1 h2 h3)
theorem fObjH {w : WD} {C : CS} {j : Nat} (h1 : 27 ≤ j) (h2 : j ≤ 35) : fObj w C j = some (3, fun _ => va_rf (C.2.2.2.1 j)) := by
  have : j = 27 ∨ j = 28 ∨ j = 29 ∨ j = 30 ∨ j = 31 ∨ j = 32 ∨ j = 33 ∨ j = 34 ∨ j = 35 := by omega
  rcases this with h | h | h | h | h | h | h | h | h <;> subst h <;> rfl
/-- words that are in lw_tbl alone -/
theorem Ok.tb (ok : Ok w x cc nL own ret rm) {q : Cond} (hq : q ∈ lw_tbl) (ht : q.onTables = true) : va_Nw q (wS w) := va_Nw.of ht (ok.wo.tbl q hq)
theorem Ok.nm (ok : Ok w x cc nL own ret rm) {a : String} {i : Nat} {y : MethodName} {h : String} (hq : Cond.methodLinkNest a i y h ∈ lw_tbl) : va_Nw (.methodLinkNest a i y h) (xS x) := va_Nw.warmM ok.kw (ok.tb hq rfl)
theorem Ok.nf (ok : Ok w x cc nL own ret rm) {a : String} {i : Nat} {b n d h : String} (hq : Cond.fieldLinkNest a i b n d h ∈ lw_tbl) : va_Nw (.fieldLinkNest a i b n d h) (xS x) := va_Nw.warmF ok.kw (ok.tb hq rfl)
theorem Ok.ca (ok : Ok w x cc nL own ret rm) {a b : String} (hq : Cond.castable a b ∈ lw_tbl) : va_Nw (.castable a b) (xS x) := va_Nw.warmC ok.kw (ok.tb hq rfl)
/-- a field of a fixed object is read by a nest mate -/
theorem g_getN (ok : Ok w x cc nL own ret rm) (j : Nat) {c : Nat} {V : Nat → Value} (ho : fObj w C j = some (c, V)) {cn : String} {T : u_T} {N : Nat} (hc : cls[c]? = some (cn, T, N)) (hin : ∀ q ∈ u_ws cn T N, q ∈ lw_all) (k : Nat) (hk : k < N) {idx : Nat} {host : String} (q : Cond.fieldLinkNest own idx (T k).1 (T k).2.1 (T k).2.2.1 host ∈ lw_tbl) {v : Value} (hv : V k = v) (d : decode cc pc = .ok (.getfield idx, 3))
    (kk : G w x nL cells slots Q C (pc + 3) lv (v :: st)) : G w x nL cells slots Q C pc lv (.ref (ad w j) :: st) := by
  intro H locs ls h1 h2 h3
  obtain ⟨r, e1, cell, q1, q2, q3, q4⟩ := (h1.2.2.1 j (fObj_lt ho)).2.2.1 c V ho
  have hr : r = (cn, T, N) := Option.some.inj (e1.symm.trans hc)
  subst hr
  obtain ⟨hS, hfc, kC, hkC, hkind⟩ := ok.K.1 c _ hc
  obtain ⟨cf, kf, fi, f, hi, hsl⟩ := hS k hk
  refine va_Wgetf ok.ex ok.cd ok.ow (va_Nw.use rfl (ok.nf q)) hi (u_facts hfc hkC (u_lays ok.ts hin hk) hi).1 q1 (by rw [q3]; exact fun h => by cases h) (v := v) ?_ rfl rfl d (kk H locs ls h1 h2 h3)
  rw [hsl, q4 k hk, hv]
end DROWS2
/-! the component's object -/
theorem putV_x {w : WD} {C : CS} {k : Nat} {v : Int32} (hk : xk k = none) (hk0 : k ≠ 0) : ∀ c2 V2, fObj w (wI C 0 k v) 0 = some (c2, V2) → c2 = 0 ∧ ∀ i, V2 i = updV (fun k => if k = 0 then Value.ref (ad w C.2.2.2.2.1) else fval w C 0 xk k) k (.int v) i := by
  intro c2 V2 h
  have h2 : some (0, fun k2 => if k2 = 0 then Value.ref (ad w C.2.2.2.2.1) else fval w (wI C 0 k v) 0 xk k2) = some (c2, V2) := h
  cases h2
  refine ⟨rfl, fun i => ?_⟩
  unfold fval updV
  dsimp only
  by_cases hi : i = k
  · subst hi
    rw [if_neg hk0, hk, if_pos rfl]
    simp [wI, up2]
  · rw [if_neg hi]
    by_cases h0 : i = 0
    · rw [if_pos h0, if_pos h0]
    · rw [if_neg h0, if_neg h0]
      cases xk i with
      | none => simp [wI, up2, hi]
      | some q => rfl
