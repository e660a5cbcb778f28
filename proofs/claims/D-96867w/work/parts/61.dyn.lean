/-! dynamic cells: objects that are made -/
theorem u_ws_le {cn : String} {T : u_T} {N M : Nat} (h : N ≤ M) (hin : ∀ q ∈ u_ws cn T M, q ∈ lw_all) : ∀ q ∈ u_ws cn T N, q ∈ lw_all := by
  intro q hq
  obtain ⟨k, h1, h2⟩ := List.mem_map.mp hq
  exact hin q (List.mem_map.mpr ⟨k, List.mem_range.mpr (Nat.lt_of_lt_of_le (List.mem_range.mp h1) h), h2⟩)
section DROWS
variable {w : WD} {x : Cx} {cc : ByteArray} {nL : Nat} {own : String} {ret : Option FieldType} {rm : Room} {cells slots : Nat} {Q : State → Prop} {C : CS} {pc : Nat} {lv : List (Nat × Value)} {st : List Value}
/-- a field of a dynamic object is read -/
theorem g_dget (ok : Ok w x cc nL own ret rm) {a c n : Nat} (ht : C.2.2.2.2.2.1 a = some (c, n)) (hc50 : c < 50) {cn : String} {T : u_T} {N : Nat} (hc : cls[c]? = some (cn, T, N)) (hin : ∀ q ∈ u_ws cn T N, q ∈ lw_all) (k : Nat) (hk : k < N) {idx : Nat} (q : Cond.fieldLink own idx (T k).1 (T k).2.1 (T k).2.2.1 ∈ lw_all) {v : Value} (hv : dObj w C c a k = v) (d : decode cc pc = .ok (.getfield idx, 3))
    (kk : G w x nL cells slots Q C (pc + 3) lv (v :: st)) : G w x nL cells slots Q C pc lv (.ref a :: st) := by
  intro H locs ls h1 h2 h3
  have hd := (h1.2.2.2 a _ ht).1
  unfold dynAt at hd
  rw [if_pos hc50] at hd
  obtain ⟨r, e1, cell, q1, q2, q3, q4⟩ := hd
  have hr : r = (cn, T, N) := Option.some.inj (e1.symm.trans hc)
  subst hr
  obtain ⟨hS, hfc, kC, hkC, hkind⟩ := ok.K.1 c _ hc
  obtain ⟨cf, kf, fi, f, hi, hsl⟩ := hS k hk
  refine W.getf ok.ex ok.cd ok.ow (ok.wd q) hi (u_facts hfc hkC (u_lays ok.ts hin hk) hi).1 q1 (by rw [q3]; exact fun h => by cases h) (v := v) ?_ rfl rfl d (kk H locs ls h1 h2 h3)
  rw [hsl, q4 k hk, hv]
end DROWS
