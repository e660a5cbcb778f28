/-! a static of the start that nobody writes -/
theorem g_getsR {w : WD} {x : Cx} {cc : ByteArray} {nL : Nat} {own : String} {ret : Option FieldType} {rm : Room} {cells slots : Nat} {Q : State → Prop} {C : CS} {pc : Nat} {lv : List (Nat × Value)} {st : List Value} (ok : Ok w x cc nL own ret rm) {cn n d : String} {v : Value} {idx : Nat} (hZ : va_Z cn n d v (fr w) (wS w) (wS w).heap) (q : Cond.fieldLink own idx cn n d ∈ lw_all) (dg : decode cc pc = .ok (.getstatic idx, 3))
    (kk : G w x nL cells slots Q C (pc + 3) lv (v :: st)) : G w x nL cells slots Q C pc lv st := by
  intro H locs ls h1 h2 h3
  obtain ⟨cf, kf, fi, f, a, cell, e1, e2, e3, e4, e5, e6, e7, e8⟩ := hZ.moved ok.kw.alike
  have ha : a < wb w := Nat.not_le.mp e8
  exact W.gets ok.ex ok.cd ok.ow (ok.wd q) e1 e2 e3 e4 (by rw [h1.2.1 a ha]; exact e5) (fun e => by rw [e] at e6; cases e6) e7 rfl dg (kk H locs ls h1 h2 h3)
theorem g_tiR {w : WD} {x : Cx} {cc : ByteArray} {nL : Nat} {own : String} {ret : Option FieldType} {rm : Room} {cells slots : Nat} {Q : State → Prop} {C : CS} {pc : Nat} {lv : List (Nat × Value)} {st : List Value} (ok : Ok w x cc nL own ret rm) {t N : Nat} {f : Nat → Value} {i : Int32} {v : Value} (hT : va_T .int t N f (fr w) (wS w) (wS w).heap) (hin : vp_in i N) (hv : f i.toNatClampNeg = v) (dg : decode cc pc = .ok (.iaload, 1))
    (kk : G w x nL cells slots Q C (pc + 1) lv (v :: st)) : G w x nL cells slots Q C pc lv (.int i :: .ref t :: st) := by
  intro H locs ls h1 h2 h3
  obtain ⟨cell, e1, e2, e3, e4, e5, e6, e7⟩ := hT.moved ok.kw.alike
  have ha : t < wb w := Nat.not_le.mp e7
  have hlt : i.toNatClampNeg < N := vp_lt hin
  have hin' : ¬ (i < 0 ∨ cell.slots.size ≤ i.toNatClampNeg) := by
    intro q
    rcases q with q | q
    · exact hin (Or.inl q)
    · omega
  exact W.iald (v := v) ok.ex ok.cd (by rw [h1.2.1 t ha]; exact e1) e2 e3 hin' (by rw [e6 _ hlt, hv]) rfl rfl dg (kk H locs ls h1 h2 h3)
theorem fives {w : WD} (ok : wOk w) : ∃ t, va_Z "TwoGuildsModel" "FIVES" "[I" (.ref t) (fr w) (wS w) (wS w).heap ∧ va_T .int t 5 (fun j => .int (nI (5 ^ j))) (fr w) (wS w) (wS w).heap := by
  have hs := flat_of_before _ ok.2.2.2.2.1
  have hA : ∀ a : Nat, a < (wS w).heap.size → ¬ fr w a := fun a h => Nat.not_le.mpr h
  obtain ⟨t, ht, hT⟩ := va_Tof (A := fr w) (tm := .static "TwoGuildsModel" "FIVES" "[I") (ty := .int) (N := 5) (f := fun j => .int (nI (5 ^ j))) (by decide) (hs _ (by decide +kernel)) (va_eqt (hs _ (by decide +kernel))) (fun j hj => by
    match j, hj with
    | 0, _ => exact va_eqt (hs _ (by decide +kernel))
    | 1, _ => exact va_eqt (hs _ (by decide +kernel))
    | 2, _ => exact va_eqt (hs _ (by decide +kernel))
    | 3, _ => exact va_eqt (hs _ (by decide +kernel))
    | 4, _ => exact va_eqt (hs _ (by decide +kernel))) hA
  exact ⟨t, va_Zof (ok.tbl _ q1703) (ok.tbl _ (lw_all_tbl q75)) ht hA, hT⟩
def p_X3_gives (C : CS) (a0 a1 : Int32) : Prop := ∃ k, k < 5 ∧ a1 = nI k
def v_X3_gives (a0 a1 : Int32) : Int32 := rem (a0 / nI (5 ^ a1.toNatClampNeg)) 5
theorem five_ne : ∀ k, k < 5 → ¬ nI (5 ^ k) = 0 := by decide
set_option maxHeartbeats 4000000 in
theorem mc_X3_gives {w : WD} (wk : wOk w) (l : Launch) (C : CS) (a0 a1 : Int32) (hp : p_X3_gives C a0 a1) : MC w l yX3_gives cX3_gives 2 (some .int) 0 0 0 [.int a0, .int a1] C (pI (v_X3_gives a0 a1) C) := by
  obtain ⟨k, hk, rfl⟩ := hp
  obtain ⟨t, hZ, hT⟩ := fives wk
  refine MC.of wk (by decide) (Nat.le_of_ble_eq_true rfl) (fun x hx ok => ?_)
  subst hx
  show G w x 2 0 0 (QM w x _ 0 0) C 0 [(0, .int a0), (1, .int (nI k))] []
  refine g_iload_n ok 0 dX3_gives_0 rfl ?_
  refine g_getsR ok hZ q1702 dX3_gives_1 ?_
  refine g_iload_n ok 1 dX3_gives_4 rfl ?_
  refine g_tiR ok hT (vp_k hk) rfl dX3_gives_5 ?_
  refine g_idiv ok dX3_gives_6 (by rw [cl_k (by omega)]; exact five_ne k hk) ?_
  refine g_iconst (v := 5) ok dX3_gives_7 (by decide) ?_
  refine g_irem ok dX3_gives_8 (by decide) ?_
  exact g_iret ok dX3_gives_9 ⟨rfl, rfl⟩
theorem cf_X3_gives : CfS yX3_gives cX3_gives 2 (some .int) 2 := ⟨⟨by decide, by decide, by decide⟩, q75, q1701, q1700⟩
