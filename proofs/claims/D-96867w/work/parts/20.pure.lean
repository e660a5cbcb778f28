/-! numbers and iteration -/
theorem l_nI (n : Nat) : Int32.ofInt (n : Int) = nI n := Int32.ofInt_eq_ofNat
theorem o1 : Int32.ofInt 1 = nI 1 := rfl
theorem om1 : Int32.ofInt (-1) = -1 := rfl
theorem vp_k {k n : Nat} (h : k < n) (hn : n < 2 ^ 31 := by decide) : vp_in (nI k) n := vp_in_nI h hn
theorem cl_k {k : Nat} (h : k < 2 ^ 31) : (nI k).toNatClampNeg = k := nI_clamp h
theorem nI_dec {k : Nat} : nI (k + 1) + -1 = nI k := pk_m1 k
/-- the reference has N gloves -/
def gOk (C : CS) (N : Nat) : Prop := C.2.1 36 1 = nI N ∧ N ≤ 10
/-- it has T texts -/
def tOk (C : CS) (T : Nat) : Prop := C.2.1 36 5 = nI T ∧ T ≤ 14
theorem ix76 (k : Nat) : (76 + 2 * nI k : Int32) = nI (76 + 2 * k) := by rw [show (76 : Int32) = nI 76 from rfl, show (2 : Int32) = nI 2 from rfl, pk_mul, nI_add]
/-- the first n places of array j2 become those of j1 -/
def cpA (C : CS) (j1 j2 n : Nat) : CS := (C.1, fun j i => if j = j2 ∧ i < n then C.2.1 j1 i else C.2.1 j i, C.2.2)
theorem cpA_0 (C : CS) (j1 j2 : Nat) : cpA C j1 j2 0 = C := by
  unfold cpA
  simp
theorem cpA_step (C : CS) (j1 j2 k : Nat) (h : j1 ≠ j2) : wA (cpA C j1 j2 k) j2 k ((cpA C j1 j2 k).2.1 j1 k) = cpA C j1 j2 (k + 1) := by
  unfold wA cpA up2
  simp only [h, false_and, if_false]
  congr 2
  funext j i
  by_cases hj : j = j2
  · by_cases hi : i = k
    · subst hi; simp [hj]
    · by_cases hk : i < k
      · simp [hj, hi, hk, show i < k + 1 by omega]
      · simp [hj, hi, hk, show ¬ i < k + 1 by omega]
  · simp [hj]
/-- array j2 becomes j1, as far as anybody can read -/
def cpR (C : CS) (j1 j2 : Nat) : CS := (C.1, fun j i => if j = j2 then C.2.1 j1 i else C.2.1 j i, C.2.2)
theorem arrV_congr {c : ClassId} {n : Nat} {f g : Nat → Value} (h : ∀ i, i < n → f i = g i) : arrV c n f = arrV c n g := by
  unfold arrV
  congr 2
  funext j
  exact h j.val j.isLt
theorem hA.arr {w : WD} {C : CS} {H : Heap} (h : hA w C H) (A : Nat → Nat → Int32) (e : ∀ j t n, fArr j = some (t, n) → ∀ i, i < n → A j i = C.2.1 j i) : hA w (C.1, A, C.2.2) H := by
  obtain ⟨b1, b2, b3, b4⟩ := h
  refine ⟨b1, b2, fun j hj => ?_, b4⟩
  obtain ⟨a1, a2, a3, a4, a5⟩ := b3 j hj
  refine ⟨fun t n q => ?_, a2, a3, a4, a5⟩
  rw [a1 t n q]
  congr 1
  exact arrV_congr (fun i hi => congrArg Value.int (e j t n q i hi).symm)
theorem cpR_hA {w : WD} {C : CS} {H : Heap} {j1 j2 n : Nat} (h : hA w (cpA C j1 j2 n) H) (hf : fArr j2 = some (0, n)) : hA w (cpR C j1 j2) H := by
  refine h.arr (fun j i => if j = j2 then C.2.1 j1 i else C.2.1 j i) (fun j t m q i hi => ?_)
  unfold cpA
  by_cases hj : j = j2
  · subst hj
    rw [hf] at q
    cases q
    simp [hi]
  · simp [hj]
theorem MC.postH {w : WD} {l : Launch} {y : MethodName} {code : ByteArray} {nL : Nat} {ret : Option FieldType} {L mc ms : Nat} {args : List Value} {C C0 C1 : CS} (hh : ∀ H, hA w C0 H → hA w C1 H) (h : MC w l y code nL ret L mc ms args C (fun v D => v = none ∧ D = C0)) : MC w l y code nL ret L mc ms args C (pV C1) := by
  intro p e h1 h2 h3 s m a below h4 h5 h6 h7
  obtain ⟨n, o, g1, g2, g3, ⟨v, D, e1, ⟨e2, e4⟩, e3⟩, g5⟩ := h p e h1 h2 h3 s m a below h4 h5 h6 h7
  subst e4
  exact ⟨n, o, g1, g2, g3, ⟨v, C1, e1, ⟨e2, rfl⟩, hh _ e3⟩, g5⟩
/-- the first bit that is set -/
def fbF : Nat → Nat → Nat
  | 0, _ => 0
  | n + 1, s => if s % 2 = 1 then 0 else 1 + fbF n (s / 2)
def fbit (s : Nat) : Nat := fbF 10 s
theorem smod_k : ∀ g, g < 31 → ((nI g &&& 31 : Int32).toBitVec.smod 32).toNat = g := by decide
theorem shr_k {s g : Nat} (h : s < 2 ^ 31) (hg : g < 31) : nI s >>> (nI g &&& 31) = nI (s / 2 ^ g) := pk_shrN h _ g (smod_k g hg)
theorem and1 {s : Nat} (h : s < 2 ^ 32) : nI s &&& 1 = nI (s % 2) := pk_andN h 1 (by decide)
/-- nothing else than the arrays J of the reference has changed -/
def frm (J : List Nat) (C C1 : CS) : Prop := C1.1 = C.1 ∧ C1.2.2 = C.2.2 ∧ ∀ j, j ∉ J → C1.2.1 j = C.2.1 j
theorem frm.rf (J : List Nat) (C : CS) : frm J C C := ⟨rfl, rfl, fun _ _ => rfl⟩
theorem frm.tr {J : List Nat} {C C1 C2 : CS} (h1 : frm J C C1) (h2 : frm J C1 C2) : frm J C C2 := ⟨h2.1.trans h1.1, h2.2.1.trans h1.2.1, fun j hj => (h2.2.2 j hj).trans (h1.2.2 j hj)⟩
theorem frm.w {J : List Nat} {C C1 : CS} (h : frm J C C1) {j i : Nat} {v : Int32} (hj : j ∈ J) : frm J C (wA C1 j i v) := by
  refine ⟨h.1, h.2.1, fun q hq => ?_⟩
  have : q ≠ j := fun e => hq (e ▸ hj)
  rw [← h.2.2 q hq]
  funext z
  simp [wA, up2, this]
theorem frm.mono {J J2 : List Nat} {C C1 : CS} (h : frm J C C1) (hs : ∀ j, j ∈ J → j ∈ J2) : frm J2 C C1 := ⟨h.1, h.2.1, fun j hj => h.2.2 j (fun q => hj (hs j q))⟩
