/-! tables, by a number that isn't known: 2, 3 or 4 -/
def isTb (j : Nat) : Prop := j = 2 ∨ j = 3 ∨ j = 4
theorem fObjT {w : WD} {C : CS} {j : Nat} (h : isTb j) : fObj w C j = some (2, fval w C j (tk j)) := by
  rcases h with h | h | h <;> subst h <;> rfl
theorem fArrL {j : Nat} (h : isTb j) : fArr (15 + 4 * (j - 2)) = some (0, 10) := by
  rcases h with h | h | h <;> subst h <;> rfl
theorem fArrR {j : Nat} (h : isTb j) : fArr (16 + 4 * (j - 2)) = some (0, 10) := by
  rcases h with h | h | h <;> subst h <;> rfl
theorem fRefG {j : Nat} (h : isTb j) : fRef (17 + 4 * (j - 2)) = some (6, 10) := by
  rcases h with h | h | h <;> subst h <;> rfl
theorem fRefX {j : Nat} (h : isTb j) : fRef (18 + 4 * (j - 2)) = some (7, 14) := by
  rcases h with h | h | h <;> subst h <;> rfl
theorem putT {w : WD} {C : CS} {j k : Nat} {v : Int32} (h : isTb j) (hk : tk j k = none) : ∀ c2 V2, fObj w (wI C j k v) j = some (c2, V2) → c2 = 2 ∧ ∀ i, V2 i = updV (fval w C j (tk j)) k (.int v) i := by
  intro c2 V2 e
  rw [fObjT h] at e
  cases e
  refine ⟨rfl, fun i => ?_⟩
  unfold updV fval
  by_cases hi : i = k
  · subst hi
    rw [hk]
    simp [wI, up2]
  · cases ht : tk j i with
    | none => simp [wI, up2, hi]
    | some q => simp [hi]
