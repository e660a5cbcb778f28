/-! whole numbers as floats: there and back -/
section FLOATS
theorem fl_log {c k : Nat} (h1 : 2 ^ k ≤ c) (h2 : c < 2 ^ (k + 1)) : c.log2 = k := by
  have h0 : c ≠ 0 := fun z => by rw [z] at h1; exact absurd h1 (Nat.not_le.mpr (Nat.two_pow_pos k))
  exact (Nat.log2_eq_iff h0).mpr ⟨h1, h2⟩
theorem fl_lead {c k : Nat} (h1 : 2 ^ k ≤ c) (h2 : c < 2 ^ (k + 1)) : FP.Core.leading c 1 = (k : Int) := by
  unfold FP.Core.leading
  rw [fl_log h1 h2]
  have e : ((k : Nat) : Int) - ((Nat.log2 1 : Nat) : Int) = (k : Int) := by
    rw [show Nat.log2 1 = 0 by decide +kernel]; omega
  simp only [e]
  rw [if_pos]
  rw [show ((k : Int)).toNat = k by omega, show (-(k : Int)).toNat = 0 by omega, Nat.one_mul, Nat.pow_zero, Nat.mul_one]
  exact h1
theorem fl_quant {c k : Nat} (h1 : 2 ^ k ≤ c) (h2 : c < 2 ^ (k + 1)) : FP.Core.quantum FP.Core.b32 c 1 0 = (k : Int) - 23 := by
  unfold FP.Core.quantum
  rw [fl_lead h1 h2]
  have e1 : FP.Core.b32.qmin = -149 := by decide +kernel
  have e2 : FP.Core.b32.p = 24 := rfl
  rw [e1, e2]
  omega
theorem fl_round {c k : Nat} (hk : k ≤ 23) (h1 : 2 ^ k ≤ c) (h2 : c < 2 ^ (k + 1)) (s : Bool) : FP.Core.round FP.Core.b32 (.fin s c 0) = .fin s (c * 2 ^ (23 - k)) ((k : Int) - 23) ∧ 8388608 ≤ c * 2 ^ (23 - k) ∧ c * 2 ^ (23 - k) < 16777216 := by
  have h0 : c ≠ 0 := fun z => by rw [z] at h1; exact absurd h1 (Nat.not_le.mpr (Nat.two_pow_pos k))
  have hPM : 2 ^ k * 2 ^ (23 - k) = 8388608 := by
    rw [← Nat.pow_add, show k + (23 - k) = 23 by omega]
  have hC1 : 8388608 ≤ c * 2 ^ (23 - k) := by rw [← hPM]; exact Nat.mul_le_mul_right _ h1
  have hC2 : c * 2 ^ (23 - k) < 16777216 := by
    have h3 : c * 2 ^ (23 - k) < 2 ^ (k + 1) * 2 ^ (23 - k) := Nat.mul_lt_mul_of_pos_right h2 (Nat.two_pow_pos _)
    rw [Nat.pow_succ, Nat.mul_right_comm, hPM] at h3
    exact h3
  refine ⟨?_, hC1, hC2⟩
  show FP.Core.roundRatio FP.Core.b32 s c 1 0 = _
  unfold FP.Core.roundRatio
  rw [if_neg h0, fl_quant h1 h2]
  unfold FP.Core.roundAt
  have u1 : FP.Core.unitsNum c 0 ((k : Int) - 23) = c * 2 ^ (23 - k) := by
    unfold FP.Core.unitsNum
    rw [show ((0 : Int) - ((k : Int) - 23)).toNat = 23 - k by omega]
  have u2 : FP.Core.unitsDen 1 0 ((k : Int) - 23) = 1 := by
    unfold FP.Core.unitsDen
    rw [show ((k : Int) - 23 - 0).toNat = 0 by omega]
  rw [u1, u2]
  have u3 : FP.Core.nearest (c * 2 ^ (23 - k)) 1 = c * 2 ^ (23 - k) := by
    unfold FP.Core.nearest
    rw [Nat.mod_one, if_pos (by decide), Nat.div_one]
  rw [u3]
  unfold FP.Core.settle
  rw [if_pos (show c * 2 ^ (23 - k) < 2 ^ FP.Core.b32.p from hC2)]
  unfold FP.Core.bound
  rw [if_pos]
  have e3 : FP.Core.b32.qmax = 104 := by decide +kernel
  rw [e3]
  omega
theorem fl_code {X : Nat} {k : Nat} (hk : k ≤ 23) (h1 : 8388608 ≤ X) (h2 : X < 16777216) (s : Bool) : FP.Core.decode FP.Core.b32 (UInt32.ofNat (FP.Core.encode FP.Core.b32 (.fin s X ((k : Int) - 23)))).toNat = .fin s X ((k : Int) - 23) := by
  have et : FP.Core.b32.tails = 8388608 := by decide +kernel
  have ee : FP.Core.b32.exps = 256 := by decide +kernel
  have eq : FP.Core.b32.qmin = -149 := by decide +kernel
  have en : FP.Core.encode FP.Core.b32 (.fin s X ((k : Int) - 23)) = (s.toNat * 256 + (k + 127)) * 8388608 + (X - 8388608) := by
    show (if X < FP.Core.b32.tails then _ else _) = _
    rw [if_neg (by rw [et]; omega)]
    unfold FP.Core.assemble
    rw [et, ee, eq, show ((k : Int) - 23 - -149).toNat + 1 = k + 127 by omega]
  rw [en]
  have hs : s.toNat ≤ 1 := by cases s <;> decide
  generalize hz : s.toNat = z at *
  have hn : (UInt32.ofNat ((z * 256 + (k + 127)) * 8388608 + (X - 8388608))).toNat = (z * 256 + (k + 127)) * 8388608 + (X - 8388608) := by
    rw [UInt32.toNat_ofNat']
    exact Nat.mod_eq_of_lt (by show _ < 4294967296; omega)
  rw [hn]
  have t1 : FP.Core.fieldT FP.Core.b32 ((z * 256 + (k + 127)) * 8388608 + (X - 8388608)) = X - 8388608 := by unfold FP.Core.fieldT; rw [et]; omega
  have t2 : FP.Core.fieldE FP.Core.b32 ((z * 256 + (k + 127)) * 8388608 + (X - 8388608)) = k + 127 := by unfold FP.Core.fieldE; rw [et, ee]; omega
  have t3 : FP.Core.fieldS FP.Core.b32 ((z * 256 + (k + 127)) * 8388608 + (X - 8388608)) = s := by
    unfold FP.Core.fieldS
    rw [et, ee, show ((z * 256 + (k + 127)) * 8388608 + (X - 8388608)) / 8388608 / 256 % 2 = z by omega, ← hz]
    cases s <;> rfl
  unfold FP.Core.decode
  rw [t1, t2, t3, if_neg (by rw [ee]; omega), if_neg (by omega), et, eq, show 8388608 + (X - 8388608) = X by omega, show (-149 : Int) + (((k + 127 : Nat) : Int) - 1) = (k : Int) - 23 by omega]
theorem fl_ex {c : Nat} (h0 : c ≠ 0) (h : c < 16777216) : ∃ k, k ≤ 23 ∧ 2 ^ k ≤ c ∧ c < 2 ^ (k + 1) := by
  obtain ⟨a, b⟩ := (Nat.log2_eq_iff (n := c) (k := c.log2) h0).mp rfl
  refine ⟨c.log2, ?_, a, b⟩
  refine Classical.byContradiction fun z => ?_
  have : 2 ^ 24 ≤ 2 ^ c.log2 := Nat.pow_le_pow_right (by decide) (by omega)
  omega
theorem fl_dat {v : Int32} (h1 : (-99999 : Int) ≤ v.toInt) (h2 : v.toInt ≤ 99999) : (v = 0 ∧ FP.i2f v = 0) ∨ ∃ k : Nat, k ≤ 23 ∧ FP.Core.decode FP.Core.b32 (FP.i2f v).toNat = .fin (decide (v.toInt < 0)) (v.toInt.natAbs * 2 ^ (23 - k)) ((k : Int) - 23) := by
  by_cases h0 : v.toInt.natAbs = 0
  · left
    have hv : v.toInt = 0 := by omega
    have e : v = 0 := Int32.toInt_inj.mp (by rw [hv]; rfl)
    subst e
    exact ⟨rfl, by decide +kernel⟩
  · right
    obtain ⟨k, hk, a, b⟩ := fl_ex h0 (by omega)
    obtain ⟨r1, r2, r3⟩ := fl_round hk a b (decide (v.toInt < 0))
    refine ⟨k, hk, ?_⟩
    show FP.Core.decode FP.Core.b32 (UInt32.ofNat (FP.Core.encode FP.Core.b32 (FP.Core.round FP.Core.b32 (.fin (decide (v.toInt < 0)) v.toInt.natAbs 0)))).toNat = _
    rw [r1]
    exact fl_code hk r2 r3 _
theorem fl_back {v : Int32} (h1 : (-99999 : Int) ≤ v.toInt) (h2 : v.toInt ≤ 99999) : FP.f2i (FP.i2f v) = v := by
  rcases fl_dat h1 h2 with ⟨rfl, e⟩ | ⟨k, hk, e⟩
  · rw [e]; decide +kernel
  · show FP.Core.toI (FP.Core.decode FP.Core.b32 (FP.i2f v).toNat) = v
    rw [e]
    unfold FP.Core.toI FP.Core.toInt FP.Core.truncate
    have e1 : ((k : Int) - 23).toNat = 0 := by omega
    have e2 : (-((k : Int) - 23)).toNat = 23 - k := by omega
    simp only [e1, e2, Nat.pow_zero, Nat.mul_one]
    rw [Nat.mul_div_cancel _ (Nat.two_pow_pos _)]
    have e3 : FP.Core.signed (decide (v.toInt < 0)) v.toInt.natAbs = v.toInt := by
      unfold FP.Core.signed
      by_cases hn : v.toInt < 0
      · rw [if_pos (by simpa using hn)]; omega
      · rw [if_neg (by simpa using hn)]; omega
    rw [e3, show max (-2 ^ 31) (min (2 ^ 31 - 1) v.toInt) = v.toInt by omega]
    exact Int32.ofInt_toInt v
theorem fl_self {v : Int32} (h1 : (-99999 : Int) ≤ v.toInt) (h2 : v.toInt ≤ 99999) : FP.fcmp (FP.i2f v) (FP.i2f v) = some .eq := by
  rcases fl_dat h1 h2 with ⟨rfl, e⟩ | ⟨k, hk, e⟩
  · rw [e]; decide +kernel
  · show FP.Core.order (FP.Core.decode FP.Core.b32 (FP.i2f v).toNat) (FP.Core.decode FP.Core.b32 (FP.i2f v).toNat) = _
    rw [e]
    unfold FP.Core.order
    simp only [Option.some.injEq]
    exact Int.compare_eq_eq.mpr rfl
end FLOATS
