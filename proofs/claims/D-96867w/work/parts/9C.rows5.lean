/-! rows of shorts and floats; what a holder holds -/
def isSh (C : CS) (a n : Nat) : Prop := C.2.2.2.2.2.1 a = some (104, n)
def isFl (C : CS) (a n : Nat) : Prop := C.2.2.2.2.2.1 a = some (105, n)
def isRw (C : CS) (a n : Nat) : Prop := isSh C a n ∨ isFl C a n
theorem dyn104 {w : WD} {C : CS} {H : Heap} {a n : Nat} : dynAt w C H a (104, n) ↔ H[a]? = some (arrV (wC w 4) n (fun i => .int (C.2.2.2.2.2.2.2.2.1 a i))) := by
  unfold dynAt
  rw [if_neg (show ¬ ((104, n) : Nat × Nat).1 < 50 from (by decide : ¬ 104 < 50)), if_neg (show ¬ ((104, n) : Nat × Nat).1 < 100 from (by decide : ¬ 104 < 100)), if_pos (show ((104, n) : Nat × Nat).1 = 104 from rfl)]
theorem dyn105 {w : WD} {C : CS} {H : Heap} {a n : Nat} : dynAt w C H a (105, n) ↔ H[a]? = some (arrV (wC w 5) n (fun i => .float (C.2.2.2.2.2.2.2.2.2 a i))) := by
  unfold dynAt
  rw [if_neg (show ¬ ((105, n) : Nat × Nat).1 < 50 from (by decide : ¬ 105 < 50)), if_neg (show ¬ ((105, n) : Nat × Nat).1 < 100 from (by decide : ¬ 105 < 100)), if_neg (show ¬ ((105, n) : Nat × Nat).1 = 104 from (by decide : ¬ 105 = 104))]
theorem isSh.at {w : WD} {C : CS} {H : Heap} {a n : Nat} (hs : isSh C a n) (h : hA w C H) : H[a]? = some (arrV (wC w 4) n (fun i => .int (C.2.2.2.2.2.2.2.2.1 a i))) := dyn104.mp (h.2.2.2 a _ hs).1
theorem isFl.at {w : WD} {C : CS} {H : Heap} {a n : Nat} (hs : isFl C a n) (h : hA w C H) : H[a]? = some (arrV (wC w 5) n (fun i => .float (C.2.2.2.2.2.2.2.2.2 a i))) := dyn105.mp (h.2.2.2 a _ hs).1
/-- of which class a thing is -/
def hN (C : CS) (a : Nat) (cn : String) : Prop := (∃ n, isSh C a n ∧ cn = "[S") ∨ (∃ n, isFl C a n ∧ cn = "[F") ∨ (isDy C 15 a ∧ cn = "TwoGuilds$Figure") ∨ ∃ c n T, C.2.2.2.2.2.1 a = some (c, n) ∧ c < 50 ∧ cls[c]? = some (cn, T, 6) ∧ cn ∈ glN
def Cst (x : Cx) (cn nm : String) : Prop := ∃ c t, (xS x).vm.findClass cn = some c ∧ (xS x).vm.findClass nm = some t ∧ (xS x).vm.assignable c t = true
theorem nc_Glove_CCE {w : WD} (h : wOk w) : va_Nc "TwoGuilds$Glove" "java/lang/ClassCastException" (wS w) := va_Nc.of (args := #[Value.ref (wB w)]) (bL (bR (bR (bL (bR (bL (bL (bL (bL h.nar)))))))))
theorem nc_Lined_CCE {w : WD} (h : wOk w) : va_Nc "TwoGuilds$Lined" "java/lang/ClassCastException" (wS w) := va_Nc.of (args := #[Value.ref (wB w)]) (bR (bR (bR (bL (bR (bL (bL (bL (bL h.nar)))))))))
theorem nc_Loose_CCE {w : WD} (h : wOk w) : va_Nc "TwoGuilds$Loose" "java/lang/ClassCastException" (wS w) := va_Nc.of (args := #[Value.ref (wB w)]) (bL (bL (bL (bR (bR (bL (bL (bL (bL h.nar)))))))))
theorem nc_Furred_CCE {w : WD} (h : wOk w) : va_Nc "TwoGuilds$Furred" "java/lang/ClassCastException" (wS w) := va_Nc.of (args := #[Value.ref (wB w)]) (bR (bL (bL (bR (bR (bL (bL (bL (bL h.nar)))))))))
theorem nc_Forged_CCE {w : WD} (h : wOk w) : va_Nc "TwoGuilds$Forged" "java/lang/ClassCastException" (wS w) := va_Nc.of (args := #[Value.ref (wB w)]) (bL (bR (bL (bR (bR (bL (bL (bL (bL h.nar)))))))))
theorem nc_Mitten_CCE {w : WD} (h : wOk w) : va_Nc "TwoGuilds$Mitten" "java/lang/ClassCastException" (wS w) := va_Nc.of (args := #[Value.ref (wB w)]) (bR (bR (bL (bR (bR (bL (bL (bL (bL h.nar)))))))))
theorem nc_Faulty_CCE {w : WD} (h : wOk w) : va_Nc "TwoGuilds$Faulty" "java/lang/ClassCastException" (wS w) := va_Nc.of (args := #[Value.ref (wB w)]) (bL (bL (bR (bR (bR (bL (bL (bL (bL h.nar)))))))))
theorem nc_NSE_CCE {w : WD} (h : wOk w) : va_Nc "java/lang/NegativeArraySizeException" "java/lang/ClassCastException" (wS w) := va_Nc.of (args := #[Value.ref (wB w)]) (bL (bR (bL (bL (bL (bR (bL (bL (bL h.nar)))))))))
theorem nc_NPE_CCE {w : WD} (h : wOk w) : va_Nc "java/lang/NullPointerException" "java/lang/ClassCastException" (wS w) := va_Nc.of (args := #[Value.ref (wB w)]) (bR (bR (bL (bL (bL (bR (bL (bL (bL h.nar)))))))))
theorem nc_IOE_CCE {w : WD} (h : wOk w) : va_Nc "java/lang/IndexOutOfBoundsException" "java/lang/ClassCastException" (wS w) := va_Nc.of (args := #[Value.ref (wB w)]) (bR (bL (bR (bL (bL (bR (bL (bL (bL h.nar)))))))))
theorem nc_Figure_CCE {w : WD} (h : wOk w) : va_Nc "TwoGuilds$Figure" "java/lang/ClassCastException" (wS w) := va_Nc.of (args := #[Value.ref (wB w)]) (bL (bR (bR (bL (bL (bR (bL (bL (bL h.nar)))))))))
theorem nc_ARE_CCE {w : WD} (h : wOk w) : va_Nc "java/lang/ArithmeticException" "java/lang/ClassCastException" (wS w) := va_Nc.of (args := #[Value.ref (wB w)]) (bR (bR (bR (bL (bL (bR (bL (bL (bL h.nar)))))))))
theorem nc_Glove_Faulty {w : WD} (h : wOk w) : va_Nc "TwoGuilds$Glove" "TwoGuilds$Faulty" (wS w) := va_Nc.of (args := #[Value.ref (wB w)]) (bL (bL (bR (bR (bL (bR (bL (bL (bL h.nar)))))))))
theorem nc_Lined_Faulty {w : WD} (h : wOk w) : va_Nc "TwoGuilds$Lined" "TwoGuilds$Faulty" (wS w) := va_Nc.of (args := #[Value.ref (wB w)]) (bR (bL (bR (bR (bL (bR (bL (bL (bL h.nar)))))))))
theorem nc_Loose_Faulty {w : WD} (h : wOk w) : va_Nc "TwoGuilds$Loose" "TwoGuilds$Faulty" (wS w) := va_Nc.of (args := #[Value.ref (wB w)]) (bL (bR (bR (bR (bL (bR (bL (bL (bL h.nar)))))))))
theorem nc_Furred_Faulty {w : WD} (h : wOk w) : va_Nc "TwoGuilds$Furred" "TwoGuilds$Faulty" (wS w) := va_Nc.of (args := #[Value.ref (wB w)]) (bR (bR (bR (bR (bL (bR (bL (bL (bL h.nar)))))))))
theorem nc_Forged_Faulty {w : WD} (h : wOk w) : va_Nc "TwoGuilds$Forged" "TwoGuilds$Faulty" (wS w) := va_Nc.of (args := #[Value.ref (wB w)]) (bL (bL (bL (bL (bR (bR (bL (bL (bL h.nar)))))))))
theorem nc_Mitten_Faulty {w : WD} (h : wOk w) : va_Nc "TwoGuilds$Mitten" "TwoGuilds$Faulty" (wS w) := va_Nc.of (args := #[Value.ref (wB w)]) (bR (bL (bL (bL (bR (bR (bL (bL (bL h.nar)))))))))
theorem nc_CCE_Faulty {w : WD} (h : wOk w) : va_Nc "java/lang/ClassCastException" "TwoGuilds$Faulty" (wS w) := va_Nc.of (args := #[Value.ref (wB w)]) (bL (bR (bL (bL (bR (bR (bL (bL (bL h.nar)))))))))
theorem nc_NSE_Faulty {w : WD} (h : wOk w) : va_Nc "java/lang/NegativeArraySizeException" "TwoGuilds$Faulty" (wS w) := va_Nc.of (args := #[Value.ref (wB w)]) (bL (bL (bL (bR (bR (bR (bL (bL (bL h.nar)))))))))
theorem nc_NPE_Faulty {w : WD} (h : wOk w) : va_Nc "java/lang/NullPointerException" "TwoGuilds$Faulty" (wS w) := va_Nc.of (args := #[Value.ref (wB w)]) (bR (bL (bL (bR (bR (bR (bL (bL (bL h.nar)))))))))
theorem nc_IOE_Faulty {w : WD} (h : wOk w) : va_Nc "java/lang/IndexOutOfBoundsException" "TwoGuilds$Faulty" (wS w) := va_Nc.of (args := #[Value.ref (wB w)]) (bR (bR (bL (bR (bR (bR (bL (bL (bL h.nar)))))))))
theorem nc_Figure_Faulty {w : WD} (h : wOk w) : va_Nc "TwoGuilds$Figure" "TwoGuilds$Faulty" (wS w) := va_Nc.of (args := #[Value.ref (wB w)]) (bL (bL (bR (bR (bR (bR (bL (bL (bL h.nar)))))))))
theorem nc_ARE_Faulty {w : WD} (h : wOk w) : va_Nc "java/lang/ArithmeticException" "TwoGuilds$Faulty" (wS w) := va_Nc.of (args := #[Value.ref (wB w)]) (bR (bL (bR (bR (bR (bR (bL (bL (bL h.nar)))))))))
theorem nc_Glove_NSE {w : WD} (h : wOk w) : va_Nc "TwoGuilds$Glove" "java/lang/NegativeArraySizeException" (wS w) := va_Nc.of (args := #[Value.ref (wB w)]) (bR (bL (bL (bL (bL (bL (bR (bL (bL h.nar)))))))))
theorem nc_Lined_NSE {w : WD} (h : wOk w) : va_Nc "TwoGuilds$Lined" "java/lang/NegativeArraySizeException" (wS w) := va_Nc.of (args := #[Value.ref (wB w)]) (bL (bR (bL (bL (bL (bL (bR (bL (bL h.nar)))))))))
theorem nc_Loose_NSE {w : WD} (h : wOk w) : va_Nc "TwoGuilds$Loose" "java/lang/NegativeArraySizeException" (wS w) := va_Nc.of (args := #[Value.ref (wB w)]) (bR (bR (bL (bL (bL (bL (bR (bL (bL h.nar)))))))))
theorem nc_Furred_NSE {w : WD} (h : wOk w) : va_Nc "TwoGuilds$Furred" "java/lang/NegativeArraySizeException" (wS w) := va_Nc.of (args := #[Value.ref (wB w)]) (bL (bL (bR (bL (bL (bL (bR (bL (bL h.nar)))))))))
theorem nc_Forged_NSE {w : WD} (h : wOk w) : va_Nc "TwoGuilds$Forged" "java/lang/NegativeArraySizeException" (wS w) := va_Nc.of (args := #[Value.ref (wB w)]) (bR (bL (bR (bL (bL (bL (bR (bL (bL h.nar)))))))))
theorem nc_Mitten_NSE {w : WD} (h : wOk w) : va_Nc "TwoGuilds$Mitten" "java/lang/NegativeArraySizeException" (wS w) := va_Nc.of (args := #[Value.ref (wB w)]) (bL (bR (bR (bL (bL (bL (bR (bL (bL h.nar)))))))))
theorem nc_CCE_NSE {w : WD} (h : wOk w) : va_Nc "java/lang/ClassCastException" "java/lang/NegativeArraySizeException" (wS w) := va_Nc.of (args := #[Value.ref (wB w)]) (bR (bR (bR (bL (bL (bL (bR (bL (bL h.nar)))))))))
theorem nc_Faulty_NSE {w : WD} (h : wOk w) : va_Nc "TwoGuilds$Faulty" "java/lang/NegativeArraySizeException" (wS w) := va_Nc.of (args := #[Value.ref (wB w)]) (bL (bL (bL (bR (bL (bL (bR (bL (bL h.nar)))))))))
theorem nc_NPE_NSE {w : WD} (h : wOk w) : va_Nc "java/lang/NullPointerException" "java/lang/NegativeArraySizeException" (wS w) := va_Nc.of (args := #[Value.ref (wB w)]) (bL (bR (bR (bR (bL (bL (bR (bL (bL h.nar)))))))))
theorem nc_IOE_NSE {w : WD} (h : wOk w) : va_Nc "java/lang/IndexOutOfBoundsException" "java/lang/NegativeArraySizeException" (wS w) := va_Nc.of (args := #[Value.ref (wB w)]) (bL (bL (bL (bL (bR (bL (bR (bL (bL h.nar)))))))))
theorem nc_Figure_NSE {w : WD} (h : wOk w) : va_Nc "TwoGuilds$Figure" "java/lang/NegativeArraySizeException" (wS w) := va_Nc.of (args := #[Value.ref (wB w)]) (bR (bL (bL (bL (bR (bL (bR (bL (bL h.nar)))))))))
theorem nc_ARE_NSE {w : WD} (h : wOk w) : va_Nc "java/lang/ArithmeticException" "java/lang/NegativeArraySizeException" (wS w) := va_Nc.of (args := #[Value.ref (wB w)]) (bL (bR (bL (bL (bR (bL (bR (bL (bL h.nar)))))))))
theorem nc_Glove_NPE {w : WD} (h : wOk w) : va_Nc "TwoGuilds$Glove" "java/lang/NullPointerException" (wS w) := va_Nc.of (args := #[Value.ref (wB w)]) (bR (bR (bR (bL (bR (bL (bR (bL (bL h.nar)))))))))
theorem nc_Lined_NPE {w : WD} (h : wOk w) : va_Nc "TwoGuilds$Lined" "java/lang/NullPointerException" (wS w) := va_Nc.of (args := #[Value.ref (wB w)]) (bL (bL (bL (bR (bR (bL (bR (bL (bL h.nar)))))))))
theorem nc_Loose_NPE {w : WD} (h : wOk w) : va_Nc "TwoGuilds$Loose" "java/lang/NullPointerException" (wS w) := va_Nc.of (args := #[Value.ref (wB w)]) (bR (bL (bL (bR (bR (bL (bR (bL (bL h.nar)))))))))
theorem nc_Furred_NPE {w : WD} (h : wOk w) : va_Nc "TwoGuilds$Furred" "java/lang/NullPointerException" (wS w) := va_Nc.of (args := #[Value.ref (wB w)]) (bL (bR (bL (bR (bR (bL (bR (bL (bL h.nar)))))))))
theorem nc_Forged_NPE {w : WD} (h : wOk w) : va_Nc "TwoGuilds$Forged" "java/lang/NullPointerException" (wS w) := va_Nc.of (args := #[Value.ref (wB w)]) (bR (bR (bL (bR (bR (bL (bR (bL (bL h.nar)))))))))
theorem nc_Mitten_NPE {w : WD} (h : wOk w) : va_Nc "TwoGuilds$Mitten" "java/lang/NullPointerException" (wS w) := va_Nc.of (args := #[Value.ref (wB w)]) (bL (bL (bR (bR (bR (bL (bR (bL (bL h.nar)))))))))
theorem nc_CCE_NPE {w : WD} (h : wOk w) : va_Nc "java/lang/ClassCastException" "java/lang/NullPointerException" (wS w) := va_Nc.of (args := #[Value.ref (wB w)]) (bR (bL (bR (bR (bR (bL (bR (bL (bL h.nar)))))))))
theorem nc_Faulty_NPE {w : WD} (h : wOk w) : va_Nc "TwoGuilds$Faulty" "java/lang/NullPointerException" (wS w) := va_Nc.of (args := #[Value.ref (wB w)]) (bL (bR (bR (bR (bR (bL (bR (bL (bL h.nar)))))))))
theorem nc_NSE_NPE {w : WD} (h : wOk w) : va_Nc "java/lang/NegativeArraySizeException" "java/lang/NullPointerException" (wS w) := va_Nc.of (args := #[Value.ref (wB w)]) (bL (bL (bR (bL (bL (bR (bR (bL (bL h.nar)))))))))
theorem nc_IOE_NPE {w : WD} (h : wOk w) : va_Nc "java/lang/IndexOutOfBoundsException" "java/lang/NullPointerException" (wS w) := va_Nc.of (args := #[Value.ref (wB w)]) (bL (bR (bR (bL (bL (bR (bR (bL (bL h.nar)))))))))
theorem nc_Figure_NPE {w : WD} (h : wOk w) : va_Nc "TwoGuilds$Figure" "java/lang/NullPointerException" (wS w) := va_Nc.of (args := #[Value.ref (wB w)]) (bR (bR (bR (bL (bL (bR (bR (bL (bL h.nar)))))))))
theorem nc_ARE_NPE {w : WD} (h : wOk w) : va_Nc "java/lang/ArithmeticException" "java/lang/NullPointerException" (wS w) := va_Nc.of (args := #[Value.ref (wB w)]) (bL (bL (bL (bR (bL (bR (bR (bL (bL h.nar)))))))))
theorem nc_Glove_IOE {w : WD} (h : wOk w) : va_Nc "TwoGuilds$Glove" "java/lang/IndexOutOfBoundsException" (wS w) := va_Nc.of (args := #[Value.ref (wB w)]) (bR (bL (bR (bR (bL (bR (bR (bL (bL h.nar)))))))))
theorem nc_Lined_IOE {w : WD} (h : wOk w) : va_Nc "TwoGuilds$Lined" "java/lang/IndexOutOfBoundsException" (wS w) := va_Nc.of (args := #[Value.ref (wB w)]) (bL (bR (bR (bR (bL (bR (bR (bL (bL h.nar)))))))))
theorem nc_Loose_IOE {w : WD} (h : wOk w) : va_Nc "TwoGuilds$Loose" "java/lang/IndexOutOfBoundsException" (wS w) := va_Nc.of (args := #[Value.ref (wB w)]) (bR (bR (bR (bR (bL (bR (bR (bL (bL h.nar)))))))))
theorem nc_Furred_IOE {w : WD} (h : wOk w) : va_Nc "TwoGuilds$Furred" "java/lang/IndexOutOfBoundsException" (wS w) := va_Nc.of (args := #[Value.ref (wB w)]) (bL (bL (bL (bL (bR (bR (bR (bL (bL h.nar)))))))))
theorem nc_Forged_IOE {w : WD} (h : wOk w) : va_Nc "TwoGuilds$Forged" "java/lang/IndexOutOfBoundsException" (wS w) := va_Nc.of (args := #[Value.ref (wB w)]) (bR (bL (bL (bL (bR (bR (bR (bL (bL h.nar)))))))))
theorem nc_Mitten_IOE {w : WD} (h : wOk w) : va_Nc "TwoGuilds$Mitten" "java/lang/IndexOutOfBoundsException" (wS w) := va_Nc.of (args := #[Value.ref (wB w)]) (bL (bR (bL (bL (bR (bR (bR (bL (bL h.nar)))))))))
theorem nc_CCE_IOE {w : WD} (h : wOk w) : va_Nc "java/lang/ClassCastException" "java/lang/IndexOutOfBoundsException" (wS w) := va_Nc.of (args := #[Value.ref (wB w)]) (bR (bR (bL (bL (bR (bR (bR (bL (bL h.nar)))))))))
theorem nc_Faulty_IOE {w : WD} (h : wOk w) : va_Nc "TwoGuilds$Faulty" "java/lang/IndexOutOfBoundsException" (wS w) := va_Nc.of (args := #[Value.ref (wB w)]) (bL (bL (bR (bL (bR (bR (bR (bL (bL h.nar)))))))))
theorem nc_NSE_IOE {w : WD} (h : wOk w) : va_Nc "java/lang/NegativeArraySizeException" "java/lang/IndexOutOfBoundsException" (wS w) := va_Nc.of (args := #[Value.ref (wB w)]) (bL (bR (bL (bR (bR (bR (bR (bL (bL h.nar)))))))))
theorem nc_NPE_IOE {w : WD} (h : wOk w) : va_Nc "java/lang/NullPointerException" "java/lang/IndexOutOfBoundsException" (wS w) := va_Nc.of (args := #[Value.ref (wB w)]) (bR (bR (bL (bR (bR (bR (bR (bL (bL h.nar)))))))))
theorem nc_Figure_IOE {w : WD} (h : wOk w) : va_Nc "TwoGuilds$Figure" "java/lang/IndexOutOfBoundsException" (wS w) := va_Nc.of (args := #[Value.ref (wB w)]) (bL (bL (bR (bR (bR (bR (bR (bL (bL h.nar)))))))))
theorem nc_ARE_IOE {w : WD} (h : wOk w) : va_Nc "java/lang/ArithmeticException" "java/lang/IndexOutOfBoundsException" (wS w) := va_Nc.of (args := #[Value.ref (wB w)]) (bR (bL (bR (bR (bR (bR (bR (bL (bL h.nar)))))))))
theorem nc_CCE_Glove {w : WD} (h : wOk w) : va_Nc "java/lang/ClassCastException" "TwoGuilds$Glove" (wS w) := va_Nc.of (args := #[Value.ref (wB w)]) (bR (bL (bL (bL (bL (bL (bL (bR (bL h.nar)))))))))
theorem nc_Faulty_Glove {w : WD} (h : wOk w) : va_Nc "TwoGuilds$Faulty" "TwoGuilds$Glove" (wS w) := va_Nc.of (args := #[Value.ref (wB w)]) (bL (bR (bL (bL (bL (bL (bL (bR (bL h.nar)))))))))
theorem nc_NSE_Glove {w : WD} (h : wOk w) : va_Nc "java/lang/NegativeArraySizeException" "TwoGuilds$Glove" (wS w) := va_Nc.of (args := #[Value.ref (wB w)]) (bL (bL (bL (bR (bL (bL (bL (bR (bL h.nar)))))))))
theorem nc_NPE_Glove {w : WD} (h : wOk w) : va_Nc "java/lang/NullPointerException" "TwoGuilds$Glove" (wS w) := va_Nc.of (args := #[Value.ref (wB w)]) (bR (bL (bL (bR (bL (bL (bL (bR (bL h.nar)))))))))
theorem nc_IOE_Glove {w : WD} (h : wOk w) : va_Nc "java/lang/IndexOutOfBoundsException" "TwoGuilds$Glove" (wS w) := va_Nc.of (args := #[Value.ref (wB w)]) (bR (bR (bL (bR (bL (bL (bL (bR (bL h.nar)))))))))
theorem nc_Figure_Glove {w : WD} (h : wOk w) : va_Nc "TwoGuilds$Figure" "TwoGuilds$Glove" (wS w) := va_Nc.of (args := #[Value.ref (wB w)]) (bL (bL (bR (bR (bL (bL (bL (bR (bL h.nar)))))))))
theorem nc_ARE_Glove {w : WD} (h : wOk w) : va_Nc "java/lang/ArithmeticException" "TwoGuilds$Glove" (wS w) := va_Nc.of (args := #[Value.ref (wB w)]) (bR (bL (bR (bR (bL (bL (bL (bR (bL h.nar)))))))))
theorem nc_Glove_Figure {w : WD} (h : wOk w) : va_Nc "TwoGuilds$Glove" "TwoGuilds$Figure" (wS w) := va_Nc.of (args := #[Value.ref (wB w)]) (bL (bR (bL (bL (bR (bL (bL (bR (bL h.nar)))))))))
theorem nc_Lined_Figure {w : WD} (h : wOk w) : va_Nc "TwoGuilds$Lined" "TwoGuilds$Figure" (wS w) := va_Nc.of (args := #[Value.ref (wB w)]) (bR (bR (bL (bL (bR (bL (bL (bR (bL h.nar)))))))))
theorem nc_Loose_Figure {w : WD} (h : wOk w) : va_Nc "TwoGuilds$Loose" "TwoGuilds$Figure" (wS w) := va_Nc.of (args := #[Value.ref (wB w)]) (bL (bL (bR (bL (bR (bL (bL (bR (bL h.nar)))))))))
theorem nc_Furred_Figure {w : WD} (h : wOk w) : va_Nc "TwoGuilds$Furred" "TwoGuilds$Figure" (wS w) := va_Nc.of (args := #[Value.ref (wB w)]) (bR (bL (bR (bL (bR (bL (bL (bR (bL h.nar)))))))))
theorem nc_Forged_Figure {w : WD} (h : wOk w) : va_Nc "TwoGuilds$Forged" "TwoGuilds$Figure" (wS w) := va_Nc.of (args := #[Value.ref (wB w)]) (bL (bR (bR (bL (bR (bL (bL (bR (bL h.nar)))))))))
theorem nc_Mitten_Figure {w : WD} (h : wOk w) : va_Nc "TwoGuilds$Mitten" "TwoGuilds$Figure" (wS w) := va_Nc.of (args := #[Value.ref (wB w)]) (bR (bR (bR (bL (bR (bL (bL (bR (bL h.nar)))))))))
theorem nc_CCE_Figure {w : WD} (h : wOk w) : va_Nc "java/lang/ClassCastException" "TwoGuilds$Figure" (wS w) := va_Nc.of (args := #[Value.ref (wB w)]) (bL (bL (bL (bR (bR (bL (bL (bR (bL h.nar)))))))))
theorem nc_Faulty_Figure {w : WD} (h : wOk w) : va_Nc "TwoGuilds$Faulty" "TwoGuilds$Figure" (wS w) := va_Nc.of (args := #[Value.ref (wB w)]) (bR (bL (bL (bR (bR (bL (bL (bR (bL h.nar)))))))))
theorem nc_NSE_Figure {w : WD} (h : wOk w) : va_Nc "java/lang/NegativeArraySizeException" "TwoGuilds$Figure" (wS w) := va_Nc.of (args := #[Value.ref (wB w)]) (bR (bR (bR (bR (bR (bL (bL (bR (bL h.nar)))))))))
theorem nc_NPE_Figure {w : WD} (h : wOk w) : va_Nc "java/lang/NullPointerException" "TwoGuilds$Figure" (wS w) := va_Nc.of (args := #[Value.ref (wB w)]) (bL (bL (bL (bL (bL (bR (bL (bR (bL h.nar)))))))))
theorem nc_IOE_Figure {w : WD} (h : wOk w) : va_Nc "java/lang/IndexOutOfBoundsException" "TwoGuilds$Figure" (wS w) := va_Nc.of (args := #[Value.ref (wB w)]) (bL (bR (bL (bL (bL (bR (bL (bR (bL h.nar)))))))))
theorem nc_ARE_Figure {w : WD} (h : wOk w) : va_Nc "java/lang/ArithmeticException" "TwoGuilds$Figure" (wS w) := va_Nc.of (args := #[Value.ref (wB w)]) (bR (bR (bL (bL (bL (bR (bL (bR (bL h.nar)))))))))
theorem nc_Glove_ARE {w : WD} (h : wOk w) : va_Nc "TwoGuilds$Glove" "java/lang/ArithmeticException" (wS w) := va_Nc.of (args := #[Value.ref (wB w)]) (bL (bL (bL (bR (bL (bR (bL (bR (bL h.nar)))))))))
theorem nc_Lined_ARE {w : WD} (h : wOk w) : va_Nc "TwoGuilds$Lined" "java/lang/ArithmeticException" (wS w) := va_Nc.of (args := #[Value.ref (wB w)]) (bR (bL (bL (bR (bL (bR (bL (bR (bL h.nar)))))))))
theorem nc_Loose_ARE {w : WD} (h : wOk w) : va_Nc "TwoGuilds$Loose" "java/lang/ArithmeticException" (wS w) := va_Nc.of (args := #[Value.ref (wB w)]) (bL (bR (bL (bR (bL (bR (bL (bR (bL h.nar)))))))))
theorem nc_Furred_ARE {w : WD} (h : wOk w) : va_Nc "TwoGuilds$Furred" "java/lang/ArithmeticException" (wS w) := va_Nc.of (args := #[Value.ref (wB w)]) (bR (bR (bL (bR (bL (bR (bL (bR (bL h.nar)))))))))
theorem nc_Forged_ARE {w : WD} (h : wOk w) : va_Nc "TwoGuilds$Forged" "java/lang/ArithmeticException" (wS w) := va_Nc.of (args := #[Value.ref (wB w)]) (bL (bL (bR (bR (bL (bR (bL (bR (bL h.nar)))))))))
theorem nc_Mitten_ARE {w : WD} (h : wOk w) : va_Nc "TwoGuilds$Mitten" "java/lang/ArithmeticException" (wS w) := va_Nc.of (args := #[Value.ref (wB w)]) (bR (bL (bR (bR (bL (bR (bL (bR (bL h.nar)))))))))
theorem nc_CCE_ARE {w : WD} (h : wOk w) : va_Nc "java/lang/ClassCastException" "java/lang/ArithmeticException" (wS w) := va_Nc.of (args := #[Value.ref (wB w)]) (bL (bR (bR (bR (bL (bR (bL (bR (bL h.nar)))))))))
theorem nc_Faulty_ARE {w : WD} (h : wOk w) : va_Nc "TwoGuilds$Faulty" "java/lang/ArithmeticException" (wS w) := va_Nc.of (args := #[Value.ref (wB w)]) (bR (bR (bR (bR (bL (bR (bL (bR (bL h.nar)))))))))
theorem nc_NSE_ARE {w : WD} (h : wOk w) : va_Nc "java/lang/NegativeArraySizeException" "java/lang/ArithmeticException" (wS w) := va_Nc.of (args := #[Value.ref (wB w)]) (bR (bL (bR (bL (bR (bR (bL (bR (bL h.nar)))))))))
theorem nc_NPE_ARE {w : WD} (h : wOk w) : va_Nc "java/lang/NullPointerException" "java/lang/ArithmeticException" (wS w) := va_Nc.of (args := #[Value.ref (wB w)]) (bL (bR (bR (bL (bR (bR (bL (bR (bL h.nar)))))))))
theorem nc_IOE_ARE {w : WD} (h : wOk w) : va_Nc "java/lang/IndexOutOfBoundsException" "java/lang/ArithmeticException" (wS w) := va_Nc.of (args := #[Value.ref (wB w)]) (bL (bL (bL (bR (bR (bR (bL (bR (bL h.nar)))))))))
theorem nc_Figure_ARE {w : WD} (h : wOk w) : va_Nc "TwoGuilds$Figure" "java/lang/ArithmeticException" (wS w) := va_Nc.of (args := #[Value.ref (wB w)]) (bR (bL (bL (bR (bR (bR (bL (bR (bL h.nar)))))))))
theorem nc_Glove_Lined {w : WD} (h : wOk w) : va_Nc "TwoGuilds$Glove" "TwoGuilds$Lined" (wS w) := va_Nc.of (args := #[Value.ref (wB w)]) (bL (bR (bR (bR (bR (bR (bL (bR (bL h.nar)))))))))
theorem nc_Loose_Lined {w : WD} (h : wOk w) : va_Nc "TwoGuilds$Loose" "TwoGuilds$Lined" (wS w) := va_Nc.of (args := #[Value.ref (wB w)]) (bL (bR (bR (bR (bR (bR (bR (bL (bR (bL h.nar))))))))))
theorem nc_Forged_Lined {w : WD} (h : wOk w) : va_Nc "TwoGuilds$Forged" "TwoGuilds$Lined" (wS w) := va_Nc.of (args := #[Value.ref (wB w)]) (bR (bR (bR (bR (bR (bR (bR (bL (bR (bL h.nar))))))))))
theorem nc_Mitten_Lined {w : WD} (h : wOk w) : va_Nc "TwoGuilds$Mitten" "TwoGuilds$Lined" (wS w) := va_Nc.of (args := #[Value.ref (wB w)]) (bL (bL (bL (bL (bL (bL (bR (bR (bL h.nar)))))))))
theorem nc_CCE_Lined {w : WD} (h : wOk w) : va_Nc "java/lang/ClassCastException" "TwoGuilds$Lined" (wS w) := va_Nc.of (args := #[Value.ref (wB w)]) (bR (bL (bL (bL (bL (bL (bR (bR (bL h.nar)))))))))
theorem nc_Faulty_Lined {w : WD} (h : wOk w) : va_Nc "TwoGuilds$Faulty" "TwoGuilds$Lined" (wS w) := va_Nc.of (args := #[Value.ref (wB w)]) (bL (bR (bL (bL (bL (bL (bR (bR (bL h.nar)))))))))
theorem nc_NSE_Lined {w : WD} (h : wOk w) : va_Nc "java/lang/NegativeArraySizeException" "TwoGuilds$Lined" (wS w) := va_Nc.of (args := #[Value.ref (wB w)]) (bL (bL (bL (bR (bL (bL (bR (bR (bL h.nar)))))))))
theorem nc_NPE_Lined {w : WD} (h : wOk w) : va_Nc "java/lang/NullPointerException" "TwoGuilds$Lined" (wS w) := va_Nc.of (args := #[Value.ref (wB w)]) (bR (bL (bL (bR (bL (bL (bR (bR (bL h.nar)))))))))
theorem nc_IOE_Lined {w : WD} (h : wOk w) : va_Nc "java/lang/IndexOutOfBoundsException" "TwoGuilds$Lined" (wS w) := va_Nc.of (args := #[Value.ref (wB w)]) (bR (bR (bL (bR (bL (bL (bR (bR (bL h.nar)))))))))
theorem nc_Figure_Lined {w : WD} (h : wOk w) : va_Nc "TwoGuilds$Figure" "TwoGuilds$Lined" (wS w) := va_Nc.of (args := #[Value.ref (wB w)]) (bL (bL (bR (bR (bL (bL (bR (bR (bL h.nar)))))))))
theorem nc_ARE_Lined {w : WD} (h : wOk w) : va_Nc "java/lang/ArithmeticException" "TwoGuilds$Lined" (wS w) := va_Nc.of (args := #[Value.ref (wB w)]) (bR (bL (bR (bR (bL (bL (bR (bR (bL h.nar)))))))))
theorem nc_Glove_Loose {w : WD} (h : wOk w) : va_Nc "TwoGuilds$Glove" "TwoGuilds$Loose" (wS w) := va_Nc.of (args := #[Value.ref (wB w)]) (bL (bR (bL (bL (bR (bL (bR (bR (bL h.nar)))))))))
theorem nc_Lined_Loose {w : WD} (h : wOk w) : va_Nc "TwoGuilds$Lined" "TwoGuilds$Loose" (wS w) := va_Nc.of (args := #[Value.ref (wB w)]) (bR (bR (bL (bL (bR (bL (bR (bR (bL h.nar)))))))))
theorem nc_Furred_Loose {w : WD} (h : wOk w) : va_Nc "TwoGuilds$Furred" "TwoGuilds$Loose" (wS w) := va_Nc.of (args := #[Value.ref (wB w)]) (bL (bL (bR (bL (bR (bL (bR (bR (bL h.nar)))))))))
theorem nc_Mitten_Loose {w : WD} (h : wOk w) : va_Nc "TwoGuilds$Mitten" "TwoGuilds$Loose" (wS w) := va_Nc.of (args := #[Value.ref (wB w)]) (bR (bL (bR (bL (bR (bL (bR (bR (bL h.nar)))))))))
theorem nc_CCE_Loose {w : WD} (h : wOk w) : va_Nc "java/lang/ClassCastException" "TwoGuilds$Loose" (wS w) := va_Nc.of (args := #[Value.ref (wB w)]) (bL (bR (bR (bL (bR (bL (bR (bR (bL h.nar)))))))))
theorem nc_Faulty_Loose {w : WD} (h : wOk w) : va_Nc "TwoGuilds$Faulty" "TwoGuilds$Loose" (wS w) := va_Nc.of (args := #[Value.ref (wB w)]) (bR (bR (bR (bL (bR (bL (bR (bR (bL h.nar)))))))))
theorem nc_NSE_Loose {w : WD} (h : wOk w) : va_Nc "java/lang/NegativeArraySizeException" "TwoGuilds$Loose" (wS w) := va_Nc.of (args := #[Value.ref (wB w)]) (bR (bL (bR (bR (bR (bL (bR (bR (bL h.nar)))))))))
theorem nc_NPE_Loose {w : WD} (h : wOk w) : va_Nc "java/lang/NullPointerException" "TwoGuilds$Loose" (wS w) := va_Nc.of (args := #[Value.ref (wB w)]) (bL (bR (bR (bR (bR (bL (bR (bR (bL h.nar)))))))))
theorem nc_IOE_Loose {w : WD} (h : wOk w) : va_Nc "java/lang/IndexOutOfBoundsException" "TwoGuilds$Loose" (wS w) := va_Nc.of (args := #[Value.ref (wB w)]) (bR (bR (bR (bR (bR (bR (bL (bR (bR (bL h.nar))))))))))
theorem nc_Figure_Loose {w : WD} (h : wOk w) : va_Nc "TwoGuilds$Figure" "TwoGuilds$Loose" (wS w) := va_Nc.of (args := #[Value.ref (wB w)]) (bL (bL (bL (bL (bL (bR (bR (bR (bL h.nar)))))))))
theorem nc_ARE_Loose {w : WD} (h : wOk w) : va_Nc "java/lang/ArithmeticException" "TwoGuilds$Loose" (wS w) := va_Nc.of (args := #[Value.ref (wB w)]) (bR (bL (bL (bL (bL (bR (bR (bR (bL h.nar)))))))))
theorem nc_Glove_Furred {w : WD} (h : wOk w) : va_Nc "TwoGuilds$Glove" "TwoGuilds$Furred" (wS w) := va_Nc.of (args := #[Value.ref (wB w)]) (bL (bR (bR (bL (bL (bR (bR (bR (bL h.nar)))))))))
theorem nc_Lined_Furred {w : WD} (h : wOk w) : va_Nc "TwoGuilds$Lined" "TwoGuilds$Furred" (wS w) := va_Nc.of (args := #[Value.ref (wB w)]) (bR (bR (bR (bL (bL (bR (bR (bR (bL h.nar)))))))))
theorem nc_Loose_Furred {w : WD} (h : wOk w) : va_Nc "TwoGuilds$Loose" "TwoGuilds$Furred" (wS w) := va_Nc.of (args := #[Value.ref (wB w)]) (bL (bL (bL (bR (bL (bR (bR (bR (bL h.nar)))))))))
theorem nc_Forged_Furred {w : WD} (h : wOk w) : va_Nc "TwoGuilds$Forged" "TwoGuilds$Furred" (wS w) := va_Nc.of (args := #[Value.ref (wB w)]) (bR (bL (bL (bR (bL (bR (bR (bR (bL h.nar)))))))))
theorem nc_Mitten_Furred {w : WD} (h : wOk w) : va_Nc "TwoGuilds$Mitten" "TwoGuilds$Furred" (wS w) := va_Nc.of (args := #[Value.ref (wB w)]) (bL (bR (bL (bR (bL (bR (bR (bR (bL h.nar)))))))))
theorem nc_CCE_Furred {w : WD} (h : wOk w) : va_Nc "java/lang/ClassCastException" "TwoGuilds$Furred" (wS w) := va_Nc.of (args := #[Value.ref (wB w)]) (bR (bR (bL (bR (bL (bR (bR (bR (bL h.nar)))))))))
theorem nc_Faulty_Furred {w : WD} (h : wOk w) : va_Nc "TwoGuilds$Faulty" "TwoGuilds$Furred" (wS w) := va_Nc.of (args := #[Value.ref (wB w)]) (bL (bL (bR (bR (bL (bR (bR (bR (bL h.nar)))))))))
theorem nc_NSE_Furred {w : WD} (h : wOk w) : va_Nc "java/lang/NegativeArraySizeException" "TwoGuilds$Furred" (wS w) := va_Nc.of (args := #[Value.ref (wB w)]) (bL (bR (bL (bL (bR (bR (bR (bR (bL h.nar)))))))))
theorem nc_NPE_Furred {w : WD} (h : wOk w) : va_Nc "java/lang/NullPointerException" "TwoGuilds$Furred" (wS w) := va_Nc.of (args := #[Value.ref (wB w)]) (bR (bR (bL (bL (bR (bR (bR (bR (bL h.nar)))))))))
theorem nc_IOE_Furred {w : WD} (h : wOk w) : va_Nc "java/lang/IndexOutOfBoundsException" "TwoGuilds$Furred" (wS w) := va_Nc.of (args := #[Value.ref (wB w)]) (bR (bL (bR (bL (bR (bR (bR (bR (bL h.nar)))))))))
theorem nc_Figure_Furred {w : WD} (h : wOk w) : va_Nc "TwoGuilds$Figure" "TwoGuilds$Furred" (wS w) := va_Nc.of (args := #[Value.ref (wB w)]) (bL (bR (bR (bL (bR (bR (bR (bR (bL h.nar)))))))))
theorem nc_ARE_Furred {w : WD} (h : wOk w) : va_Nc "java/lang/ArithmeticException" "TwoGuilds$Furred" (wS w) := va_Nc.of (args := #[Value.ref (wB w)]) (bR (bR (bR (bL (bR (bR (bR (bR (bL h.nar)))))))))
theorem nc_Glove_Forged {w : WD} (h : wOk w) : va_Nc "TwoGuilds$Glove" "TwoGuilds$Forged" (wS w) := va_Nc.of (args := #[Value.ref (wB w)]) (bL (bL (bR (bR (bR (bR (bR (bR (bL h.nar)))))))))
theorem nc_Lined_Forged {w : WD} (h : wOk w) : va_Nc "TwoGuilds$Lined" "TwoGuilds$Forged" (wS w) := va_Nc.of (args := #[Value.ref (wB w)]) (bR (bL (bR (bR (bR (bR (bR (bR (bL h.nar)))))))))
theorem nc_Loose_Forged {w : WD} (h : wOk w) : va_Nc "TwoGuilds$Loose" "TwoGuilds$Forged" (wS w) := va_Nc.of (args := #[Value.ref (wB w)]) (bL (bR (bR (bR (bR (bR (bR (bR (bL h.nar)))))))))
theorem nc_Furred_Forged {w : WD} (h : wOk w) : va_Nc "TwoGuilds$Furred" "TwoGuilds$Forged" (wS w) := va_Nc.of (args := #[Value.ref (wB w)]) (bL (bR (bR (bR (bR (bR (bR (bR (bR (bL h.nar))))))))))
theorem nc_Mitten_Forged {w : WD} (h : wOk w) : va_Nc "TwoGuilds$Mitten" "TwoGuilds$Forged" (wS w) := va_Nc.of (args := #[Value.ref (wB w)]) (bR (bR (bR (bR (bR (bR (bR (bR (bR (bL h.nar))))))))))
theorem nc_CCE_Forged {w : WD} (h : wOk w) : va_Nc "java/lang/ClassCastException" "TwoGuilds$Forged" (wS w) := va_Nc.of (args := #[Value.ref (wB w)]) (bL (bL (bL (bL (bL (bL (bL (bL (bR h.nar)))))))))
theorem nc_Faulty_Forged {w : WD} (h : wOk w) : va_Nc "TwoGuilds$Faulty" "TwoGuilds$Forged" (wS w) := va_Nc.of (args := #[Value.ref (wB w)]) (bR (bL (bL (bL (bL (bL (bL (bL (bR h.nar)))))))))
theorem nc_NSE_Forged {w : WD} (h : wOk w) : va_Nc "java/lang/NegativeArraySizeException" "TwoGuilds$Forged" (wS w) := va_Nc.of (args := #[Value.ref (wB w)]) (bR (bR (bR (bL (bL (bL (bL (bL (bR h.nar)))))))))
theorem nc_NPE_Forged {w : WD} (h : wOk w) : va_Nc "java/lang/NullPointerException" "TwoGuilds$Forged" (wS w) := va_Nc.of (args := #[Value.ref (wB w)]) (bL (bL (bL (bR (bL (bL (bL (bL (bR h.nar)))))))))
theorem nc_IOE_Forged {w : WD} (h : wOk w) : va_Nc "java/lang/IndexOutOfBoundsException" "TwoGuilds$Forged" (wS w) := va_Nc.of (args := #[Value.ref (wB w)]) (bL (bR (bL (bR (bL (bL (bL (bL (bR h.nar)))))))))
theorem nc_Figure_Forged {w : WD} (h : wOk w) : va_Nc "TwoGuilds$Figure" "TwoGuilds$Forged" (wS w) := va_Nc.of (args := #[Value.ref (wB w)]) (bR (bR (bL (bR (bL (bL (bL (bL (bR h.nar)))))))))
theorem nc_ARE_Forged {w : WD} (h : wOk w) : va_Nc "java/lang/ArithmeticException" "TwoGuilds$Forged" (wS w) := va_Nc.of (args := #[Value.ref (wB w)]) (bL (bL (bR (bR (bL (bL (bL (bL (bR h.nar)))))))))
theorem nc_Glove_Mitten {w : WD} (h : wOk w) : va_Nc "TwoGuilds$Glove" "TwoGuilds$Mitten" (wS w) := va_Nc.of (args := #[Value.ref (wB w)]) (bR (bL (bL (bL (bR (bL (bL (bL (bR h.nar)))))))))
theorem nc_Lined_Mitten {w : WD} (h : wOk w) : va_Nc "TwoGuilds$Lined" "TwoGuilds$Mitten" (wS w) := va_Nc.of (args := #[Value.ref (wB w)]) (bL (bR (bL (bL (bR (bL (bL (bL (bR h.nar)))))))))
theorem nc_Loose_Mitten {w : WD} (h : wOk w) : va_Nc "TwoGuilds$Loose" "TwoGuilds$Mitten" (wS w) := va_Nc.of (args := #[Value.ref (wB w)]) (bR (bR (bL (bL (bR (bL (bL (bL (bR h.nar)))))))))
theorem nc_Furred_Mitten {w : WD} (h : wOk w) : va_Nc "TwoGuilds$Furred" "TwoGuilds$Mitten" (wS w) := va_Nc.of (args := #[Value.ref (wB w)]) (bL (bL (bR (bL (bR (bL (bL (bL (bR h.nar)))))))))
theorem nc_Forged_Mitten {w : WD} (h : wOk w) : va_Nc "TwoGuilds$Forged" "TwoGuilds$Mitten" (wS w) := va_Nc.of (args := #[Value.ref (wB w)]) (bR (bL (bR (bL (bR (bL (bL (bL (bR h.nar)))))))))
theorem nc_CCE_Mitten {w : WD} (h : wOk w) : va_Nc "java/lang/ClassCastException" "TwoGuilds$Mitten" (wS w) := va_Nc.of (args := #[Value.ref (wB w)]) (bL (bR (bR (bL (bR (bL (bL (bL (bR h.nar)))))))))
theorem nc_Faulty_Mitten {w : WD} (h : wOk w) : va_Nc "TwoGuilds$Faulty" "TwoGuilds$Mitten" (wS w) := va_Nc.of (args := #[Value.ref (wB w)]) (bR (bR (bR (bL (bR (bL (bL (bL (bR h.nar)))))))))
theorem nc_NSE_Mitten {w : WD} (h : wOk w) : va_Nc "java/lang/NegativeArraySizeException" "TwoGuilds$Mitten" (wS w) := va_Nc.of (args := #[Value.ref (wB w)]) (bR (bL (bR (bR (bR (bL (bL (bL (bR h.nar)))))))))
theorem nc_NPE_Mitten {w : WD} (h : wOk w) : va_Nc "java/lang/NullPointerException" "TwoGuilds$Mitten" (wS w) := va_Nc.of (args := #[Value.ref (wB w)]) (bL (bR (bR (bR (bR (bL (bL (bL (bR h.nar)))))))))
theorem nc_IOE_Mitten {w : WD} (h : wOk w) : va_Nc "java/lang/IndexOutOfBoundsException" "TwoGuilds$Mitten" (wS w) := va_Nc.of (args := #[Value.ref (wB w)]) (bL (bL (bL (bL (bL (bR (bL (bL (bR h.nar)))))))))
theorem nc_Figure_Mitten {w : WD} (h : wOk w) : va_Nc "TwoGuilds$Figure" "TwoGuilds$Mitten" (wS w) := va_Nc.of (args := #[Value.ref (wB w)]) (bR (bL (bL (bL (bL (bR (bL (bL (bR h.nar)))))))))
theorem nc_ARE_Mitten {w : WD} (h : wOk w) : va_Nc "java/lang/ArithmeticException" "TwoGuilds$Mitten" (wS w) := va_Nc.of (args := #[Value.ref (wB w)]) (bL (bR (bL (bL (bL (bR (bL (bL (bR h.nar)))))))))
theorem nc_S_Glove {w : WD} (h : wOk w) : va_Nc "[S" "TwoGuilds$Glove" (wS w) := va_Nc.of (args := #[Value.ref (wB w)]) (bL (bR (bL (bR (bL (bR (bL (bL (bR h.nar)))))))))
theorem nc_F_Glove {w : WD} (h : wOk w) : va_Nc "[F" "TwoGuilds$Glove" (wS w) := va_Nc.of (args := #[Value.ref (wB w)]) (bR (bR (bL (bR (bL (bR (bL (bL (bR h.nar)))))))))
theorem nc_S_Lined {w : WD} (h : wOk w) : va_Nc "[S" "TwoGuilds$Lined" (wS w) := va_Nc.of (args := #[Value.ref (wB w)]) (bR (bL (bR (bL (bR (bR (bL (bL (bR h.nar)))))))))
theorem nc_F_Lined {w : WD} (h : wOk w) : va_Nc "[F" "TwoGuilds$Lined" (wS w) := va_Nc.of (args := #[Value.ref (wB w)]) (bL (bR (bR (bL (bR (bR (bL (bL (bR h.nar)))))))))
theorem nc_S_Loose {w : WD} (h : wOk w) : va_Nc "[S" "TwoGuilds$Loose" (wS w) := va_Nc.of (args := #[Value.ref (wB w)]) (bR (bR (bR (bR (bR (bR (bR (bL (bL (bR h.nar))))))))))
theorem nc_F_Loose {w : WD} (h : wOk w) : va_Nc "[F" "TwoGuilds$Loose" (wS w) := va_Nc.of (args := #[Value.ref (wB w)]) (bL (bL (bL (bL (bL (bL (bR (bL (bR h.nar)))))))))
theorem nc_S_Furred {w : WD} (h : wOk w) : va_Nc "[S" "TwoGuilds$Furred" (wS w) := va_Nc.of (args := #[Value.ref (wB w)]) (bL (bR (bL (bR (bL (bL (bR (bL (bR h.nar)))))))))
theorem nc_F_Furred {w : WD} (h : wOk w) : va_Nc "[F" "TwoGuilds$Furred" (wS w) := va_Nc.of (args := #[Value.ref (wB w)]) (bR (bR (bL (bR (bL (bL (bR (bL (bR h.nar)))))))))
theorem nc_S_Forged {w : WD} (h : wOk w) : va_Nc "[S" "TwoGuilds$Forged" (wS w) := va_Nc.of (args := #[Value.ref (wB w)]) (bR (bL (bR (bL (bR (bL (bR (bL (bR h.nar)))))))))
theorem nc_F_Forged {w : WD} (h : wOk w) : va_Nc "[F" "TwoGuilds$Forged" (wS w) := va_Nc.of (args := #[Value.ref (wB w)]) (bL (bR (bR (bL (bR (bL (bR (bL (bR h.nar)))))))))
theorem nc_S_Mitten {w : WD} (h : wOk w) : va_Nc "[S" "TwoGuilds$Mitten" (wS w) := va_Nc.of (args := #[Value.ref (wB w)]) (bL (bL (bL (bL (bL (bR (bR (bL (bR h.nar)))))))))
theorem nc_F_Mitten {w : WD} (h : wOk w) : va_Nc "[F" "TwoGuilds$Mitten" (wS w) := va_Nc.of (args := #[Value.ref (wB w)]) (bR (bL (bL (bL (bL (bR (bR (bL (bR h.nar)))))))))
theorem nc_Glove_S {w : WD} (h : wOk w) : va_Nc "TwoGuilds$Glove" "[S" (wS w) := va_Nc.of (args := #[Value.ref (wB w)]) (bL (bL (bL (bR (bL (bR (bR (bL (bR h.nar)))))))))
theorem nc_Lined_S {w : WD} (h : wOk w) : va_Nc "TwoGuilds$Lined" "[S" (wS w) := va_Nc.of (args := #[Value.ref (wB w)]) (bR (bL (bL (bR (bL (bR (bR (bL (bR h.nar)))))))))
theorem nc_Loose_S {w : WD} (h : wOk w) : va_Nc "TwoGuilds$Loose" "[S" (wS w) := va_Nc.of (args := #[Value.ref (wB w)]) (bL (bR (bL (bR (bL (bR (bR (bL (bR h.nar)))))))))
theorem nc_Furred_S {w : WD} (h : wOk w) : va_Nc "TwoGuilds$Furred" "[S" (wS w) := va_Nc.of (args := #[Value.ref (wB w)]) (bR (bR (bL (bR (bL (bR (bR (bL (bR h.nar)))))))))
theorem nc_Forged_S {w : WD} (h : wOk w) : va_Nc "TwoGuilds$Forged" "[S" (wS w) := va_Nc.of (args := #[Value.ref (wB w)]) (bL (bL (bR (bR (bL (bR (bR (bL (bR h.nar)))))))))
theorem nc_Mitten_S {w : WD} (h : wOk w) : va_Nc "TwoGuilds$Mitten" "[S" (wS w) := va_Nc.of (args := #[Value.ref (wB w)]) (bR (bL (bR (bR (bL (bR (bR (bL (bR h.nar)))))))))
theorem nc_CCE_S {w : WD} (h : wOk w) : va_Nc "java/lang/ClassCastException" "[S" (wS w) := va_Nc.of (args := #[Value.ref (wB w)]) (bL (bR (bR (bR (bL (bR (bR (bL (bR h.nar)))))))))
theorem nc_Faulty_S {w : WD} (h : wOk w) : va_Nc "TwoGuilds$Faulty" "[S" (wS w) := va_Nc.of (args := #[Value.ref (wB w)]) (bR (bR (bR (bR (bL (bR (bR (bL (bR h.nar)))))))))
theorem nc_NSE_S {w : WD} (h : wOk w) : va_Nc "java/lang/NegativeArraySizeException" "[S" (wS w) := va_Nc.of (args := #[Value.ref (wB w)]) (bR (bL (bR (bL (bR (bR (bR (bL (bR h.nar)))))))))
theorem nc_NPE_S {w : WD} (h : wOk w) : va_Nc "java/lang/NullPointerException" "[S" (wS w) := va_Nc.of (args := #[Value.ref (wB w)]) (bL (bR (bR (bL (bR (bR (bR (bL (bR h.nar)))))))))
theorem nc_IOE_S {w : WD} (h : wOk w) : va_Nc "java/lang/IndexOutOfBoundsException" "[S" (wS w) := va_Nc.of (args := #[Value.ref (wB w)]) (bL (bL (bL (bR (bR (bR (bR (bL (bR h.nar)))))))))
theorem nc_Figure_S {w : WD} (h : wOk w) : va_Nc "TwoGuilds$Figure" "[S" (wS w) := va_Nc.of (args := #[Value.ref (wB w)]) (bR (bL (bL (bR (bR (bR (bR (bL (bR h.nar)))))))))
theorem nc_ARE_S {w : WD} (h : wOk w) : va_Nc "java/lang/ArithmeticException" "[S" (wS w) := va_Nc.of (args := #[Value.ref (wB w)]) (bL (bR (bL (bR (bR (bR (bR (bL (bR h.nar)))))))))
theorem nc_F_S {w : WD} (h : wOk w) : va_Nc "[F" "[S" (wS w) := va_Nc.of (args := #[Value.ref (wB w)]) (bR (bL (bL (bL (bL (bL (bL (bR (bR h.nar)))))))))
theorem nc_Glove_F {w : WD} (h : wOk w) : va_Nc "TwoGuilds$Glove" "[F" (wS w) := va_Nc.of (args := #[Value.ref (wB w)]) (bL (bL (bL (bR (bL (bL (bL (bR (bR h.nar)))))))))
theorem nc_Lined_F {w : WD} (h : wOk w) : va_Nc "TwoGuilds$Lined" "[F" (wS w) := va_Nc.of (args := #[Value.ref (wB w)]) (bR (bL (bL (bR (bL (bL (bL (bR (bR h.nar)))))))))
theorem nc_Loose_F {w : WD} (h : wOk w) : va_Nc "TwoGuilds$Loose" "[F" (wS w) := va_Nc.of (args := #[Value.ref (wB w)]) (bL (bR (bL (bR (bL (bL (bL (bR (bR h.nar)))))))))
theorem nc_Furred_F {w : WD} (h : wOk w) : va_Nc "TwoGuilds$Furred" "[F" (wS w) := va_Nc.of (args := #[Value.ref (wB w)]) (bR (bR (bL (bR (bL (bL (bL (bR (bR h.nar)))))))))
theorem nc_Forged_F {w : WD} (h : wOk w) : va_Nc "TwoGuilds$Forged" "[F" (wS w) := va_Nc.of (args := #[Value.ref (wB w)]) (bL (bL (bR (bR (bL (bL (bL (bR (bR h.nar)))))))))
theorem nc_Mitten_F {w : WD} (h : wOk w) : va_Nc "TwoGuilds$Mitten" "[F" (wS w) := va_Nc.of (args := #[Value.ref (wB w)]) (bR (bL (bR (bR (bL (bL (bL (bR (bR h.nar)))))))))
theorem nc_CCE_F {w : WD} (h : wOk w) : va_Nc "java/lang/ClassCastException" "[F" (wS w) := va_Nc.of (args := #[Value.ref (wB w)]) (bL (bR (bR (bR (bL (bL (bL (bR (bR h.nar)))))))))
theorem nc_Faulty_F {w : WD} (h : wOk w) : va_Nc "TwoGuilds$Faulty" "[F" (wS w) := va_Nc.of (args := #[Value.ref (wB w)]) (bR (bR (bR (bR (bL (bL (bL (bR (bR h.nar)))))))))
theorem nc_NSE_F {w : WD} (h : wOk w) : va_Nc "java/lang/NegativeArraySizeException" "[F" (wS w) := va_Nc.of (args := #[Value.ref (wB w)]) (bR (bL (bR (bL (bR (bL (bL (bR (bR h.nar)))))))))
theorem nc_NPE_F {w : WD} (h : wOk w) : va_Nc "java/lang/NullPointerException" "[F" (wS w) := va_Nc.of (args := #[Value.ref (wB w)]) (bL (bR (bR (bL (bR (bL (bL (bR (bR h.nar)))))))))
theorem nc_IOE_F {w : WD} (h : wOk w) : va_Nc "java/lang/IndexOutOfBoundsException" "[F" (wS w) := va_Nc.of (args := #[Value.ref (wB w)]) (bL (bL (bL (bR (bR (bL (bL (bR (bR h.nar)))))))))
theorem nc_Figure_F {w : WD} (h : wOk w) : va_Nc "TwoGuilds$Figure" "[F" (wS w) := va_Nc.of (args := #[Value.ref (wB w)]) (bR (bL (bL (bR (bR (bL (bL (bR (bR h.nar)))))))))
theorem nc_ARE_F {w : WD} (h : wOk w) : va_Nc "java/lang/ArithmeticException" "[F" (wS w) := va_Nc.of (args := #[Value.ref (wB w)]) (bL (bR (bL (bR (bR (bL (bL (bR (bR h.nar)))))))))
theorem nc_S_F {w : WD} (h : wOk w) : va_Nc "[S" "[F" (wS w) := va_Nc.of (args := #[Value.ref (wB w)]) (bL (bR (bL (bL (bL (bR (bL (bR (bR h.nar)))))))))
theorem nc_S_Figure {w : WD} (h : wOk w) : va_Nc "[S" "TwoGuilds$Figure" (wS w) := va_Nc.of (args := #[Value.ref (wB w)]) (bL (bL (bR (bR (bL (bR (bL (bR (bR h.nar)))))))))
theorem nc_F_Figure {w : WD} (h : wOk w) : va_Nc "[F" "TwoGuilds$Figure" (wS w) := va_Nc.of (args := #[Value.ref (wB w)]) (bR (bL (bR (bR (bL (bR (bL (bR (bR h.nar)))))))))
section ROWS5
variable {w : WD} {x : Cx} {cc : ByteArray} {nL : Nat} {own : String} {ret : Option FieldType} {rm : Room} {cells slots : Nat} {Q : State → Prop} {C : CS} {pc : Nat} {lv : List (Nat × Value)} {st : List Value}
theorem Ok.nc (ok : Ok w x cc nL own ret rm) {a b : String} (h : va_Nc a b (wS w)) : va_Nc a b (xS x) := va_Nc.moved (State.WarmedH.alike ok.kw) h
theorem fcS (ok : Ok w x cc nL own ret rm) : (xS x).vm.findClass "[S" = some (wC w 4) := va_nm_short (ok.K.2 4 _ rfl).2
theorem fcF (ok : Ok w x cc nL own ret rm) : (xS x).vm.findClass "[F" = some (wC w 5) := va_nm_float (ok.K.2 5 _ rfl).2
theorem fcFig (ok : Ok w x cc nL own ret rm) : (xS x).vm.findClass "TwoGuilds$Figure" = some ((wD w).1 15) := (ok.K.1 15 _ rfl).2.1
theorem recvS (ok : Ok w x cc nL own ret rm) {a n : Nat} (h : isSh C a n) : Recv w x C a "[S" := fun H h1 => ⟨_, h.at h1, rfl, fcS ok⟩
theorem recvFl (ok : Ok w x cc nL own ret rm) {a n : Nat} (h : isFl C a n) : Recv w x C a "[F" := fun H h1 => ⟨_, h.at h1, rfl, fcF ok⟩
theorem hN.recv (ok : Ok w x cc nL own ret rm) {a : Nat} {cn : String} (h : hN C a cn) : Recv w x C a cn := by
  rcases h with ⟨n, h, rfl⟩ | ⟨n, h, rfl⟩ | ⟨⟨n, h⟩, rfl⟩ | ⟨c, n, T, h1, h2, h3, -⟩
  · exact recvS ok h
  · exact recvFl ok h
  · exact recvD ok h (by decide) (T := TX16) (N := 1) rfl
  · exact recvD ok h1 h2 h3
theorem Cst.self {cn : String} {c : ClassId} (h : (xS x).vm.findClass cn = some c) : Cst x cn cn := ⟨c, c, h, h, va_asg _ _⟩
theorem Cst.of (ok : Ok w x cc nL own ret rm) {a b : String} (hq : Cond.castable a b ∈ lw_tbl) : Cst x a b := by
  obtain ⟨c0, t0, f1, f2, f3⟩ := Cond.castable_spec (va_Nw.use (A := xA x) rfl (ok.ca hq))
  exact ⟨c0, t0, f1, f2, f3⟩
theorem g_instY (ok : Ok w x cc nL own ret rm) {a idx : Nat} {cn nm : String} (ql : Cond.classLink own idx nm ∈ lw_all) (hc : Cst x cn nm) (hr : Recv w x C a cn) (d : decode cc pc = .ok (.instanceof idx, 3))
    (k : G w x nL cells slots Q C (pc + 3) lv (.int 1 :: st)) : G w x nL cells slots Q C pc lv (.ref a :: st) := by
  intro H locs ls h1 h2 h3 T hT X
  obtain ⟨cell, r1, r2, r3⟩ := hr H h1
  obtain ⟨c0, t0, f1, f2, f3⟩ := hc
  cases r3.symm.trans f1
  obtain ⟨vm', X', stp⟩ := X.instanceofYes ok.ex ok.ow (ok.wd ql) (by rw [hT]; exact r1) r2 f2 f3 (g := F0 (xM x) pc ls (.ref a :: st)) rfl rfl (by rw [ok.cd]; exact d)
  obtain ⟨t, a1, b1⟩ := k H locs ls h1 h2 h3 (T.setVm vm') hT X'
  exact ⟨t, stp t a1, b1⟩
theorem g_instN (ok : Ok w x cc nL own ret rm) {a idx : Nat} {cn nm : String} (ql : Cond.classLink own idx nm ∈ lw_all) (hc : va_Nc cn nm (wS w)) (hr : Recv w x C a cn) (d : decode cc pc = .ok (.instanceof idx, 3))
    (k : G w x nL cells slots Q C (pc + 3) lv (.int 0 :: st)) : G w x nL cells slots Q C pc lv (.ref a :: st) :=
  fun H locs ls h1 h2 h3 => va_instNo ok.ex ok.cd ok.ow (ok.wd ql) (ok.nc hc) (hr H h1) d (k H locs ls h1 h2 h3)
theorem g_inst0 (ok : Ok w x cc nL own ret rm) {idx : Nat} (d : decode cc pc = .ok (.instanceof idx, 3)) (k : G w x nL cells slots Q C (pc + 3) lv (.int 0 :: st)) : G w x nL cells slots Q C pc lv (.null :: st) := by
  intro H locs ls h1 h2 h3 T hT X
  obtain ⟨t, a1, b1⟩ := k H locs ls h1 h2 h3 T hT X
  exact ⟨t, X.instanceofNull ok.ex (g := F0 (xM x) pc ls (.null :: st)) rfl rfl (by rw [ok.cd]; exact d) t a1, b1⟩
theorem g_castY (ok : Ok w x cc nL own ret rm) {a idx : Nat} {cn nm : String} (ql : Cond.classLink own idx nm ∈ lw_all) (hc : Cst x cn nm) (hr : Recv w x C a cn) (d : decode cc pc = .ok (.checkcast idx, 3))
    (k : G w x nL cells slots Q C (pc + 3) lv (.ref a :: st)) : G w x nL cells slots Q C pc lv (.ref a :: st) := by
  intro H locs ls h1 h2 h3 T hT X
  obtain ⟨cell, r1, r2, r3⟩ := hr H h1
  obtain ⟨c0, t0, f1, f2, f3⟩ := hc
  cases r3.symm.trans f1
  obtain ⟨vm', X', stp⟩ := X.checkcastYes ok.ex ok.ow (ok.wd ql) (by rw [hT]; exact r1) r2 f2 f3 (g := F0 (xM x) pc ls (.ref a :: st)) rfl rfl (by rw [ok.cd]; exact d)
  obtain ⟨t, a1, b1⟩ := k H locs ls h1 h2 h3 (T.setVm vm') hT X'
  exact ⟨t, stp t a1, b1⟩
theorem g_cast0 (ok : Ok w x cc nL own ret rm) {idx : Nat} (d : decode cc pc = .ok (.checkcast idx, 3)) (k : G w x nL cells slots Q C (pc + 3) lv (.null :: st)) : G w x nL cells slots Q C pc lv (.null :: st) := by
  intro H locs ls h1 h2 h3 T hT X
  obtain ⟨t, a1, b1⟩ := k H locs ls h1 h2 h3 T hT X
  exact ⟨t, X.checkcastNull ok.ex (g := F0 (xM x) pc ls (.null :: st)) rfl rfl (by rw [ok.cd]; exact d) t a1, b1⟩
theorem g_alenR (ok : Ok w x cc nL own ret rm) {a n : Nat} (h : isRw C a n) (d : decode cc pc = .ok (.arraylength, 1)) (k : G w x nL cells slots Q C (pc + 1) lv (.int (nI n) :: st)) : G w x nL cells slots Q C pc lv (.ref a :: st) := by
  intro H locs ls h1 h2 h3
  rcases h with h | h
  · exact W.alen (n := nI n) ok.ex ok.cd (h.at h1) ((ok.K.2 4 _ rfl).1 n _) (by rw [arrV_size]; rfl) rfl rfl d (k H locs ls h1 h2 h3)
  · exact W.alen (n := nI n) ok.ex ok.cd (h.at h1) ((ok.K.2 5 _ rfl).1 n _) (by rw [arrV_size]; rfl) rfl rfl d (k H locs ls h1 h2 h3)
theorem g_saldD (ok : Ok w x cc nL own ret rm) {a n : Nat} (h : isSh C a n) {i : Int32} (hin : vp_in i n) (d : decode cc pc = .ok (.saload, 1)) (k : G w x nL cells slots Q C (pc + 1) lv (.int (C.2.2.2.2.2.2.2.2.1 a i.toNatClampNeg) :: st)) : G w x nL cells slots Q C pc lv (.int i :: .ref a :: st) :=
  fun H locs ls h1 h2 h3 => W.sald (v := .int (C.2.2.2.2.2.2.2.2.1 a i.toNatClampNeg)) ok.ex ok.cd (h.at h1) ((ok.K.2 4 _ rfl).1 n _) (fun q => by cases q) (by rw [arrV_size]; exact hin) (by rw [arrV_read _ _ (vp_lt hin)]) rfl rfl d (k H locs ls h1 h2 h3)
theorem g_faldD (ok : Ok w x cc nL own ret rm) {a n : Nat} (h : isFl C a n) {i : Int32} (hin : vp_in i n) (d : decode cc pc = .ok (.faload, 1)) (k : G w x nL cells slots Q C (pc + 1) lv (.float (C.2.2.2.2.2.2.2.2.2 a i.toNatClampNeg) :: st)) : G w x nL cells slots Q C pc lv (.int i :: .ref a :: st) :=
  fun H locs ls h1 h2 h3 => W.fald (v := .float (C.2.2.2.2.2.2.2.2.2 a i.toNatClampNeg)) ok.ex ok.cd (h.at h1) ((ok.K.2 5 _ rfl).1 n _) (fun q => by cases q) (by rw [arrV_size]; exact hin) (by rw [arrV_read _ _ (vp_lt hin)]) rfl rfl d (k H locs ls h1 h2 h3)
theorem narrS (v : Int32) : narrow .short (.int v.toInt16.toInt32) = .int v.toInt16.toInt32 := by
  rw [narrow_short]
  congr 1
  congr 1
  simp
theorem g_sastD (ok : Ok w x cc nL own ret rm) {a n : Nat} (h : isSh C a n) {i v : Int32} (hin : vp_in i n) (hv : narrow .short (.int v) = .int v) (d : decode cc pc = .ok (.sastore, 1))
    (kk : ∀ C1, C1 = wDA C a i.toNatClampNeg v → G w x nL cells slots Q C1 (pc + 1) lv st) : G w x nL cells slots Q C pc lv (.int v :: .int i :: .ref a :: st) := by
  intro H locs ls h1 h2 h3
  refine W.sast ok.ex ok.cd (h.at h1) ((ok.K.2 4 _ rfl).1 n _) (fun q => by cases q) (by rw [arrV_size]; exact hin) rfl rfl d fun H' e1 e2 e3 => ?_
  rw [hv] at e1
  refine kk _ rfl H' _ ls (hA.stepD (tg := (104, n)) (tg1 := (104, n)) h1 h e2 e3 ⟨rfl, rfl, rfl, rfl, rfl⟩ (fun _ _ => rfl) h (fun b hb => ⟨fun _ => rfl, fun _ => rfl, fun k => ?_, fun _ => rfl⟩) (dyn104.mpr ?_)) (fun l hl => ?_) h3
  · show up2 _ _ _ _ _ _ = _
    unfold up2
    rw [if_neg (fun z => hb z.1)]
  · rw [e1, arrV_store]
    congr 2
    funext m
    by_cases hm : m = i.toNatClampNeg
    · subst hm; simp [updV, wDA, up2]
    · simp [updV, wDA, up2, hm]
  · rcases List.mem_append.mp hl with z | z
    · exact h2 l z
    · rw [List.mem_singleton.mp z]; exact (h1.2.2.2 a _ h).2.1
theorem g_fastD (ok : Ok w x cc nL own ret rm) {a n : Nat} (h : isFl C a n) {i : Int32} {v : UInt32} (hin : vp_in i n) (d : decode cc pc = .ok (.fastore, 1))
    (kk : ∀ C1, C1 = wDF C a i.toNatClampNeg v → G w x nL cells slots Q C1 (pc + 1) lv st) : G w x nL cells slots Q C pc lv (.float v :: .int i :: .ref a :: st) := by
  intro H locs ls h1 h2 h3
  refine W.fast ok.ex ok.cd (h.at h1) ((ok.K.2 5 _ rfl).1 n _) (fun q => by cases q) (by rw [arrV_size]; exact hin) rfl rfl d fun H' e1 e2 e3 => ?_
  refine kk _ rfl H' _ ls (hA.stepD (tg := (105, n)) (tg1 := (105, n)) h1 h e2 e3 ⟨rfl, rfl, rfl, rfl, rfl⟩ (fun _ _ => rfl) h (fun b hb => ⟨fun _ => rfl, fun _ => rfl, fun _ => rfl, fun k => ?_⟩) (dyn105.mpr ?_)) (fun l hl => ?_) h3
  · show up2 _ _ _ _ _ _ = _
    unfold up2
    rw [if_neg (fun z => hb z.1)]
  · rw [e1, arrV_store]
    congr 2
    funext m
    by_cases hm : m = i.toNatClampNeg
    · subst hm; simp [updV, wDF, up2]
    · simp [updV, wDF, up2, hm]
  · rcases List.mem_append.mp hl with z | z
    · exact h2 l z
    · rw [List.mem_singleton.mp z]; exact (h1.2.2.2 a _ h).2.1
theorem g_fload_n (ok : Ok w x cc nL own ret rm) {n : Fin 4} {v : UInt32} (p0 : Nat) (d : decode cc pc = .ok (.fload_n n, 1)) (hi : lv[p0]? = some ((n : Nat), .float v)) (k : G w x nL cells slots Q C (pc + 1) lv (.float v :: st)) : G w x nL cells slots Q C pc lv st :=
  fun H locs ls h1 h2 h3 => lv_fload_n ok.ex ok.cd d rfl (lv_at h3 p0 hi) (k H locs ls h1 h2 h3)
theorem g_fstore_n (ok : Ok w x cc nL own ret rm) {n : Fin 4} {v : UInt32} (lv' : List (Nat × Value)) (d : decode cc pc = .ok (.fstore_n n, 1)) (hn : (n : Nat) < nL) (hl : ((n : Nat), Value.float v) :: lv.filter (fun q => !(q.1 == (n : Nat)) && !(q.1 + 1 == (n : Nat) && q.2.category == 2)) = lv') (k : G w x nL cells slots Q C (pc + 1) lv' st) : G w x nL cells slots Q C pc lv (.float v :: st) :=
  fun H locs ls h1 h2 h3 => lv_fstore_n ok.ex ok.cd d rfl h3 hn hl (fun ls' h' => k H locs ls' h1 h2 h')
theorem g_fcmp (ok : Ok w x cc nL own ret rm) {a b : UInt32} {op : CmpOp} (d : decode cc pc = .ok (.fcmp op, 1)) (k : G w x nL cells slots Q C (pc + 1) lv (.int (Op.cmpValue (FP.fcmp a b) op) :: st)) : G w x nL cells slots Q C pc lv (.float b :: .float a :: st) :=
  fun H locs ls h1 h2 h3 => lv_fcmp ok.ex ok.cd d (k H locs ls h1 h2 h3)
theorem g_f2i (ok : Ok w x cc nL own ret rm) {a : UInt32} (d : decode cc pc = .ok (.f2i, 1)) (k : G w x nL cells slots Q C (pc + 1) lv (.int (FP.f2i a) :: st)) : G w x nL cells slots Q C pc lv (.float a :: st) :=
  fun H locs ls h1 h2 h3 => lv_f2i ok.ex ok.cd d (k H locs ls h1 h2 h3)
theorem g_i2f (ok : Ok w x cc nL own ret rm) {a : Int32} (d : decode cc pc = .ok (.i2f, 1)) (k : G w x nL cells slots Q C (pc + 1) lv (.float (FP.i2f a) :: st)) : G w x nL cells slots Q C pc lv (.int a :: st) :=
  fun H locs ls h1 h2 h3 => lv_i2f ok.ex ok.cd d (k H locs ls h1 h2 h3)
theorem g_ldcwf (ok : Ok w x cc nL own ret rm) {v : UInt32} {idx : Nat} (q : Cond.constantFloat own idx v ∈ lw_all) (d : decode cc pc = .ok (.ldc_w idx, 3)) (k : G w x nL cells slots Q C (pc + 3) lv (.float v :: st)) : G w x nL cells slots Q C pc lv st := by
  intro H locs ls h1 h2 h3 T hT X
  obtain ⟨t, a1, b1⟩ := k H locs ls h1 h2 h3 T hT X
  refine ⟨t, ?_, b1⟩
  obtain ⟨k0, cf, hk, hcf, hcp⟩ := Cond.constantFloat_spec ok.ow (ok.wd q)
  obtain ⟨k', hk', he⟩ := X.warmed.alike.2.2 _ _ hk
  have hd : decode (xC x).code pc = .ok (.ldc_w idx, 3) := by rw [ok.cd]; exact d
  jvm_step X.here [ok.ex, hd, ldc_w.wp_float (s := T) (f := F0 (xM x) pc ls st) X.here.top hk' (by rw [he]; exact hcf) hcp]
  exact a1
/-- a new row -/
def nwS (C : CS) (a n : Nat) : CS := (C.1, C.2.1, C.2.2.1, C.2.2.2.1, C.2.2.2.2.1, up1 C.2.2.2.2.2.1 a (some (104, n)), C.2.2.2.2.2.2.1, C.2.2.2.2.2.2.2.1, fun b i => if b = a then 0 else C.2.2.2.2.2.2.2.2.1 b i, C.2.2.2.2.2.2.2.2.2)
def nwF (C : CS) (a n : Nat) : CS := (C.1, C.2.1, C.2.2.1, C.2.2.2.1, C.2.2.2.2.1, up1 C.2.2.2.2.2.1 a (some (105, n)), C.2.2.2.2.2.2.1, C.2.2.2.2.2.2.2.1, C.2.2.2.2.2.2.2.2.1, fun b i => if b = a then 0 else C.2.2.2.2.2.2.2.2.2 b i)
theorem g_newS (ok : Ok w x cc nL own ret rm) {n : Nat} (hn : n < 2 ^ 20) (hcap : cells + 1 ≤ rm.cells ∧ slots + n ≤ rm.slots) (d : decode cc pc = .ok (.newarray .short, 2))
    (kk : ∀ a, cT C a = none → G w x nL (cells + 1) (slots + n) Q (nwS C a n) (pc + 2) lv (.ref a :: st)) : G w x nL cells slots Q C pc lv (.int (nI n) :: st) := by
  intro H locs ls h1 h2 h3
  refine va_newaK (atype := .short) ok.ex ok.cd (ok.wd q1162) (g := F0 (xM x) pc ls (.int (nI n) :: st)) rfl d (n := nI n) (N := n) rfl (by rw [show (0 : Int32) = nI 0 from rfl, ← Int32.not_le, nI_leI (by omega) (by omega)]; simp) (cl_k (by omega)) (by show n * 2 ≤ _; omega) (by rw [ok.ro]; exact hcap.1) (by rw [ok.ro]; exact hcap.2) rfl fun H1 cA e1 z1 o1 hAr hNm => ?_
  have ec : cA = wC w 4 := Option.some.inj (hNm.symm.trans (ok.K.2 4 _ rfl).2)
  subst ec
  refine kk H.size h1.fresh H1 locs ls ?_ h2 h3
  refine hA.newD (tg1 := (104, n)) h1 z1 o1 ⟨rfl, rfl, rfl, rfl, rfl⟩ (fun b hb => if_neg hb) (if_pos rfl) (fun b hb => ⟨fun _ => rfl, fun _ => rfl, fun _ => if_neg hb, fun _ => rfl⟩) (dyn104.mpr ?_)
  rw [e1]
  congr 2
  funext i
  show _ = Value.int (if H.size = H.size then 0 else _)
  rw [if_pos rfl]
  rfl
theorem g_newF (ok : Ok w x cc nL own ret rm) {n : Nat} (hn : n < 2 ^ 20) (hcap : cells + 1 ≤ rm.cells ∧ slots + n ≤ rm.slots) (d : decode cc pc = .ok (.newarray .float, 2))
    (kk : ∀ a, cT C a = none → G w x nL (cells + 1) (slots + n) Q (nwF C a n) (pc + 2) lv (.ref a :: st)) : G w x nL cells slots Q C pc lv (.int (nI n) :: st) := by
  intro H locs ls h1 h2 h3
  refine va_newaK (atype := .float) ok.ex ok.cd (ok.wd q1163) (g := F0 (xM x) pc ls (.int (nI n) :: st)) rfl d (n := nI n) (N := n) rfl (by rw [show (0 : Int32) = nI 0 from rfl, ← Int32.not_le, nI_leI (by omega) (by omega)]; simp) (cl_k (by omega)) (by show n * 4 ≤ _; omega) (by rw [ok.ro]; exact hcap.1) (by rw [ok.ro]; exact hcap.2) rfl fun H1 cA e1 z1 o1 hAr hNm => ?_
  have ec : cA = wC w 5 := Option.some.inj (hNm.symm.trans (ok.K.2 5 _ rfl).2)
  subst ec
  refine kk H.size h1.fresh H1 locs ls ?_ h2 h3
  refine hA.newD (tg1 := (105, n)) h1 z1 o1 ⟨rfl, rfl, rfl, rfl, rfl⟩ (fun b hb => if_neg hb) (if_pos rfl) (fun b hb => ⟨fun _ => rfl, fun _ => rfl, fun _ => rfl, fun _ => if_neg hb⟩) (dyn105.mpr ?_)
  rw [e1]
  congr 2
  funext i
  show _ = Value.float (if H.size = H.size then 0 else _)
  rw [if_pos rfl]
  rfl
/-- System.arraycopy between rows -/
def cyS (C : CS) (a0 a s d n : Nat) : CS := (C.1, C.2.1, C.2.2.1, C.2.2.2.1, C.2.2.2.2.1, C.2.2.2.2.2.1, C.2.2.2.2.2.2.1, C.2.2.2.2.2.2.2.1, fun b i => if b = a then va_cpy (C.2.2.2.2.2.2.2.2.1 a0) (C.2.2.2.2.2.2.2.2.1 a) s d n i else C.2.2.2.2.2.2.2.2.1 b i, C.2.2.2.2.2.2.2.2.2)
def cyF (C : CS) (a0 a s d n : Nat) : CS := (C.1, C.2.1, C.2.2.1, C.2.2.2.1, C.2.2.2.2.1, C.2.2.2.2.2.1, C.2.2.2.2.2.2.1, C.2.2.2.2.2.2.2.1, C.2.2.2.2.2.2.2.2.1, fun b i => if b = a then va_cpy (C.2.2.2.2.2.2.2.2.2 a0) (C.2.2.2.2.2.2.2.2.2 a) s d n i else C.2.2.2.2.2.2.2.2.2 b i)
theorem g_cpS (ok : Ok w x cc nL own ret rm) {a0 a n0 n1 s d n : Nat} (h0 : isSh C a0 n0) (ha : isSh C a n1) (hs : s + n ≤ n0) (hd : d + n ≤ n1) (hf : ∀ i, i < n → fits .short (.int (C.2.2.2.2.2.2.2.2.1 a0 (s + i))) = true) (b0 : n0 < 2 ^ 20) (b1 : n1 < 2 ^ 20) {index : Nat} (ql : Cond.methodLink own index arraycopyName ∈ lw_all) (hR : 1 ≤ rm.frames ∧ 30 ≤ rm.locals) (hw : (st.map fun v => v.category).sum ≤ 8) (dd : decode cc pc = .ok (.invokestatic index, 3))
    (kk : ∀ C1, C1 = cyS C a0 a s d n → G w x nL cells slots Q C1 (pc + 3) lv st) : G w x nL cells slots Q C pc lv (.int (nI n) :: .int (nI d) :: .ref a :: .int (nI s) :: .ref a0 :: st) := by
  intro H locs ls h1 h2 h3'
  have nn : ∀ k, k < 2 ^ 20 → ¬ nI k < 0 := fun k hk => by rw [show (0 : Int32) = nI 0 from rfl, ← Int32.not_le, nI_leI (by omega) (by omega)]; simp
  obtain ⟨-, k0, hk0, cm0, hkk0⟩ := (ok.K.2 4 _ rfl).1 0 (fun _ => .null)
  refine W.copyG (fun z : Int32 => Value.int z) (f := C.2.2.2.2.2.2.2.2.1 a0) (g := C.2.2.2.2.2.2.2.2.1 a) (n0 := n0) (n1 := n1) (sp := nI s) (dp := nI d) (n := nI n) ok.ex ok.cd (ok.ml.trans h3'.1.symm) ok.ow (ok.wd ql) (ok.wd q862) (ok.wd q861) (ok.wd q90) (h0.at h1) (ha.at h1) hk0 hk0 hkk0 hkk0 rfl (nn _ (by omega)) (nn _ (by omega)) (nn _ (by omega)) (by rw [cl_k (by omega), cl_k (by omega)]; exact hs) (by rw [cl_k (by omega), cl_k (by omega)]; exact hd) (fun T hT vm' hal i hi => ⟨by rw [cl_k (by omega)] at hi ⊢; exact hf i hi, trivial⟩) (by rw [ok.ro]; exact hR.1) (by
    rw [ok.ro]
    have := hR.2
    have e : nativeFrameWords "java/lang/System" "arraycopy" 5 + 11 ≤ 22 := by decide +kernel
    omega) dd fun H1 locs1 hz ho hn hl => ?_
  rw [cl_k (by omega), cl_k (by omega), cl_k (by omega)] at hn
  refine kk _ rfl H1 locs1 ls (hA.stepD (tg := (104, n1)) (tg1 := (104, n1)) h1 ha hz ho ⟨rfl, rfl, rfl, rfl, rfl⟩ (fun _ _ => rfl) ha (fun b hb => ⟨fun _ => rfl, fun _ => rfl, fun k => if_neg hb, fun _ => rfl⟩) (dyn104.mpr ?_)) (fun q hq => ?_) h3'
  · rw [hn]
    congr 2
    funext i
    show _ = Value.int (if a = a then _ else _)
    rw [if_pos rfl]
  · rcases hl q hq with z | z
    · exact h2 q z
    · rw [z]; exact (h1.2.2.2 a _ ha).2.1
theorem g_cpF (ok : Ok w x cc nL own ret rm) {a0 a n0 n1 s d n : Nat} (h0 : isFl C a0 n0) (ha : isFl C a n1) (hs : s + n ≤ n0) (hd : d + n ≤ n1) (b0 : n0 < 2 ^ 20) (b1 : n1 < 2 ^ 20) {index : Nat} (ql : Cond.methodLink own index arraycopyName ∈ lw_all) (hR : 1 ≤ rm.frames ∧ 30 ≤ rm.locals) (hw : (st.map fun v => v.category).sum ≤ 8) (dd : decode cc pc = .ok (.invokestatic index, 3))
    (kk : ∀ C1, C1 = cyF C a0 a s d n → G w x nL cells slots Q C1 (pc + 3) lv st) : G w x nL cells slots Q C pc lv (.int (nI n) :: .int (nI d) :: .ref a :: .int (nI s) :: .ref a0 :: st) := by
  intro H locs ls h1 h2 h3'
  have nn : ∀ k, k < 2 ^ 20 → ¬ nI k < 0 := fun k hk => by rw [show (0 : Int32) = nI 0 from rfl, ← Int32.not_le, nI_leI (by omega) (by omega)]; simp
  obtain ⟨-, k0, hk0, cm0, hkk0⟩ := (ok.K.2 5 _ rfl).1 0 (fun _ => .null)
  refine W.copyG (fun z : UInt32 => Value.float z) (f := C.2.2.2.2.2.2.2.2.2 a0) (g := C.2.2.2.2.2.2.2.2.2 a) (n0 := n0) (n1 := n1) (sp := nI s) (dp := nI d) (n := nI n) ok.ex ok.cd (ok.ml.trans h3'.1.symm) ok.ow (ok.wd ql) (ok.wd q862) (ok.wd q861) (ok.wd q90) (h0.at h1) (ha.at h1) hk0 hk0 hkk0 hkk0 rfl (nn _ (by omega)) (nn _ (by omega)) (nn _ (by omega)) (by rw [cl_k (by omega), cl_k (by omega)]; exact hs) (by rw [cl_k (by omega), cl_k (by omega)]; exact hd) (fun T hT vm' hal i hi => ⟨rfl, trivial⟩) (by rw [ok.ro]; exact hR.1) (by
    rw [ok.ro]
    have := hR.2
    have e : nativeFrameWords "java/lang/System" "arraycopy" 5 + 11 ≤ 22 := by decide +kernel
    omega) dd fun H1 locs1 hz ho hn hl => ?_
  rw [cl_k (by omega), cl_k (by omega), cl_k (by omega)] at hn
  refine kk _ rfl H1 locs1 ls (hA.stepD (tg := (105, n1)) (tg1 := (105, n1)) h1 ha hz ho ⟨rfl, rfl, rfl, rfl, rfl⟩ (fun _ _ => rfl) ha (fun b hb => ⟨fun _ => rfl, fun _ => rfl, fun _ => rfl, fun k => if_neg hb⟩) (dyn105.mpr ?_)) (fun q hq => ?_) h3'
  · rw [hn]
    congr 2
    funext i
    show _ = Value.float (if a = a then _ else _)
    rw [if_pos rfl]
  · rcases hl q hq with z | z
    · exact h2 q z
    · rw [z]; exact (h1.2.2.2 a _ ha).2.1
end ROWS5
