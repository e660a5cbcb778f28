/-! THE WORLD: one state CS for the class and its reference: fixed cells (by their numbers), dynamic cells (by their addresses). -/
/-- fixed ints (cell, field); fixed number arrays (cell, place); fixed reference arrays; what holders hold; which table is 'now'; dynamic: tags, int fields (id, address), reference fields, number rows, float rows -/
abbrev CS : Type := (Nat → Nat → Int32) × (Nat → Nat → Int32) × (Nat → Nat → Option Nat) × (Nat → Option Nat) × Nat × (Nat → Option (Nat × Nat)) × (Nat → Nat → Int32) × (Nat → Nat → Option Nat) × (Nat → Nat → Int32) × (Nat → Nat → UInt32)
abbrev cI (C : CS) : Nat → Nat → Int32 := C.1
abbrev cA (C : CS) : Nat → Nat → Int32 := C.2.1
abbrev cG (C : CS) : Nat → Nat → Option Nat := C.2.2.1
abbrev cH (C : CS) : Nat → Option Nat := C.2.2.2.1
abbrev cN (C : CS) : Nat := C.2.2.2.2.1
abbrev cT (C : CS) : Nat → Option (Nat × Nat) := C.2.2.2.2.2.1
abbrev cDI (C : CS) : Nat → Nat → Int32 := C.2.2.2.2.2.2.1
abbrev cDR (C : CS) : Nat → Nat → Option Nat := C.2.2.2.2.2.2.2.1
abbrev cDA (C : CS) : Nat → Nat → Int32 := C.2.2.2.2.2.2.2.2.1
abbrev cDF (C : CS) : Nat → Nat → UInt32 := C.2.2.2.2.2.2.2.2.2
def up2 {α : Type} (f : Nat → Nat → α) (j k : Nat) (v : α) : Nat → Nat → α := fun a b => if a = j ∧ b = k then v else f a b
def up1 {α : Type} (f : Nat → α) (j : Nat) (v : α) : Nat → α := fun a => if a = j then v else f a
def wI (C : CS) (j k : Nat) (v : Int32) : CS := (up2 C.1 j k v, C.2)
def wA (C : CS) (j i : Nat) (v : Int32) : CS := (C.1, up2 C.2.1 j i v, C.2.2)
def wG (C : CS) (j i : Nat) (v : Option Nat) : CS := (C.1, C.2.1, up2 C.2.2.1 j i v, C.2.2.2)
def wH (C : CS) (j : Nat) (v : Option Nat) : CS := (C.1, C.2.1, C.2.2.1, up1 C.2.2.2.1 j v, C.2.2.2.2)
def wN (C : CS) (j : Nat) : CS := (C.1, C.2.1, C.2.2.1, C.2.2.2.1, j, C.2.2.2.2.2)
def wT (C : CS) (a : Nat) (v : Option (Nat × Nat)) : CS := (C.1, C.2.1, C.2.2.1, C.2.2.2.1, C.2.2.2.2.1, up1 C.2.2.2.2.2.1 a v, C.2.2.2.2.2.2)
def wDI (C : CS) (k a : Nat) (v : Int32) : CS := (C.1, C.2.1, C.2.2.1, C.2.2.2.1, C.2.2.2.2.1, C.2.2.2.2.2.1, up2 C.2.2.2.2.2.2.1 k a v, C.2.2.2.2.2.2.2)
def wDR (C : CS) (k a : Nat) (v : Option Nat) : CS := (C.1, C.2.1, C.2.2.1, C.2.2.2.1, C.2.2.2.2.1, C.2.2.2.2.2.1, C.2.2.2.2.2.2.1, up2 C.2.2.2.2.2.2.2.1 k a v, C.2.2.2.2.2.2.2.2)
def wDA (C : CS) (a i : Nat) (v : Int32) : CS := (C.1, C.2.1, C.2.2.1, C.2.2.2.1, C.2.2.2.2.1, C.2.2.2.2.2.1, C.2.2.2.2.2.2.1, C.2.2.2.2.2.2.2.1, up2 C.2.2.2.2.2.2.2.2.1 a i v, C.2.2.2.2.2.2.2.2.2)
def wDF (C : CS) (a i : Nat) (v : UInt32) : CS := (C.1, C.2.1, C.2.2.1, C.2.2.2.1, C.2.2.2.2.1, C.2.2.2.2.2.1, C.2.2.2.2.2.2.1, C.2.2.2.2.2.2.2.1, C.2.2.2.2.2.2.2.2.1, up2 C.2.2.2.2.2.2.2.2.2 a i v)
/-- the classes by their numbers here -/
abbrev cls : List vw_C := [(RX0, TX0, 27), (RX3, TX3, 36), (RX1, TX1, 11), (RX2, TX2, 1), (RX4, TX4, 6), (RX5, TX5, 6), (RX6, TX6, 6), (RX7, TX7, 6), (RX8, TX8, 6), (RX9, TX9, 6), (RX10, TX10, 3), (RX12, TX12, 1), (RX13, TX13, 2), (RX14, TX14, 1), (RX15, TX15, 3), (RX16, TX16, 1), (RX11, TX11, 7)]
/-- the kinds of arrays by their numbers here -/
abbrev atys : List FieldType := [.int, .byte, .char, .boolean, .short, .float, .object "TwoGuilds$Glove", .object "TwoGuilds$Text", .object "TwoGuilds$Holder"]
/-- the world that stays: the state at the law's entry, the script's cell, the classes' numbers and slots, the array classes, the addresses of the fixed cells -/
abbrev WD : Type := State × Addr × va_G × (Nat → ClassId) × (Nat → Nat)
abbrev wS (w : WD) : State := w.1
abbrev wB (w : WD) : Addr := w.2.1
abbrev wD (w : WD) : va_G := w.2.2.1
abbrev wC (w : WD) : Nat → ClassId := w.2.2.2.1
abbrev ad (w : WD) : Nat → Nat := w.2.2.2.2
abbrev wb (w : WD) : Nat := w.1.heap.size
abbrev tysW (w : WD) : List (ClassId × FieldType) := [(wC w 0, .int), (wC w 1, .byte), (wC w 2, .char), (wC w 3, .boolean), (wC w 4, .short), (wC w 5, .float), (wC w 6, .object "TwoGuilds$Glove"), (wC w 7, .object "TwoGuilds$Text"), (wC w 8, .object "TwoGuilds$Holder")]
/-- fields of the component's object: a cell's number, or an int -/
def xk : Nat → Option Nat := fun k => match k with
  | 1 => some 3 | 2 => some 4 | 4 => some 5 | 5 => some 6 | 6 => some 7 | 7 => some 8 | 8 => some 9 | 10 => some 10 | 11 => some 11 | 21 => some 12 | 22 => some 13 | 23 => some 14 | _ => none
/-- fields of the reference's object -/
def mk : Nat → Option Nat := fun k => match k with
  | 0 => some 36 | 1 => some 37 | 2 => some 38 | 4 => some 39 | 5 => some 40 | 6 => some 41 | 7 => some 42 | 8 => some 43 | 16 => some 44 | 17 => some 45 | 18 => some 46 | 21 => some 47 | 23 => some 48 | 24 => some 49 | 25 => some 50 | 26 => some 51 | 27 => some 52 | 28 => some 53 | 29 => some 54 | 30 => some 55 | 31 => some 56 | 32 => some 57 | 33 => some 58 | 34 => some 59 | _ => none
/-- fields of a table (cell j: 2, 3, 4) -/
def tk (j : Nat) : Nat → Option Nat := fun k => match k with
  | 6 => some (15 + 4 * (j - 2)) | 7 => some (16 + 4 * (j - 2)) | 8 => some (17 + 4 * (j - 2)) | 9 => some (18 + 4 * (j - 2)) | 10 => some 0 | _ => none
def fval (w : WD) (C : CS) (j : Nat) (f : Nat → Option Nat) (k : Nat) : Value := match f k with
  | none => .int (C.1 j k)
  | some q => .ref (ad w q)
/-- fixed number arrays: kind of array, length -/
def fArr : Nat → Option (Nat × Nat) := fun j => match j with
  | 5 => some (0, 100) | 6 => some (0, 1024) | 7 => some (0, 10) | 8 => some (0, 25) | 9 => some (0, 5) | 10 => some (0, 128) | 11 => some (1, 96) | 14 => some (0, 60)
  | 15 => some (0, 10) | 16 => some (0, 10) | 19 => some (0, 10) | 20 => some (0, 10) | 23 => some (0, 10) | 24 => some (0, 10)
  | 36 => some (0, 1448) | 37 => some (0, 1448) | 38 => some (0, 1448) | 39 => some (0, 100) | 40 => some (0, 1024) | 41 => some (0, 76) | 42 => some (0, 25) | 43 => some (0, 96) | 44 => some (2, 12) | 45 => some (0, 4) | 46 => some (0, 96) | 47 => some (0, 96) | 48 => some (3, 10) | 49 => some (0, 96) | 50 => some (0, 4) | 51 => some (0, 4) | 52 => some (0, 4) | 53 => some (0, 96) | 54 => some (0, 5) | 55 => some (0, 5) | 56 => some (0, 5) | 57 => some (0, 120) | 58 => some (0, 24) | 59 => some (0, 60)
  | _ => none
/-- fixed reference arrays that are written: kind, length -/
def fRef : Nat → Option (Nat × Nat) := fun j => match j with
  | 17 => some (6, 10) | 21 => some (6, 10) | 25 => some (6, 10) | 18 => some (7, 14) | 22 => some (7, 14) | 26 => some (7, 14) | _ => none
/-- fixed objects: class, fields -/
def fObj (w : WD) (C : CS) : Nat → Option (Nat × (Nat → Value)) := fun j => match j with
  | 0 => some (0, fun k => if k = 0 then .ref (ad w C.2.2.2.2.1) else fval w C 0 xk k)
  | 1 => some (1, fval w C 1 mk)
  | 2 => some (2, fval w C 2 (tk 2))
  | 3 => some (2, fval w C 3 (tk 3))
  | 4 => some (2, fval w C 4 (tk 4))
  | 27 => some (3, fun _ => va_rf (C.2.2.2.1 27)) | 28 => some (3, fun _ => va_rf (C.2.2.2.1 28)) | 29 => some (3, fun _ => va_rf (C.2.2.2.1 29)) | 30 => some (3, fun _ => va_rf (C.2.2.2.1 30)) | 31 => some (3, fun _ => va_rf (C.2.2.2.1 31))
  | 32 => some (3, fun _ => va_rf (C.2.2.2.1 32)) | 33 => some (3, fun _ => va_rf (C.2.2.2.1 33)) | 34 => some (3, fun _ => va_rf (C.2.2.2.1 34)) | 35 => some (3, fun _ => va_rf (C.2.2.2.1 35))
  | _ => none
/-- the fields of a dynamic object of class c at a: gloves (4 .. 9), Two 10, Plain 11, Name 12, Not 13, Text 14, Figure 15, Faulty 16; ids of fields: 10 times the class (gloves: 40) and the place -/
def dObj (w : WD) (C : CS) (c a : Nat) : Nat → Value := fun k => match c with
  | 10 => if k = 0 then .int (C.2.2.2.2.2.2.1 100 a) else va_rf (C.2.2.2.2.2.2.2.1 (100 + k) a)
  | 11 => .int (C.2.2.2.2.2.2.1 110 a)
  | 12 => if k = 0 then .int (C.2.2.2.2.2.2.1 120 a) else .ref (ad w 0)
  | 13 => va_rf (C.2.2.2.2.2.2.2.1 130 a)
  | 14 => if k = 2 then va_rf (C.2.2.2.2.2.2.2.1 142 a) else .int (C.2.2.2.2.2.2.1 (140 + k) a)
  | 15 => .int (C.2.2.2.2.2.2.1 150 a)
  | 16 => if k < 5 then va_rf (C.2.2.2.2.2.2.2.1 (160 + k) a) else .int (C.2.2.2.2.2.2.1 (160 + k) a)
  | _ => if k = 5 then .ref (ad w 0) else .int (C.2.2.2.2.2.2.1 (40 + k) a)
def objAt (w : WD) (c a : Nat) (H : Heap) (V : Nat → Value) : Prop := ∃ r : vw_C, cls[c]? = some r ∧ t_OB a ((wD w).1 c) r.2.2 ((wD w).2 c) H V
/-- what a fixed cell holds -/
def fixAt (w : WD) (C : CS) (H : Heap) (j : Nat) : Prop :=
  (∀ t n, fArr j = some (t, n) → H[ad w j]? = some (arrV (wC w t) n (fun i => .int (C.2.1 j i)))) ∧
  (∀ t n, fRef j = some (t, n) → H[ad w j]? = some (arrV (wC w t) n (fun i => va_rf (C.2.2.1 j i)))) ∧
  (∀ c V, fObj w C j = some (c, V) → objAt w c (ad w j) H V) ∧
  (j = 12 → H[ad w j]? = some (arrV (wC w 8) 4 (fun i => .ref (ad w (27 + i))))) ∧
  (j = 13 → H[ad w j]? = some (arrV (wC w 8) 5 (fun i => .ref (ad w (31 + i)))))
/-- an object of class c that is being made: all fields but the last one (this$0) are known -/
def rawAt (w : WD) (c a : Nat) (H : Heap) (V : Nat → Value) : Prop := ∃ r : vw_C, cls[c]? = some r ∧ t_OB a ((wD w).1 c) (r.2.2 - 1) ((wD w).2 c) H V ∧ ∃ (cell : Cell) (kC : Class), H[a]? = some cell ∧ (wS w).vm.classes[(wD w).1 c]? = some kC ∧ cell.slots.size = kC.instanceTypes.size
/-- what a dynamic cell holds: tags below 50 are classes, 50 and a class: one that is being made, 104: shorts, 105: floats -/
def dynAt (w : WD) (C : CS) (H : Heap) (a : Nat) (tg : Nat × Nat) : Prop :=
  if tg.1 < 50 then objAt w tg.1 a H (dObj w C tg.1 a)
  else if tg.1 < 100 then rawAt w (tg.1 - 50) a H (dObj w C (tg.1 - 50) a)
  else if tg.1 = 104 then H[a]? = some (arrV (wC w 4) tg.2 (fun i => .int (C.2.2.2.2.2.2.2.2.1 a i)))
  else H[a]? = some (arrV (wC w 5) tg.2 (fun i => .float (C.2.2.2.2.2.2.2.2.2 a i)))
def hA (w : WD) (C : CS) (H : Heap) : Prop :=
  wb w ≤ H.size ∧ (∀ q : Nat, q < wb w → H[q]? = (wS w).heap[q]?) ∧ (∀ j : Nat, j < 60 → fixAt w C H j) ∧
  (∀ (a : Nat) (tg : Nat × Nat), C.2.2.2.2.2.1 a = some tg → dynAt w C H a tg ∧ wb w ≤ a ∧ a < H.size ∧ ∀ j : Nat, j < 60 → a ≠ ad w j)
/-- what is known of the world once for all -/
def wOk (w : WD) : Prop :=
  (∀ q ∈ lw_tbl, q.before #[Value.ref (wB w)] (wS w) = true) ∧ va_K (wD w) cls (tysW w) (wS w) ∧ (∀ i j : Nat, i < 60 → j < 60 → ad w i = ad w j → i = j) ∧ (∀ j : Nat, j < 60 → wb w ≤ ad w j) ∧
  (Jvm.Cond.and given_1 narrow_1).before #[Value.ref (wB w)] (wS w) = true ∧ modulesRight_1 (wS w) = true
theorem wOk.tbl {w : WD} (h : wOk w) : ∀ q ∈ lw_tbl, q.before #[Value.ref (wB w)] (wS w) = true := h.1
theorem wOk.K {w : WD} (h : wOk w) : va_K (wD w) cls (tysW w) (wS w) := h.2.1
theorem wOk.inj {w : WD} (h : wOk w) : ∀ i j : Nat, i < 60 → j < 60 → ad w i = ad w j → i = j := h.2.2.1
theorem wOk.ge {w : WD} (h : wOk w) : ∀ j : Nat, j < 60 → wb w ≤ ad w j := h.2.2.2.1
/-- the tables at U are the start's, perhaps warmer -/
def KW (w : WD) (U : State) : Prop := (wS w).WarmedH U.vm
theorem KW.on {w : WD} {s U : State} (h : KW w s) (hW : s.WarmedH U.vm) : KW w U := State.WarmedH.trans h hW
theorem KW.word {w : WD} {U : State} (ok : wOk w) (h : KW w U) {q : Cond} (hq : q ∈ lw_all) (a : Array Value) : q.before a U = true :=
  word_at h (lw_self q hq).2 (ok.tbl q (lw_all_tbl hq))
theorem KW.K {w : WD} {U : State} (ok : wOk w) (h : KW w U) : va_K (wD w) cls (tysW w) U := va_K.moved h.alike ok.K
/-- which cells may be written -/
def fr (w : WD) : Nat → Prop := fun q => wb w ≤ q
