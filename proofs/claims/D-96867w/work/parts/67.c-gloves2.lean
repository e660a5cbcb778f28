theorem cfO_X4_worth_Glove : CfO yX4_worth yX4_worth "TwoGuilds$Glove" cX4_worth 1 (some .int) 0 := ⟨⟨by decide, by decide, by decide⟩, q76, q466, q444, q445, q446, q444, _, _, _, q466⟩
theorem cfO_X5_worth_Lined : CfO yX4_worth yX5_worth "TwoGuilds$Lined" cX5_worth 1 (some .int) 0 := ⟨⟨by decide, by decide, by decide⟩, q77, q459, q458, q461, q446, q444, _, _, _, q466⟩
theorem cfO_X6_worth_Loose : CfO yX4_worth yX6_worth "TwoGuilds$Loose" cX6_worth 1 (some .int) 0 := ⟨⟨by decide, by decide, by decide⟩, q78, q452, q451, q462, q446, q444, _, _, _, q466⟩
theorem cfO_X7_worth_Furred : CfO yX4_worth yX7_worth "TwoGuilds$Furred" cX7_worth 1 (some .int) 0 := ⟨⟨by decide, by decide, by decide⟩, q79, q456, q455, q454, q446, q444, _, _, _, q466⟩
theorem cfO_X8_worth_Forged : CfO yX4_worth yX8_worth "TwoGuilds$Forged" cX8_worth 1 (some .int) 0 := ⟨⟨by decide, by decide, by decide⟩, q80, q449, q448, q447, q446, q444, _, _, _, q466⟩
theorem cfO_X9_worth_Mitten : CfO yX4_worth yX9_worth "TwoGuilds$Mitten" cX9_worth 1 (some .int) 0 := ⟨⟨by decide, by decide, by decide⟩, q81, q465, q464, q463, q446, q444, _, _, _, q466⟩
def p_GL_worth (C : CS) (a : Nat) : Prop := isGl C a
def v_GL_worth (C : CS) (a : Nat) : Int32 := if kdN C a = 0 then v_X4_worth C a else if kdN C a = 1 then v_X5_worth C a else if kdN C a = 2 then v_X6_worth C a else if kdN C a = 3 then v_X7_worth C a else if kdN C a = 4 then v_X8_worth C a else v_X9_worth a
section GL_worth
variable {w : WD} {x : Cx} {cc : ByteArray} {nL : Nat} {own : String} {ret : Option FieldType} {rm : Room} {cells slots : Nat} {Q : State → Prop} {C : CS} {pc : Nat} {lv : List (Nat × Value)} {st rest : List Value} {a b idx : Nat}
theorem g_GL_worth (ok : Ok w x cc nL own ret rm) (hp : p_GL_worth C a) (ql : Cond.methodLink own idx yX4_worth ∈ lw_all) (hR : 3 ≤ rm.frames ∧ 101 ≤ rm.locals) (hw : (rest.map fun v => v.category).sum ≤ 8) (hcap : cells ≤ rm.cells ∧ slots ≤ rm.slots) (d : decode cc pc = .ok (.invokevirtual idx, 3))
    (k : G w x nL cells slots Q C (pc + 3) lv (.int (v_GL_worth C a) :: rest)) : G w x nL cells slots Q C pc lv (.ref a :: rest) := by
  obtain ⟨r1, r2⟩ := hR
  have hg : isGl C a := hp
  obtain ⟨c, n, t1, t2, t6⟩ := isGl.tag hg
  unfold v_GL_worth at k
  rcases t6 with t | t | t | t | t | t <;> subst t
  · refine g_callO ok [] cfO_X4_worth_Glove ql (mc_X4_worth ok.wo (xL x) C a (by simp only [p_X4_worth]; simp [hg])) (recvD ok t1 (by decide) rfl) rfl rfl hw ⟨by omega, by omega⟩ hcap d (resI ?_)
    rw [t2] at k
    exact k
  · refine g_callO ok [] cfO_X5_worth_Lined ql (mc_X5_worth ok.wo (xL x) C a (by simp only [p_X5_worth, p_X4_worth]; simp [hg])) (recvD ok t1 (by decide) rfl) rfl rfl hw ⟨by omega, by omega⟩ hcap d (resI ?_)
    rw [t2] at k
    exact k
  · refine g_callO ok [] cfO_X6_worth_Loose ql (mc_X6_worth ok.wo (xL x) C a (by simp only [p_X6_worth, p_X4_worth]; simp [hg])) (recvD ok t1 (by decide) rfl) rfl rfl hw ⟨by omega, by omega⟩ hcap d (resI ?_)
    rw [t2] at k
    exact k
  · refine g_callO ok [] cfO_X7_worth_Furred ql (mc_X7_worth ok.wo (xL x) C a (by simp only [p_X7_worth, p_X5_worth, p_X4_worth]; simp [hg])) (recvD ok t1 (by decide) rfl) rfl rfl hw ⟨by omega, by omega⟩ hcap d (resI ?_)
    rw [t2] at k
    exact k
  · refine g_callO ok [] cfO_X8_worth_Forged ql (mc_X8_worth ok.wo (xL x) C a (by simp only [p_X8_worth, p_X6_worth, p_X4_worth]; simp [hg])) (recvD ok t1 (by decide) rfl) rfl rfl hw ⟨by omega, by omega⟩ hcap d (resI ?_)
    rw [t2] at k
    exact k
  · refine g_callO ok [] cfO_X9_worth_Mitten ql (mc_X9_worth ok.wo (xL x) C a) (recvD ok t1 (by decide) rfl) rfl rfl hw ⟨by omega, by omega⟩ hcap d (resI ?_)
    rw [t2] at k
    exact k
end GL_worth
theorem cfO_X4_fits_Glove : CfO yX4_fits yX4_fits "TwoGuilds$Glove" cX4_fits 2 (some .boolean) 1 := ⟨⟨by decide, by decide, by decide⟩, q76, q629, q590, q591, q592, q590, _, _, _, q629⟩
theorem cfO_X5_fits_Lined : CfO yX4_fits yX5_fits "TwoGuilds$Lined" cX5_fits 2 (some .boolean) 1 := ⟨⟨by decide, by decide, by decide⟩, q77, q622, q621, q624, q592, q590, _, _, _, q629⟩
theorem cfO_X6_fits_Loose : CfO yX4_fits yX6_fits "TwoGuilds$Loose" cX6_fits 2 (some .boolean) 1 := ⟨⟨by decide, by decide, by decide⟩, q78, q598, q597, q625, q592, q590, _, _, _, q629⟩
theorem cfO_X7_fits_Furred : CfO yX4_fits yX7_fits "TwoGuilds$Furred" cX7_fits 2 (some .boolean) 1 := ⟨⟨by decide, by decide, by decide⟩, q79, q619, q618, q617, q592, q590, _, _, _, q629⟩
theorem cfO_X8_fits_Forged : CfO yX4_fits yX8_fits "TwoGuilds$Forged" cX8_fits 2 (some .boolean) 1 := ⟨⟨by decide, by decide, by decide⟩, q80, q595, q594, q593, q592, q590, _, _, _, q629⟩
theorem cfO_X9_fits_Mitten : CfO yX4_fits yX9_fits "TwoGuilds$Mitten" cX9_fits 2 (some .boolean) 1 := ⟨⟨by decide, by decide, by decide⟩, q81, q628, q627, q626, q592, q590, _, _, _, q629⟩
def p_GL_fits (C : CS) (a b : Nat) : Prop := isGl C a ∧ isGl C b
def v_GL_fits (C : CS) (a b : Nat) : Int32 := if kdN C a = 0 then v_X4_fits C a b else if kdN C a = 1 then v_X5_fits C a b else if kdN C a = 2 then v_X6_fits C a b else if kdN C a = 3 then v_X7_fits C a b else if kdN C a = 4 then v_X8_fits C a b else v_X9_fits a b
theorem vb_GL_fits (C : CS) (a b : Nat) : v_GL_fits C a b = 0 ∨ v_GL_fits C a b = 1 := by
  unfold v_GL_fits
  exact ib_ite (vb_X4_fits C a b) (ib_ite (vb_X5_fits C a b) (ib_ite (vb_X6_fits C a b) (ib_ite (vb_X7_fits C a b) (ib_ite (vb_X8_fits C a b) (vb_X9_fits a b)))))
section GL_fits
variable {w : WD} {x : Cx} {cc : ByteArray} {nL : Nat} {own : String} {ret : Option FieldType} {rm : Room} {cells slots : Nat} {Q : State → Prop} {C : CS} {pc : Nat} {lv : List (Nat × Value)} {st rest : List Value} {a b idx : Nat}
theorem g_GL_fits (ok : Ok w x cc nL own ret rm) (hp : p_GL_fits C a b) (ql : Cond.methodLink own idx yX4_fits ∈ lw_all) (hR : 4 ≤ rm.frames ∧ 141 ≤ rm.locals) (hw : (rest.map fun v => v.category).sum ≤ 8) (hcap : cells ≤ rm.cells ∧ slots ≤ rm.slots) (d : decode cc pc = .ok (.invokevirtual idx, 3))
    (k : G w x nL cells slots Q C (pc + 3) lv (.int (v_GL_fits C a b) :: rest)) : G w x nL cells slots Q C pc lv (.ref b :: .ref a :: rest) := by
  obtain ⟨r1, r2⟩ := hR
  have hg : isGl C a := hp.1
  obtain ⟨c, n, t1, t2, t6⟩ := isGl.tag hg
  unfold v_GL_fits at k
  rcases t6 with t | t | t | t | t | t <;> subst t
  · refine g_callO ok [.ref b] cfO_X4_fits_Glove ql (mc_X4_fits ok.wo (xL x) C a b (by simp only [p_X4_fits]; simp [hg, hp.2])) (recvD ok t1 (by decide) rfl) rfl rfl hw ⟨by omega, by omega⟩ hcap d (resI ?_)
    rw [t2] at k
    exact k
  · refine g_callO ok [.ref b] cfO_X5_fits_Lined ql (mc_X5_fits ok.wo (xL x) C a b (by simp only [p_X5_fits, p_X4_fits]; simp [hg, hp.2])) (recvD ok t1 (by decide) rfl) rfl rfl hw ⟨by omega, by omega⟩ hcap d (resI ?_)
    rw [t2] at k
    exact k
  · refine g_callO ok [.ref b] cfO_X6_fits_Loose ql (mc_X6_fits ok.wo (xL x) C a b (by simp only [p_X6_fits]; simp [hg, hp.2])) (recvD ok t1 (by decide) rfl) rfl rfl hw ⟨by omega, by omega⟩ hcap d (resI ?_)
    rw [t2] at k
    exact k
  · refine g_callO ok [.ref b] cfO_X7_fits_Furred ql (mc_X7_fits ok.wo (xL x) C a b (by simp only [p_X7_fits, p_X5_fits, p_X4_fits]; simp [hg, hp.2])) (recvD ok t1 (by decide) rfl) rfl rfl hw ⟨by omega, by omega⟩ hcap d (resI ?_)
    rw [t2] at k
    exact k
  · refine g_callO ok [.ref b] cfO_X8_fits_Forged ql (mc_X8_fits ok.wo (xL x) C a b (by simp only [p_X8_fits, p_X6_fits, p_GL_turns]; simp [hg, hp.2])) (recvD ok t1 (by decide) rfl) rfl rfl hw ⟨by omega, by omega⟩ hcap d (resI ?_)
    rw [t2] at k
    exact k
  · refine g_callO ok [.ref b] cfO_X9_fits_Mitten ql (mc_X9_fits ok.wo (xL x) C a b) (recvD ok t1 (by decide) rfl) rfl rfl hw ⟨by omega, by omega⟩ hcap d (resI ?_)
    rw [t2] at k
    exact k
end GL_fits
theorem cfF_Fits_X4_fits_Glove : CfF ⟨"TwoGuilds$Fits", "fits", "(LTwoGuilds$Glove;)Z"⟩ yX4_fits "TwoGuilds$Glove" cX4_fits 2 (some .boolean) 1 := ⟨⟨by decide, by decide, by decide⟩, q76, q629, q590, q668, q658, q657, q670, q669, q667⟩
theorem cfF_Fits_X5_fits_Lined : CfF ⟨"TwoGuilds$Fits", "fits", "(LTwoGuilds$Glove;)Z"⟩ yX5_fits "TwoGuilds$Lined" cX5_fits 2 (some .boolean) 1 := ⟨⟨by decide, by decide, by decide⟩, q77, q622, q621, q672, q658, q657, q674, q673, q671⟩
theorem cfF_Fits_X6_fits_Loose : CfF ⟨"TwoGuilds$Fits", "fits", "(LTwoGuilds$Glove;)Z"⟩ yX6_fits "TwoGuilds$Loose" cX6_fits 2 (some .boolean) 1 := ⟨⟨by decide, by decide, by decide⟩, q78, q598, q597, q676, q658, q657, q678, q677, q675⟩
theorem cfF_Fits_X7_fits_Furred : CfF ⟨"TwoGuilds$Fits", "fits", "(LTwoGuilds$Glove;)Z"⟩ yX7_fits "TwoGuilds$Furred" cX7_fits 2 (some .boolean) 1 := ⟨⟨by decide, by decide, by decide⟩, q79, q619, q618, q664, q658, q657, q666, q665, q663⟩
theorem cfF_Fits_X8_fits_Forged : CfF ⟨"TwoGuilds$Fits", "fits", "(LTwoGuilds$Glove;)Z"⟩ yX8_fits "TwoGuilds$Forged" cX8_fits 2 (some .boolean) 1 := ⟨⟨by decide, by decide, by decide⟩, q80, q595, q594, q660, q658, q657, q662, q661, q659⟩
theorem cfF_Fits_X9_fits_Mitten : CfF ⟨"TwoGuilds$Fits", "fits", "(LTwoGuilds$Glove;)Z"⟩ yX9_fits "TwoGuilds$Mitten" cX9_fits 2 (some .boolean) 1 := ⟨⟨by decide, by decide, by decide⟩, q81, q628, q627, q680, q658, q657, q682, q681, q679⟩

section GF_fits
variable {w : WD} {x : Cx} {cc : ByteArray} {nL : Nat} {own : String} {ret : Option FieldType} {rm : Room} {cells slots : Nat} {Q : State → Prop} {C : CS} {pc : Nat} {lv : List (Nat × Value)} {st rest : List Value} {a b idx : Nat}
theorem g_GF_fits (ok : Ok w x cc nL own ret rm) (hp : p_GL_fits C a b) (ql : Cond.methodLink own idx ⟨"TwoGuilds$Fits", "fits", "(LTwoGuilds$Glove;)Z"⟩ ∈ lw_all) (hR : 4 ≤ rm.frames ∧ 141 ≤ rm.locals) (hw : (rest.map fun v => v.category).sum ≤ 8) (hcap : cells ≤ rm.cells ∧ slots ≤ rm.slots) {count : Nat} (d : decode cc pc = .ok (.invokeinterface idx count, 5))
    (k : G w x nL cells slots Q C (pc + 5) lv (.int (v_GL_fits C a b) :: rest)) : G w x nL cells slots Q C pc lv (.ref b :: .ref a :: rest) := by
  obtain ⟨r1, r2⟩ := hR
  have hg : isGl C a := hp.1
  obtain ⟨c, n, t1, t2, t6⟩ := isGl.tag hg
  unfold v_GL_fits at k
  rcases t6 with t | t | t | t | t | t <;> subst t
  · refine g_callF ok [.ref b] cfF_Fits_X4_fits_Glove ql (mc_X4_fits ok.wo (xL x) C a b (by simp only [p_X4_fits]; simp [hg, hp.2])) (classAtD ok (c := 4) rfl) (recvD ok t1 (by decide) rfl) rfl rfl hw ⟨by omega, by omega⟩ hcap d (resI ?_)
    rw [t2] at k
    exact k
  · refine g_callF ok [.ref b] cfF_Fits_X5_fits_Lined ql (mc_X5_fits ok.wo (xL x) C a b (by simp only [p_X5_fits, p_X4_fits]; simp [hg, hp.2])) (classAtD ok (c := 5) rfl) (recvD ok t1 (by decide) rfl) rfl rfl hw ⟨by omega, by omega⟩ hcap d (resI ?_)
    rw [t2] at k
    exact k
  · refine g_callF ok [.ref b] cfF_Fits_X6_fits_Loose ql (mc_X6_fits ok.wo (xL x) C a b (by simp only [p_X6_fits]; simp [hg, hp.2])) (classAtD ok (c := 6) rfl) (recvD ok t1 (by decide) rfl) rfl rfl hw ⟨by omega, by omega⟩ hcap d (resI ?_)
    rw [t2] at k
    exact k
  · refine g_callF ok [.ref b] cfF_Fits_X7_fits_Furred ql (mc_X7_fits ok.wo (xL x) C a b (by simp only [p_X7_fits, p_X5_fits, p_X4_fits]; simp [hg, hp.2])) (classAtD ok (c := 7) rfl) (recvD ok t1 (by decide) rfl) rfl rfl hw ⟨by omega, by omega⟩ hcap d (resI ?_)
    rw [t2] at k
    exact k
  · refine g_callF ok [.ref b] cfF_Fits_X8_fits_Forged ql (mc_X8_fits ok.wo (xL x) C a b (by simp only [p_X8_fits, p_X6_fits, p_GL_turns]; simp [hg, hp.2])) (classAtD ok (c := 8) rfl) (recvD ok t1 (by decide) rfl) rfl rfl hw ⟨by omega, by omega⟩ hcap d (resI ?_)
    rw [t2] at k
    exact k
  · refine g_callF ok [.ref b] cfF_Fits_X9_fits_Mitten ql (mc_X9_fits ok.wo (xL x) C a b) (classAtD ok (c := 9) rfl) (recvD ok t1 (by decide) rfl) rfl rfl hw ⟨by omega, by omega⟩ hcap d (resI ?_)
    rw [t2] at k
    exact k
end GF_fits
theorem cfF_Weighs_X4_worth_Glove : CfF ⟨"TwoGuilds$Weighs", "worth", "()I"⟩ yX4_worth "TwoGuilds$Glove" cX4_worth 1 (some .int) 0 := ⟨⟨by decide, by decide, by decide⟩, q76, q466, q444, q1291, q1281, q1280, q1293, q1292, q1290⟩
theorem cfF_Weighs_X5_worth_Lined : CfF ⟨"TwoGuilds$Weighs", "worth", "()I"⟩ yX5_worth "TwoGuilds$Lined" cX5_worth 1 (some .int) 0 := ⟨⟨by decide, by decide, by decide⟩, q77, q459, q458, q1295, q1281, q1280, q1297, q1296, q1294⟩
theorem cfF_Weighs_X6_worth_Loose : CfF ⟨"TwoGuilds$Weighs", "worth", "()I"⟩ yX6_worth "TwoGuilds$Loose" cX6_worth 1 (some .int) 0 := ⟨⟨by decide, by decide, by decide⟩, q78, q452, q451, q1299, q1281, q1280, q1301, q1300, q1298⟩
theorem cfF_Weighs_X7_worth_Furred : CfF ⟨"TwoGuilds$Weighs", "worth", "()I"⟩ yX7_worth "TwoGuilds$Furred" cX7_worth 1 (some .int) 0 := ⟨⟨by decide, by decide, by decide⟩, q79, q456, q455, q1287, q1281, q1280, q1289, q1288, q1286⟩
theorem cfF_Weighs_X8_worth_Forged : CfF ⟨"TwoGuilds$Weighs", "worth", "()I"⟩ yX8_worth "TwoGuilds$Forged" cX8_worth 1 (some .int) 0 := ⟨⟨by decide, by decide, by decide⟩, q80, q449, q448, q1283, q1281, q1280, q1285, q1284, q1282⟩
theorem cfF_Weighs_X9_worth_Mitten : CfF ⟨"TwoGuilds$Weighs", "worth", "()I"⟩ yX9_worth "TwoGuilds$Mitten" cX9_worth 1 (some .int) 0 := ⟨⟨by decide, by decide, by decide⟩, q81, q465, q464, q1303, q1281, q1280, q1305, q1304, q1302⟩

section GW_worth
variable {w : WD} {x : Cx} {cc : ByteArray} {nL : Nat} {own : String} {ret : Option FieldType} {rm : Room} {cells slots : Nat} {Q : State → Prop} {C : CS} {pc : Nat} {lv : List (Nat × Value)} {st rest : List Value} {a b idx : Nat}
theorem g_GW_worth (ok : Ok w x cc nL own ret rm) (hp : p_GL_worth C a) (ql : Cond.methodLink own idx ⟨"TwoGuilds$Weighs", "worth", "()I"⟩ ∈ lw_all) (hR : 3 ≤ rm.frames ∧ 101 ≤ rm.locals) (hw : (rest.map fun v => v.category).sum ≤ 8) (hcap : cells ≤ rm.cells ∧ slots ≤ rm.slots) {count : Nat} (d : decode cc pc = .ok (.invokeinterface idx count, 5))
    (k : G w x nL cells slots Q C (pc + 5) lv (.int (v_GL_worth C a) :: rest)) : G w x nL cells slots Q C pc lv (.ref a :: rest) := by
  obtain ⟨r1, r2⟩ := hR
  have hg : isGl C a := hp
  obtain ⟨c, n, t1, t2, t6⟩ := isGl.tag hg
  unfold v_GL_worth at k
  rcases t6 with t | t | t | t | t | t <;> subst t
  · refine g_callF ok [] cfF_Weighs_X4_worth_Glove ql (mc_X4_worth ok.wo (xL x) C a (by simp only [p_X4_worth]; simp [hg])) (classAtD ok (c := 4) rfl) (recvD ok t1 (by decide) rfl) rfl rfl hw ⟨by omega, by omega⟩ hcap d (resI ?_)
    rw [t2] at k
    exact k
  · refine g_callF ok [] cfF_Weighs_X5_worth_Lined ql (mc_X5_worth ok.wo (xL x) C a (by simp only [p_X5_worth, p_X4_worth]; simp [hg])) (classAtD ok (c := 5) rfl) (recvD ok t1 (by decide) rfl) rfl rfl hw ⟨by omega, by omega⟩ hcap d (resI ?_)
    rw [t2] at k
    exact k
  · refine g_callF ok [] cfF_Weighs_X6_worth_Loose ql (mc_X6_worth ok.wo (xL x) C a (by simp only [p_X6_worth, p_X4_worth]; simp [hg])) (classAtD ok (c := 6) rfl) (recvD ok t1 (by decide) rfl) rfl rfl hw ⟨by omega, by omega⟩ hcap d (resI ?_)
    rw [t2] at k
    exact k
  · refine g_callF ok [] cfF_Weighs_X7_worth_Furred ql (mc_X7_worth ok.wo (xL x) C a (by simp only [p_X7_worth, p_X5_worth, p_X4_worth]; simp [hg])) (classAtD ok (c := 7) rfl) (recvD ok t1 (by decide) rfl) rfl rfl hw ⟨by omega, by omega⟩ hcap d (resI ?_)
    rw [t2] at k
    exact k
  · refine g_callF ok [] cfF_Weighs_X8_worth_Forged ql (mc_X8_worth ok.wo (xL x) C a (by simp only [p_X8_worth, p_X6_worth, p_X4_worth]; simp [hg])) (classAtD ok (c := 8) rfl) (recvD ok t1 (by decide) rfl) rfl rfl hw ⟨by omega, by omega⟩ hcap d (resI ?_)
    rw [t2] at k
    exact k
  · refine g_callF ok [] cfF_Weighs_X9_worth_Mitten ql (mc_X9_worth ok.wo (xL x) C a) (classAtD ok (c := 9) rfl) (recvD ok t1 (by decide) rfl) rfl rfl hw ⟨by omega, by omega⟩ hcap d (resI ?_)
    rw [t2] at k
    exact k
end GW_worth
