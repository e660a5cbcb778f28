/-! what slots hold: as, ask, item, rest -/
theorem g_irem0e {w : WD} {x : Cx} {cc : ByteArray} {nL : Nat} {own : String} {ret : Option FieldType} {rm : Room} {cells slots : Nat} {Q : State → Prop} {C : CS} {pc : Nat} {lv : List (Nat × Value)} {st : List Value} (ok : Ok w x cc nL own ret rm) (ho : Old w x) (hl : (xL x).stackTraces = false) {n y : Int32} (hy : y = 0) (hcap : cells + 3 ≤ rm.cells ∧ slots + 54 ≤ rm.slots) (hR : 8 ≤ rm.frames ∧ 10300 ≤ rm.locals) (hw : (st.map fun v => v.category).sum ≤ 8)
    (d : decode cc pc = .ok (.irem, 1)) (k : ∀ a, GT w x nL (cells + 3) (slots + 54) Q C pc lv st a (exc w ARE a)) : G w x nL cells slots Q C pc lv (.int y :: .int n :: st) := by
  subst hy
  exact g_irem0 ok ho hl hcap hR hw d k
def tkN (k : Int32) : Nat := if k = 0 then 4 else if k = 1 then 5 else if k = 2 then 6 else if k = 3 then 7 else if k = 4 then 8 else 9
theorem cf_X0_takenFor : CfS yX0_takenFor cX0_takenFor 2 (some (.object "TwoGuilds$Glove")) 2 := ⟨⟨by decide, by decide, by decide⟩, q72, q560, q559⟩
def p_X0_takenFor (C : CS) (a0 : Option Nat) (a1 : Int32) : Prop := thO C a0 ∧ (a0 = none ∨ subT (tgO C a0) (tkN a1) = true)
def wp_X0_takenFor (Post : Option Value → CS → Prop) (C : CS) (a0 : (Option Nat)) (a1 : Int32) : Prop :=
  (a1 = 0 → 
    thO C a0 ∧
      ((a0 = none ∨ subT (tgO C a0) 4 = true) ∧
      (Post (some (va_rf a0)) C))) ∧
    (¬ a1 = 0 → 
    (a1 = 1 → 
      thO C a0 ∧
        ((a0 = none ∨ subT (tgO C a0) 5 = true) ∧
        (Post (some (va_rf a0)) C))) ∧
      (¬ a1 = 1 → 
      (a1 = 2 → 
        thO C a0 ∧
          ((a0 = none ∨ subT (tgO C a0) 6 = true) ∧
          (Post (some (va_rf a0)) C))) ∧
        (¬ a1 = 2 → 
        (a1 = 3 → 
          thO C a0 ∧
            ((a0 = none ∨ subT (tgO C a0) 7 = true) ∧
            (Post (some (va_rf a0)) C))) ∧
          (¬ a1 = 3 → 
          (a1 = 4 → 
            thO C a0 ∧
              ((a0 = none ∨ subT (tgO C a0) 8 = true) ∧
              (Post (some (va_rf a0)) C))) ∧
            (¬ a1 = 4 → 
            thO C a0 ∧
              ((a0 = none ∨ subT (tgO C a0) 9 = true) ∧
              (Post (some (va_rf a0)) C)))))))
set_option maxHeartbeats 4000000 in
set_option maxRecDepth 100000 in
theorem gw_X0_takenFor {w : WD} (wk : wOk w) (l : Launch) (C : CS) (a0 : (Option Nat)) (a1 : Int32) {Post : Option Value → CS → Prop} (hw : wp_X0_takenFor Post C a0 a1) : MC w l yX0_takenFor cX0_takenFor 2 (some (.object "TwoGuilds$Glove")) 1 0 0 [va_rf a0, .int a1] C Post := by
  unfold wp_X0_takenFor at hw
  refine MC.of wk (by decide) (by cases a0 <;> exact Nat.le_of_ble_eq_true rfl) (fun x hx ok => ?_)
  subst hx
  rw [show lv_args 0 [va_rf a0, .int a1] = [(0, va_rf a0), (1, .int a1)] from by cases a0 <;> rfl]
  show G w x 2 0 0 (QM w x _ 0 0) C 0 [(0, va_rf a0), (1, .int a1)] []
  refine g_iload_n ok 1 dX0_takenFor_0 rfl ?_
  by_cases c1 : a1 = 0
  · have hw := hw.1 c1
    refine g_swIn (tgt := 36) ok (0) dX0_takenFor_1 (c1.trans (by decide)) (by decide) rfl (by decide) ?_
    refine g_oload_n ok 0 dX0_takenFor_36 rfl ?_
    obtain ⟨hf2, hw⟩ := hw
    obtain ⟨hc3, hw⟩ := hw
    refine g_castO (o := a0) ok hf2 (t := 4) (by decide) q284 dX0_takenFor_37 hc3 ?_
    exact g_oret ok dX0_takenFor_40 hw
  · have hw := hw.2 c1
    by_cases c4 : a1 = 1
    · have hw := hw.1 c4
      refine g_swIn (tgt := 41) ok (1) dX0_takenFor_1 (c4.trans (by decide)) (by decide) rfl (by decide) ?_
      refine g_oload_n ok 0 dX0_takenFor_41 rfl ?_
      obtain ⟨hf5, hw⟩ := hw
      obtain ⟨hc6, hw⟩ := hw
      refine g_castO (o := a0) ok hf5 (t := 5) (by decide) q325 dX0_takenFor_42 hc6 ?_
      exact g_oret ok dX0_takenFor_45 hw
    · have hw := hw.2 c4
      by_cases c7 : a1 = 2
      · have hw := hw.1 c7
        refine g_swIn (tgt := 46) ok (2) dX0_takenFor_1 (c7.trans (by decide)) (by decide) rfl (by decide) ?_
        refine g_oload_n ok 0 dX0_takenFor_46 rfl ?_
        obtain ⟨hf8, hw⟩ := hw
        obtain ⟨hc9, hw⟩ := hw
        refine g_castO (o := a0) ok hf8 (t := 6) (by decide) q341 dX0_takenFor_47 hc9 ?_
        exact g_oret ok dX0_takenFor_50 hw
      · have hw := hw.2 c7
        by_cases c10 : a1 = 3
        · have hw := hw.1 c10
          refine g_swIn (tgt := 51) ok (3) dX0_takenFor_1 (c10.trans (by decide)) (by decide) rfl (by decide) ?_
          refine g_oload_n ok 0 dX0_takenFor_51 rfl ?_
          obtain ⟨hf11, hw⟩ := hw
          obtain ⟨hc12, hw⟩ := hw
          refine g_castO (o := a0) ok hf11 (t := 7) (by decide) q357 dX0_takenFor_52 hc12 ?_
          exact g_oret ok dX0_takenFor_55 hw
        · have hw := hw.2 c10
          by_cases c13 : a1 = 4
          · have hw := hw.1 c13
            refine g_swIn (tgt := 56) ok (4) dX0_takenFor_1 (c13.trans (by decide)) (by decide) rfl (by decide) ?_
            refine g_oload_n ok 0 dX0_takenFor_56 rfl ?_
            obtain ⟨hf14, hw⟩ := hw
            obtain ⟨hc15, hw⟩ := hw
            refine g_castO (o := a0) ok hf14 (t := 8) (by decide) q374 dX0_takenFor_57 hc15 ?_
            exact g_oret ok dX0_takenFor_60 hw
          · have hw := hw.2 c13
            refine g_swOut (tgt := 61) ok dX0_takenFor_1 (fun k k1 k2 => ?_) (by decide) ?_
            · rcases (show k = 0 ∨ k = 1 ∨ k = 2 ∨ k = 3 ∨ k = 4 by omega) with rfl | rfl | rfl | rfl | rfl
              · exact fun h => c1 (h.trans (by decide))
              · exact fun h => c4 (h.trans (by decide))
              · exact fun h => c7 (h.trans (by decide))
              · exact fun h => c10 (h.trans (by decide))
              · exact fun h => c13 (h.trans (by decide))
            · refine g_oload_n ok 0 dX0_takenFor_61 rfl ?_
              obtain ⟨hf16, hw⟩ := hw
              obtain ⟨hc17, hw⟩ := hw
              refine g_castO (o := a0) ok hf16 (t := 9) (by decide) q391 dX0_takenFor_62 hc17 ?_
              exact g_oret ok dX0_takenFor_65 hw
theorem sp_X0_takenFor (C : CS) (a0 : Option Nat) (a1 : Int32) (hp : p_X0_takenFor C a0 a1) : wp_X0_takenFor (pO a0 C) C a0 a1 := by
  obtain ⟨h1, h2⟩ := hp
  unfold tkN at h2
  refine ⟨fun c => ?_, fun c0 => ⟨fun c => ?_, fun c1 => ⟨fun c => ?_, fun c2 => ⟨fun c => ?_, fun c3 => ⟨fun c => ?_, fun c4 => ?_⟩⟩⟩⟩⟩
  · rw [if_pos c] at h2; exact ⟨h1, h2, rfl, rfl⟩
  · rw [if_neg c0, if_pos c] at h2; exact ⟨h1, h2, rfl, rfl⟩
  · rw [if_neg c0, if_neg c1, if_pos c] at h2; exact ⟨h1, h2, rfl, rfl⟩
  · rw [if_neg c0, if_neg c1, if_neg c2, if_pos c] at h2; exact ⟨h1, h2, rfl, rfl⟩
  · rw [if_neg c0, if_neg c1, if_neg c2, if_neg c3, if_pos c] at h2; exact ⟨h1, h2, rfl, rfl⟩
  · rw [if_neg c0, if_neg c1, if_neg c2, if_neg c3, if_neg c4] at h2; exact ⟨h1, h2, rfl, rfl⟩
theorem mc_X0_takenFor {w : WD} (wk : wOk w) (l : Launch) (C : CS) (a0 : (Option Nat)) (a1 : Int32) (hp : p_X0_takenFor C a0 a1) : MC w l yX0_takenFor cX0_takenFor 2 (some (.object "TwoGuilds$Glove")) 1 0 0 [va_rf a0, .int a1] C (pO a0 C) :=  (gw_X0_takenFor wk l C a0 a1 (sp_X0_takenFor C a0 a1 hp))
def pt_X0_takenForC (C : CS) (a0 : Option Nat) (a1 : Int32) : Prop := thO C a0 ∧ ¬ a0 = none ∧ subT (tgO C a0) (tkN a1) = false
def wp_X0_takenForC (Post : Prop) (C : CS) (a0 : (Option Nat)) (a1 : Int32) : Prop :=
  (a1 = 0 → 
    thO C a0 ∧
      (((a0 = none ∨ subT (tgO C a0) 4 = true) ∧
        (False))
      ∨ ((¬ a0 = none ∧ subT (tgO C a0) 4 = false) ∧
        (True)))) ∧
    (¬ a1 = 0 → 
    (a1 = 1 → 
      thO C a0 ∧
        (((a0 = none ∨ subT (tgO C a0) 5 = true) ∧
          (False))
        ∨ ((¬ a0 = none ∧ subT (tgO C a0) 5 = false) ∧
          (True)))) ∧
      (¬ a1 = 1 → 
      (a1 = 2 → 
        thO C a0 ∧
          (((a0 = none ∨ subT (tgO C a0) 6 = true) ∧
            (False))
          ∨ ((¬ a0 = none ∧ subT (tgO C a0) 6 = false) ∧
            (True)))) ∧
        (¬ a1 = 2 → 
        (a1 = 3 → 
          thO C a0 ∧
            (((a0 = none ∨ subT (tgO C a0) 7 = true) ∧
              (False))
            ∨ ((¬ a0 = none ∧ subT (tgO C a0) 7 = false) ∧
              (True)))) ∧
          (¬ a1 = 3 → 
          (a1 = 4 → 
            thO C a0 ∧
              (((a0 = none ∨ subT (tgO C a0) 8 = true) ∧
                (False))
              ∨ ((¬ a0 = none ∧ subT (tgO C a0) 8 = false) ∧
                (True)))) ∧
            (¬ a1 = 4 → 
            thO C a0 ∧
              (((a0 = none ∨ subT (tgO C a0) 9 = true) ∧
                (False))
              ∨ ((¬ a0 = none ∧ subT (tgO C a0) 9 = false) ∧
                (True))))))))
set_option maxHeartbeats 4000000 in
set_option maxRecDepth 100000 in
theorem gw_X0_takenForC {w : WD} (wk : wOk w) (l : Launch) (hl : l.stackTraces = false) (C : CS) (a0 : (Option Nat)) (a1 : Int32) {Post : Prop} (hw : wp_X0_takenForC Post C a0 a1) : MT w l yX0_takenFor cX0_takenFor 2 (some (.object "TwoGuilds$Glove")) 260 3 2410 [va_rf a0, .int a1] C (pT w "java/lang/ClassCastException" C) := by
  unfold wp_X0_takenForC at hw
  refine MT.of2 wk (by decide) (by cases a0 <;> exact Nat.le_of_ble_eq_true rfl) (fun x hx ok ht ho => ?_)
  subst hx
  rw [show lv_args 0 [va_rf a0, .int a1] = [(0, va_rf a0), (1, .int a1)] from by cases a0 <;> rfl]
  show G w x 2 0 0 (QT w x _ 3 2410) C 0 [(0, va_rf a0), (1, .int a1)] []
  refine g_iload_n ok 1 dX0_takenFor_0 rfl ?_
  by_cases c1 : a1 = 0
  · have hw := hw.1 c1
    refine g_swIn (tgt := 36) ok (0) dX0_takenFor_1 (c1.trans (by decide)) (by decide) rfl (by decide) ?_
    refine g_oload_n ok 0 dX0_takenFor_36 rfl ?_
    obtain ⟨hf2, hw⟩ := hw
    rcases hw with ⟨hc3, hw⟩ | ⟨hc3, hw⟩
    · refine g_castO (o := a0) ok hf2 (t := 4) (by decide) q284 dX0_takenFor_37 hc3 ?_
      exact hw.elim
    · refine g_castOx (o := a0) ok ho hl hf2 (t := 4) (by decide) q284 dX0_takenFor_37 hc3 ⟨by show 0 + 3 ≤ 3; omega, by show 0 + 2410 ≤ 2410; omega⟩ ⟨by decide, by decide⟩ (Nat.le_of_ble_eq_true rfl) (fun e => ?_)
      exact gt_leave ok ht (fun _ _ h => ⟨h, rfl⟩)
  · have hw := hw.2 c1
    by_cases c4 : a1 = 1
    · have hw := hw.1 c4
      refine g_swIn (tgt := 41) ok (1) dX0_takenFor_1 (c4.trans (by decide)) (by decide) rfl (by decide) ?_
      refine g_oload_n ok 0 dX0_takenFor_41 rfl ?_
      obtain ⟨hf5, hw⟩ := hw
      rcases hw with ⟨hc6, hw⟩ | ⟨hc6, hw⟩
      · refine g_castO (o := a0) ok hf5 (t := 5) (by decide) q325 dX0_takenFor_42 hc6 ?_
        exact hw.elim
      · refine g_castOx (o := a0) ok ho hl hf5 (t := 5) (by decide) q325 dX0_takenFor_42 hc6 ⟨by show 0 + 3 ≤ 3; omega, by show 0 + 2410 ≤ 2410; omega⟩ ⟨by decide, by decide⟩ (Nat.le_of_ble_eq_true rfl) (fun e => ?_)
        exact gt_leave ok ht (fun _ _ h => ⟨h, rfl⟩)
    · have hw := hw.2 c4
      by_cases c7 : a1 = 2
      · have hw := hw.1 c7
        refine g_swIn (tgt := 46) ok (2) dX0_takenFor_1 (c7.trans (by decide)) (by decide) rfl (by decide) ?_
        refine g_oload_n ok 0 dX0_takenFor_46 rfl ?_
        obtain ⟨hf8, hw⟩ := hw
        rcases hw with ⟨hc9, hw⟩ | ⟨hc9, hw⟩
        · refine g_castO (o := a0) ok hf8 (t := 6) (by decide) q341 dX0_takenFor_47 hc9 ?_
          exact hw.elim
        · refine g_castOx (o := a0) ok ho hl hf8 (t := 6) (by decide) q341 dX0_takenFor_47 hc9 ⟨by show 0 + 3 ≤ 3; omega, by show 0 + 2410 ≤ 2410; omega⟩ ⟨by decide, by decide⟩ (Nat.le_of_ble_eq_true rfl) (fun e => ?_)
          exact gt_leave ok ht (fun _ _ h => ⟨h, rfl⟩)
      · have hw := hw.2 c7
        by_cases c10 : a1 = 3
        · have hw := hw.1 c10
          refine g_swIn (tgt := 51) ok (3) dX0_takenFor_1 (c10.trans (by decide)) (by decide) rfl (by decide) ?_
          refine g_oload_n ok 0 dX0_takenFor_51 rfl ?_
          obtain ⟨hf11, hw⟩ := hw
          rcases hw with ⟨hc12, hw⟩ | ⟨hc12, hw⟩
          · refine g_castO (o := a0) ok hf11 (t := 7) (by decide) q357 dX0_takenFor_52 hc12 ?_
            exact hw.elim
          · refine g_castOx (o := a0) ok ho hl hf11 (t := 7) (by decide) q357 dX0_takenFor_52 hc12 ⟨by show 0 + 3 ≤ 3; omega, by show 0 + 2410 ≤ 2410; omega⟩ ⟨by decide, by decide⟩ (Nat.le_of_ble_eq_true rfl) (fun e => ?_)
            exact gt_leave ok ht (fun _ _ h => ⟨h, rfl⟩)
        · have hw := hw.2 c10
          by_cases c13 : a1 = 4
          · have hw := hw.1 c13
            refine g_swIn (tgt := 56) ok (4) dX0_takenFor_1 (c13.trans (by decide)) (by decide) rfl (by decide) ?_
            refine g_oload_n ok 0 dX0_takenFor_56 rfl ?_
            obtain ⟨hf14, hw⟩ := hw
            rcases hw with ⟨hc15, hw⟩ | ⟨hc15, hw⟩
            · refine g_castO (o := a0) ok hf14 (t := 8) (by decide) q374 dX0_takenFor_57 hc15 ?_
              exact hw.elim
            · refine g_castOx (o := a0) ok ho hl hf14 (t := 8) (by decide) q374 dX0_takenFor_57 hc15 ⟨by show 0 + 3 ≤ 3; omega, by show 0 + 2410 ≤ 2410; omega⟩ ⟨by decide, by decide⟩ (Nat.le_of_ble_eq_true rfl) (fun e => ?_)
              exact gt_leave ok ht (fun _ _ h => ⟨h, rfl⟩)
          · have hw := hw.2 c13
            refine g_swOut (tgt := 61) ok dX0_takenFor_1 (fun k k1 k2 => ?_) (by decide) ?_
            · rcases (show k = 0 ∨ k = 1 ∨ k = 2 ∨ k = 3 ∨ k = 4 by omega) with rfl | rfl | rfl | rfl | rfl
              · exact fun h => c1 (h.trans (by decide))
              · exact fun h => c4 (h.trans (by decide))
              · exact fun h => c7 (h.trans (by decide))
              · exact fun h => c10 (h.trans (by decide))
              · exact fun h => c13 (h.trans (by decide))
            · refine g_oload_n ok 0 dX0_takenFor_61 rfl ?_
              obtain ⟨hf16, hw⟩ := hw
              rcases hw with ⟨hc17, hw⟩ | ⟨hc17, hw⟩
              · refine g_castO (o := a0) ok hf16 (t := 9) (by decide) q391 dX0_takenFor_62 hc17 ?_
                exact hw.elim
              · refine g_castOx (o := a0) ok ho hl hf16 (t := 9) (by decide) q391 dX0_takenFor_62 hc17 ⟨by show 0 + 3 ≤ 3; omega, by show 0 + 2410 ≤ 2410; omega⟩ ⟨by decide, by decide⟩ (Nat.le_of_ble_eq_true rfl) (fun e => ?_)
                exact gt_leave ok ht (fun _ _ h => ⟨h, rfl⟩)
theorem sp_X0_takenForC (C : CS) (a0 : Option Nat) (a1 : Int32) (hp : pt_X0_takenForC C a0 a1) : wp_X0_takenForC True C a0 a1 := by
  obtain ⟨h1, h3, h2⟩ := hp
  unfold tkN at h2
  refine ⟨fun c => ?_, fun c0 => ⟨fun c => ?_, fun c1 => ⟨fun c => ?_, fun c2 => ⟨fun c => ?_, fun c3 => ⟨fun c => ?_, fun c4 => ?_⟩⟩⟩⟩⟩
  · rw [if_pos c] at h2; exact ⟨h1, Or.inr ⟨⟨h3, h2⟩, trivial⟩⟩
  · rw [if_neg c0, if_pos c] at h2; exact ⟨h1, Or.inr ⟨⟨h3, h2⟩, trivial⟩⟩
  · rw [if_neg c0, if_neg c1, if_pos c] at h2; exact ⟨h1, Or.inr ⟨⟨h3, h2⟩, trivial⟩⟩
  · rw [if_neg c0, if_neg c1, if_neg c2, if_pos c] at h2; exact ⟨h1, Or.inr ⟨⟨h3, h2⟩, trivial⟩⟩
  · rw [if_neg c0, if_neg c1, if_neg c2, if_neg c3, if_pos c] at h2; exact ⟨h1, Or.inr ⟨⟨h3, h2⟩, trivial⟩⟩
  · rw [if_neg c0, if_neg c1, if_neg c2, if_neg c3, if_neg c4] at h2; exact ⟨h1, Or.inr ⟨⟨h3, h2⟩, trivial⟩⟩
theorem mt_X0_takenForC {w : WD} (wk : wOk w) (l : Launch) (hl : l.stackTraces = false) (C : CS) (a0 : (Option Nat)) (a1 : Int32) (hp : pt_X0_takenForC C a0 a1) : MT w l yX0_takenFor cX0_takenFor 2 (some (.object "TwoGuilds$Glove")) 260 3 2410 [va_rf a0, .int a1] C (pT w "java/lang/ClassCastException" C) := gw_X0_takenForC wk l hl C a0 a1 (Post := True) (sp_X0_takenForC C a0 a1 hp)
theorem under_all : ∀ g, g < 6 → ∀ k, k < 6 → (subT (g + 4) (tkN (nI k)) = true ↔ ¬ v_X3_isUnder (nI g) (nI k) = 0) := by decide +kernel
theorem under_no {t : Nat} (h : t = 15 ∨ t = 104 ∨ t = 105) (k : Int32) : subT t (tkN k) = false := by
  unfold tkN
  rcases h with rfl | rfl | rfl <;> (repeat' split) <;> decide
theorem isGl.tg {C : CS} {a : Nat} (h : isGl C a) : (∃ g, g < 6 ∧ tgO C (some a) = g + 4 ∧ kdN C a = g) ∧ thO C (some a) := by
  obtain ⟨c, n, h1, h2, h3⟩ := h.tag
  have e := (tgO.of h1).1
  refine ⟨⟨c - 4, by omega, by rw [e]; omega, h2⟩, Or.inr ?_⟩
  rw [e]
  rcases h3 with rfl | rfl | rfl | rfl | rfl | rfl <;> decide
def p_X0_as (C : CS) (a0 a1 : Int32) : Prop := opP C
def v_X0_as (C : CS) (a0 a1 : Int32) : Int32 := v_X3_as C a0 a1
def wp_X0_as (Post : Int32 → CS → Prop) (C : CS) (a0 : Int32) (a1 : Int32) : Prop :=
  p_X0_isGlove C a0 ∧
    (∀ r2 : Int32, r2 = (v_X0_isGlove C a0) → 
    (r2 = 0 → 
    Post (-1000000001) C) ∧
    (¬ r2 = 0 → 
    ∀ r4 : Int32, r4 = (v_X0_isIn (Int32.toInt64 a1) 0 5) → 
      (r4 = 0 → 
      Post (-1000000001) C) ∧
      (¬ r4 = 0 → 
      isTb (cN C) ∧
        (vp_in a0 10 ∧
        (∃ d8 : Nat, (cG C (17 + 4 * ((cN C) - 2)) (Int32.toNatClampNeg a0)) = some d8 ∧
        ((p_X0_takenFor C (some d8) a1 ∧
          (isGl C d8 ∧
          (Post (cDI C 42 d8) C)))
        ∨ (pt_X0_takenForC C (some d8) a1 ∧
          (Post (-1000000012) C))))))))
set_option maxHeartbeats 4000000 in
set_option maxRecDepth 100000 in
theorem gw_X0_as {w : WD} (wk : wOk w) (l : Launch) (hl : l.stackTraces = false) (C : CS) (a0 : Int32) (a1 : Int32) {Post : Int32 → CS → Prop} (hw : wp_X0_as Post C a0 a1) : MCW w l yX0_as cX0_as 4 (some .int) [(23, 39, 40, 166)] 262 3 2410 [.ref (ad w 0), .int a0, .int a1] C (fun v C1 => ∃ r : Int32, v = some (.int r) ∧ Post r C1) := by
  unfold wp_X0_as at hw
  refine MCW.of2 wk (by decide) (Nat.le_of_ble_eq_true rfl) (fun x hx ok ht ho => ?_)
  subst hx
  show G w x 4 0 0 (QM w x _ 3 2410) C 0 [(0, .ref (ad w 0)), (1, .int a0), (2, .int a1)] []
  refine g_aload_n ok 0 dX0_as_0 rfl ?_
  refine g_iload_n ok 1 dX0_as_1 rfl ?_
  obtain ⟨hp1, hw⟩ := hw
  refine g_callV ok [.int a0] cf_X0_isGlove q411 (mc_X0_isGlove ok.wo (xL x) C a0 hp1) (recvF ok 0 rfl rfl) rfl rfl (Nat.le_of_ble_eq_true rfl) ⟨by decide, by decide⟩ ⟨by decide, by decide⟩ dX0_as_2 (resI ?_)
  refine g_nmI (fun r2 er2 => ?_)
  have hw := hw r2 er2
  refine g_if_eq (tgt := 20) ok dX0_as_5 (by decide) (fun c3 => ?_) (fun c3 => ?_)
  · have hw := hw.1 c3
    refine g_ldc (v := -1000000001) ok q274 dX0_as_20 ?_
    refine g_widen 3 2410 (by omega) (by omega) ?_
    exact g_iret ok dX0_as_22 ⟨_, rfl, hw⟩
  · have hw := hw.2 c3
    refine g_iload_n ok 2 dX0_as_8 rfl ?_
    refine g_i2l ok dX0_as_9 ?_
    refine g_lconst (v := 0) ok dX0_as_10 (by decide) ?_
    refine g_ldc2 (v := 5) ok q268 dX0_as_11 ?_
    refine g_callS ok [.long (Int32.toInt64 a1), .long 0, .long 5] cf_X0_isIn q269 (mc_X0_isIn ok.wo (xL x) C (Int32.toInt64 a1) 0 5) rfl rfl (Nat.le_of_ble_eq_true rfl) ⟨by decide, by decide⟩ ⟨by decide, by decide⟩ dX0_as_14 (resI ?_)
    refine g_nmI (fun r4 er4 => ?_)
    have hw := hw r4 er4
    refine g_if_ne (tgt := 23) ok dX0_as_17 (by decide) (fun c5 => ?_) (fun c5 => ?_)
    · have hw := hw.2 c5
      refine g_aload_n ok 0 dX0_as_23 rfl ?_
      refine g_get ok 0 rfl rfl in_X0 0 (by decide) q180 rfl dX0_as_24 ?_
      obtain ⟨hf6, hw⟩ := hw
      refine g_get ok (cN C) (fObjT hf6) rfl in_X1 8 (by decide) q140 rfl dX0_as_27 ?_
      refine g_iload_n ok 1 dX0_as_30 rfl ?_
      obtain ⟨hf7, hw⟩ := hw
      obtain ⟨d8, ed8, hw⟩ := hw
      refine g_rald (v := .ref d8) ok _ (fRefG hf6) (Or.inl rfl) hf7 (congrArg va_rf ed8) dX0_as_31 ?_
      refine g_iload_n ok 2 dX0_as_32 rfl ?_
      rcases hw with hw | ⟨hx, hw⟩
      · obtain ⟨hp10, hw⟩ := hw
        refine g_callS ok [.ref d8, .int a1] cf_X0_takenFor q558 (mc_X0_takenFor ok.wo (xL x) C (some d8) a1 hp10) rfl rfl (Nat.le_of_ble_eq_true rfl) ⟨by decide, by decide⟩ ⟨by decide, by decide⟩ dX0_as_33 (resO (o := (some d8)) ?_)
        obtain ⟨hf11, hw⟩ := hw
        refine g_gget ok hf11 2 (by decide) q301 (Or.inl rfl) dX0_as_36 ?_
        refine g_widen 3 2410 (by omega) (by omega) ?_
        exact g_iret ok dX0_as_39 ⟨_, rfl, hw⟩
      · refine g_callTx ok [.ref d8, .int a1] cf_X0_takenFor q558 (mt_X0_takenForC ok.wo (xL x) hl C (some d8) a1 hx) rfl rfl (Nat.le_of_ble_eq_true rfl) ⟨by decide, by decide⟩ ⟨by show 0 + 3 ≤ 3; omega, by show 0 + 2410 ≤ 2410; omega⟩ dX0_as_33 (fun e => ?_)
        refine gt_catch ok ht (fun _ _ h => h) (Srch.hit (by decide) (by decide) q471 q536) ?_
        refine g_astore_n ok [(3, .ref e), (0, .ref (ad w 0)), (1, .int a0), (2, .int a1)] dX0_as_40 (by decide) rfl ?_
        refine g_ldc (v := -1000000012) ok q561 dX0_as_41 ?_
        exact g_iret ok dX0_as_43 ⟨_, rfl, hw⟩
    · have hw := hw.1 c5
      refine g_ldc (v := -1000000001) ok q274 dX0_as_20 ?_
      refine g_widen 3 2410 (by omega) (by omega) ?_
      exact g_iret ok dX0_as_22 ⟨_, rfl, hw⟩
theorem sp_X0_as (C : CS) (a0 a1 : Int32) (hp : p_X0_as C a0 a1) : wp_X0_as (fun x C1 => x = v_X0_as C a0 a1 ∧ C1 = C) C a0 a1 := by
  have hp : opP C := hp
  unfold v_X0_as v_X3_as
  refine ⟨⟨hp.1.1, trivial⟩, fun r2 e2 => ⟨fun c => ?_, fun c => ?_⟩⟩
  all_goals rw [e2, hp.isG] at c
  · rw [if_pos c]; exact ⟨rfl, rfl⟩
  rw [if_neg c]
  refine fun r4 e4 => ⟨fun c4 => ?_, fun c4 => ?_⟩
  all_goals rw [e4, isIn0 _ 5 5 rfl] at c4
  · rw [if_pos c4]; exact ⟨rfl, rfl⟩
  rw [if_neg c4]
  obtain ⟨k, b, hk, e, hb, hg⟩ := hp.gl c
  subst e
  obtain ⟨m, hm, e⟩ := in_nI (m := 5) (by decide) c4
  subst e
  obtain ⟨o0, o1, o2, o3, o4, o5⟩ := ofn C hk
  obtain ⟨g1, g2, g3, g4, g5, -⟩ := hg
  obtain ⟨⟨g, hg6, tg, kd⟩, th⟩ := g1.tg
  refine ⟨hp.1.1, vp_k hk, b, by rw [cl_k (by omega)]; exact hb, ?_⟩
  have u := under_all g hg6 m (by omega)
  rw [o0, ← g2, kdG, kd]
  by_cases h : subT (g + 4) (tkN (nI m)) = true
  · refine Or.inl ⟨⟨th, Or.inr (by rw [tg]; exact h)⟩, g1, ?_, rfl⟩
    rw [if_neg (u.mp h), o3]
    exact g5
  · refine Or.inr ⟨⟨th, (by intro z; cases z), by rw [tg]; simpa using h⟩, ?_, rfl⟩
    rw [if_pos (Classical.byContradiction fun z => h (u.mpr z))]
theorem mc_X0_as {w : WD} (wk : wOk w) (l : Launch) (hl : l.stackTraces = false) (C : CS) (a0 : Int32) (a1 : Int32) (hp : p_X0_as C a0 a1) : MCW w l yX0_as cX0_as 4 (some .int) [(23, 39, 40, 166)] 262 3 2410 [.ref (ad w 0), .int a0, .int a1] C (pI (v_X0_as C a0 a1) C) := MCW.postI (gw_X0_as wk l hl C a0 a1 (sp_X0_as C a0 a1 hp))
/-! floats -/
def flR (x : UInt32) (v : Int32) : Prop := (x = 2143289344 ∧ v = -1000000005) ∨ (x = FP.i2f v ∧ (-99999 : Int32) ≤ v ∧ v ≤ 99999)
theorem cmp_eq {x : UInt32} (h : FP.fcmp x x = some .eq) : Op.cmpValue (FP.fcmp x x) .l = 0 := by rw [h]; rfl
theorem flR.num {x : UInt32} {v : Int32} (h : flR x v) : fNum x = v := by
  rcases h with ⟨rfl, rfl⟩ | ⟨rfl, h1, h2⟩
  · unfold fNum
    rw [if_neg (by decide +kernel)]
  · have a1 := Int32.le_iff_toInt_le.mp h1
    have a2 := Int32.le_iff_toInt_le.mp h2
    rw [show (-99999 : Int32).toInt = -99999 by decide] at a1
    rw [show (99999 : Int32).toInt = 99999 by decide] at a2
    unfold fNum
    rw [if_pos (cmp_eq (fl_self a1 a2))]
    exact fl_back a1 a2
theorem fits_none : fits .short (.int (-1000000005)) = false := by decide
/-- a row holds the numbers f -/
def rwC (C : CS) (o : Option Nat) (f : Nat → Int32) : Prop := lnO C o ≤ 24 ∧ ((tgO C o = 104 ∧ ∀ i, i < lnO C o → atS C o i = f i ∧ fits .short (.int (f i)) = true) ∨ (tgO C o = 105 ∧ ∀ i, i < lnO C o → flR (atF C o i) (f i)))
theorem rwC.r {C : CS} {o : Option Nat} {f : Nat → Int32} (h : rwC C o f) : isR C o := by
  rcases h.2 with h | h
  · exact Or.inl h.1
  · exact Or.inr h.1
theorem rwC.at {C : CS} {o : Option Nat} {f : Nat → Int32} (h : rwC C o f) {i : Nat} (hi : i < lnO C o) : rwN C o i = f i := by
  unfold rwN
  rcases h.2 with ⟨h1, h2⟩ | ⟨h1, h2⟩
  · rw [if_pos h1]; exact (h2 i hi).1
  · rw [if_neg (by rw [h1]; decide)]; exact (h2 i hi).num
/-- what a slot holds -/
def slR (C : CS) (k : Nat) : Prop :=
  (cH C (31 + k) = none ∧ C.2.1 54 k = 0) ∨
  (∃ a, cH C (31 + k) = some a ∧ isGl C a ∧ C.2.1 54 k = 1 ∧ C.2.1 55 k = nI (kdN C a) ∧ C.2.1 56 k = v_GL_worth C a) ∨
  (C.2.1 54 k = 2 ∧ C.2.1 55 k = nI (lnO C (cH C (31 + k))) ∧ rwC C (cH C (31 + k)) (fun i => C.2.1 57 (24 * k + i))) ∨
  (tgO C (cH C (31 + k)) = 15 ∧ C.2.1 54 k = 3 ∧ C.2.1 55 k = vFig C (cH C (31 + k)))
def slO (C : CS) : Prop := ∀ k, k < 5 → slR C k
theorem slR.th {C : CS} {k : Nat} (h : slR C k) : thO C (cH C (31 + k)) := by
  rcases h with ⟨h, -⟩ | ⟨a, h, h2, -⟩ | ⟨-, -, h⟩ | ⟨h, -⟩
  · exact Or.inl h
  · rw [h]; exact h2.tg.2
  · exact h.r.th
  · exact Or.inr (by rw [h]; decide)
theorem tg_some {C : CS} {o : Option Nat} (h : tgO C o ≠ 0) : ¬ o = none := fun z => h (by rw [z]; rfl)
def p_X0_ask (C : CS) (a0 a1 : Int32) : Prop := slO C
def v_X0_ask (C : CS) (a0 a1 : Int32) : Int32 := v_X3_ask C a0 a1
def wp_X0_ask (Post : Int32 → CS → Prop) (C : CS) (a0 : Int32) (a1 : Int32) : Prop :=
  ∀ r1 : Int32, r1 = (v_X0_isSlot a0) → 
    (r1 = 0 → 
    Post (-1000000001) C) ∧
    (¬ r1 = 0 → 
    ∀ r3 : Int32, r3 = (v_X0_isIn (Int32.toInt64 a1) 0 5) → 
      (r3 = 0 → 
      Post (-1000000001) C) ∧
      (¬ r3 = 0 → 
      vp_in a0 5 ∧
        ((p_X0_takenFor C (cH C (31 + Int32.toNatClampNeg a0)) a1 ∧
          ((∃ d8 : Nat, ((cH C (31 + Int32.toNatClampNeg a0)) = some d8) ∧
            (p_GL_worth C d8 ∧
            (∀ r11 : Int32, r11 = (v_GL_worth C d8) → 
            Post r11 C)))
          ∨ ((cH C (31 + Int32.toNatClampNeg a0)) = none ∧
            (Post (-1000000011) C))))
        ∨ (pt_X0_takenForC C (cH C (31 + Int32.toNatClampNeg a0)) a1 ∧
          (Post (-1000000012) C)))))
set_option maxHeartbeats 4000000 in
set_option maxRecDepth 100000 in
theorem gw_X0_ask {w : WD} (wk : wOk w) (l : Launch) (hl : l.stackTraces = false) (C : CS) (a0 : Int32) (a1 : Int32) {Post : Int32 → CS → Prop} (hw : wp_X0_ask Post C a0 a1) : MCW w l yX0_ask cX0_ask 4 (some .int) [(22, 42, 43, 460), (22, 42, 47, 166)] 262 3 2410 [.ref (ad w 0), .int a0, .int a1] C (fun v C1 => ∃ r : Int32, v = some (.int r) ∧ Post r C1) := by
  unfold wp_X0_ask at hw
  refine MCW.of2 wk (by decide) (Nat.le_of_ble_eq_true rfl) (fun x hx ok ht ho => ?_)
  subst hx
  show G w x 4 0 0 (QM w x _ 3 2410) C 0 [(0, .ref (ad w 0)), (1, .int a0), (2, .int a1)] []
  refine g_iload_n ok 1 dX0_ask_0 rfl ?_
  refine g_callS ok [.int a0] cf_X0_isSlot q1253 (mc_X0_isSlot ok.wo (xL x) C a0) rfl rfl (Nat.le_of_ble_eq_true rfl) ⟨by decide, by decide⟩ ⟨by decide, by decide⟩ dX0_ask_1 (resI ?_)
  refine g_nmI (fun r1 er1 => ?_)
  have hw := hw r1 er1
  refine g_if_eq (tgt := 19) ok dX0_ask_4 (by decide) (fun c2 => ?_) (fun c2 => ?_)
  · have hw := hw.1 c2
    refine g_ldc (v := -1000000001) ok q274 dX0_ask_19 ?_
    refine g_widen 3 2410 (by omega) (by omega) ?_
    exact g_iret ok dX0_ask_21 ⟨_, rfl, hw⟩
  · have hw := hw.2 c2
    refine g_iload_n ok 2 dX0_ask_7 rfl ?_
    refine g_i2l ok dX0_ask_8 ?_
    refine g_lconst (v := 0) ok dX0_ask_9 (by decide) ?_
    refine g_ldc2 (v := 5) ok q268 dX0_ask_10 ?_
    refine g_callS ok [.long (Int32.toInt64 a1), .long 0, .long 5] cf_X0_isIn q269 (mc_X0_isIn ok.wo (xL x) C (Int32.toInt64 a1) 0 5) rfl rfl (Nat.le_of_ble_eq_true rfl) ⟨by decide, by decide⟩ ⟨by decide, by decide⟩ dX0_ask_13 (resI ?_)
    refine g_nmI (fun r3 er3 => ?_)
    have hw := hw r3 er3
    refine g_if_ne (tgt := 22) ok dX0_ask_16 (by decide) (fun c4 => ?_) (fun c4 => ?_)
    · have hw := hw.2 c4
      refine g_aload_n ok 0 dX0_ask_22 rfl ?_
      refine g_get ok 0 rfl rfl in_X0 22 (by decide) q204 rfl dX0_ask_23 ?_
      refine g_iload_n ok 1 dX0_ask_26 rfl ?_
      obtain ⟨hf5, hw⟩ := hw
      refine g_hald13 ok hf5 dX0_ask_27 ?_
      refine g_get ok (31 + Int32.toNatClampNeg a0) (fObjH (by have := vp_lt hf5; omega) (by have := vp_lt hf5; omega)) rfl in_X2 0 (by decide) q175 rfl dX0_ask_28 ?_
      refine g_iload_n ok 2 dX0_ask_31 rfl ?_
      rcases hw with hw | ⟨hx, hw⟩
      · obtain ⟨hp7, hw⟩ := hw
        refine g_callS ok [va_rf (cH C (31 + Int32.toNatClampNeg a0)), .int a1] cf_X0_takenFor q558 (mc_X0_takenFor ok.wo (xL x) C (cH C (31 + Int32.toNatClampNeg a0)) a1 hp7) rfl rfl (Nat.le_of_ble_eq_true rfl) ⟨by decide, by decide⟩ ⟨by decide, by decide⟩ dX0_ask_32 (resO (o := (cH C (31 + Int32.toNatClampNeg a0))) ?_)
        refine g_ostore_n ok [(3, va_rf (cH C (31 + Int32.toNatClampNeg a0))), (0, .ref (ad w 0)), (1, .int a0), (2, .int a1)] dX0_ask_35 (by decide) rfl ?_
        refine g_oload_n ok 0 dX0_ask_36 rfl ?_
        rcases hw with ⟨d8, hc9, hw⟩ | ⟨hc9, hw⟩
        · refine g_oD hc9 ?_
          obtain ⟨hp10, hw⟩ := hw
          refine g_GW_worth ok hp10 q1279 ⟨by decide, by decide⟩ (Nat.le_of_ble_eq_true rfl) ⟨by decide, by decide⟩ dX0_ask_37 ?_
          refine g_nmI (fun r11 er11 => ?_)
          have hw := hw r11 er11
          refine g_widen 3 2410 (by omega) (by omega) ?_
          exact g_iret ok dX0_ask_42 ⟨_, rfl, hw⟩
        · refine g_o0 hc9 ?_
          refine g_ifc0 ok ho hl q1279 q1281 q1280 ⟨by decide, by decide⟩ (by decide) ⟨by show 0 + 1 ≤ 3; omega, by show 0 + 8 ≤ 2410; omega⟩ ⟨by decide, by decide⟩ (Nat.le_of_ble_eq_true rfl) dX0_ask_37 (fun e => ?_)
          refine gt_catch ok ht (fun _ _ h => h) (Srch.hit (by decide) (by decide) q1168 q1190) ?_
          refine g_astore_n ok [(3, .ref e), (0, .ref (ad w 0)), (1, .int a0), (2, .int a1)] dX0_ask_43 (by decide) rfl ?_
          refine g_ldc (v := -1000000011) ok q798 dX0_ask_44 ?_
          refine g_widen 3 2410 (by omega) (by omega) ?_
          exact g_iret ok dX0_ask_46 ⟨_, rfl, hw⟩
      · refine g_callTx ok [va_rf (cH C (31 + Int32.toNatClampNeg a0)), .int a1] cf_X0_takenFor q558 (mt_X0_takenForC ok.wo (xL x) hl C (cH C (31 + Int32.toNatClampNeg a0)) a1 hx) rfl rfl (Nat.le_of_ble_eq_true rfl) ⟨by decide, by decide⟩ ⟨by show 0 + 3 ≤ 3; omega, by show 0 + 2410 ≤ 2410; omega⟩ dX0_ask_32 (fun e => ?_)
        refine gt_catch ok ht (fun _ _ h => h) (Srch.miss (by decide) (by decide) q1168 (nc_CCE_NPE ok.wo) (Srch.hit (by decide) (by decide) q471 q536)) ?_
        refine g_astore_n ok [(3, .ref e), (0, .ref (ad w 0)), (1, .int a0), (2, .int a1)] dX0_ask_47 (by decide) rfl ?_
        refine g_ldc (v := -1000000012) ok q561 dX0_ask_48 ?_
        exact g_iret ok dX0_ask_50 ⟨_, rfl, hw⟩
    · have hw := hw.1 c4
      refine g_ldc (v := -1000000001) ok q274 dX0_ask_19 ?_
      refine g_widen 3 2410 (by omega) (by omega) ?_
      exact g_iret ok dX0_ask_21 ⟨_, rfl, hw⟩
theorem sp_X0_ask (C : CS) (a0 a1 : Int32) (hp : p_X0_ask C a0 a1) : wp_X0_ask (fun x C1 => x = v_X0_ask C a0 a1 ∧ C1 = C) C a0 a1 := by
  have hp : slO C := hp
  unfold v_X0_ask v_X3_ask v_X3_isSlot
  refine fun r1 e1 => ⟨fun c => ?_, fun c => ?_⟩
  all_goals rw [e1, v_X0_isSlot, isIn0 _ 4 4 rfl] at c
  · rw [if_pos c]; exact ⟨rfl, rfl⟩
  rw [if_neg c]
  refine fun r3 e3 => ⟨fun c4 => ?_, fun c4 => ?_⟩
  all_goals rw [e3, isIn0 _ 5 5 rfl] at c4
  · rw [if_pos c4]; exact ⟨rfl, rfl⟩
  rw [if_neg c4]
  obtain ⟨k, hk, rfl⟩ := in_nI (m := 4) (by decide) c
  obtain ⟨m, hm, rfl⟩ := in_nI (m := 5) (by decide) c4
  rw [cl_k (by omega)]
  have hs := hp k (by omega)
  have th := hs.th
  refine ⟨vp_k (by omega), ?_⟩
  rcases hs with ⟨h1, h2⟩ | ⟨a, h1, h2, h3, h4, h5⟩ | ⟨h1, h2, h3⟩ | ⟨h1, h2, h3⟩
  · refine Or.inl ⟨⟨th, Or.inl h1⟩, Or.inr ⟨h1, ?_, rfl⟩⟩
    rw [if_pos h2]
  · obtain ⟨⟨g, hg6, tg, kd⟩, -⟩ := h2.tg
    have u := under_all g hg6 m (by omega)
    rw [if_neg (by rw [h3]; decide), if_pos h3, h4, kd, h1]
    by_cases h : subT (g + 4) (tkN (nI m)) = true
    · refine Or.inl ⟨⟨by rw [← h1]; exact th, Or.inr (by rw [tg]; exact h)⟩, Or.inl ⟨a, rfl, h2, fun r e => ⟨?_, rfl⟩⟩⟩
      rw [if_neg (u.mp h), h5]
      exact e
    · refine Or.inr ⟨⟨by rw [← h1]; exact th, (by intro z; cases z), by rw [tg]; simpa using h⟩, ?_, rfl⟩
      rw [if_pos (Classical.byContradiction fun z => h (u.mpr z))]
  · refine Or.inr ⟨⟨th, tg_some (by rcases h3.r with z | z <;> rw [z] <;> decide), under_no (Or.inr h3.r) _⟩, ?_, rfl⟩
    rw [if_neg (by rw [h1]; decide), if_neg (by rw [h1]; decide)]
  · refine Or.inr ⟨⟨th, tg_some (by rw [h1]; decide), under_no (Or.inl h1) _⟩, ?_, rfl⟩
    rw [if_neg (by rw [h2]; decide), if_neg (by rw [h2]; decide)]
theorem mc_X0_ask {w : WD} (wk : wOk w) (l : Launch) (hl : l.stackTraces = false) (C : CS) (a0 : Int32) (a1 : Int32) (hp : p_X0_ask C a0 a1) : MCW w l yX0_ask cX0_ask 4 (some .int) [(22, 42, 43, 460), (22, 42, 47, 166)] 262 3 2410 [.ref (ad w 0), .int a0, .int a1] C (pI (v_X0_ask C a0 a1) C) := MCW.postI (gw_X0_ask wk l hl C a0 a1 (sp_X0_ask C a0 a1 hp))
theorem within1 {p : Int32} {n : Nat} (hn : n ≤ 24) : (¬ p < 0 ∧ ¬ (1 : Int32) < 0 ∧ p ≤ nI n - 1) ↔ ¬ v_X3_in p 0 (nI n - 1) = 0 := by
  rw [in_iff]
  exact ⟨fun h => ⟨Int32.not_lt.mp h.1, h.2.2⟩, fun h => ⟨Int32.not_lt.mpr h.1, by decide, h.2⟩⟩
theorem in_ln {p : Int32} {n : Nat} (hn : n ≤ 24) (h : ¬ v_X3_in p 0 (nI n - 1) = 0) : ∃ i, i < n ∧ p = nI i := by
  cases n with
  | zero =>
    obtain ⟨h1, h2⟩ := in_iff.mp h
    exact absurd (Int32.le_trans h1 h2) (by decide)
  | succ n =>
    rw [show nI (n + 1) - 1 = nI n from pk_sub (a := n + 1) (b := 1) (by omega)] at h
    obtain ⟨i, h1, h2⟩ := in_nI (m := n) (by omega) h
    exact ⟨i, by omega, h2⟩
def p_X0_item (C : CS) (a0 a1 : Int32) : Prop := slO C
def v_X0_item (C : CS) (a0 a1 : Int32) : Int32 := v_X3_item C a0 a1
def wp_X0_item (Post : Int32 → CS → Prop) (C : CS) (a0 : Int32) (a1 : Int32) : Prop :=
  ∀ r1 : Int32, r1 = (v_X0_isSlot a0) → 
    (r1 = 0 → 
    Post (-1000000001) C) ∧
    (¬ r1 = 0 → 
    vp_in a0 5 ∧
      ((p_X0_lengthOf C (cH C (31 + Int32.toNatClampNeg a0)) ∧
        (∀ r6 : Int32, r6 = (v_X0_lengthOf C (cH C (31 + Int32.toNatClampNeg a0))) → 
        (p_X0_within C a1 1 r6 ∧
          (p_X0_numberAt C (cH C (31 + Int32.toNatClampNeg a0)) a1 ∧
          (∀ r10 : Int32, r10 = (v_X0_numberAt C (cH C (31 + Int32.toNatClampNeg a0)) a1) → 
          (r10 = (-1000000005) → 
          Post (-1000000012) C) ∧
          (¬ r10 = (-1000000005) → 
          Post r10 C))))
        ∨ (pt_X0_withinI C a1 1 r6 ∧
          (Post (-1000000013) C))))
      ∨ (pt_X0_lengthOfN C (cH C (31 + Int32.toNatClampNeg a0)) ∧
        (Post (-1000000011) C))
      ∨ (pt_X0_lengthOfC C (cH C (31 + Int32.toNatClampNeg a0)) ∧
        (Post (-1000000012) C))))
set_option maxHeartbeats 4000000 in
set_option maxRecDepth 100000 in
theorem gw_X0_item {w : WD} (wk : wOk w) (l : Launch) (hl : l.stackTraces = false) (C : CS) (a0 : Int32) (a1 : Int32) {Post : Int32 → CS → Prop} (hw : wp_X0_item Post C a0 a1) : MCW w l yX0_item cX0_item 5 (some .int) [(10, 50, 51, 460), (10, 50, 55, 166), (10, 50, 59, 437)] 262 3 2410 [.ref (ad w 0), .int a0, .int a1] C (fun v C1 => ∃ r : Int32, v = some (.int r) ∧ Post r C1) := by
  unfold wp_X0_item at hw
  refine MCW.of2 wk (by decide) (Nat.le_of_ble_eq_true rfl) (fun x hx ok ht ho => ?_)
  subst hx
  show G w x 5 0 0 (QM w x _ 3 2410) C 0 [(0, .ref (ad w 0)), (1, .int a0), (2, .int a1)] []
  refine g_iload_n ok 1 dX0_item_0 rfl ?_
  refine g_callS ok [.int a0] cf_X0_isSlot q1253 (mc_X0_isSlot ok.wo (xL x) C a0) rfl rfl (Nat.le_of_ble_eq_true rfl) ⟨by decide, by decide⟩ ⟨by decide, by decide⟩ dX0_item_1 (resI ?_)
  refine g_nmI (fun r1 er1 => ?_)
  have hw := hw r1 er1
  refine g_if_ne (tgt := 10) ok dX0_item_4 (by decide) (fun c2 => ?_) (fun c2 => ?_)
  · have hw := hw.2 c2
    refine g_aload_n ok 0 dX0_item_10 rfl ?_
    refine g_get ok 0 rfl rfl in_X0 22 (by decide) q204 rfl dX0_item_11 ?_
    refine g_iload_n ok 1 dX0_item_14 rfl ?_
    obtain ⟨hf3, hw⟩ := hw
    refine g_hald13 ok hf3 dX0_item_15 ?_
    refine g_get ok (31 + Int32.toNatClampNeg a0) (fObjH (by have := vp_lt hf3; omega) (by have := vp_lt hf3; omega)) rfl in_X2 0 (by decide) q175 rfl dX0_item_16 ?_
    refine g_ostore_n ok [(3, va_rf (cH C (31 + Int32.toNatClampNeg a0))), (0, .ref (ad w 0)), (1, .int a0), (2, .int a1)] dX0_item_19 (by decide) rfl ?_
    refine g_iload_n ok 3 dX0_item_20 rfl ?_
    refine g_iconst (v := 1) ok dX0_item_21 (by decide) ?_
    refine g_oload_n ok 0 dX0_item_22 rfl ?_
    rcases hw with hw | ⟨hx, hw⟩ | ⟨hx, hw⟩
    · obtain ⟨hp5, hw⟩ := hw
      refine g_callS ok [va_rf (cH C (31 + Int32.toNatClampNeg a0))] cf_X0_lengthOf q803 (mc_X0_lengthOf ok.wo (xL x) C (cH C (31 + Int32.toNatClampNeg a0)) hp5) rfl rfl (Nat.le_of_ble_eq_true rfl) ⟨by decide, by decide⟩ ⟨by decide, by decide⟩ dX0_item_23 (resI ?_)
      refine g_nmI (fun r6 er6 => ?_)
      have hw := hw r6 er6
      rcases hw with hw | ⟨hx, hw⟩
      · obtain ⟨hp8, hw⟩ := hw
        refine g_callS ok [.int a1, .int 1, .int r6] cf_X0_within q1212 (mc_X0_within ok.wo (xL x) C a1 1 r6 hp8) rfl rfl (Nat.le_of_ble_eq_true rfl) ⟨by decide, by decide⟩ ⟨by decide, by decide⟩ dX0_item_26 (resV ?_)
        refine g_oload_n ok 0 dX0_item_29 rfl ?_
        refine g_iload_n ok 3 dX0_item_30 rfl ?_
        obtain ⟨hp9, hw⟩ := hw
        refine g_callS ok [va_rf (cH C (31 + Int32.toNatClampNeg a0)), .int a1] cf_X0_numberAt q808 (mc_X0_numberAt ok.wo (xL x) C (cH C (31 + Int32.toNatClampNeg a0)) a1 hp9) rfl rfl (Nat.le_of_ble_eq_true rfl) ⟨by decide, by decide⟩ ⟨by decide, by decide⟩ dX0_item_31 (resI ?_)
        refine g_nmI (fun r10 er10 => ?_)
        have hw := hw r10 er10
        refine g_istore0 ok [(4, .int r10), (3, va_rf (cH C (31 + Int32.toNatClampNeg a0))), (0, .ref (ad w 0)), (1, .int a0), (2, .int a1)] dX0_item_34 (by decide) (by generalize (cH C (31 + Int32.toNatClampNeg a0)) = o9; cases o9 <;> rfl) ?_
        refine g_iload ok 0 dX0_item_36 rfl ?_
        refine g_ldc (v := -1000000005) ok q740 dX0_item_38 ?_
        refine g_icmp_ne (tgt := 48) ok dX0_item_40 (by decide) (fun c11 => ?_) (fun c11 => ?_)
        · have hw := hw.2 c11
          refine g_iload ok 0 dX0_item_48 rfl ?_
          refine g_widen 3 2410 (by omega) (by omega) ?_
          exact g_iret ok dX0_item_50 ⟨_, rfl, hw⟩
        · have hw := hw.1 c11
          refine g_ldc (v := -1000000012) ok q561 dX0_item_43 ?_
          refine g_goto (tgt := 50) ok dX0_item_45 (by decide) ?_
          refine g_widen 3 2410 (by omega) (by omega) ?_
          exact g_iret ok dX0_item_50 ⟨_, rfl, hw⟩
      · refine g_callTx ok [.int a1, .int 1, .int r6] cf_X0_within q1212 (mt_X0_withinI ok.wo (xL x) hl C a1 1 r6 hx) rfl rfl (Nat.le_of_ble_eq_true rfl) ⟨by decide, by decide⟩ ⟨by show 0 + 1 ≤ 3; omega, by show 0 + 6 ≤ 2410; omega⟩ dX0_item_26 (fun e => ?_)
        refine gt_catch ok ht (fun _ _ h => h) (Srch.miss (by decide) (by decide) q1168 (nc_IOE_NPE ok.wo) (Srch.miss (by decide) (by decide) q471 (nc_IOE_CCE ok.wo) (Srch.hit (by decide) (by decide) q1193 q1216))) ?_
        refine g_astore_n ok [(3, .ref e), (0, .ref (ad w 0)), (1, .int a0), (2, .int a1)] dX0_item_59 (by decide) rfl ?_
        refine g_ldc_w (v := -1000000013) ok q1235 dX0_item_60 ?_
        refine g_widen 3 2410 (by omega) (by omega) ?_
        exact g_iret ok dX0_item_63 ⟨_, rfl, hw⟩
    · refine g_callTx ok [va_rf (cH C (31 + Int32.toNatClampNeg a0))] cf_X0_lengthOf q803 (mt_X0_lengthOfN ok.wo (xL x) hl C (cH C (31 + Int32.toNatClampNeg a0)) hx) rfl rfl (Nat.le_of_ble_eq_true rfl) ⟨by decide, by decide⟩ ⟨by show 0 + 1 ≤ 3; omega, by show 0 + 8 ≤ 2410; omega⟩ dX0_item_23 (fun e => ?_)
      refine gt_catch ok ht (fun _ _ h => h) (Srch.hit (by decide) (by decide) q1168 q1190) ?_
      refine g_astore_n ok [(3, .ref e), (0, .ref (ad w 0)), (1, .int a0), (2, .int a1)] dX0_item_51 (by decide) rfl ?_
      refine g_ldc (v := -1000000011) ok q798 dX0_item_52 ?_
      refine g_widen 3 2410 (by omega) (by omega) ?_
      exact g_iret ok dX0_item_54 ⟨_, rfl, hw⟩
    · refine g_callTx ok [va_rf (cH C (31 + Int32.toNatClampNeg a0))] cf_X0_lengthOf q803 (mt_X0_lengthOfC ok.wo (xL x) hl C (cH C (31 + Int32.toNatClampNeg a0)) hx) rfl rfl (Nat.le_of_ble_eq_true rfl) ⟨by decide, by decide⟩ ⟨by show 0 + 3 ≤ 3; omega, by show 0 + 2410 ≤ 2410; omega⟩ dX0_item_23 (fun e => ?_)
      refine gt_catch ok ht (fun _ _ h => h) (Srch.miss (by decide) (by decide) q1168 (nc_CCE_NPE ok.wo) (Srch.hit (by decide) (by decide) q471 q536)) ?_
      refine g_astore_n ok [(3, .ref e), (0, .ref (ad w 0)), (1, .int a0), (2, .int a1)] dX0_item_55 (by decide) rfl ?_
      refine g_ldc (v := -1000000012) ok q561 dX0_item_56 ?_
      exact g_iret ok dX0_item_58 ⟨_, rfl, hw⟩
  · have hw := hw.1 c2
    refine g_ldc (v := -1000000001) ok q274 dX0_item_7 ?_
    refine g_widen 3 2410 (by omega) (by omega) ?_
    exact g_iret ok dX0_item_9 ⟨_, rfl, hw⟩
theorem sp_X0_item (C : CS) (a0 a1 : Int32) (hp : p_X0_item C a0 a1) : wp_X0_item (fun x C1 => x = v_X0_item C a0 a1 ∧ C1 = C) C a0 a1 := by
  have hp : slO C := hp
  unfold v_X0_item v_X3_item v_X3_isSlot
  refine fun r1 e1 => ⟨fun c => ?_, fun c => ?_⟩
  all_goals rw [e1, v_X0_isSlot, isIn0 _ 4 4 rfl] at c
  · rw [if_pos c]; exact ⟨rfl, rfl⟩
  rw [if_neg c]
  obtain ⟨k, hk, rfl⟩ := in_nI (m := 4) (by decide) c
  rw [cl_k (by omega)]
  have hs := hp k (by omega)
  have th := hs.th
  refine ⟨vp_k (by omega), ?_⟩
  rcases hs with ⟨h1, h2⟩ | ⟨a, h1, h2, h3, h4, h5⟩ | ⟨h1, h2, h3⟩ | ⟨h1, h2, h3⟩
  · refine Or.inr (Or.inl ⟨h1, ?_, rfl⟩)
    rw [if_pos h2]
  · obtain ⟨⟨g, hg6, tg, kd⟩, -⟩ := h2.tg
    refine Or.inr (Or.inr ⟨⟨(by rw [h1]; intro z; cases z), th, fun z => ?_⟩, ?_, rfl⟩)
    · rw [h1] at z
      rcases z with z | z <;> rw [tg] at z <;> omega
    · rw [if_neg (by rw [h3]; decide), if_neg (by rw [h3]; decide)]
  · refine Or.inl ⟨h3.r, fun r6 e6 => ?_⟩
    have e6 : r6 = nI (lnO C (cH C (31 + k))) := e6
    rw [if_neg (by rw [h1]; decide), if_pos h1, h2, e6]
    have hw := within1 (p := a1) h3.1
    by_cases hc : v_X3_in a1 0 (nI (lnO C (cH C (31 + k))) - 1) = 0
    · refine Or.inr ⟨fun z => hw.mp z hc, ?_, rfl⟩
      rw [if_pos hc]
    · obtain ⟨i, hi, rfl⟩ := in_ln h3.1 hc
      have hi24 := h3.1
      rw [if_neg hc, show (24 : Int32) * nI k + nI i = nI (24 * k + i) by rw [show (24 : Int32) = nI 24 from rfl, pk_mul, nI_add], cl_k (by omega)]
      refine Or.inl ⟨hw.mpr hc, ⟨h3.r, vp_k hi (by omega)⟩, fun r e => ?_⟩
      have e : r = C.2.1 57 (24 * k + i) := by rw [e]; unfold v_X0_numberAt; rw [cl_k (by omega)]; exact h3.at hi
      refine ⟨fun d => ⟨?_, rfl⟩, fun d => ⟨?_, rfl⟩⟩
      · rw [e] at d; rw [if_pos d]
      · rw [e] at d ⊢; rw [if_neg d]
  · refine Or.inr (Or.inr ⟨⟨tg_some (by rw [h1]; decide), th, fun z => ?_⟩, ?_, rfl⟩)
    · rcases z with z | z <;> rw [h1] at z <;> omega
    · rw [if_neg (by rw [h2]; decide), if_neg (by rw [h2]; decide)]
theorem mc_X0_item {w : WD} (wk : wOk w) (l : Launch) (hl : l.stackTraces = false) (C : CS) (a0 : Int32) (a1 : Int32) (hp : p_X0_item C a0 a1) : MCW w l yX0_item cX0_item 5 (some .int) [(10, 50, 51, 460), (10, 50, 55, 166), (10, 50, 59, 437)] 262 3 2410 [.ref (ad w 0), .int a0, .int a1] C (pI (v_X0_item C a0 a1) C) := MCW.postI (gw_X0_item wk l hl C a0 a1 (sp_X0_item C a0 a1 hp))
theorem div_m1 (v : Int32) : v - v / (-1) * (-1) = 0 := by
  have h : v / (-1) = -v := by
    apply Int32.toInt_inj.mp
    rw [Int32.toInt_div, show (-1 : Int32).toInt = -1 by decide, Int32.toInt_neg]
    rw [Int.tdiv_neg, Int.tdiv_one]
  rw [h, Int32.neg_mul_neg, Int32.mul_one, Int32.sub_self]
def p_X0_rest (C : CS) (a0 a1 : Int32) : Prop := slO C
def v_X0_rest (C : CS) (a0 a1 : Int32) : Int32 := v_X3_rest C a0 a1
def wp_X0_rest (Post : Int32 → CS → Prop) (C : CS) (a0 : Int32) (a1 : Int32) : Prop :=
  ∀ r1 : Int32, r1 = (v_X0_isSlot a0) → 
    (r1 = 0 → 
    Post (-1000000001) C) ∧
    (¬ r1 = 0 → 
    vp_in a0 5 ∧
      (thO C (cH C (31 + Int32.toNatClampNeg a0)) ∧
      ((((cH C (31 + Int32.toNatClampNeg a0)) = none ∨ subT (tgO C (cH C (31 + Int32.toNatClampNeg a0))) 15 = true) ∧
        ((tgO C (cH C (31 + Int32.toNatClampNeg a0)) = 15 ∧
          (∀ r7 : Int32, r7 = (vFig C (cH C (31 + Int32.toNatClampNeg a0))) → 
          (¬ a1 = 0 ∧
            (Post (r7 - r7 / a1 * a1) C))
          ∨ (a1 = 0 ∧
            (Post (-1000000002) C))))
        ∨ ((cH C (31 + Int32.toNatClampNeg a0)) = none ∧
          (Post (-1000000011) C))))
      ∨ ((¬ (cH C (31 + Int32.toNatClampNeg a0)) = none ∧ subT (tgO C (cH C (31 + Int32.toNatClampNeg a0))) 15 = false) ∧
        (Post (-1000000012) C)))))
set_option maxHeartbeats 4000000 in
set_option maxRecDepth 100000 in
theorem gw_X0_rest {w : WD} (wk : wOk w) (l : Launch) (hl : l.stackTraces = false) (C : CS) (a0 : Int32) (a1 : Int32) {Post : Int32 → CS → Prop} (hw : wp_X0_rest Post C a0 a1) : MCW w l yX0_rest cX0_rest 4 (some .int) [(10, 27, 28, 460), (10, 27, 32, 166), (10, 27, 36, 491)] 262 3 2410 [.ref (ad w 0), .int a0, .int a1] C (fun v C1 => ∃ r : Int32, v = some (.int r) ∧ Post r C1) := by
  unfold wp_X0_rest at hw
  refine MCW.of2 wk (by decide) (Nat.le_of_ble_eq_true rfl) (fun x hx ok ht ho => ?_)
  subst hx
  show G w x 4 0 0 (QM w x _ 3 2410) C 0 [(0, .ref (ad w 0)), (1, .int a0), (2, .int a1)] []
  refine g_iload_n ok 1 dX0_rest_0 rfl ?_
  refine g_callS ok [.int a0] cf_X0_isSlot q1253 (mc_X0_isSlot ok.wo (xL x) C a0) rfl rfl (Nat.le_of_ble_eq_true rfl) ⟨by decide, by decide⟩ ⟨by decide, by decide⟩ dX0_rest_1 (resI ?_)
  refine g_nmI (fun r1 er1 => ?_)
  have hw := hw r1 er1
  refine g_if_ne (tgt := 10) ok dX0_rest_4 (by decide) (fun c2 => ?_) (fun c2 => ?_)
  · have hw := hw.2 c2
    refine g_aload_n ok 0 dX0_rest_10 rfl ?_
    refine g_get ok 0 rfl rfl in_X0 22 (by decide) q204 rfl dX0_rest_11 ?_
    refine g_iload_n ok 1 dX0_rest_14 rfl ?_
    obtain ⟨hf3, hw⟩ := hw
    refine g_hald13 ok hf3 dX0_rest_15 ?_
    refine g_get ok (31 + Int32.toNatClampNeg a0) (fObjH (by have := vp_lt hf3; omega) (by have := vp_lt hf3; omega)) rfl in_X2 0 (by decide) q175 rfl dX0_rest_16 ?_
    obtain ⟨hf4, hw⟩ := hw
    rcases hw with ⟨hc5, hw⟩ | ⟨hc5, hw⟩
    · refine g_castO (o := (cH C (31 + Int32.toNatClampNeg a0))) ok hf4 (t := 15) (by decide) q1260 dX0_rest_19 hc5 ?_
      rcases hw with ⟨hc6, hw⟩ | ⟨hc6, hw⟩
      · refine g_figO (o := (cH C (31 + Int32.toNatClampNeg a0))) ok hc6 q1267 dX0_rest_22 ?_
        refine g_nmI (fun r7 er7 => ?_)
        have hw := hw r7 er7
        refine g_iload_n ok 2 dX0_rest_25 rfl ?_
        rcases hw with ⟨hc8, hw⟩ | ⟨hc8, hw⟩
        · refine g_irem ok dX0_rest_26 hc8 ?_
          refine g_widen 3 2410 (by omega) (by omega) ?_
          exact g_iret ok dX0_rest_27 ⟨_, rfl, hw⟩
        · refine g_irem0e ok ho hl hc8 ⟨by show 0 + 3 ≤ 3; omega, by show 0 + 54 ≤ 2410; omega⟩ ⟨by decide, by decide⟩ (Nat.le_of_ble_eq_true rfl) dX0_rest_26 (fun e => ?_)
          refine gt_catch ok ht (fun _ _ h => h) (Srch.miss (by decide) (by decide) q1168 (nc_ARE_NPE ok.wo) (Srch.miss (by decide) (by decide) q471 (nc_ARE_CCE ok.wo) (Srch.hit (by decide) (by decide) q1314 q1326))) ?_
          refine g_astore_n ok [(3, .ref e), (0, .ref (ad w 0)), (1, .int a0), (2, .int a1)] dX0_rest_36 (by decide) rfl ?_
          refine g_ldc_w (v := -1000000002) ok q1328 dX0_rest_37 ?_
          refine g_widen 3 2410 (by omega) (by omega) ?_
          exact g_iret ok dX0_rest_40 ⟨_, rfl, hw⟩
      · refine g_figOx (o := (cH C (31 + Int32.toNatClampNeg a0))) ok ho hl hc6 q1267 ⟨by show 0 + 1 ≤ 3; omega, by show 0 + 8 ≤ 2410; omega⟩ ⟨by decide, by decide⟩ (Nat.le_of_ble_eq_true rfl) dX0_rest_22 (fun e => ?_)
        refine gt_catch ok ht (fun _ _ h => h) (Srch.hit (by decide) (by decide) q1168 q1190) ?_
        refine g_astore_n ok [(3, .ref e), (0, .ref (ad w 0)), (1, .int a0), (2, .int a1)] dX0_rest_28 (by decide) rfl ?_
        refine g_ldc (v := -1000000011) ok q798 dX0_rest_29 ?_
        refine g_widen 3 2410 (by omega) (by omega) ?_
        exact g_iret ok dX0_rest_31 ⟨_, rfl, hw⟩
    · refine g_castOx (o := (cH C (31 + Int32.toNatClampNeg a0))) ok ho hl hf4 (t := 15) (by decide) q1260 dX0_rest_19 hc5 ⟨by show 0 + 3 ≤ 3; omega, by show 0 + 2410 ≤ 2410; omega⟩ ⟨by decide, by decide⟩ (Nat.le_of_ble_eq_true rfl) (fun e => ?_)
      refine gt_catch ok ht (fun _ _ h => h) (Srch.miss (by decide) (by decide) q1168 (nc_CCE_NPE ok.wo) (Srch.hit (by decide) (by decide) q471 q536)) ?_
      refine g_astore_n ok [(3, .ref e), (0, .ref (ad w 0)), (1, .int a0), (2, .int a1)] dX0_rest_32 (by decide) rfl ?_
      refine g_ldc (v := -1000000012) ok q561 dX0_rest_33 ?_
      exact g_iret ok dX0_rest_35 ⟨_, rfl, hw⟩
  · have hw := hw.1 c2
    refine g_ldc (v := -1000000001) ok q274 dX0_rest_7 ?_
    refine g_widen 3 2410 (by omega) (by omega) ?_
    exact g_iret ok dX0_rest_9 ⟨_, rfl, hw⟩
theorem sp_X0_rest (C : CS) (a0 a1 : Int32) (hp : p_X0_rest C a0 a1) : wp_X0_rest (fun x C1 => x = v_X0_rest C a0 a1 ∧ C1 = C) C a0 a1 := by
  have hp : slO C := hp
  unfold v_X0_rest v_X3_rest v_X3_isSlot
  refine fun r1 e1 => ⟨fun c => ?_, fun c => ?_⟩
  all_goals rw [e1, v_X0_isSlot, isIn0 _ 4 4 rfl] at c
  · rw [if_pos c]; exact ⟨rfl, rfl⟩
  rw [if_neg c]
  obtain ⟨k, hk, rfl⟩ := in_nI (m := 4) (by decide) c
  rw [cl_k (by omega)]
  have hs := hp k (by omega)
  have th := hs.th
  refine ⟨vp_k (by omega), th, ?_⟩
  rcases hs with ⟨h1, h2⟩ | ⟨a, h1, h2, h3, h4, h5⟩ | ⟨h1, h2, h3⟩ | ⟨h1, h2, h3⟩
  · refine Or.inl ⟨Or.inl h1, Or.inr ⟨h1, ?_, rfl⟩⟩
    rw [if_pos h2]
  · obtain ⟨⟨g, hg6, tg, kd⟩, -⟩ := h2.tg
    refine Or.inr ⟨⟨(by rw [h1]; intro z; cases z), ?_⟩, ?_, rfl⟩
    · rw [← Bool.not_eq_true, sub_N, h1, tg]; omega
    · rw [if_neg (by rw [h3]; decide), if_neg (by rw [h3]; decide)]
  · refine Or.inr ⟨⟨tg_some (by rcases h3.r with z | z <;> rw [z] <;> decide), ?_⟩, ?_, rfl⟩
    · rw [← Bool.not_eq_true, sub_N]; rcases h3.r with z | z <;> rw [z] <;> decide
    · rw [if_neg (by rw [h1]; decide), if_neg (by rw [h1]; decide)]
  · refine Or.inl ⟨Or.inr ((sub_N _).mpr h1), Or.inl ⟨h1, fun r e => ?_⟩⟩
    rw [if_neg (by rw [h2]; decide), if_pos h2, h3, ← e]
    by_cases hc : a1 = 0
    · exact Or.inr ⟨hc, by rw [if_pos hc], rfl⟩
    · refine Or.inl ⟨hc, ?_, rfl⟩
      rw [if_neg hc]
      by_cases hd : a1 = -1
      · rw [if_pos hd, hd]; exact div_m1 r
      · rw [if_neg hd]
theorem mc_X0_rest {w : WD} (wk : wOk w) (l : Launch) (hl : l.stackTraces = false) (C : CS) (a0 : Int32) (a1 : Int32) (hp : p_X0_rest C a0 a1) : MCW w l yX0_rest cX0_rest 4 (some .int) [(10, 27, 28, 460), (10, 27, 32, 166), (10, 27, 36, 491)] 262 3 2410 [.ref (ad w 0), .int a0, .int a1] C (pI (v_X0_rest C a0 a1) C) := MCW.postI (gw_X0_rest wk l hl C a0 a1 (sp_X0_rest C a0 a1 hp))
