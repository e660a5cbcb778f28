theorem cf_J6_numberOfTrailingZeros : CfS yJ6_numberOfTrailingZeros cJ6_numberOfTrailingZeros 2 (some .int) 1 := ⟨⟨by decide, by decide, by decide⟩, q89, q773, q772⟩
def v_J6_numberOfTrailingZeros (a0 : Int32) : Int32 :=
  if 0 < ((a0 ^^^ (-1)) &&& (a0 - 1)) then
    (((if (if (if (if ((a0 ^^^ (-1)) &&& (a0 - 1)) ≤ 65536 then ((a0 ^^^ (-1)) &&& (a0 - 1)) else (Int32.toUInt32 ((a0 ^^^ (-1)) &&& (a0 - 1)) >>> (Int32.toUInt32 16 &&& Int32.toUInt32 31)).toInt32) ≤ 256 then (if ((a0 ^^^ (-1)) &&& (a0 - 1)) ≤ 65536 then ((a0 ^^^ (-1)) &&& (a0 - 1)) else (Int32.toUInt32 ((a0 ^^^ (-1)) &&& (a0 - 1)) >>> (Int32.toUInt32 16 &&& Int32.toUInt32 31)).toInt32) else (Int32.toUInt32 (if ((a0 ^^^ (-1)) &&& (a0 - 1)) ≤ 65536 then ((a0 ^^^ (-1)) &&& (a0 - 1)) else (Int32.toUInt32 ((a0 ^^^ (-1)) &&& (a0 - 1)) >>> (Int32.toUInt32 16 &&& Int32.toUInt32 31)).toInt32) >>> (Int32.toUInt32 8 &&& Int32.toUInt32 31)).toInt32) ≤ 16 then (if (if ((a0 ^^^ (-1)) &&& (a0 - 1)) ≤ 65536 then ((a0 ^^^ (-1)) &&& (a0 - 1)) else (Int32.toUInt32 ((a0 ^^^ (-1)) &&& (a0 - 1)) >>> (Int32.toUInt32 16 &&& Int32.toUInt32 31)).toInt32) ≤ 256 then (if ((a0 ^^^ (-1)) &&& (a0 - 1)) ≤ 65536 then ((a0 ^^^ (-1)) &&& (a0 - 1)) else (Int32.toUInt32 ((a0 ^^^ (-1)) &&& (a0 - 1)) >>> (Int32.toUInt32 16 &&& Int32.toUInt32 31)).toInt32) else (Int32.toUInt32 (if ((a0 ^^^ (-1)) &&& (a0 - 1)) ≤ 65536 then ((a0 ^^^ (-1)) &&& (a0 - 1)) else (Int32.toUInt32 ((a0 ^^^ (-1)) &&& (a0 - 1)) >>> (Int32.toUInt32 16 &&& Int32.toUInt32 31)).toInt32) >>> (Int32.toUInt32 8 &&& Int32.toUInt32 31)).toInt32) else (Int32.toUInt32 (if (if ((a0 ^^^ (-1)) &&& (a0 - 1)) ≤ 65536 then ((a0 ^^^ (-1)) &&& (a0 - 1)) else (Int32.toUInt32 ((a0 ^^^ (-1)) &&& (a0 - 1)) >>> (Int32.toUInt32 16 &&& Int32.toUInt32 31)).toInt32) ≤ 256 then (if ((a0 ^^^ (-1)) &&& (a0 - 1)) ≤ 65536 then ((a0 ^^^ (-1)) &&& (a0 - 1)) else (Int32.toUInt32 ((a0 ^^^ (-1)) &&& (a0 - 1)) >>> (Int32.toUInt32 16 &&& Int32.toUInt32 31)).toInt32) else (Int32.toUInt32 (if ((a0 ^^^ (-1)) &&& (a0 - 1)) ≤ 65536 then ((a0 ^^^ (-1)) &&& (a0 - 1)) else (Int32.toUInt32 ((a0 ^^^ (-1)) &&& (a0 - 1)) >>> (Int32.toUInt32 16 &&& Int32.toUInt32 31)).toInt32) >>> (Int32.toUInt32 8 &&& Int32.toUInt32 31)).toInt32) >>> (Int32.toUInt32 4 &&& Int32.toUInt32 31)).toInt32) ≤ 4 then (if (if (if ((a0 ^^^ (-1)) &&& (a0 - 1)) ≤ 65536 then ((a0 ^^^ (-1)) &&& (a0 - 1)) else (Int32.toUInt32 ((a0 ^^^ (-1)) &&& (a0 - 1)) >>> (Int32.toUInt32 16 &&& Int32.toUInt32 31)).toInt32) ≤ 256 then (if ((a0 ^^^ (-1)) &&& (a0 - 1)) ≤ 65536 then ((a0 ^^^ (-1)) &&& (a0 - 1)) else (Int32.toUInt32 ((a0 ^^^ (-1)) &&& (a0 - 1)) >>> (Int32.toUInt32 16 &&& Int32.toUInt32 31)).toInt32) else (Int32.toUInt32 (if ((a0 ^^^ (-1)) &&& (a0 - 1)) ≤ 65536 then ((a0 ^^^ (-1)) &&& (a0 - 1)) else (Int32.toUInt32 ((a0 ^^^ (-1)) &&& (a0 - 1)) >>> (Int32.toUInt32 16 &&& Int32.toUInt32 31)).toInt32) >>> (Int32.toUInt32 8 &&& Int32.toUInt32 31)).toInt32) ≤ 16 then (if (if ((a0 ^^^ (-1)) &&& (a0 - 1)) ≤ 65536 then ((a0 ^^^ (-1)) &&& (a0 - 1)) else (Int32.toUInt32 ((a0 ^^^ (-1)) &&& (a0 - 1)) >>> (Int32.toUInt32 16 &&& Int32.toUInt32 31)).toInt32) ≤ 256 then (if ((a0 ^^^ (-1)) &&& (a0 - 1)) ≤ 65536 then (1 : Int32) else (1 + Int32.ofInt 16)) else ((if ((a0 ^^^ (-1)) &&& (a0 - 1)) ≤ 65536 then (1 : Int32) else (1 + Int32.ofInt 16)) + Int32.ofInt 8)) else ((if (if ((a0 ^^^ (-1)) &&& (a0 - 1)) ≤ 65536 then ((a0 ^^^ (-1)) &&& (a0 - 1)) else (Int32.toUInt32 ((a0 ^^^ (-1)) &&& (a0 - 1)) >>> (Int32.toUInt32 16 &&& Int32.toUInt32 31)).toInt32) ≤ 256 then (if ((a0 ^^^ (-1)) &&& (a0 - 1)) ≤ 65536 then (1 : Int32) else (1 + Int32.ofInt 16)) else ((if ((a0 ^^^ (-1)) &&& (a0 - 1)) ≤ 65536 then (1 : Int32) else (1 + Int32.ofInt 16)) + Int32.ofInt 8)) + Int32.ofInt 4)) else ((if (if (if ((a0 ^^^ (-1)) &&& (a0 - 1)) ≤ 65536 then ((a0 ^^^ (-1)) &&& (a0 - 1)) else (Int32.toUInt32 ((a0 ^^^ (-1)) &&& (a0 - 1)) >>> (Int32.toUInt32 16 &&& Int32.toUInt32 31)).toInt32) ≤ 256 then (if ((a0 ^^^ (-1)) &&& (a0 - 1)) ≤ 65536 then ((a0 ^^^ (-1)) &&& (a0 - 1)) else (Int32.toUInt32 ((a0 ^^^ (-1)) &&& (a0 - 1)) >>> (Int32.toUInt32 16 &&& Int32.toUInt32 31)).toInt32) else (Int32.toUInt32 (if ((a0 ^^^ (-1)) &&& (a0 - 1)) ≤ 65536 then ((a0 ^^^ (-1)) &&& (a0 - 1)) else (Int32.toUInt32 ((a0 ^^^ (-1)) &&& (a0 - 1)) >>> (Int32.toUInt32 16 &&& Int32.toUInt32 31)).toInt32) >>> (Int32.toUInt32 8 &&& Int32.toUInt32 31)).toInt32) ≤ 16 then (if (if ((a0 ^^^ (-1)) &&& (a0 - 1)) ≤ 65536 then ((a0 ^^^ (-1)) &&& (a0 - 1)) else (Int32.toUInt32 ((a0 ^^^ (-1)) &&& (a0 - 1)) >>> (Int32.toUInt32 16 &&& Int32.toUInt32 31)).toInt32) ≤ 256 then (if ((a0 ^^^ (-1)) &&& (a0 - 1)) ≤ 65536 then (1 : Int32) else (1 + Int32.ofInt 16)) else ((if ((a0 ^^^ (-1)) &&& (a0 - 1)) ≤ 65536 then (1 : Int32) else (1 + Int32.ofInt 16)) + Int32.ofInt 8)) else ((if (if ((a0 ^^^ (-1)) &&& (a0 - 1)) ≤ 65536 then ((a0 ^^^ (-1)) &&& (a0 - 1)) else (Int32.toUInt32 ((a0 ^^^ (-1)) &&& (a0 - 1)) >>> (Int32.toUInt32 16 &&& Int32.toUInt32 31)).toInt32) ≤ 256 then (if ((a0 ^^^ (-1)) &&& (a0 - 1)) ≤ 65536 then (1 : Int32) else (1 + Int32.ofInt 16)) else ((if ((a0 ^^^ (-1)) &&& (a0 - 1)) ≤ 65536 then (1 : Int32) else (1 + Int32.ofInt 16)) + Int32.ofInt 8)) + Int32.ofInt 4)) + Int32.ofInt 2)) + (Int32.toUInt32 (if (if (if (if ((a0 ^^^ (-1)) &&& (a0 - 1)) ≤ 65536 then ((a0 ^^^ (-1)) &&& (a0 - 1)) else (Int32.toUInt32 ((a0 ^^^ (-1)) &&& (a0 - 1)) >>> (Int32.toUInt32 16 &&& Int32.toUInt32 31)).toInt32) ≤ 256 then (if ((a0 ^^^ (-1)) &&& (a0 - 1)) ≤ 65536 then ((a0 ^^^ (-1)) &&& (a0 - 1)) else (Int32.toUInt32 ((a0 ^^^ (-1)) &&& (a0 - 1)) >>> (Int32.toUInt32 16 &&& Int32.toUInt32 31)).toInt32) else (Int32.toUInt32 (if ((a0 ^^^ (-1)) &&& (a0 - 1)) ≤ 65536 then ((a0 ^^^ (-1)) &&& (a0 - 1)) else (Int32.toUInt32 ((a0 ^^^ (-1)) &&& (a0 - 1)) >>> (Int32.toUInt32 16 &&& Int32.toUInt32 31)).toInt32) >>> (Int32.toUInt32 8 &&& Int32.toUInt32 31)).toInt32) ≤ 16 then (if (if ((a0 ^^^ (-1)) &&& (a0 - 1)) ≤ 65536 then ((a0 ^^^ (-1)) &&& (a0 - 1)) else (Int32.toUInt32 ((a0 ^^^ (-1)) &&& (a0 - 1)) >>> (Int32.toUInt32 16 &&& Int32.toUInt32 31)).toInt32) ≤ 256 then (if ((a0 ^^^ (-1)) &&& (a0 - 1)) ≤ 65536 then ((a0 ^^^ (-1)) &&& (a0 - 1)) else (Int32.toUInt32 ((a0 ^^^ (-1)) &&& (a0 - 1)) >>> (Int32.toUInt32 16 &&& Int32.toUInt32 31)).toInt32) else (Int32.toUInt32 (if ((a0 ^^^ (-1)) &&& (a0 - 1)) ≤ 65536 then ((a0 ^^^ (-1)) &&& (a0 - 1)) else (Int32.toUInt32 ((a0 ^^^ (-1)) &&& (a0 - 1)) >>> (Int32.toUInt32 16 &&& Int32.toUInt32 31)).toInt32) >>> (Int32.toUInt32 8 &&& Int32.toUInt32 31)).toInt32) else (Int32.toUInt32 (if (if ((a0 ^^^ (-1)) &&& (a0 - 1)) ≤ 65536 then ((a0 ^^^ (-1)) &&& (a0 - 1)) else (Int32.toUInt32 ((a0 ^^^ (-1)) &&& (a0 - 1)) >>> (Int32.toUInt32 16 &&& Int32.toUInt32 31)).toInt32) ≤ 256 then (if ((a0 ^^^ (-1)) &&& (a0 - 1)) ≤ 65536 then ((a0 ^^^ (-1)) &&& (a0 - 1)) else (Int32.toUInt32 ((a0 ^^^ (-1)) &&& (a0 - 1)) >>> (Int32.toUInt32 16 &&& Int32.toUInt32 31)).toInt32) else (Int32.toUInt32 (if ((a0 ^^^ (-1)) &&& (a0 - 1)) ≤ 65536 then ((a0 ^^^ (-1)) &&& (a0 - 1)) else (Int32.toUInt32 ((a0 ^^^ (-1)) &&& (a0 - 1)) >>> (Int32.toUInt32 16 &&& Int32.toUInt32 31)).toInt32) >>> (Int32.toUInt32 8 &&& Int32.toUInt32 31)).toInt32) >>> (Int32.toUInt32 4 &&& Int32.toUInt32 31)).toInt32) ≤ 4 then (if (if (if ((a0 ^^^ (-1)) &&& (a0 - 1)) ≤ 65536 then ((a0 ^^^ (-1)) &&& (a0 - 1)) else (Int32.toUInt32 ((a0 ^^^ (-1)) &&& (a0 - 1)) >>> (Int32.toUInt32 16 &&& Int32.toUInt32 31)).toInt32) ≤ 256 then (if ((a0 ^^^ (-1)) &&& (a0 - 1)) ≤ 65536 then ((a0 ^^^ (-1)) &&& (a0 - 1)) else (Int32.toUInt32 ((a0 ^^^ (-1)) &&& (a0 - 1)) >>> (Int32.toUInt32 16 &&& Int32.toUInt32 31)).toInt32) else (Int32.toUInt32 (if ((a0 ^^^ (-1)) &&& (a0 - 1)) ≤ 65536 then ((a0 ^^^ (-1)) &&& (a0 - 1)) else (Int32.toUInt32 ((a0 ^^^ (-1)) &&& (a0 - 1)) >>> (Int32.toUInt32 16 &&& Int32.toUInt32 31)).toInt32) >>> (Int32.toUInt32 8 &&& Int32.toUInt32 31)).toInt32) ≤ 16 then (if (if ((a0 ^^^ (-1)) &&& (a0 - 1)) ≤ 65536 then ((a0 ^^^ (-1)) &&& (a0 - 1)) else (Int32.toUInt32 ((a0 ^^^ (-1)) &&& (a0 - 1)) >>> (Int32.toUInt32 16 &&& Int32.toUInt32 31)).toInt32) ≤ 256 then (if ((a0 ^^^ (-1)) &&& (a0 - 1)) ≤ 65536 then ((a0 ^^^ (-1)) &&& (a0 - 1)) else (Int32.toUInt32 ((a0 ^^^ (-1)) &&& (a0 - 1)) >>> (Int32.toUInt32 16 &&& Int32.toUInt32 31)).toInt32) else (Int32.toUInt32 (if ((a0 ^^^ (-1)) &&& (a0 - 1)) ≤ 65536 then ((a0 ^^^ (-1)) &&& (a0 - 1)) else (Int32.toUInt32 ((a0 ^^^ (-1)) &&& (a0 - 1)) >>> (Int32.toUInt32 16 &&& Int32.toUInt32 31)).toInt32) >>> (Int32.toUInt32 8 &&& Int32.toUInt32 31)).toInt32) else (Int32.toUInt32 (if (if ((a0 ^^^ (-1)) &&& (a0 - 1)) ≤ 65536 then ((a0 ^^^ (-1)) &&& (a0 - 1)) else (Int32.toUInt32 ((a0 ^^^ (-1)) &&& (a0 - 1)) >>> (Int32.toUInt32 16 &&& Int32.toUInt32 31)).toInt32) ≤ 256 then (if ((a0 ^^^ (-1)) &&& (a0 - 1)) ≤ 65536 then ((a0 ^^^ (-1)) &&& (a0 - 1)) else (Int32.toUInt32 ((a0 ^^^ (-1)) &&& (a0 - 1)) >>> (Int32.toUInt32 16 &&& Int32.toUInt32 31)).toInt32) else (Int32.toUInt32 (if ((a0 ^^^ (-1)) &&& (a0 - 1)) ≤ 65536 then ((a0 ^^^ (-1)) &&& (a0 - 1)) else (Int32.toUInt32 ((a0 ^^^ (-1)) &&& (a0 - 1)) >>> (Int32.toUInt32 16 &&& Int32.toUInt32 31)).toInt32) >>> (Int32.toUInt32 8 &&& Int32.toUInt32 31)).toInt32) >>> (Int32.toUInt32 4 &&& Int32.toUInt32 31)).toInt32) else (Int32.toUInt32 (if (if (if ((a0 ^^^ (-1)) &&& (a0 - 1)) ≤ 65536 then ((a0 ^^^ (-1)) &&& (a0 - 1)) else (Int32.toUInt32 ((a0 ^^^ (-1)) &&& (a0 - 1)) >>> (Int32.toUInt32 16 &&& Int32.toUInt32 31)).toInt32) ≤ 256 then (if ((a0 ^^^ (-1)) &&& (a0 - 1)) ≤ 65536 then ((a0 ^^^ (-1)) &&& (a0 - 1)) else (Int32.toUInt32 ((a0 ^^^ (-1)) &&& (a0 - 1)) >>> (Int32.toUInt32 16 &&& Int32.toUInt32 31)).toInt32) else (Int32.toUInt32 (if ((a0 ^^^ (-1)) &&& (a0 - 1)) ≤ 65536 then ((a0 ^^^ (-1)) &&& (a0 - 1)) else (Int32.toUInt32 ((a0 ^^^ (-1)) &&& (a0 - 1)) >>> (Int32.toUInt32 16 &&& Int32.toUInt32 31)).toInt32) >>> (Int32.toUInt32 8 &&& Int32.toUInt32 31)).toInt32) ≤ 16 then (if (if ((a0 ^^^ (-1)) &&& (a0 - 1)) ≤ 65536 then ((a0 ^^^ (-1)) &&& (a0 - 1)) else (Int32.toUInt32 ((a0 ^^^ (-1)) &&& (a0 - 1)) >>> (Int32.toUInt32 16 &&& Int32.toUInt32 31)).toInt32) ≤ 256 then (if ((a0 ^^^ (-1)) &&& (a0 - 1)) ≤ 65536 then ((a0 ^^^ (-1)) &&& (a0 - 1)) else (Int32.toUInt32 ((a0 ^^^ (-1)) &&& (a0 - 1)) >>> (Int32.toUInt32 16 &&& Int32.toUInt32 31)).toInt32) else (Int32.toUInt32 (if ((a0 ^^^ (-1)) &&& (a0 - 1)) ≤ 65536 then ((a0 ^^^ (-1)) &&& (a0 - 1)) else (Int32.toUInt32 ((a0 ^^^ (-1)) &&& (a0 - 1)) >>> (Int32.toUInt32 16 &&& Int32.toUInt32 31)).toInt32) >>> (Int32.toUInt32 8 &&& Int32.toUInt32 31)).toInt32) else (Int32.toUInt32 (if (if ((a0 ^^^ (-1)) &&& (a0 - 1)) ≤ 65536 then ((a0 ^^^ (-1)) &&& (a0 - 1)) else (Int32.toUInt32 ((a0 ^^^ (-1)) &&& (a0 - 1)) >>> (Int32.toUInt32 16 &&& Int32.toUInt32 31)).toInt32) ≤ 256 then (if ((a0 ^^^ (-1)) &&& (a0 - 1)) ≤ 65536 then ((a0 ^^^ (-1)) &&& (a0 - 1)) else (Int32.toUInt32 ((a0 ^^^ (-1)) &&& (a0 - 1)) >>> (Int32.toUInt32 16 &&& Int32.toUInt32 31)).toInt32) else (Int32.toUInt32 (if ((a0 ^^^ (-1)) &&& (a0 - 1)) ≤ 65536 then ((a0 ^^^ (-1)) &&& (a0 - 1)) else (Int32.toUInt32 ((a0 ^^^ (-1)) &&& (a0 - 1)) >>> (Int32.toUInt32 16 &&& Int32.toUInt32 31)).toInt32) >>> (Int32.toUInt32 8 &&& Int32.toUInt32 31)).toInt32) >>> (Int32.toUInt32 4 &&& Int32.toUInt32 31)).toInt32) >>> (Int32.toUInt32 2 &&& Int32.toUInt32 31)).toInt32) >>> (Int32.toUInt32 1 &&& Int32.toUInt32 31)).toInt32))
    else
    ((((a0 ^^^ (-1)) &&& (a0 - 1)) &&& 32))
set_option maxHeartbeats 4000000 in
set_option maxRecDepth 100000 in
theorem mc_J6_numberOfTrailingZeros {w : WD} (wk : wOk w) (l : Launch) (C : CS) (a0 : Int32) : MC w l yJ6_numberOfTrailingZeros cJ6_numberOfTrailingZeros 2 (some .int) 0 0 0 [.int a0] C (pI (v_J6_numberOfTrailingZeros a0) C) := by
  refine MC.of wk (by decide) (Nat.le_of_ble_eq_true rfl) (fun x hx ok => ?_)
  subst hx
  show G w x 2 0 0 (QM w x _ 0 0) C 0 [(0, .int a0)] []
  refine g_iload_n ok 0 dJ6_numberOfTrailingZeros_0 rfl ?_
  refine g_iconst (v := -1) ok dJ6_numberOfTrailingZeros_1 (by decide) ?_
  refine g_ixor ok dJ6_numberOfTrailingZeros_2 ?_
  refine g_iload_n ok 0 dJ6_numberOfTrailingZeros_3 rfl ?_
  refine g_iconst (v := 1) ok dJ6_numberOfTrailingZeros_4 (by decide) ?_
  refine g_isub ok dJ6_numberOfTrailingZeros_5 ?_
  refine g_iand ok dJ6_numberOfTrailingZeros_6 ?_
  refine g_istore_n0 ok [(0, .int ((a0 ^^^ (-1)) &&& (a0 - 1)))] dJ6_numberOfTrailingZeros_7 (by decide) rfl ?_
  refine g_iload_n ok 0 dJ6_numberOfTrailingZeros_8 rfl ?_
  refine g_if_gt (tgt := 17) ok dJ6_numberOfTrailingZeros_9 (by decide) (fun c1 => ?_) (fun c1 => ?_)
  · refine g_iconst (v := 1) ok dJ6_numberOfTrailingZeros_17 (by decide) ?_
    refine g_istore_n0 ok [(1, .int 1), (0, .int ((a0 ^^^ (-1)) &&& (a0 - 1)))] dJ6_numberOfTrailingZeros_18 (by decide) rfl ?_
    refine g_iload_n ok 1 dJ6_numberOfTrailingZeros_19 rfl ?_
    refine g_ldc_w (v := 65536) ok q774 dJ6_numberOfTrailingZeros_20 ?_
    have kj4 : G w x 2 0 0 (QM w x (pI (v_J6_numberOfTrailingZeros a0) C) 0 0) C 34 [(0, .int (if ((a0 ^^^ (-1)) &&& (a0 - 1)) ≤ 65536 then ((a0 ^^^ (-1)) &&& (a0 - 1)) else (Int32.toUInt32 ((a0 ^^^ (-1)) &&& (a0 - 1)) >>> (Int32.toUInt32 16 &&& Int32.toUInt32 31)).toInt32)), (1, .int (if ((a0 ^^^ (-1)) &&& (a0 - 1)) ≤ 65536 then (1 : Int32) else (1 + Int32.ofInt 16)))] [] := by
      refine g_iload_n ok 0 dJ6_numberOfTrailingZeros_34 rfl ?_
      refine g_sipush (v := 256) ok dJ6_numberOfTrailingZeros_35 (by decide) ?_
      have kj7 : G w x 2 0 0 (QM w x (pI (v_J6_numberOfTrailingZeros a0) C) 0 0) C 49 [(0, .int (if (if ((a0 ^^^ (-1)) &&& (a0 - 1)) ≤ 65536 then ((a0 ^^^ (-1)) &&& (a0 - 1)) else (Int32.toUInt32 ((a0 ^^^ (-1)) &&& (a0 - 1)) >>> (Int32.toUInt32 16 &&& Int32.toUInt32 31)).toInt32) ≤ 256 then (if ((a0 ^^^ (-1)) &&& (a0 - 1)) ≤ 65536 then ((a0 ^^^ (-1)) &&& (a0 - 1)) else (Int32.toUInt32 ((a0 ^^^ (-1)) &&& (a0 - 1)) >>> (Int32.toUInt32 16 &&& Int32.toUInt32 31)).toInt32) else (Int32.toUInt32 (if ((a0 ^^^ (-1)) &&& (a0 - 1)) ≤ 65536 then ((a0 ^^^ (-1)) &&& (a0 - 1)) else (Int32.toUInt32 ((a0 ^^^ (-1)) &&& (a0 - 1)) >>> (Int32.toUInt32 16 &&& Int32.toUInt32 31)).toInt32) >>> (Int32.toUInt32 8 &&& Int32.toUInt32 31)).toInt32)), (1, .int (if (if ((a0 ^^^ (-1)) &&& (a0 - 1)) ≤ 65536 then ((a0 ^^^ (-1)) &&& (a0 - 1)) else (Int32.toUInt32 ((a0 ^^^ (-1)) &&& (a0 - 1)) >>> (Int32.toUInt32 16 &&& Int32.toUInt32 31)).toInt32) ≤ 256 then (if ((a0 ^^^ (-1)) &&& (a0 - 1)) ≤ 65536 then (1 : Int32) else (1 + Int32.ofInt 16)) else ((if ((a0 ^^^ (-1)) &&& (a0 - 1)) ≤ 65536 then (1 : Int32) else (1 + Int32.ofInt 16)) + Int32.ofInt 8)))] [] := by
        refine g_iload_n ok 0 dJ6_numberOfTrailingZeros_49 rfl ?_
        refine g_bipush (v := 16) ok dJ6_numberOfTrailingZeros_50 (by decide) ?_
        have kj10 : G w x 2 0 0 (QM w x (pI (v_J6_numberOfTrailingZeros a0) C) 0 0) C 62 [(0, .int (if (if (if ((a0 ^^^ (-1)) &&& (a0 - 1)) ≤ 65536 then ((a0 ^^^ (-1)) &&& (a0 - 1)) else (Int32.toUInt32 ((a0 ^^^ (-1)) &&& (a0 - 1)) >>> (Int32.toUInt32 16 &&& Int32.toUInt32 31)).toInt32) ≤ 256 then (if ((a0 ^^^ (-1)) &&& (a0 - 1)) ≤ 65536 then ((a0 ^^^ (-1)) &&& (a0 - 1)) else (Int32.toUInt32 ((a0 ^^^ (-1)) &&& (a0 - 1)) >>> (Int32.toUInt32 16 &&& Int32.toUInt32 31)).toInt32) else (Int32.toUInt32 (if ((a0 ^^^ (-1)) &&& (a0 - 1)) ≤ 65536 then ((a0 ^^^ (-1)) &&& (a0 - 1)) else (Int32.toUInt32 ((a0 ^^^ (-1)) &&& (a0 - 1)) >>> (Int32.toUInt32 16 &&& Int32.toUInt32 31)).toInt32) >>> (Int32.toUInt32 8 &&& Int32.toUInt32 31)).toInt32) ≤ 16 then (if (if ((a0 ^^^ (-1)) &&& (a0 - 1)) ≤ 65536 then ((a0 ^^^ (-1)) &&& (a0 - 1)) else (Int32.toUInt32 ((a0 ^^^ (-1)) &&& (a0 - 1)) >>> (Int32.toUInt32 16 &&& Int32.toUInt32 31)).toInt32) ≤ 256 then (if ((a0 ^^^ (-1)) &&& (a0 - 1)) ≤ 65536 then ((a0 ^^^ (-1)) &&& (a0 - 1)) else (Int32.toUInt32 ((a0 ^^^ (-1)) &&& (a0 - 1)) >>> (Int32.toUInt32 16 &&& Int32.toUInt32 31)).toInt32) else (Int32.toUInt32 (if ((a0 ^^^ (-1)) &&& (a0 - 1)) ≤ 65536 then ((a0 ^^^ (-1)) &&& (a0 - 1)) else (Int32.toUInt32 ((a0 ^^^ (-1)) &&& (a0 - 1)) >>> (Int32.toUInt32 16 &&& Int32.toUInt32 31)).toInt32) >>> (Int32.toUInt32 8 &&& Int32.toUInt32 31)).toInt32) else (Int32.toUInt32 (if (if ((a0 ^^^ (-1)) &&& (a0 - 1)) ≤ 65536 then ((a0 ^^^ (-1)) &&& (a0 - 1)) else (Int32.toUInt32 ((a0 ^^^ (-1)) &&& (a0 - 1)) >>> (Int32.toUInt32 16 &&& Int32.toUInt32 31)).toInt32) ≤ 256 then (if ((a0 ^^^ (-1)) &&& (a0 - 1)) ≤ 65536 then ((a0 ^^^ (-1)) &&& (a0 - 1)) else (Int32.toUInt32 ((a0 ^^^ (-1)) &&& (a0 - 1)) >>> (Int32.toUInt32 16 &&& Int32.toUInt32 31)).toInt32) else (Int32.toUInt32 (if ((a0 ^^^ (-1)) &&& (a0 - 1)) ≤ 65536 then ((a0 ^^^ (-1)) &&& (a0 - 1)) else (Int32.toUInt32 ((a0 ^^^ (-1)) &&& (a0 - 1)) >>> (Int32.toUInt32 16 &&& Int32.toUInt32 31)).toInt32) >>> (Int32.toUInt32 8 &&& Int32.toUInt32 31)).toInt32) >>> (Int32.toUInt32 4 &&& Int32.toUInt32 31)).toInt32)), (1, .int (if (if (if ((a0 ^^^ (-1)) &&& (a0 - 1)) ≤ 65536 then ((a0 ^^^ (-1)) &&& (a0 - 1)) else (Int32.toUInt32 ((a0 ^^^ (-1)) &&& (a0 - 1)) >>> (Int32.toUInt32 16 &&& Int32.toUInt32 31)).toInt32) ≤ 256 then (if ((a0 ^^^ (-1)) &&& (a0 - 1)) ≤ 65536 then ((a0 ^^^ (-1)) &&& (a0 - 1)) else (Int32.toUInt32 ((a0 ^^^ (-1)) &&& (a0 - 1)) >>> (Int32.toUInt32 16 &&& Int32.toUInt32 31)).toInt32) else (Int32.toUInt32 (if ((a0 ^^^ (-1)) &&& (a0 - 1)) ≤ 65536 then ((a0 ^^^ (-1)) &&& (a0 - 1)) else (Int32.toUInt32 ((a0 ^^^ (-1)) &&& (a0 - 1)) >>> (Int32.toUInt32 16 &&& Int32.toUInt32 31)).toInt32) >>> (Int32.toUInt32 8 &&& Int32.toUInt32 31)).toInt32) ≤ 16 then (if (if ((a0 ^^^ (-1)) &&& (a0 - 1)) ≤ 65536 then ((a0 ^^^ (-1)) &&& (a0 - 1)) else (Int32.toUInt32 ((a0 ^^^ (-1)) &&& (a0 - 1)) >>> (Int32.toUInt32 16 &&& Int32.toUInt32 31)).toInt32) ≤ 256 then (if ((a0 ^^^ (-1)) &&& (a0 - 1)) ≤ 65536 then (1 : Int32) else (1 + Int32.ofInt 16)) else ((if ((a0 ^^^ (-1)) &&& (a0 - 1)) ≤ 65536 then (1 : Int32) else (1 + Int32.ofInt 16)) + Int32.ofInt 8)) else ((if (if ((a0 ^^^ (-1)) &&& (a0 - 1)) ≤ 65536 then ((a0 ^^^ (-1)) &&& (a0 - 1)) else (Int32.toUInt32 ((a0 ^^^ (-1)) &&& (a0 - 1)) >>> (Int32.toUInt32 16 &&& Int32.toUInt32 31)).toInt32) ≤ 256 then (if ((a0 ^^^ (-1)) &&& (a0 - 1)) ≤ 65536 then (1 : Int32) else (1 + Int32.ofInt 16)) else ((if ((a0 ^^^ (-1)) &&& (a0 - 1)) ≤ 65536 then (1 : Int32) else (1 + Int32.ofInt 16)) + Int32.ofInt 8)) + Int32.ofInt 4)))] [] := by
          refine g_iload_n ok 0 dJ6_numberOfTrailingZeros_62 rfl ?_
          refine g_iconst (v := 4) ok dJ6_numberOfTrailingZeros_63 (by decide) ?_
          have kj13 : G w x 2 0 0 (QM w x (pI (v_J6_numberOfTrailingZeros a0) C) 0 0) C 74 [(0, .int (if (if (if (if ((a0 ^^^ (-1)) &&& (a0 - 1)) ≤ 65536 then ((a0 ^^^ (-1)) &&& (a0 - 1)) else (Int32.toUInt32 ((a0 ^^^ (-1)) &&& (a0 - 1)) >>> (Int32.toUInt32 16 &&& Int32.toUInt32 31)).toInt32) ≤ 256 then (if ((a0 ^^^ (-1)) &&& (a0 - 1)) ≤ 65536 then ((a0 ^^^ (-1)) &&& (a0 - 1)) else (Int32.toUInt32 ((a0 ^^^ (-1)) &&& (a0 - 1)) >>> (Int32.toUInt32 16 &&& Int32.toUInt32 31)).toInt32) else (Int32.toUInt32 (if ((a0 ^^^ (-1)) &&& (a0 - 1)) ≤ 65536 then ((a0 ^^^ (-1)) &&& (a0 - 1)) else (Int32.toUInt32 ((a0 ^^^ (-1)) &&& (a0 - 1)) >>> (Int32.toUInt32 16 &&& Int32.toUInt32 31)).toInt32) >>> (Int32.toUInt32 8 &&& Int32.toUInt32 31)).toInt32) ≤ 16 then (if (if ((a0 ^^^ (-1)) &&& (a0 - 1)) ≤ 65536 then ((a0 ^^^ (-1)) &&& (a0 - 1)) else (Int32.toUInt32 ((a0 ^^^ (-1)) &&& (a0 - 1)) >>> (Int32.toUInt32 16 &&& Int32.toUInt32 31)).toInt32) ≤ 256 then (if ((a0 ^^^ (-1)) &&& (a0 - 1)) ≤ 65536 then ((a0 ^^^ (-1)) &&& (a0 - 1)) else (Int32.toUInt32 ((a0 ^^^ (-1)) &&& (a0 - 1)) >>> (Int32.toUInt32 16 &&& Int32.toUInt32 31)).toInt32) else (Int32.toUInt32 (if ((a0 ^^^ (-1)) &&& (a0 - 1)) ≤ 65536 then ((a0 ^^^ (-1)) &&& (a0 - 1)) else (Int32.toUInt32 ((a0 ^^^ (-1)) &&& (a0 - 1)) >>> (Int32.toUInt32 16 &&& Int32.toUInt32 31)).toInt32) >>> (Int32.toUInt32 8 &&& Int32.toUInt32 31)).toInt32) else (Int32.toUInt32 (if (if ((a0 ^^^ (-1)) &&& (a0 - 1)) ≤ 65536 then ((a0 ^^^ (-1)) &&& (a0 - 1)) else (Int32.toUInt32 ((a0 ^^^ (-1)) &&& (a0 - 1)) >>> (Int32.toUInt32 16 &&& Int32.toUInt32 31)).toInt32) ≤ 256 then (if ((a0 ^^^ (-1)) &&& (a0 - 1)) ≤ 65536 then ((a0 ^^^ (-1)) &&& (a0 - 1)) else (Int32.toUInt32 ((a0 ^^^ (-1)) &&& (a0 - 1)) >>> (Int32.toUInt32 16 &&& Int32.toUInt32 31)).toInt32) else (Int32.toUInt32 (if ((a0 ^^^ (-1)) &&& (a0 - 1)) ≤ 65536 then ((a0 ^^^ (-1)) &&& (a0 - 1)) else (Int32.toUInt32 ((a0 ^^^ (-1)) &&& (a0 - 1)) >>> (Int32.toUInt32 16 &&& Int32.toUInt32 31)).toInt32) >>> (Int32.toUInt32 8 &&& Int32.toUInt32 31)).toInt32) >>> (Int32.toUInt32 4 &&& Int32.toUInt32 31)).toInt32) ≤ 4 then (if (if (if ((a0 ^^^ (-1)) &&& (a0 - 1)) ≤ 65536 then ((a0 ^^^ (-1)) &&& (a0 - 1)) else (Int32.toUInt32 ((a0 ^^^ (-1)) &&& (a0 - 1)) >>> (Int32.toUInt32 16 &&& Int32.toUInt32 31)).toInt32) ≤ 256 then (if ((a0 ^^^ (-1)) &&& (a0 - 1)) ≤ 65536 then ((a0 ^^^ (-1)) &&& (a0 - 1)) else (Int32.toUInt32 ((a0 ^^^ (-1)) &&& (a0 - 1)) >>> (Int32.toUInt32 16 &&& Int32.toUInt32 31)).toInt32) else (Int32.toUInt32 (if ((a0 ^^^ (-1)) &&& (a0 - 1)) ≤ 65536 then ((a0 ^^^ (-1)) &&& (a0 - 1)) else (Int32.toUInt32 ((a0 ^^^ (-1)) &&& (a0 - 1)) >>> (Int32.toUInt32 16 &&& Int32.toUInt32 31)).toInt32) >>> (Int32.toUInt32 8 &&& Int32.toUInt32 31)).toInt32) ≤ 16 then (if (if ((a0 ^^^ (-1)) &&& (a0 - 1)) ≤ 65536 then ((a0 ^^^ (-1)) &&& (a0 - 1)) else (Int32.toUInt32 ((a0 ^^^ (-1)) &&& (a0 - 1)) >>> (Int32.toUInt32 16 &&& Int32.toUInt32 31)).toInt32) ≤ 256 then (if ((a0 ^^^ (-1)) &&& (a0 - 1)) ≤ 65536 then ((a0 ^^^ (-1)) &&& (a0 - 1)) else (Int32.toUInt32 ((a0 ^^^ (-1)) &&& (a0 - 1)) >>> (Int32.toUInt32 16 &&& Int32.toUInt32 31)).toInt32) else (Int32.toUInt32 (if ((a0 ^^^ (-1)) &&& (a0 - 1)) ≤ 65536 then ((a0 ^^^ (-1)) &&& (a0 - 1)) else (Int32.toUInt32 ((a0 ^^^ (-1)) &&& (a0 - 1)) >>> (Int32.toUInt32 16 &&& Int32.toUInt32 31)).toInt32) >>> (Int32.toUInt32 8 &&& Int32.toUInt32 31)).toInt32) else (Int32.toUInt32 (if (if ((a0 ^^^ (-1)) &&& (a0 - 1)) ≤ 65536 then ((a0 ^^^ (-1)) &&& (a0 - 1)) else (Int32.toUInt32 ((a0 ^^^ (-1)) &&& (a0 - 1)) >>> (Int32.toUInt32 16 &&& Int32.toUInt32 31)).toInt32) ≤ 256 then (if ((a0 ^^^ (-1)) &&& (a0 - 1)) ≤ 65536 then ((a0 ^^^ (-1)) &&& (a0 - 1)) else (Int32.toUInt32 ((a0 ^^^ (-1)) &&& (a0 - 1)) >>> (Int32.toUInt32 16 &&& Int32.toUInt32 31)).toInt32) else (Int32.toUInt32 (if ((a0 ^^^ (-1)) &&& (a0 - 1)) ≤ 65536 then ((a0 ^^^ (-1)) &&& (a0 - 1)) else (Int32.toUInt32 ((a0 ^^^ (-1)) &&& (a0 - 1)) >>> (Int32.toUInt32 16 &&& Int32.toUInt32 31)).toInt32) >>> (Int32.toUInt32 8 &&& Int32.toUInt32 31)).toInt32) >>> (Int32.toUInt32 4 &&& Int32.toUInt32 31)).toInt32) else (Int32.toUInt32 (if (if (if ((a0 ^^^ (-1)) &&& (a0 - 1)) ≤ 65536 then ((a0 ^^^ (-1)) &&& (a0 - 1)) else (Int32.toUInt32 ((a0 ^^^ (-1)) &&& (a0 - 1)) >>> (Int32.toUInt32 16 &&& Int32.toUInt32 31)).toInt32) ≤ 256 then (if ((a0 ^^^ (-1)) &&& (a0 - 1)) ≤ 65536 then ((a0 ^^^ (-1)) &&& (a0 - 1)) else (Int32.toUInt32 ((a0 ^^^ (-1)) &&& (a0 - 1)) >>> (Int32.toUInt32 16 &&& Int32.toUInt32 31)).toInt32) else (Int32.toUInt32 (if ((a0 ^^^ (-1)) &&& (a0 - 1)) ≤ 65536 then ((a0 ^^^ (-1)) &&& (a0 - 1)) else (Int32.toUInt32 ((a0 ^^^ (-1)) &&& (a0 - 1)) >>> (Int32.toUInt32 16 &&& Int32.toUInt32 31)).toInt32) >>> (Int32.toUInt32 8 &&& Int32.toUInt32 31)).toInt32) ≤ 16 then (if (if ((a0 ^^^ (-1)) &&& (a0 - 1)) ≤ 65536 then ((a0 ^^^ (-1)) &&& (a0 - 1)) else (Int32.toUInt32 ((a0 ^^^ (-1)) &&& (a0 - 1)) >>> (Int32.toUInt32 16 &&& Int32.toUInt32 31)).toInt32) ≤ 256 then (if ((a0 ^^^ (-1)) &&& (a0 - 1)) ≤ 65536 then ((a0 ^^^ (-1)) &&& (a0 - 1)) else (Int32.toUInt32 ((a0 ^^^ (-1)) &&& (a0 - 1)) >>> (Int32.toUInt32 16 &&& Int32.toUInt32 31)).toInt32) else (Int32.toUInt32 (if ((a0 ^^^ (-1)) &&& (a0 - 1)) ≤ 65536 then ((a0 ^^^ (-1)) &&& (a0 - 1)) else (Int32.toUInt32 ((a0 ^^^ (-1)) &&& (a0 - 1)) >>> (Int32.toUInt32 16 &&& Int32.toUInt32 31)).toInt32) >>> (Int32.toUInt32 8 &&& Int32.toUInt32 31)).toInt32) else (Int32.toUInt32 (if (if ((a0 ^^^ (-1)) &&& (a0 - 1)) ≤ 65536 then ((a0 ^^^ (-1)) &&& (a0 - 1)) else (Int32.toUInt32 ((a0 ^^^ (-1)) &&& (a0 - 1)) >>> (Int32.toUInt32 16 &&& Int32.toUInt32 31)).toInt32) ≤ 256 then (if ((a0 ^^^ (-1)) &&& (a0 - 1)) ≤ 65536 then ((a0 ^^^ (-1)) &&& (a0 - 1)) else (Int32.toUInt32 ((a0 ^^^ (-1)) &&& (a0 - 1)) >>> (Int32.toUInt32 16 &&& Int32.toUInt32 31)).toInt32) else (Int32.toUInt32 (if ((a0 ^^^ (-1)) &&& (a0 - 1)) ≤ 65536 then ((a0 ^^^ (-1)) &&& (a0 - 1)) else (Int32.toUInt32 ((a0 ^^^ (-1)) &&& (a0 - 1)) >>> (Int32.toUInt32 16 &&& Int32.toUInt32 31)).toInt32) >>> (Int32.toUInt32 8 &&& Int32.toUInt32 31)).toInt32) >>> (Int32.toUInt32 4 &&& Int32.toUInt32 31)).toInt32) >>> (Int32.toUInt32 2 &&& Int32.toUInt32 31)).toInt32)), (1, .int (if (if (if (if ((a0 ^^^ (-1)) &&& (a0 - 1)) ≤ 65536 then ((a0 ^^^ (-1)) &&& (a0 - 1)) else (Int32.toUInt32 ((a0 ^^^ (-1)) &&& (a0 - 1)) >>> (Int32.toUInt32 16 &&& Int32.toUInt32 31)).toInt32) ≤ 256 then (if ((a0 ^^^ (-1)) &&& (a0 - 1)) ≤ 65536 then ((a0 ^^^ (-1)) &&& (a0 - 1)) else (Int32.toUInt32 ((a0 ^^^ (-1)) &&& (a0 - 1)) >>> (Int32.toUInt32 16 &&& Int32.toUInt32 31)).toInt32) else (Int32.toUInt32 (if ((a0 ^^^ (-1)) &&& (a0 - 1)) ≤ 65536 then ((a0 ^^^ (-1)) &&& (a0 - 1)) else (Int32.toUInt32 ((a0 ^^^ (-1)) &&& (a0 - 1)) >>> (Int32.toUInt32 16 &&& Int32.toUInt32 31)).toInt32) >>> (Int32.toUInt32 8 &&& Int32.toUInt32 31)).toInt32) ≤ 16 then (if (if ((a0 ^^^ (-1)) &&& (a0 - 1)) ≤ 65536 then ((a0 ^^^ (-1)) &&& (a0 - 1)) else (Int32.toUInt32 ((a0 ^^^ (-1)) &&& (a0 - 1)) >>> (Int32.toUInt32 16 &&& Int32.toUInt32 31)).toInt32) ≤ 256 then (if ((a0 ^^^ (-1)) &&& (a0 - 1)) ≤ 65536 then ((a0 ^^^ (-1)) &&& (a0 - 1)) else (Int32.toUInt32 ((a0 ^^^ (-1)) &&& (a0 - 1)) >>> (Int32.toUInt32 16 &&& Int32.toUInt32 31)).toInt32) else (Int32.toUInt32 (if ((a0 ^^^ (-1)) &&& (a0 - 1)) ≤ 65536 then ((a0 ^^^ (-1)) &&& (a0 - 1)) else (Int32.toUInt32 ((a0 ^^^ (-1)) &&& (a0 - 1)) >>> (Int32.toUInt32 16 &&& Int32.toUInt32 31)).toInt32) >>> (Int32.toUInt32 8 &&& Int32.toUInt32 31)).toInt32) else (Int32.toUInt32 (if (if ((a0 ^^^ (-1)) &&& (a0 - 1)) ≤ 65536 then ((a0 ^^^ (-1)) &&& (a0 - 1)) else (Int32.toUInt32 ((a0 ^^^ (-1)) &&& (a0 - 1)) >>> (Int32.toUInt32 16 &&& Int32.toUInt32 31)).toInt32) ≤ 256 then (if ((a0 ^^^ (-1)) &&& (a0 - 1)) ≤ 65536 then ((a0 ^^^ (-1)) &&& (a0 - 1)) else (Int32.toUInt32 ((a0 ^^^ (-1)) &&& (a0 - 1)) >>> (Int32.toUInt32 16 &&& Int32.toUInt32 31)).toInt32) else (Int32.toUInt32 (if ((a0 ^^^ (-1)) &&& (a0 - 1)) ≤ 65536 then ((a0 ^^^ (-1)) &&& (a0 - 1)) else (Int32.toUInt32 ((a0 ^^^ (-1)) &&& (a0 - 1)) >>> (Int32.toUInt32 16 &&& Int32.toUInt32 31)).toInt32) >>> (Int32.toUInt32 8 &&& Int32.toUInt32 31)).toInt32) >>> (Int32.toUInt32 4 &&& Int32.toUInt32 31)).toInt32) ≤ 4 then (if (if (if ((a0 ^^^ (-1)) &&& (a0 - 1)) ≤ 65536 then ((a0 ^^^ (-1)) &&& (a0 - 1)) else (Int32.toUInt32 ((a0 ^^^ (-1)) &&& (a0 - 1)) >>> (Int32.toUInt32 16 &&& Int32.toUInt32 31)).toInt32) ≤ 256 then (if ((a0 ^^^ (-1)) &&& (a0 - 1)) ≤ 65536 then ((a0 ^^^ (-1)) &&& (a0 - 1)) else (Int32.toUInt32 ((a0 ^^^ (-1)) &&& (a0 - 1)) >>> (Int32.toUInt32 16 &&& Int32.toUInt32 31)).toInt32) else (Int32.toUInt32 (if ((a0 ^^^ (-1)) &&& (a0 - 1)) ≤ 65536 then ((a0 ^^^ (-1)) &&& (a0 - 1)) else (Int32.toUInt32 ((a0 ^^^ (-1)) &&& (a0 - 1)) >>> (Int32.toUInt32 16 &&& Int32.toUInt32 31)).toInt32) >>> (Int32.toUInt32 8 &&& Int32.toUInt32 31)).toInt32) ≤ 16 then (if (if ((a0 ^^^ (-1)) &&& (a0 - 1)) ≤ 65536 then ((a0 ^^^ (-1)) &&& (a0 - 1)) else (Int32.toUInt32 ((a0 ^^^ (-1)) &&& (a0 - 1)) >>> (Int32.toUInt32 16 &&& Int32.toUInt32 31)).toInt32) ≤ 256 then (if ((a0 ^^^ (-1)) &&& (a0 - 1)) ≤ 65536 then (1 : Int32) else (1 + Int32.ofInt 16)) else ((if ((a0 ^^^ (-1)) &&& (a0 - 1)) ≤ 65536 then (1 : Int32) else (1 + Int32.ofInt 16)) + Int32.ofInt 8)) else ((if (if ((a0 ^^^ (-1)) &&& (a0 - 1)) ≤ 65536 then ((a0 ^^^ (-1)) &&& (a0 - 1)) else (Int32.toUInt32 ((a0 ^^^ (-1)) &&& (a0 - 1)) >>> (Int32.toUInt32 16 &&& Int32.toUInt32 31)).toInt32) ≤ 256 then (if ((a0 ^^^ (-1)) &&& (a0 - 1)) ≤ 65536 then (1 : Int32) else (1 + Int32.ofInt 16)) else ((if ((a0 ^^^ (-1)) &&& (a0 - 1)) ≤ 65536 then (1 : Int32) else (1 + Int32.ofInt 16)) + Int32.ofInt 8)) + Int32.ofInt 4)) else ((if (if (if ((a0 ^^^ (-1)) &&& (a0 - 1)) ≤ 65536 then ((a0 ^^^ (-1)) &&& (a0 - 1)) else (Int32.toUInt32 ((a0 ^^^ (-1)) &&& (a0 - 1)) >>> (Int32.toUInt32 16 &&& Int32.toUInt32 31)).toInt32) ≤ 256 then (if ((a0 ^^^ (-1)) &&& (a0 - 1)) ≤ 65536 then ((a0 ^^^ (-1)) &&& (a0 - 1)) else (Int32.toUInt32 ((a0 ^^^ (-1)) &&& (a0 - 1)) >>> (Int32.toUInt32 16 &&& Int32.toUInt32 31)).toInt32) else (Int32.toUInt32 (if ((a0 ^^^ (-1)) &&& (a0 - 1)) ≤ 65536 then ((a0 ^^^ (-1)) &&& (a0 - 1)) else (Int32.toUInt32 ((a0 ^^^ (-1)) &&& (a0 - 1)) >>> (Int32.toUInt32 16 &&& Int32.toUInt32 31)).toInt32) >>> (Int32.toUInt32 8 &&& Int32.toUInt32 31)).toInt32) ≤ 16 then (if (if ((a0 ^^^ (-1)) &&& (a0 - 1)) ≤ 65536 then ((a0 ^^^ (-1)) &&& (a0 - 1)) else (Int32.toUInt32 ((a0 ^^^ (-1)) &&& (a0 - 1)) >>> (Int32.toUInt32 16 &&& Int32.toUInt32 31)).toInt32) ≤ 256 then (if ((a0 ^^^ (-1)) &&& (a0 - 1)) ≤ 65536 then (1 : Int32) else (1 + Int32.ofInt 16)) else ((if ((a0 ^^^ (-1)) &&& (a0 - 1)) ≤ 65536 then (1 : Int32) else (1 + Int32.ofInt 16)) + Int32.ofInt 8)) else ((if (if ((a0 ^^^ (-1)) &&& (a0 - 1)) ≤ 65536 then ((a0 ^^^ (-1)) &&& (a0 - 1)) else (Int32.toUInt32 ((a0 ^^^ (-1)) &&& (a0 - 1)) >>> (Int32.toUInt32 16 &&& Int32.toUInt32 31)).toInt32) ≤ 256 then (if ((a0 ^^^ (-1)) &&& (a0 - 1)) ≤ 65536 then (1 : Int32) else (1 + Int32.ofInt 16)) else ((if ((a0 ^^^ (-1)) &&& (a0 - 1)) ≤ 65536 then (1 : Int32) else (1 + Int32.ofInt 16)) + Int32.ofInt 8)) + Int32.ofInt 4)) + Int32.ofInt 2)))] [] := by
            refine g_iload_n ok 1 dJ6_numberOfTrailingZeros_74 rfl ?_
            refine g_iload_n ok 0 dJ6_numberOfTrailingZeros_75 rfl ?_
            refine g_iconst (v := 1) ok dJ6_numberOfTrailingZeros_76 (by decide) ?_
            refine g_iushr ok dJ6_numberOfTrailingZeros_77 ?_
            refine g_iadd ok dJ6_numberOfTrailingZeros_78 ?_
            exact g_iret ok dJ6_numberOfTrailingZeros_79 ⟨by first | (simp only [v_J6_numberOfTrailingZeros, if_pos c1]; done) | contradiction, rfl⟩
          refine g_icmp_le (tgt := 74) ok dJ6_numberOfTrailingZeros_64 (by decide) (fun c11 => ?_) (fun c11 => ?_)
          · simp only [if_pos c11] at kj13
            exact kj13
          · refine g_iinc ok 1 (fun z => [(1, .int z), (0, .int (if (if (if ((a0 ^^^ (-1)) &&& (a0 - 1)) ≤ 65536 then ((a0 ^^^ (-1)) &&& (a0 - 1)) else (Int32.toUInt32 ((a0 ^^^ (-1)) &&& (a0 - 1)) >>> (Int32.toUInt32 16 &&& Int32.toUInt32 31)).toInt32) ≤ 256 then (if ((a0 ^^^ (-1)) &&& (a0 - 1)) ≤ 65536 then ((a0 ^^^ (-1)) &&& (a0 - 1)) else (Int32.toUInt32 ((a0 ^^^ (-1)) &&& (a0 - 1)) >>> (Int32.toUInt32 16 &&& Int32.toUInt32 31)).toInt32) else (Int32.toUInt32 (if ((a0 ^^^ (-1)) &&& (a0 - 1)) ≤ 65536 then ((a0 ^^^ (-1)) &&& (a0 - 1)) else (Int32.toUInt32 ((a0 ^^^ (-1)) &&& (a0 - 1)) >>> (Int32.toUInt32 16 &&& Int32.toUInt32 31)).toInt32) >>> (Int32.toUInt32 8 &&& Int32.toUInt32 31)).toInt32) ≤ 16 then (if (if ((a0 ^^^ (-1)) &&& (a0 - 1)) ≤ 65536 then ((a0 ^^^ (-1)) &&& (a0 - 1)) else (Int32.toUInt32 ((a0 ^^^ (-1)) &&& (a0 - 1)) >>> (Int32.toUInt32 16 &&& Int32.toUInt32 31)).toInt32) ≤ 256 then (if ((a0 ^^^ (-1)) &&& (a0 - 1)) ≤ 65536 then ((a0 ^^^ (-1)) &&& (a0 - 1)) else (Int32.toUInt32 ((a0 ^^^ (-1)) &&& (a0 - 1)) >>> (Int32.toUInt32 16 &&& Int32.toUInt32 31)).toInt32) else (Int32.toUInt32 (if ((a0 ^^^ (-1)) &&& (a0 - 1)) ≤ 65536 then ((a0 ^^^ (-1)) &&& (a0 - 1)) else (Int32.toUInt32 ((a0 ^^^ (-1)) &&& (a0 - 1)) >>> (Int32.toUInt32 16 &&& Int32.toUInt32 31)).toInt32) >>> (Int32.toUInt32 8 &&& Int32.toUInt32 31)).toInt32) else (Int32.toUInt32 (if (if ((a0 ^^^ (-1)) &&& (a0 - 1)) ≤ 65536 then ((a0 ^^^ (-1)) &&& (a0 - 1)) else (Int32.toUInt32 ((a0 ^^^ (-1)) &&& (a0 - 1)) >>> (Int32.toUInt32 16 &&& Int32.toUInt32 31)).toInt32) ≤ 256 then (if ((a0 ^^^ (-1)) &&& (a0 - 1)) ≤ 65536 then ((a0 ^^^ (-1)) &&& (a0 - 1)) else (Int32.toUInt32 ((a0 ^^^ (-1)) &&& (a0 - 1)) >>> (Int32.toUInt32 16 &&& Int32.toUInt32 31)).toInt32) else (Int32.toUInt32 (if ((a0 ^^^ (-1)) &&& (a0 - 1)) ≤ 65536 then ((a0 ^^^ (-1)) &&& (a0 - 1)) else (Int32.toUInt32 ((a0 ^^^ (-1)) &&& (a0 - 1)) >>> (Int32.toUInt32 16 &&& Int32.toUInt32 31)).toInt32) >>> (Int32.toUInt32 8 &&& Int32.toUInt32 31)).toInt32) >>> (Int32.toUInt32 4 &&& Int32.toUInt32 31)).toInt32))]) dJ6_numberOfTrailingZeros_67 rfl (by decide) (fun _ => rfl) (fun x12 ex12 => ?_)
            subst ex12
            refine g_iload_n ok 1 dJ6_numberOfTrailingZeros_70 rfl ?_
            refine g_iconst (v := 2) ok dJ6_numberOfTrailingZeros_71 (by decide) ?_
            refine g_iushr ok dJ6_numberOfTrailingZeros_72 ?_
            refine g_istore_n0 ok [(0, .int (Int32.toUInt32 (if (if (if ((a0 ^^^ (-1)) &&& (a0 - 1)) ≤ 65536 then ((a0 ^^^ (-1)) &&& (a0 - 1)) else (Int32.toUInt32 ((a0 ^^^ (-1)) &&& (a0 - 1)) >>> (Int32.toUInt32 16 &&& Int32.toUInt32 31)).toInt32) ≤ 256 then (if ((a0 ^^^ (-1)) &&& (a0 - 1)) ≤ 65536 then ((a0 ^^^ (-1)) &&& (a0 - 1)) else (Int32.toUInt32 ((a0 ^^^ (-1)) &&& (a0 - 1)) >>> (Int32.toUInt32 16 &&& Int32.toUInt32 31)).toInt32) else (Int32.toUInt32 (if ((a0 ^^^ (-1)) &&& (a0 - 1)) ≤ 65536 then ((a0 ^^^ (-1)) &&& (a0 - 1)) else (Int32.toUInt32 ((a0 ^^^ (-1)) &&& (a0 - 1)) >>> (Int32.toUInt32 16 &&& Int32.toUInt32 31)).toInt32) >>> (Int32.toUInt32 8 &&& Int32.toUInt32 31)).toInt32) ≤ 16 then (if (if ((a0 ^^^ (-1)) &&& (a0 - 1)) ≤ 65536 then ((a0 ^^^ (-1)) &&& (a0 - 1)) else (Int32.toUInt32 ((a0 ^^^ (-1)) &&& (a0 - 1)) >>> (Int32.toUInt32 16 &&& Int32.toUInt32 31)).toInt32) ≤ 256 then (if ((a0 ^^^ (-1)) &&& (a0 - 1)) ≤ 65536 then ((a0 ^^^ (-1)) &&& (a0 - 1)) else (Int32.toUInt32 ((a0 ^^^ (-1)) &&& (a0 - 1)) >>> (Int32.toUInt32 16 &&& Int32.toUInt32 31)).toInt32) else (Int32.toUInt32 (if ((a0 ^^^ (-1)) &&& (a0 - 1)) ≤ 65536 then ((a0 ^^^ (-1)) &&& (a0 - 1)) else (Int32.toUInt32 ((a0 ^^^ (-1)) &&& (a0 - 1)) >>> (Int32.toUInt32 16 &&& Int32.toUInt32 31)).toInt32) >>> (Int32.toUInt32 8 &&& Int32.toUInt32 31)).toInt32) else (Int32.toUInt32 (if (if ((a0 ^^^ (-1)) &&& (a0 - 1)) ≤ 65536 then ((a0 ^^^ (-1)) &&& (a0 - 1)) else (Int32.toUInt32 ((a0 ^^^ (-1)) &&& (a0 - 1)) >>> (Int32.toUInt32 16 &&& Int32.toUInt32 31)).toInt32) ≤ 256 then (if ((a0 ^^^ (-1)) &&& (a0 - 1)) ≤ 65536 then ((a0 ^^^ (-1)) &&& (a0 - 1)) else (Int32.toUInt32 ((a0 ^^^ (-1)) &&& (a0 - 1)) >>> (Int32.toUInt32 16 &&& Int32.toUInt32 31)).toInt32) else (Int32.toUInt32 (if ((a0 ^^^ (-1)) &&& (a0 - 1)) ≤ 65536 then ((a0 ^^^ (-1)) &&& (a0 - 1)) else (Int32.toUInt32 ((a0 ^^^ (-1)) &&& (a0 - 1)) >>> (Int32.toUInt32 16 &&& Int32.toUInt32 31)).toInt32) >>> (Int32.toUInt32 8 &&& Int32.toUInt32 31)).toInt32) >>> (Int32.toUInt32 4 &&& Int32.toUInt32 31)).toInt32) >>> (Int32.toUInt32 2 &&& Int32.toUInt32 31)).toInt32), (1, .int ((if (if (if ((a0 ^^^ (-1)) &&& (a0 - 1)) ≤ 65536 then ((a0 ^^^ (-1)) &&& (a0 - 1)) else (Int32.toUInt32 ((a0 ^^^ (-1)) &&& (a0 - 1)) >>> (Int32.toUInt32 16 &&& Int32.toUInt32 31)).toInt32) ≤ 256 then (if ((a0 ^^^ (-1)) &&& (a0 - 1)) ≤ 65536 then ((a0 ^^^ (-1)) &&& (a0 - 1)) else (Int32.toUInt32 ((a0 ^^^ (-1)) &&& (a0 - 1)) >>> (Int32.toUInt32 16 &&& Int32.toUInt32 31)).toInt32) else (Int32.toUInt32 (if ((a0 ^^^ (-1)) &&& (a0 - 1)) ≤ 65536 then ((a0 ^^^ (-1)) &&& (a0 - 1)) else (Int32.toUInt32 ((a0 ^^^ (-1)) &&& (a0 - 1)) >>> (Int32.toUInt32 16 &&& Int32.toUInt32 31)).toInt32) >>> (Int32.toUInt32 8 &&& Int32.toUInt32 31)).toInt32) ≤ 16 then (if (if ((a0 ^^^ (-1)) &&& (a0 - 1)) ≤ 65536 then ((a0 ^^^ (-1)) &&& (a0 - 1)) else (Int32.toUInt32 ((a0 ^^^ (-1)) &&& (a0 - 1)) >>> (Int32.toUInt32 16 &&& Int32.toUInt32 31)).toInt32) ≤ 256 then (if ((a0 ^^^ (-1)) &&& (a0 - 1)) ≤ 65536 then (1 : Int32) else (1 + Int32.ofInt 16)) else ((if ((a0 ^^^ (-1)) &&& (a0 - 1)) ≤ 65536 then (1 : Int32) else (1 + Int32.ofInt 16)) + Int32.ofInt 8)) else ((if (if ((a0 ^^^ (-1)) &&& (a0 - 1)) ≤ 65536 then ((a0 ^^^ (-1)) &&& (a0 - 1)) else (Int32.toUInt32 ((a0 ^^^ (-1)) &&& (a0 - 1)) >>> (Int32.toUInt32 16 &&& Int32.toUInt32 31)).toInt32) ≤ 256 then (if ((a0 ^^^ (-1)) &&& (a0 - 1)) ≤ 65536 then (1 : Int32) else (1 + Int32.ofInt 16)) else ((if ((a0 ^^^ (-1)) &&& (a0 - 1)) ≤ 65536 then (1 : Int32) else (1 + Int32.ofInt 16)) + Int32.ofInt 8)) + Int32.ofInt 4)) + Int32.ofInt 2))] dJ6_numberOfTrailingZeros_73 (by decide) rfl ?_
            simp only [if_neg c11] at kj13
            exact kj13
        refine g_icmp_le (tgt := 62) ok dJ6_numberOfTrailingZeros_52 (by decide) (fun c8 => ?_) (fun c8 => ?_)
        · simp only [if_pos c8] at kj10
          exact kj10
        · refine g_iinc ok 1 (fun z => [(1, .int z), (0, .int (if (if ((a0 ^^^ (-1)) &&& (a0 - 1)) ≤ 65536 then ((a0 ^^^ (-1)) &&& (a0 - 1)) else (Int32.toUInt32 ((a0 ^^^ (-1)) &&& (a0 - 1)) >>> (Int32.toUInt32 16 &&& Int32.toUInt32 31)).toInt32) ≤ 256 then (if ((a0 ^^^ (-1)) &&& (a0 - 1)) ≤ 65536 then ((a0 ^^^ (-1)) &&& (a0 - 1)) else (Int32.toUInt32 ((a0 ^^^ (-1)) &&& (a0 - 1)) >>> (Int32.toUInt32 16 &&& Int32.toUInt32 31)).toInt32) else (Int32.toUInt32 (if ((a0 ^^^ (-1)) &&& (a0 - 1)) ≤ 65536 then ((a0 ^^^ (-1)) &&& (a0 - 1)) else (Int32.toUInt32 ((a0 ^^^ (-1)) &&& (a0 - 1)) >>> (Int32.toUInt32 16 &&& Int32.toUInt32 31)).toInt32) >>> (Int32.toUInt32 8 &&& Int32.toUInt32 31)).toInt32))]) dJ6_numberOfTrailingZeros_55 rfl (by decide) (fun _ => rfl) (fun x9 ex9 => ?_)
          subst ex9
          refine g_iload_n ok 1 dJ6_numberOfTrailingZeros_58 rfl ?_
          refine g_iconst (v := 4) ok dJ6_numberOfTrailingZeros_59 (by decide) ?_
          refine g_iushr ok dJ6_numberOfTrailingZeros_60 ?_
          refine g_istore_n0 ok [(0, .int (Int32.toUInt32 (if (if ((a0 ^^^ (-1)) &&& (a0 - 1)) ≤ 65536 then ((a0 ^^^ (-1)) &&& (a0 - 1)) else (Int32.toUInt32 ((a0 ^^^ (-1)) &&& (a0 - 1)) >>> (Int32.toUInt32 16 &&& Int32.toUInt32 31)).toInt32) ≤ 256 then (if ((a0 ^^^ (-1)) &&& (a0 - 1)) ≤ 65536 then ((a0 ^^^ (-1)) &&& (a0 - 1)) else (Int32.toUInt32 ((a0 ^^^ (-1)) &&& (a0 - 1)) >>> (Int32.toUInt32 16 &&& Int32.toUInt32 31)).toInt32) else (Int32.toUInt32 (if ((a0 ^^^ (-1)) &&& (a0 - 1)) ≤ 65536 then ((a0 ^^^ (-1)) &&& (a0 - 1)) else (Int32.toUInt32 ((a0 ^^^ (-1)) &&& (a0 - 1)) >>> (Int32.toUInt32 16 &&& Int32.toUInt32 31)).toInt32) >>> (Int32.toUInt32 8 &&& Int32.toUInt32 31)).toInt32) >>> (Int32.toUInt32 4 &&& Int32.toUInt32 31)).toInt32), (1, .int ((if (if ((a0 ^^^ (-1)) &&& (a0 - 1)) ≤ 65536 then ((a0 ^^^ (-1)) &&& (a0 - 1)) else (Int32.toUInt32 ((a0 ^^^ (-1)) &&& (a0 - 1)) >>> (Int32.toUInt32 16 &&& Int32.toUInt32 31)).toInt32) ≤ 256 then (if ((a0 ^^^ (-1)) &&& (a0 - 1)) ≤ 65536 then (1 : Int32) else (1 + Int32.ofInt 16)) else ((if ((a0 ^^^ (-1)) &&& (a0 - 1)) ≤ 65536 then (1 : Int32) else (1 + Int32.ofInt 16)) + Int32.ofInt 8)) + Int32.ofInt 4))] dJ6_numberOfTrailingZeros_61 (by decide) rfl ?_
          simp only [if_neg c8] at kj10
          exact kj10
      refine g_icmp_le (tgt := 49) ok dJ6_numberOfTrailingZeros_38 (by decide) (fun c5 => ?_) (fun c5 => ?_)
      · simp only [if_pos c5] at kj7
        exact kj7
      · refine g_iinc ok 1 (fun z => [(1, .int z), (0, .int (if ((a0 ^^^ (-1)) &&& (a0 - 1)) ≤ 65536 then ((a0 ^^^ (-1)) &&& (a0 - 1)) else (Int32.toUInt32 ((a0 ^^^ (-1)) &&& (a0 - 1)) >>> (Int32.toUInt32 16 &&& Int32.toUInt32 31)).toInt32))]) dJ6_numberOfTrailingZeros_41 rfl (by decide) (fun _ => rfl) (fun x6 ex6 => ?_)
        subst ex6
        refine g_iload_n ok 1 dJ6_numberOfTrailingZeros_44 rfl ?_
        refine g_bipush (v := 8) ok dJ6_numberOfTrailingZeros_45 (by decide) ?_
        refine g_iushr ok dJ6_numberOfTrailingZeros_47 ?_
        refine g_istore_n0 ok [(0, .int (Int32.toUInt32 (if ((a0 ^^^ (-1)) &&& (a0 - 1)) ≤ 65536 then ((a0 ^^^ (-1)) &&& (a0 - 1)) else (Int32.toUInt32 ((a0 ^^^ (-1)) &&& (a0 - 1)) >>> (Int32.toUInt32 16 &&& Int32.toUInt32 31)).toInt32) >>> (Int32.toUInt32 8 &&& Int32.toUInt32 31)).toInt32), (1, .int ((if ((a0 ^^^ (-1)) &&& (a0 - 1)) ≤ 65536 then (1 : Int32) else (1 + Int32.ofInt 16)) + Int32.ofInt 8))] dJ6_numberOfTrailingZeros_48 (by decide) rfl ?_
        simp only [if_neg c5] at kj7
        exact kj7
    refine g_icmp_le (tgt := 34) ok dJ6_numberOfTrailingZeros_23 (by decide) (fun c2 => ?_) (fun c2 => ?_)
    · simp only [if_pos c2] at kj4
      exact g_sub [1, 0] [(0, .int ((a0 ^^^ (-1)) &&& (a0 - 1))), (1, .int 1)] rfl kj4
    · refine g_iinc ok 0 (fun z => [(1, .int z), (0, .int ((a0 ^^^ (-1)) &&& (a0 - 1)))]) dJ6_numberOfTrailingZeros_26 rfl (by decide) (fun _ => rfl) (fun x3 ex3 => ?_)
      subst ex3
      refine g_iload_n ok 1 dJ6_numberOfTrailingZeros_29 rfl ?_
      refine g_bipush (v := 16) ok dJ6_numberOfTrailingZeros_30 (by decide) ?_
      refine g_iushr ok dJ6_numberOfTrailingZeros_32 ?_
      refine g_istore_n0 ok [(0, .int (Int32.toUInt32 ((a0 ^^^ (-1)) &&& (a0 - 1)) >>> (Int32.toUInt32 16 &&& Int32.toUInt32 31)).toInt32), (1, .int (1 + Int32.ofInt 16))] dJ6_numberOfTrailingZeros_33 (by decide) rfl ?_
      simp only [if_neg c2] at kj4
      exact kj4
  · refine g_iload_n ok 0 dJ6_numberOfTrailingZeros_12 rfl ?_
    refine g_bipush (v := 32) ok dJ6_numberOfTrailingZeros_13 (by decide) ?_
    refine g_iand ok dJ6_numberOfTrailingZeros_15 ?_
    exact g_iret ok dJ6_numberOfTrailingZeros_16 ⟨by first | (simp only [v_J6_numberOfTrailingZeros, if_neg c1]; done) | contradiction, rfl⟩
def v_J5_max (a b : Int32) : Int32 := if a < b then b else a
def v_J5_min (a b : Int32) : Int32 := if b < a then b else a
def v_J5_abs (a : Int32) : Int32 := if 0 ≤ a then a else 0 - a
section MATH
variable {w : WD} {x : Cx} {cc : ByteArray} {nL : Nat} {own : String} {ret : Option FieldType} {rm : Room} {cells slots : Nat} {Q : State → Prop} {C : CS} {pc : Nat} {lv : List (Nat × Value)} {st : List Value}
theorem g_mmax (ok : Ok w x cc nL own ret rm) {idx : Nat} (ql : Cond.methodLink own idx yJ5_max ∈ lw_all) {a b : Int32} (hw : (st.map fun v => v.category).sum ≤ 8) (hR : 1 ≤ rm.frames ∧ 21 ≤ rm.locals) (hc : cells ≤ rm.cells ∧ slots ≤ rm.slots) (d : decode cc pc = .ok (.invokestatic idx, 3)) (k : G w x nL cells slots Q C (pc + 3) lv (.int (v_J5_max a b) :: st)) : G w x nL cells slots Q C pc lv (.int b :: .int a :: st) :=
  fun H locs ls h1 h2 h3 => va_mmax ok.ex ok.cd (ok.ml.trans h3.1.symm) ok.ow (ok.wd ql) (ok.wd q692) (ok.wd q87) (ok.wd q693) (by rw [ok.ro]; exact hR.1) (by rw [ok.ro]; have := hR.2; omega) (by rw [ok.ro]; exact hc.1) (by rw [ok.ro]; exact hc.2) d (k H locs ls h1 h2 h3)
theorem g_mmin (ok : Ok w x cc nL own ret rm) {idx : Nat} (ql : Cond.methodLink own idx yJ5_min ∈ lw_all) {a b : Int32} (hw : (st.map fun v => v.category).sum ≤ 8) (hR : 1 ≤ rm.frames ∧ 21 ≤ rm.locals) (hc : cells ≤ rm.cells ∧ slots ≤ rm.slots) (d : decode cc pc = .ok (.invokestatic idx, 3)) (k : G w x nL cells slots Q C (pc + 3) lv (.int (v_J5_min a b) :: st)) : G w x nL cells slots Q C pc lv (.int b :: .int a :: st) :=
  fun H locs ls h1 h2 h3 => va_mmin ok.ex ok.cd (ok.ml.trans h3.1.symm) ok.ow (ok.wd ql) (ok.wd q689) (ok.wd q87) (ok.wd q690) (by rw [ok.ro]; exact hR.1) (by rw [ok.ro]; have := hR.2; omega) (by rw [ok.ro]; exact hc.1) (by rw [ok.ro]; exact hc.2) d (k H locs ls h1 h2 h3)
theorem g_mabs (ok : Ok w x cc nL own ret rm) {idx : Nat} (ql : Cond.methodLink own idx yJ5_abs ∈ lw_all) {a : Int32} (hw : (st.map fun v => v.category).sum ≤ 8) (hR : 1 ≤ rm.frames ∧ 21 ≤ rm.locals) (hc : cells ≤ rm.cells ∧ slots ≤ rm.slots) (d : decode cc pc = .ok (.invokestatic idx, 3)) (k : G w x nL cells slots Q C (pc + 3) lv (.int (v_J5_abs a) :: st)) : G w x nL cells slots Q C pc lv (.int a :: st) :=
  fun H locs ls h1 h2 h3 => va_mabs ok.ex ok.cd (ok.ml.trans h3.1.symm) ok.ow (ok.wd ql) (ok.wd q600) (ok.wd q87) (ok.wd q601) (by rw [ok.ro]; exact hR.1) (by rw [ok.ro]; have := hR.2; omega) (by rw [ok.ro]; exact hc.1) (by rw [ok.ro]; exact hc.2) d (k H locs ls h1 h2 h3)
end MATH
theorem cf_X0_isIn : CfS yX0_isIn cX0_isIn 6 (some .boolean) 3 := ⟨⟨by decide, by decide, by decide⟩, q72, q271, q270⟩
def v_X0_isIn (a0 : Int64) (a1 : Int64) (a2 : Int64) : Int32 :=
  if (lg_cmp a0 a1) < 0 then
    (0)
    else
    (if 0 < (lg_cmp a0 a2) then
      (0)
      else
      (1))
theorem vb_X0_isIn (a0 : Int64) (a1 : Int64) (a2 : Int64) : v_X0_isIn a0 a1 a2 = 0 ∨ v_X0_isIn a0 a1 a2 = 1 := by
  unfold v_X0_isIn
  exact (ib_ite (Or.inl rfl) (ib_ite (Or.inl rfl) (Or.inr rfl)))
set_option maxHeartbeats 4000000 in
set_option maxRecDepth 100000 in
theorem mc_X0_isIn {w : WD} (wk : wOk w) (l : Launch) (C : CS) (a0 : Int64) (a1 : Int64) (a2 : Int64) : MC w l yX0_isIn cX0_isIn 6 (some .boolean) 0 0 0 [.long a0, .long a1, .long a2] C (pI (v_X0_isIn a0 a1 a2) C) := by
  refine MC.of wk (by decide) (Nat.le_of_ble_eq_true rfl) (fun x hx ok => ?_)
  subst hx
  show G w x 6 0 0 (QM w x _ 0 0) C 0 [(0, .long a0), (2, .long a1), (4, .long a2)] []
  refine g_lload_n ok 0 dX0_isIn_0 rfl ?_
  refine g_lload_n ok 1 dX0_isIn_1 rfl ?_
  refine g_lcmp ok dX0_isIn_2 ?_
  refine g_if_lt (tgt := 17) ok dX0_isIn_3 (by decide) (fun c1 => ?_) (fun c1 => ?_)
  · refine g_iconst (v := 0) ok dX0_isIn_17 (by decide) ?_
    exact g_zret ok dX0_isIn_18 (Or.inl rfl) ⟨by first | (simp only [v_X0_isIn, if_pos c1]; done) | contradiction, rfl⟩
  · refine g_lload_n ok 0 dX0_isIn_6 rfl ?_
    refine g_lload ok 2 dX0_isIn_7 rfl ?_
    refine g_lcmp ok dX0_isIn_9 ?_
    refine g_if_gt (tgt := 17) ok dX0_isIn_10 (by decide) (fun c2 => ?_) (fun c2 => ?_)
    · refine g_iconst (v := 0) ok dX0_isIn_17 (by decide) ?_
      exact g_zret ok dX0_isIn_18 (Or.inl rfl) ⟨by first | (simp only [v_X0_isIn, if_neg c1, if_pos c2]; done) | contradiction, rfl⟩
    · refine g_iconst (v := 1) ok dX0_isIn_13 (by decide) ?_
      refine g_goto (tgt := 18) ok dX0_isIn_14 (by decide) ?_
      exact g_zret ok dX0_isIn_18 (Or.inr rfl) ⟨by first | (simp only [v_X0_isIn, if_neg c1, if_neg c2]; done) | contradiction, rfl⟩
theorem cf_X0_orNone : CfS yX0_orNone cX0_orNone 1 (some .int) 1 := ⟨⟨by decide, by decide, by decide⟩, q72, q785, q784⟩
def v_X0_orNone (a0 : Int32) : Int32 :=
  if 0 ≤ a0 then
    (a0)
    else
    ((-1000000005))
set_option maxHeartbeats 4000000 in
set_option maxRecDepth 100000 in
theorem mc_X0_orNone {w : WD} (wk : wOk w) (l : Launch) (C : CS) (a0 : Int32) : MC w l yX0_orNone cX0_orNone 1 (some .int) 0 0 0 [.int a0] C (pI (v_X0_orNone a0) C) := by
  refine MC.of wk (by decide) (Nat.le_of_ble_eq_true rfl) (fun x hx ok => ?_)
  subst hx
  show G w x 1 0 0 (QM w x _ 0 0) C 0 [(0, .int a0)] []
  refine g_iload_n ok 0 dX0_orNone_0 rfl ?_
  refine g_if_ge (tgt := 9) ok dX0_orNone_1 (by decide) (fun c1 => ?_) (fun c1 => ?_)
  · refine g_iload_n ok 0 dX0_orNone_9 rfl ?_
    exact g_iret ok dX0_orNone_10 ⟨by first | (simp only [v_X0_orNone, if_pos c1]; done) | contradiction, rfl⟩
  · refine g_ldc (v := -1000000005) ok q740 dX0_orNone_4 ?_
    refine g_goto (tgt := 10) ok dX0_orNone_6 (by decide) ?_
    exact g_iret ok dX0_orNone_10 ⟨by first | (simp only [v_X0_orNone, if_neg c1]; done) | contradiction, rfl⟩
theorem cf_X0_asBit : CfS yX0_asBit cX0_asBit 1 (some .int) 1 := ⟨⟨by decide, by decide, by decide⟩, q72, q442, q441⟩
def v_X0_asBit (a0 : Int32) : Int32 :=
  if a0 = 0 then
    (0)
    else
    (1)
set_option maxHeartbeats 4000000 in
set_option maxRecDepth 100000 in
theorem mc_X0_asBit {w : WD} (wk : wOk w) (l : Launch) (C : CS) (a0 : Int32) : MC w l yX0_asBit cX0_asBit 1 (some .int) 0 0 0 [.int a0] C (pI (v_X0_asBit a0) C) := by
  refine MC.of wk (by decide) (Nat.le_of_ble_eq_true rfl) (fun x hx ok => ?_)
  subst hx
  show G w x 1 0 0 (QM w x _ 0 0) C 0 [(0, .int a0)] []
  refine g_iload_n ok 0 dX0_asBit_0 rfl ?_
  refine g_if_eq (tgt := 8) ok dX0_asBit_1 (by decide) (fun c1 => ?_) (fun c1 => ?_)
  · refine g_iconst (v := 0) ok dX0_asBit_8 (by decide) ?_
    exact g_iret ok dX0_asBit_9 ⟨by first | (simp only [v_X0_asBit, if_pos c1]; done) | contradiction, rfl⟩
  · refine g_iconst (v := 1) ok dX0_asBit_4 (by decide) ?_
    refine g_goto (tgt := 9) ok dX0_asBit_5 (by decide) ?_
    exact g_iret ok dX0_asBit_9 ⟨by first | (simp only [v_X0_asBit, if_neg c1]; done) | contradiction, rfl⟩
theorem cf_X0_heldIn : CfS yX0_heldIn cX0_heldIn 3 (some .int) 3 := ⟨⟨by decide, by decide, by decide⟩, q72, q739, q738⟩
def v_X0_heldIn (a0 : Int32) (a1 : Int32) (a2 : Int32) : Int32 :=
  (v_J5_max a1 (v_J5_min a2 a0))
set_option maxHeartbeats 4000000 in
set_option maxRecDepth 100000 in
theorem mc_X0_heldIn {w : WD} (wk : wOk w) (l : Launch) (C : CS) (a0 : Int32) (a1 : Int32) (a2 : Int32) : MC w l yX0_heldIn cX0_heldIn 3 (some .int) 1 0 0 [.int a0, .int a1, .int a2] C (pI (v_X0_heldIn a0 a1 a2) C) := by
  refine MC.of wk (by decide) (Nat.le_of_ble_eq_true rfl) (fun x hx ok => ?_)
  subst hx
  show G w x 3 0 0 (QM w x _ 0 0) C 0 [(0, .int a0), (1, .int a1), (2, .int a2)] []
  refine g_iload_n ok 1 dX0_heldIn_0 rfl ?_
  refine g_iload_n ok 2 dX0_heldIn_1 rfl ?_
  refine g_iload_n ok 0 dX0_heldIn_2 rfl ?_
  refine g_mmin ok q688 (Nat.le_of_ble_eq_true rfl) ⟨by decide, by decide⟩ ⟨by decide, by decide⟩ dX0_heldIn_3 ?_
  refine g_mmax ok q691 (Nat.le_of_ble_eq_true rfl) ⟨by decide, by decide⟩ ⟨by decide, by decide⟩ dX0_heldIn_6 ?_
  exact g_iret ok dX0_heldIn_9 ⟨by rw [v_X0_heldIn], rfl⟩
theorem cf_X0_isDigit : CfS yX0_isDigit cX0_isDigit 1 (some .boolean) 1 := ⟨⟨by decide, by decide, by decide⟩, q72, q951, q950⟩
def v_X0_isDigit (a0 : Int32) : Int32 :=
  if a0 < 48 then
    (0)
    else
    (if 57 < a0 then
      (0)
      else
      (1))
theorem vb_X0_isDigit (a0 : Int32) : v_X0_isDigit a0 = 0 ∨ v_X0_isDigit a0 = 1 := by
  unfold v_X0_isDigit
  exact (ib_ite (Or.inl rfl) (ib_ite (Or.inl rfl) (Or.inr rfl)))
set_option maxHeartbeats 4000000 in
set_option maxRecDepth 100000 in
theorem mc_X0_isDigit {w : WD} (wk : wOk w) (l : Launch) (C : CS) (a0 : Int32) : MC w l yX0_isDigit cX0_isDigit 1 (some .boolean) 0 0 0 [.int a0] C (pI (v_X0_isDigit a0) C) := by
  refine MC.of wk (by decide) (Nat.le_of_ble_eq_true rfl) (fun x hx ok => ?_)
  subst hx
  show G w x 1 0 0 (QM w x _ 0 0) C 0 [(0, .int a0)] []
  refine g_iload_n ok 0 dX0_isDigit_0 rfl ?_
  refine g_bipush (v := 48) ok dX0_isDigit_1 (by decide) ?_
  refine g_icmp_lt (tgt := 16) ok dX0_isDigit_3 (by decide) (fun c1 => ?_) (fun c1 => ?_)
  · refine g_iconst (v := 0) ok dX0_isDigit_16 (by decide) ?_
    exact g_zret ok dX0_isDigit_17 (Or.inl rfl) ⟨by first | (simp only [v_X0_isDigit, if_pos c1]; done) | contradiction, rfl⟩
  · refine g_iload_n ok 0 dX0_isDigit_6 rfl ?_
    refine g_bipush (v := 57) ok dX0_isDigit_7 (by decide) ?_
    refine g_icmp_gt (tgt := 16) ok dX0_isDigit_9 (by decide) (fun c2 => ?_) (fun c2 => ?_)
    · refine g_iconst (v := 0) ok dX0_isDigit_16 (by decide) ?_
      exact g_zret ok dX0_isDigit_17 (Or.inl rfl) ⟨by first | (simp only [v_X0_isDigit, if_neg c1, if_pos c2]; done) | contradiction, rfl⟩
    · refine g_iconst (v := 1) ok dX0_isDigit_12 (by decide) ?_
      refine g_goto (tgt := 17) ok dX0_isDigit_13 (by decide) ?_
      exact g_zret ok dX0_isDigit_17 (Or.inr rfl) ⟨by first | (simp only [v_X0_isDigit, if_neg c1, if_neg c2]; done) | contradiction, rfl⟩
theorem cf_X0_isLetter : CfS yX0_isLetter cX0_isLetter 1 (some .boolean) 1 := ⟨⟨by decide, by decide, by decide⟩, q72, q948, q947⟩
def v_X0_isLetter (a0 : Int32) : Int32 :=
  if a0 < 97 then
    (0)
    else
    (if 122 < a0 then
      (0)
      else
      (1))
theorem vb_X0_isLetter (a0 : Int32) : v_X0_isLetter a0 = 0 ∨ v_X0_isLetter a0 = 1 := by
  unfold v_X0_isLetter
  exact (ib_ite (Or.inl rfl) (ib_ite (Or.inl rfl) (Or.inr rfl)))
set_option maxHeartbeats 4000000 in
set_option maxRecDepth 100000 in
theorem mc_X0_isLetter {w : WD} (wk : wOk w) (l : Launch) (C : CS) (a0 : Int32) : MC w l yX0_isLetter cX0_isLetter 1 (some .boolean) 0 0 0 [.int a0] C (pI (v_X0_isLetter a0) C) := by
  refine MC.of wk (by decide) (Nat.le_of_ble_eq_true rfl) (fun x hx ok => ?_)
  subst hx
  show G w x 1 0 0 (QM w x _ 0 0) C 0 [(0, .int a0)] []
  refine g_iload_n ok 0 dX0_isLetter_0 rfl ?_
  refine g_bipush (v := 97) ok dX0_isLetter_1 (by decide) ?_
  refine g_icmp_lt (tgt := 16) ok dX0_isLetter_3 (by decide) (fun c1 => ?_) (fun c1 => ?_)
  · refine g_iconst (v := 0) ok dX0_isLetter_16 (by decide) ?_
    exact g_zret ok dX0_isLetter_17 (Or.inl rfl) ⟨by first | (simp only [v_X0_isLetter, if_pos c1]; done) | contradiction, rfl⟩
  · refine g_iload_n ok 0 dX0_isLetter_6 rfl ?_
    refine g_bipush (v := 122) ok dX0_isLetter_7 (by decide) ?_
    refine g_icmp_gt (tgt := 16) ok dX0_isLetter_9 (by decide) (fun c2 => ?_) (fun c2 => ?_)
    · refine g_iconst (v := 0) ok dX0_isLetter_16 (by decide) ?_
      exact g_zret ok dX0_isLetter_17 (Or.inl rfl) ⟨by first | (simp only [v_X0_isLetter, if_neg c1, if_pos c2]; done) | contradiction, rfl⟩
    · refine g_iconst (v := 1) ok dX0_isLetter_12 (by decide) ?_
      refine g_goto (tgt := 17) ok dX0_isLetter_13 (by decide) ?_
      exact g_zret ok dX0_isLetter_17 (Or.inr rfl) ⟨by first | (simp only [v_X0_isLetter, if_neg c1, if_neg c2]; done) | contradiction, rfl⟩
theorem cf_X0_isSheet : CfS yX0_isSheet cX0_isSheet 1 (some .boolean) 1 := ⟨⟨by decide, by decide, by decide⟩, q72, q796, q795⟩
def v_X0_isSheet (a0 : Int32) : Int32 :=
  (v_X0_isIn (Int32.toInt64 a0) 0 3)
theorem vb_X0_isSheet (a0 : Int32) : v_X0_isSheet a0 = 0 ∨ v_X0_isSheet a0 = 1 := by
  unfold v_X0_isSheet
  exact (vb_X0_isIn (Int32.toInt64 a0) 0 3)
set_option maxHeartbeats 4000000 in
set_option maxRecDepth 100000 in
theorem mc_X0_isSheet {w : WD} (wk : wOk w) (l : Launch) (C : CS) (a0 : Int32) : MC w l yX0_isSheet cX0_isSheet 1 (some .boolean) 1 0 0 [.int a0] C (pI (v_X0_isSheet a0) C) := by
  refine MC.of wk (by decide) (Nat.le_of_ble_eq_true rfl) (fun x hx ok => ?_)
  subst hx
  show G w x 1 0 0 (QM w x _ 0 0) C 0 [(0, .int a0)] []
  refine g_iload_n ok 0 dX0_isSheet_0 rfl ?_
  refine g_i2l ok dX0_isSheet_1 ?_
  refine g_lconst (v := 0) ok dX0_isSheet_2 (by decide) ?_
  refine g_ldc2 (v := 3) ok q797 dX0_isSheet_3 ?_
  refine g_callS ok [.long (Int32.toInt64 a0), .long 0, .long 3] cf_X0_isIn q269 (mc_X0_isIn ok.wo (xL x) C (Int32.toInt64 a0) 0 3) rfl rfl (Nat.le_of_ble_eq_true rfl) ⟨by decide, by decide⟩ ⟨by decide, by decide⟩ dX0_isSheet_6 (resI ?_)
  exact g_zret ok dX0_isSheet_9 (vb_X0_isIn (Int32.toInt64 a0) 0 3) ⟨by rw [v_X0_isSheet], rfl⟩
theorem cf_X0_isSlot : CfS yX0_isSlot cX0_isSlot 1 (some .boolean) 1 := ⟨⟨by decide, by decide, by decide⟩, q72, q1255, q1254⟩
def v_X0_isSlot (a0 : Int32) : Int32 :=
  (v_X0_isIn (Int32.toInt64 a0) 0 4)
theorem vb_X0_isSlot (a0 : Int32) : v_X0_isSlot a0 = 0 ∨ v_X0_isSlot a0 = 1 := by
  unfold v_X0_isSlot
  exact (vb_X0_isIn (Int32.toInt64 a0) 0 4)
set_option maxHeartbeats 4000000 in
set_option maxRecDepth 100000 in
theorem mc_X0_isSlot {w : WD} (wk : wOk w) (l : Launch) (C : CS) (a0 : Int32) : MC w l yX0_isSlot cX0_isSlot 1 (some .boolean) 1 0 0 [.int a0] C (pI (v_X0_isSlot a0) C) := by
  refine MC.of wk (by decide) (Nat.le_of_ble_eq_true rfl) (fun x hx ok => ?_)
  subst hx
  show G w x 1 0 0 (QM w x _ 0 0) C 0 [(0, .int a0)] []
  refine g_iload_n ok 0 dX0_isSlot_0 rfl ?_
  refine g_i2l ok dX0_isSlot_1 ?_
  refine g_lconst (v := 0) ok dX0_isSlot_2 (by decide) ?_
  refine g_ldc2 (v := 4) ok q892 dX0_isSlot_3 ?_
  refine g_callS ok [.long (Int32.toInt64 a0), .long 0, .long 4] cf_X0_isIn q269 (mc_X0_isIn ok.wo (xL x) C (Int32.toInt64 a0) 0 4) rfl rfl (Nat.le_of_ble_eq_true rfl) ⟨by decide, by decide⟩ ⟨by decide, by decide⟩ dX0_isSlot_6 (resI ?_)
  exact g_zret ok dX0_isSlot_9 (vb_X0_isIn (Int32.toInt64 a0) 0 4) ⟨by rw [v_X0_isSlot], rfl⟩
theorem cf_X0_isGlove : CfV yX0_isGlove "TwoGuilds" cX0_isGlove 2 (some .boolean) 1 := ⟨⟨by decide, by decide, by decide⟩, q72, q414, q413, qs2⟩
def v_X0_isGlove (C : CS) (a0 : Int32) : Int32 :=
  (v_X0_isIn (Int32.toInt64 a0) 0 (Int32.toInt64 ((C.1 (cN C) 0) - 1)))
theorem vb_X0_isGlove (C : CS) (a0 : Int32) : v_X0_isGlove C a0 = 0 ∨ v_X0_isGlove C a0 = 1 := by
  unfold v_X0_isGlove
  exact (vb_X0_isIn (Int32.toInt64 a0) 0 (Int32.toInt64 ((C.1 (cN C) 0) - 1)))
def p_X0_isGlove (C : CS) (a0 : Int32) : Prop :=
  isTb (cN C) ∧
    (True)
set_option maxHeartbeats 4000000 in
set_option maxRecDepth 100000 in
theorem mc_X0_isGlove {w : WD} (wk : wOk w) (l : Launch) (C : CS) (a0 : Int32) (hw : p_X0_isGlove C a0) : MC w l yX0_isGlove cX0_isGlove 2 (some .boolean) 1 0 0 [.ref (ad w 0), .int a0] C (pI (v_X0_isGlove C a0) C) := by
  unfold p_X0_isGlove at hw
  refine MC.of wk (by decide) (Nat.le_of_ble_eq_true rfl) (fun x hx ok => ?_)
  subst hx
  show G w x 2 0 0 (QM w x _ 0 0) C 0 [(0, .ref (ad w 0)), (1, .int a0)] []
  refine g_iload_n ok 1 dX0_isGlove_0 rfl ?_
  refine g_i2l ok dX0_isGlove_1 ?_
  refine g_lconst (v := 0) ok dX0_isGlove_2 (by decide) ?_
  refine g_aload_n ok 0 dX0_isGlove_3 rfl ?_
  refine g_get ok 0 rfl rfl in_X0 0 (by decide) q180 rfl dX0_isGlove_4 ?_
  obtain ⟨hf1, hw⟩ := hw
  refine g_get ok (cN C) (fObjT hf1) rfl in_X1 0 (by decide) q124 rfl dX0_isGlove_7 ?_
  refine g_iconst (v := 1) ok dX0_isGlove_10 (by decide) ?_
  refine g_isub ok dX0_isGlove_11 ?_
  refine g_i2l ok dX0_isGlove_12 ?_
  refine g_callS ok [.long (Int32.toInt64 a0), .long 0, .long (Int32.toInt64 ((C.1 (cN C) 0) - 1))] cf_X0_isIn q269 (mc_X0_isIn ok.wo (xL x) C (Int32.toInt64 a0) 0 (Int32.toInt64 ((C.1 (cN C) 0) - 1))) rfl rfl (Nat.le_of_ble_eq_true rfl) ⟨by decide, by decide⟩ ⟨by decide, by decide⟩ dX0_isGlove_13 (resI ?_)
  exact g_zret ok dX0_isGlove_16 (vb_X0_isIn (Int32.toInt64 a0) 0 (Int32.toInt64 ((C.1 (cN C) 0) - 1))) ⟨by rw [v_X0_isGlove], rfl⟩
theorem cf_X0_areTwo : CfV yX0_areTwo "TwoGuilds" cX0_areTwo 3 (some .boolean) 2 := ⟨⟨by decide, by decide, by decide⟩, q72, q588, q587, qs5⟩
def v_X0_areTwo (C : CS) (a0 : Int32) (a1 : Int32) : Int32 :=
  if (v_X0_isGlove C a0) = 0 then
    (0)
    else
    (if (v_X0_isGlove C a1) = 0 then
      (0)
      else
      (if a0 = a1 then
        (0)
        else
        (1)))
theorem vb_X0_areTwo (C : CS) (a0 : Int32) (a1 : Int32) : v_X0_areTwo C a0 a1 = 0 ∨ v_X0_areTwo C a0 a1 = 1 := by
  unfold v_X0_areTwo
  exact (ib_ite (Or.inl rfl) (ib_ite (Or.inl rfl) (ib_ite (Or.inl rfl) (Or.inr rfl))))
def p_X0_areTwo (C : CS) (a0 : Int32) (a1 : Int32) : Prop :=
  p_X0_isGlove C a0 ∧
    (((v_X0_isGlove C a0) = 0 → 
    True) ∧
    (¬ (v_X0_isGlove C a0) = 0 → 
    p_X0_isGlove C a1 ∧
      (True)))
set_option maxHeartbeats 4000000 in
set_option maxRecDepth 100000 in
theorem mc_X0_areTwo {w : WD} (wk : wOk w) (l : Launch) (C : CS) (a0 : Int32) (a1 : Int32) (hw : p_X0_areTwo C a0 a1) : MC w l yX0_areTwo cX0_areTwo 3 (some .boolean) 2 0 0 [.ref (ad w 0), .int a0, .int a1] C (pI (v_X0_areTwo C a0 a1) C) := by
  unfold p_X0_areTwo at hw
  refine MC.of wk (by decide) (Nat.le_of_ble_eq_true rfl) (fun x hx ok => ?_)
  subst hx
  show G w x 3 0 0 (QM w x _ 0 0) C 0 [(0, .ref (ad w 0)), (1, .int a0), (2, .int a1)] []
  refine g_aload_n ok 0 dX0_areTwo_0 rfl ?_
  refine g_iload_n ok 1 dX0_areTwo_1 rfl ?_
  obtain ⟨hp1, hw⟩ := hw
  refine g_callV ok [.int a0] cf_X0_isGlove q411 (mc_X0_isGlove ok.wo (xL x) C a0 hp1) (recvF ok 0 rfl rfl) rfl rfl (Nat.le_of_ble_eq_true rfl) ⟨by decide, by decide⟩ ⟨by decide, by decide⟩ dX0_areTwo_2 (resI ?_)
  refine g_if_eq (tgt := 25) ok dX0_areTwo_5 (by decide) (fun c2 => ?_) (fun c2 => ?_)
  · have hw := hw.1 c2
    refine g_iconst (v := 0) ok dX0_areTwo_25 (by decide) ?_
    exact g_zret ok dX0_areTwo_26 (Or.inl rfl) ⟨by first | (simp only [v_X0_areTwo, if_pos c2]; done) | contradiction, rfl⟩
  · have hw := hw.2 c2
    refine g_aload_n ok 0 dX0_areTwo_8 rfl ?_
    refine g_iload_n ok 2 dX0_areTwo_9 rfl ?_
    obtain ⟨hp3, hw⟩ := hw
    refine g_callV ok [.int a1] cf_X0_isGlove q411 (mc_X0_isGlove ok.wo (xL x) C a1 hp3) (recvF ok 0 rfl rfl) rfl rfl (Nat.le_of_ble_eq_true rfl) ⟨by decide, by decide⟩ ⟨by decide, by decide⟩ dX0_areTwo_10 (resI ?_)
    refine g_if_eq (tgt := 25) ok dX0_areTwo_13 (by decide) (fun c4 => ?_) (fun c4 => ?_)
    · refine g_iconst (v := 0) ok dX0_areTwo_25 (by decide) ?_
      exact g_zret ok dX0_areTwo_26 (Or.inl rfl) ⟨by first | (simp only [v_X0_areTwo, if_neg c2, if_pos c4]; done) | contradiction, rfl⟩
    · refine g_iload_n ok 1 dX0_areTwo_16 rfl ?_
      refine g_iload_n ok 2 dX0_areTwo_17 rfl ?_
      refine g_icmp_eq (tgt := 25) ok dX0_areTwo_18 (by decide) (fun c5 => ?_) (fun c5 => ?_)
      · refine g_iconst (v := 0) ok dX0_areTwo_25 (by decide) ?_
        exact g_zret ok dX0_areTwo_26 (Or.inl rfl) ⟨by first | (simp only [v_X0_areTwo, if_neg c2, if_neg c4, if_pos c5]; done) | contradiction, rfl⟩
      · refine g_iconst (v := 1) ok dX0_areTwo_21 (by decide) ?_
        refine g_goto (tgt := 26) ok dX0_areTwo_22 (by decide) ?_
        exact g_zret ok dX0_areTwo_26 (Or.inr rfl) ⟨by first | (simp only [v_X0_areTwo, if_neg c2, if_neg c4, if_neg c5]; done) | contradiction, rfl⟩
def v_X4_kind (a : Nat) : Int32 :=
  0
set_option maxHeartbeats 4000000 in
set_option maxRecDepth 100000 in
theorem mc_X4_kind {w : WD} (wk : wOk w) (l : Launch) (C : CS) (a : Nat) : MC w l yX4_kind cX4_kind 1 (some .int) 0 0 0 [.ref a] C (pI (v_X4_kind a) C) := by
  refine MC.of wk (by decide) (Nat.le_of_ble_eq_true rfl) (fun x hx ok => ?_)
  subst hx
  show G w x 1 0 0 (QM w x _ 0 0) C 0 [(0, .ref a)] []
  refine g_iconst (v := 0) ok dX4_kind_0 (by decide) ?_
  exact g_iret ok dX4_kind_1 ⟨by rw [v_X4_kind], rfl⟩
def v_X4_turns (a : Nat) : Int32 :=
  0
theorem vb_X4_turns (a : Nat) : v_X4_turns a = 0 ∨ v_X4_turns a = 1 := by
  unfold v_X4_turns
  exact (Or.inl rfl)
set_option maxHeartbeats 4000000 in
set_option maxRecDepth 100000 in
theorem mc_X4_turns {w : WD} (wk : wOk w) (l : Launch) (C : CS) (a : Nat) : MC w l yX4_turns cX4_turns 1 (some .boolean) 0 0 0 [.ref a] C (pI (v_X4_turns a) C) := by
  refine MC.of wk (by decide) (Nat.le_of_ble_eq_true rfl) (fun x hx ok => ?_)
  subst hx
  show G w x 1 0 0 (QM w x _ 0 0) C 0 [(0, .ref a)] []
  refine g_iconst (v := 0) ok dX4_turns_0 (by decide) ?_
  exact g_zret ok dX4_turns_1 (Or.inl rfl) ⟨by rw [v_X4_turns], rfl⟩
def v_X4_worth (C : CS) (a : Nat) : Int32 :=
  (cDI C 42 a)
def p_X4_worth (C : CS) (a : Nat) : Prop :=
  isGl C a ∧
    (True)
set_option maxHeartbeats 4000000 in
set_option maxRecDepth 100000 in
theorem mc_X4_worth {w : WD} (wk : wOk w) (l : Launch) (C : CS) (a : Nat) (hw : p_X4_worth C a) : MC w l yX4_worth cX4_worth 1 (some .int) 0 0 0 [.ref a] C (pI (v_X4_worth C a) C) := by
  unfold p_X4_worth at hw
  refine MC.of wk (by decide) (Nat.le_of_ble_eq_true rfl) (fun x hx ok => ?_)
  subst hx
  show G w x 1 0 0 (QM w x _ 0 0) C 0 [(0, .ref a)] []
  refine g_aload_n ok 0 dX4_worth_0 rfl ?_
  obtain ⟨hf1, hw⟩ := hw
  refine g_gget ok hf1 2 (by decide) q300 (Or.inl rfl) dX4_worth_1 ?_
  exact g_iret ok dX4_worth_4 ⟨by rw [v_X4_worth], rfl⟩
def v_X4_fits (C : CS) (a : Nat) (a0 : Nat) : Int32 :=
  if (cDI C 41 a) = (cDI C 41 a0) then
    (1)
    else
    (0)
theorem vb_X4_fits (C : CS) (a : Nat) (a0 : Nat) : v_X4_fits C a a0 = 0 ∨ v_X4_fits C a a0 = 1 := by
  unfold v_X4_fits
  exact (ib_ite (Or.inr rfl) (Or.inl rfl))
def p_X4_fits (C : CS) (a : Nat) (a0 : Nat) : Prop :=
  isGl C a ∧
    (isGl C a0 ∧
    (True))
set_option maxHeartbeats 4000000 in
set_option maxRecDepth 100000 in
theorem mc_X4_fits {w : WD} (wk : wOk w) (l : Launch) (C : CS) (a : Nat) (a0 : Nat) (hw : p_X4_fits C a a0) : MC w l yX4_fits cX4_fits 2 (some .boolean) 0 0 0 [.ref a, .ref a0] C (pI (v_X4_fits C a a0) C) := by
  unfold p_X4_fits at hw
  refine MC.of wk (by decide) (Nat.le_of_ble_eq_true rfl) (fun x hx ok => ?_)
  subst hx
  show G w x 2 0 0 (QM w x _ 0 0) C 0 [(0, .ref a), (1, .ref a0)] []
  refine g_aload_n ok 0 dX4_fits_0 rfl ?_
  obtain ⟨hf1, hw⟩ := hw
  refine g_gget ok hf1 1 (by decide) q295 (Or.inl rfl) dX4_fits_1 ?_
  refine g_aload_n ok 1 dX4_fits_4 rfl ?_
  obtain ⟨hf2, hw⟩ := hw
  refine g_gget ok hf2 1 (by decide) q295 (Or.inl rfl) dX4_fits_5 ?_
  refine g_icmp_ne (tgt := 15) ok dX4_fits_8 (by decide) (fun c3 => ?_) (fun c3 => ?_)
  · refine g_iconst (v := 0) ok dX4_fits_15 (by decide) ?_
    exact g_zret ok dX4_fits_16 (Or.inl rfl) ⟨by first | (simp only [v_X4_fits, if_neg c3]; done) | contradiction, rfl⟩
  · refine g_iconst (v := 1) ok dX4_fits_11 (by decide) ?_
    refine g_goto (tgt := 16) ok dX4_fits_12 (by decide) ?_
    exact g_zret ok dX4_fits_16 (Or.inr rfl) ⟨by first | (simp only [v_X4_fits, if_pos c3]; done) | contradiction, rfl⟩
