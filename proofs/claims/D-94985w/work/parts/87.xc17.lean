def xBit (x : Int32) : Int32 := (((((((x - ((((x).toUInt32 >>> ((nI 1).toUInt32 &&& Int32.toUInt32 31)).toInt32) &&& (nI 1431655765))) &&& (nI 858993459)) + ((((x - ((((x).toUInt32 >>> ((nI 1).toUInt32 &&& Int32.toUInt32 31)).toInt32) &&& (nI 1431655765))).toUInt32 >>> ((nI 2).toUInt32 &&& Int32.toUInt32 31)).toInt32) &&& (nI 858993459))) + (((((x - ((((x).toUInt32 >>> ((nI 1).toUInt32 &&& Int32.toUInt32 31)).toInt32) &&& (nI 1431655765))) &&& (nI 858993459)) + ((((x - ((((x).toUInt32 >>> ((nI 1).toUInt32 &&& Int32.toUInt32 31)).toInt32) &&& (nI 1431655765))).toUInt32 >>> ((nI 2).toUInt32 &&& Int32.toUInt32 31)).toInt32) &&& (nI 858993459))).toUInt32 >>> ((nI 4).toUInt32 &&& Int32.toUInt32 31)).toInt32)) &&& (nI 252645135)) + (((((((x - ((((x).toUInt32 >>> ((nI 1).toUInt32 &&& Int32.toUInt32 31)).toInt32) &&& (nI 1431655765))) &&& (nI 858993459)) + ((((x - ((((x).toUInt32 >>> ((nI 1).toUInt32 &&& Int32.toUInt32 31)).toInt32) &&& (nI 1431655765))).toUInt32 >>> ((nI 2).toUInt32 &&& Int32.toUInt32 31)).toInt32) &&& (nI 858993459))) + (((((x - ((((x).toUInt32 >>> ((nI 1).toUInt32 &&& Int32.toUInt32 31)).toInt32) &&& (nI 1431655765))) &&& (nI 858993459)) + ((((x - ((((x).toUInt32 >>> ((nI 1).toUInt32 &&& Int32.toUInt32 31)).toInt32) &&& (nI 1431655765))).toUInt32 >>> ((nI 2).toUInt32 &&& Int32.toUInt32 31)).toInt32) &&& (nI 858993459))).toUInt32 >>> ((nI 4).toUInt32 &&& Int32.toUInt32 31)).toInt32)) &&& (nI 252645135)).toUInt32 >>> ((nI 8).toUInt32 &&& Int32.toUInt32 31)).toInt32)) + ((((((((x - ((((x).toUInt32 >>> ((nI 1).toUInt32 &&& Int32.toUInt32 31)).toInt32) &&& (nI 1431655765))) &&& (nI 858993459)) + ((((x - ((((x).toUInt32 >>> ((nI 1).toUInt32 &&& Int32.toUInt32 31)).toInt32) &&& (nI 1431655765))).toUInt32 >>> ((nI 2).toUInt32 &&& Int32.toUInt32 31)).toInt32) &&& (nI 858993459))) + (((((x - ((((x).toUInt32 >>> ((nI 1).toUInt32 &&& Int32.toUInt32 31)).toInt32) &&& (nI 1431655765))) &&& (nI 858993459)) + ((((x - ((((x).toUInt32 >>> ((nI 1).toUInt32 &&& Int32.toUInt32 31)).toInt32) &&& (nI 1431655765))).toUInt32 >>> ((nI 2).toUInt32 &&& Int32.toUInt32 31)).toInt32) &&& (nI 858993459))).toUInt32 >>> ((nI 4).toUInt32 &&& Int32.toUInt32 31)).toInt32)) &&& (nI 252645135)) + (((((((x - ((((x).toUInt32 >>> ((nI 1).toUInt32 &&& Int32.toUInt32 31)).toInt32) &&& (nI 1431655765))) &&& (nI 858993459)) + ((((x - ((((x).toUInt32 >>> ((nI 1).toUInt32 &&& Int32.toUInt32 31)).toInt32) &&& (nI 1431655765))).toUInt32 >>> ((nI 2).toUInt32 &&& Int32.toUInt32 31)).toInt32) &&& (nI 858993459))) + (((((x - ((((x).toUInt32 >>> ((nI 1).toUInt32 &&& Int32.toUInt32 31)).toInt32) &&& (nI 1431655765))) &&& (nI 858993459)) + ((((x - ((((x).toUInt32 >>> ((nI 1).toUInt32 &&& Int32.toUInt32 31)).toInt32) &&& (nI 1431655765))).toUInt32 >>> ((nI 2).toUInt32 &&& Int32.toUInt32 31)).toInt32) &&& (nI 858993459))).toUInt32 >>> ((nI 4).toUInt32 &&& Int32.toUInt32 31)).toInt32)) &&& (nI 252645135)).toUInt32 >>> ((nI 8).toUInt32 &&& Int32.toUInt32 31)).toInt32)).toUInt32 >>> ((nI 16).toUInt32 &&& Int32.toUInt32 31)).toInt32)) &&& (nI 63)
set_option maxHeartbeats 4000000 in
set_option maxRecDepth 100000 in
theorem met_J15_bitCount (l : Launch) (G : gG) (x : Int32) : Met l yJ15_bitCount (ws_ yJ15_bitCount cJ15_bitCount 1 (some .int)) ({ frames := 0, cells := 0, slots := 0, locals := 0 } : Room) (cP G [.int x] (fun _ => True)) (cR (some (.int (xBit x)))) 0 0 (fun _ => False) := by
  refine c_start (by decide) (Nat.le_of_ble_eq_true rfl) ?_
  intro p e s m below meth c hx hb hr hlocks hml hown hts hB hK ls hl
  have hl : lv_has ls 1 [(0, .int x)] := hl
  refine lv_iload_n hx hb dJ15_bitCount_0 rfl (lv_at hl 0 rfl) ?_
  refine lv_iload_n hx hb dJ15_bitCount_1 rfl (lv_at hl 0 rfl) ?_
  refine lv_iconst (v := nI 1) hx hb dJ15_bitCount_2 (by decide) ?_
  refine lv_iushr (v := ((x).toUInt32 >>> ((nI 1).toUInt32 &&& Int32.toUInt32 31)).toInt32) hx hb dJ15_bitCount_3 rfl ?_
  refine lv_ldcw (v := nI 1431655765) hx hb hown (hts _ q1055) dJ15_bitCount_4 ?_
  refine lv_iand hx hb dJ15_bitCount_7 ?_
  refine lv_isub hx hb dJ15_bitCount_8 ?_
  refine lv_istore_n (lv' := [(0, .int (x - ((((x).toUInt32 >>> ((nI 1).toUInt32 &&& Int32.toUInt32 31)).toInt32) &&& (nI 1431655765))))]) hx hb dJ15_bitCount_9 rfl hl (by decide) rfl (fun ls hl => ?_)
  refine lv_iload_n hx hb dJ15_bitCount_10 rfl (lv_at hl 0 rfl) ?_
  refine lv_ldcw (v := nI 858993459) hx hb hown (hts _ q1056) dJ15_bitCount_11 ?_
  refine lv_iand hx hb dJ15_bitCount_14 ?_
  refine lv_iload_n hx hb dJ15_bitCount_15 rfl (lv_at hl 0 rfl) ?_
  refine lv_iconst (v := nI 2) hx hb dJ15_bitCount_16 (by decide) ?_
  refine lv_iushr (v := ((x - ((((x).toUInt32 >>> ((nI 1).toUInt32 &&& Int32.toUInt32 31)).toInt32) &&& (nI 1431655765))).toUInt32 >>> ((nI 2).toUInt32 &&& Int32.toUInt32 31)).toInt32) hx hb dJ15_bitCount_17 rfl ?_
  refine lv_ldcw (v := nI 858993459) hx hb hown (hts _ q1056) dJ15_bitCount_18 ?_
  refine lv_iand hx hb dJ15_bitCount_21 ?_
  refine lv_iadd hx hb dJ15_bitCount_22 ?_
  refine lv_istore_n (lv' := [(0, .int (((x - ((((x).toUInt32 >>> ((nI 1).toUInt32 &&& Int32.toUInt32 31)).toInt32) &&& (nI 1431655765))) &&& (nI 858993459)) + ((((x - ((((x).toUInt32 >>> ((nI 1).toUInt32 &&& Int32.toUInt32 31)).toInt32) &&& (nI 1431655765))).toUInt32 >>> ((nI 2).toUInt32 &&& Int32.toUInt32 31)).toInt32) &&& (nI 858993459))))]) hx hb dJ15_bitCount_23 rfl hl (by decide) rfl (fun ls hl => ?_)
  refine lv_iload_n hx hb dJ15_bitCount_24 rfl (lv_at hl 0 rfl) ?_
  refine lv_iload_n hx hb dJ15_bitCount_25 rfl (lv_at hl 0 rfl) ?_
  refine lv_iconst (v := nI 4) hx hb dJ15_bitCount_26 (by decide) ?_
  refine lv_iushr (v := ((((x - ((((x).toUInt32 >>> ((nI 1).toUInt32 &&& Int32.toUInt32 31)).toInt32) &&& (nI 1431655765))) &&& (nI 858993459)) + ((((x - ((((x).toUInt32 >>> ((nI 1).toUInt32 &&& Int32.toUInt32 31)).toInt32) &&& (nI 1431655765))).toUInt32 >>> ((nI 2).toUInt32 &&& Int32.toUInt32 31)).toInt32) &&& (nI 858993459))).toUInt32 >>> ((nI 4).toUInt32 &&& Int32.toUInt32 31)).toInt32) hx hb dJ15_bitCount_27 rfl ?_
  refine lv_iadd hx hb dJ15_bitCount_28 ?_
  refine lv_ldcw (v := nI 252645135) hx hb hown (hts _ q1057) dJ15_bitCount_29 ?_
  refine lv_iand hx hb dJ15_bitCount_32 ?_
  refine lv_istore_n (lv' := [(0, .int (((((x - ((((x).toUInt32 >>> ((nI 1).toUInt32 &&& Int32.toUInt32 31)).toInt32) &&& (nI 1431655765))) &&& (nI 858993459)) + ((((x - ((((x).toUInt32 >>> ((nI 1).toUInt32 &&& Int32.toUInt32 31)).toInt32) &&& (nI 1431655765))).toUInt32 >>> ((nI 2).toUInt32 &&& Int32.toUInt32 31)).toInt32) &&& (nI 858993459))) + (((((x - ((((x).toUInt32 >>> ((nI 1).toUInt32 &&& Int32.toUInt32 31)).toInt32) &&& (nI 1431655765))) &&& (nI 858993459)) + ((((x - ((((x).toUInt32 >>> ((nI 1).toUInt32 &&& Int32.toUInt32 31)).toInt32) &&& (nI 1431655765))).toUInt32 >>> ((nI 2).toUInt32 &&& Int32.toUInt32 31)).toInt32) &&& (nI 858993459))).toUInt32 >>> ((nI 4).toUInt32 &&& Int32.toUInt32 31)).toInt32)) &&& (nI 252645135)))]) hx hb dJ15_bitCount_33 rfl hl (by decide) rfl (fun ls hl => ?_)
  refine lv_iload_n hx hb dJ15_bitCount_34 rfl (lv_at hl 0 rfl) ?_
  refine lv_iload_n hx hb dJ15_bitCount_35 rfl (lv_at hl 0 rfl) ?_
  refine lv_bipush (v := nI 8) hx hb dJ15_bitCount_36 (by decide) ?_
  refine lv_iushr (v := ((((((x - ((((x).toUInt32 >>> ((nI 1).toUInt32 &&& Int32.toUInt32 31)).toInt32) &&& (nI 1431655765))) &&& (nI 858993459)) + ((((x - ((((x).toUInt32 >>> ((nI 1).toUInt32 &&& Int32.toUInt32 31)).toInt32) &&& (nI 1431655765))).toUInt32 >>> ((nI 2).toUInt32 &&& Int32.toUInt32 31)).toInt32) &&& (nI 858993459))) + (((((x - ((((x).toUInt32 >>> ((nI 1).toUInt32 &&& Int32.toUInt32 31)).toInt32) &&& (nI 1431655765))) &&& (nI 858993459)) + ((((x - ((((x).toUInt32 >>> ((nI 1).toUInt32 &&& Int32.toUInt32 31)).toInt32) &&& (nI 1431655765))).toUInt32 >>> ((nI 2).toUInt32 &&& Int32.toUInt32 31)).toInt32) &&& (nI 858993459))).toUInt32 >>> ((nI 4).toUInt32 &&& Int32.toUInt32 31)).toInt32)) &&& (nI 252645135)).toUInt32 >>> ((nI 8).toUInt32 &&& Int32.toUInt32 31)).toInt32) hx hb dJ15_bitCount_38 rfl ?_
  refine lv_iadd hx hb dJ15_bitCount_39 ?_
  refine lv_istore_n (lv' := [(0, .int ((((((x - ((((x).toUInt32 >>> ((nI 1).toUInt32 &&& Int32.toUInt32 31)).toInt32) &&& (nI 1431655765))) &&& (nI 858993459)) + ((((x - ((((x).toUInt32 >>> ((nI 1).toUInt32 &&& Int32.toUInt32 31)).toInt32) &&& (nI 1431655765))).toUInt32 >>> ((nI 2).toUInt32 &&& Int32.toUInt32 31)).toInt32) &&& (nI 858993459))) + (((((x - ((((x).toUInt32 >>> ((nI 1).toUInt32 &&& Int32.toUInt32 31)).toInt32) &&& (nI 1431655765))) &&& (nI 858993459)) + ((((x - ((((x).toUInt32 >>> ((nI 1).toUInt32 &&& Int32.toUInt32 31)).toInt32) &&& (nI 1431655765))).toUInt32 >>> ((nI 2).toUInt32 &&& Int32.toUInt32 31)).toInt32) &&& (nI 858993459))).toUInt32 >>> ((nI 4).toUInt32 &&& Int32.toUInt32 31)).toInt32)) &&& (nI 252645135)) + (((((((x - ((((x).toUInt32 >>> ((nI 1).toUInt32 &&& Int32.toUInt32 31)).toInt32) &&& (nI 1431655765))) &&& (nI 858993459)) + ((((x - ((((x).toUInt32 >>> ((nI 1).toUInt32 &&& Int32.toUInt32 31)).toInt32) &&& (nI 1431655765))).toUInt32 >>> ((nI 2).toUInt32 &&& Int32.toUInt32 31)).toInt32) &&& (nI 858993459))) + (((((x - ((((x).toUInt32 >>> ((nI 1).toUInt32 &&& Int32.toUInt32 31)).toInt32) &&& (nI 1431655765))) &&& (nI 858993459)) + ((((x - ((((x).toUInt32 >>> ((nI 1).toUInt32 &&& Int32.toUInt32 31)).toInt32) &&& (nI 1431655765))).toUInt32 >>> ((nI 2).toUInt32 &&& Int32.toUInt32 31)).toInt32) &&& (nI 858993459))).toUInt32 >>> ((nI 4).toUInt32 &&& Int32.toUInt32 31)).toInt32)) &&& (nI 252645135)).toUInt32 >>> ((nI 8).toUInt32 &&& Int32.toUInt32 31)).toInt32)))]) hx hb dJ15_bitCount_40 rfl hl (by decide) rfl (fun ls hl => ?_)
  refine lv_iload_n hx hb dJ15_bitCount_41 rfl (lv_at hl 0 rfl) ?_
  refine lv_iload_n hx hb dJ15_bitCount_42 rfl (lv_at hl 0 rfl) ?_
  refine lv_bipush (v := nI 16) hx hb dJ15_bitCount_43 (by decide) ?_
  refine lv_iushr (v := (((((((x - ((((x).toUInt32 >>> ((nI 1).toUInt32 &&& Int32.toUInt32 31)).toInt32) &&& (nI 1431655765))) &&& (nI 858993459)) + ((((x - ((((x).toUInt32 >>> ((nI 1).toUInt32 &&& Int32.toUInt32 31)).toInt32) &&& (nI 1431655765))).toUInt32 >>> ((nI 2).toUInt32 &&& Int32.toUInt32 31)).toInt32) &&& (nI 858993459))) + (((((x - ((((x).toUInt32 >>> ((nI 1).toUInt32 &&& Int32.toUInt32 31)).toInt32) &&& (nI 1431655765))) &&& (nI 858993459)) + ((((x - ((((x).toUInt32 >>> ((nI 1).toUInt32 &&& Int32.toUInt32 31)).toInt32) &&& (nI 1431655765))).toUInt32 >>> ((nI 2).toUInt32 &&& Int32.toUInt32 31)).toInt32) &&& (nI 858993459))).toUInt32 >>> ((nI 4).toUInt32 &&& Int32.toUInt32 31)).toInt32)) &&& (nI 252645135)) + (((((((x - ((((x).toUInt32 >>> ((nI 1).toUInt32 &&& Int32.toUInt32 31)).toInt32) &&& (nI 1431655765))) &&& (nI 858993459)) + ((((x - ((((x).toUInt32 >>> ((nI 1).toUInt32 &&& Int32.toUInt32 31)).toInt32) &&& (nI 1431655765))).toUInt32 >>> ((nI 2).toUInt32 &&& Int32.toUInt32 31)).toInt32) &&& (nI 858993459))) + (((((x - ((((x).toUInt32 >>> ((nI 1).toUInt32 &&& Int32.toUInt32 31)).toInt32) &&& (nI 1431655765))) &&& (nI 858993459)) + ((((x - ((((x).toUInt32 >>> ((nI 1).toUInt32 &&& Int32.toUInt32 31)).toInt32) &&& (nI 1431655765))).toUInt32 >>> ((nI 2).toUInt32 &&& Int32.toUInt32 31)).toInt32) &&& (nI 858993459))).toUInt32 >>> ((nI 4).toUInt32 &&& Int32.toUInt32 31)).toInt32)) &&& (nI 252645135)).toUInt32 >>> ((nI 8).toUInt32 &&& Int32.toUInt32 31)).toInt32)).toUInt32 >>> ((nI 16).toUInt32 &&& Int32.toUInt32 31)).toInt32) hx hb dJ15_bitCount_45 rfl ?_
  refine lv_iadd hx hb dJ15_bitCount_46 ?_
  refine lv_istore_n (lv' := [(0, .int (((((((x - ((((x).toUInt32 >>> ((nI 1).toUInt32 &&& Int32.toUInt32 31)).toInt32) &&& (nI 1431655765))) &&& (nI 858993459)) + ((((x - ((((x).toUInt32 >>> ((nI 1).toUInt32 &&& Int32.toUInt32 31)).toInt32) &&& (nI 1431655765))).toUInt32 >>> ((nI 2).toUInt32 &&& Int32.toUInt32 31)).toInt32) &&& (nI 858993459))) + (((((x - ((((x).toUInt32 >>> ((nI 1).toUInt32 &&& Int32.toUInt32 31)).toInt32) &&& (nI 1431655765))) &&& (nI 858993459)) + ((((x - ((((x).toUInt32 >>> ((nI 1).toUInt32 &&& Int32.toUInt32 31)).toInt32) &&& (nI 1431655765))).toUInt32 >>> ((nI 2).toUInt32 &&& Int32.toUInt32 31)).toInt32) &&& (nI 858993459))).toUInt32 >>> ((nI 4).toUInt32 &&& Int32.toUInt32 31)).toInt32)) &&& (nI 252645135)) + (((((((x - ((((x).toUInt32 >>> ((nI 1).toUInt32 &&& Int32.toUInt32 31)).toInt32) &&& (nI 1431655765))) &&& (nI 858993459)) + ((((x - ((((x).toUInt32 >>> ((nI 1).toUInt32 &&& Int32.toUInt32 31)).toInt32) &&& (nI 1431655765))).toUInt32 >>> ((nI 2).toUInt32 &&& Int32.toUInt32 31)).toInt32) &&& (nI 858993459))) + (((((x - ((((x).toUInt32 >>> ((nI 1).toUInt32 &&& Int32.toUInt32 31)).toInt32) &&& (nI 1431655765))) &&& (nI 858993459)) + ((((x - ((((x).toUInt32 >>> ((nI 1).toUInt32 &&& Int32.toUInt32 31)).toInt32) &&& (nI 1431655765))).toUInt32 >>> ((nI 2).toUInt32 &&& Int32.toUInt32 31)).toInt32) &&& (nI 858993459))).toUInt32 >>> ((nI 4).toUInt32 &&& Int32.toUInt32 31)).toInt32)) &&& (nI 252645135)).toUInt32 >>> ((nI 8).toUInt32 &&& Int32.toUInt32 31)).toInt32)) + ((((((((x - ((((x).toUInt32 >>> ((nI 1).toUInt32 &&& Int32.toUInt32 31)).toInt32) &&& (nI 1431655765))) &&& (nI 858993459)) + ((((x - ((((x).toUInt32 >>> ((nI 1).toUInt32 &&& Int32.toUInt32 31)).toInt32) &&& (nI 1431655765))).toUInt32 >>> ((nI 2).toUInt32 &&& Int32.toUInt32 31)).toInt32) &&& (nI 858993459))) + (((((x - ((((x).toUInt32 >>> ((nI 1).toUInt32 &&& Int32.toUInt32 31)).toInt32) &&& (nI 1431655765))) &&& (nI 858993459)) + ((((x - ((((x).toUInt32 >>> ((nI 1).toUInt32 &&& Int32.toUInt32 31)).toInt32) &&& (nI 1431655765))).toUInt32 >>> ((nI 2).toUInt32 &&& Int32.toUInt32 31)).toInt32) &&& (nI 858993459))).toUInt32 >>> ((nI 4).toUInt32 &&& Int32.toUInt32 31)).toInt32)) &&& (nI 252645135)) + (((((((x - ((((x).toUInt32 >>> ((nI 1).toUInt32 &&& Int32.toUInt32 31)).toInt32) &&& (nI 1431655765))) &&& (nI 858993459)) + ((((x - ((((x).toUInt32 >>> ((nI 1).toUInt32 &&& Int32.toUInt32 31)).toInt32) &&& (nI 1431655765))).toUInt32 >>> ((nI 2).toUInt32 &&& Int32.toUInt32 31)).toInt32) &&& (nI 858993459))) + (((((x - ((((x).toUInt32 >>> ((nI 1).toUInt32 &&& Int32.toUInt32 31)).toInt32) &&& (nI 1431655765))) &&& (nI 858993459)) + ((((x - ((((x).toUInt32 >>> ((nI 1).toUInt32 &&& Int32.toUInt32 31)).toInt32) &&& (nI 1431655765))).toUInt32 >>> ((nI 2).toUInt32 &&& Int32.toUInt32 31)).toInt32) &&& (nI 858993459))).toUInt32 >>> ((nI 4).toUInt32 &&& Int32.toUInt32 31)).toInt32)) &&& (nI 252645135)).toUInt32 >>> ((nI 8).toUInt32 &&& Int32.toUInt32 31)).toInt32)).toUInt32 >>> ((nI 16).toUInt32 &&& Int32.toUInt32 31)).toInt32)))]) hx hb dJ15_bitCount_47 rfl hl (by decide) rfl (fun ls hl => ?_)
  refine lv_iload_n hx hb dJ15_bitCount_48 rfl (lv_at hl 0 rfl) ?_
  refine lv_bipush (v := nI 63) hx hb dJ15_bitCount_49 (by decide) ?_
  refine lv_iand hx hb dJ15_bitCount_51 ?_
  exact c_rret (v := (((((((x - ((((x).toUInt32 >>> ((nI 1).toUInt32 &&& Int32.toUInt32 31)).toInt32) &&& (nI 1431655765))) &&& (nI 858993459)) + ((((x - ((((x).toUInt32 >>> ((nI 1).toUInt32 &&& Int32.toUInt32 31)).toInt32) &&& (nI 1431655765))).toUInt32 >>> ((nI 2).toUInt32 &&& Int32.toUInt32 31)).toInt32) &&& (nI 858993459))) + (((((x - ((((x).toUInt32 >>> ((nI 1).toUInt32 &&& Int32.toUInt32 31)).toInt32) &&& (nI 1431655765))) &&& (nI 858993459)) + ((((x - ((((x).toUInt32 >>> ((nI 1).toUInt32 &&& Int32.toUInt32 31)).toInt32) &&& (nI 1431655765))).toUInt32 >>> ((nI 2).toUInt32 &&& Int32.toUInt32 31)).toInt32) &&& (nI 858993459))).toUInt32 >>> ((nI 4).toUInt32 &&& Int32.toUInt32 31)).toInt32)) &&& (nI 252645135)) + (((((((x - ((((x).toUInt32 >>> ((nI 1).toUInt32 &&& Int32.toUInt32 31)).toInt32) &&& (nI 1431655765))) &&& (nI 858993459)) + ((((x - ((((x).toUInt32 >>> ((nI 1).toUInt32 &&& Int32.toUInt32 31)).toInt32) &&& (nI 1431655765))).toUInt32 >>> ((nI 2).toUInt32 &&& Int32.toUInt32 31)).toInt32) &&& (nI 858993459))) + (((((x - ((((x).toUInt32 >>> ((nI 1).toUInt32 &&& Int32.toUInt32 31)).toInt32) &&& (nI 1431655765))) &&& (nI 858993459)) + ((((x - ((((x).toUInt32 >>> ((nI 1).toUInt32 &&& Int32.toUInt32 31)).toInt32) &&& (nI 1431655765))).toUInt32 >>> ((nI 2).toUInt32 &&& Int32.toUInt32 31)).toInt32) &&& (nI 858993459))).toUInt32 >>> ((nI 4).toUInt32 &&& Int32.toUInt32 31)).toInt32)) &&& (nI 252645135)).toUInt32 >>> ((nI 8).toUInt32 &&& Int32.toUInt32 31)).toInt32)) + ((((((((x - ((((x).toUInt32 >>> ((nI 1).toUInt32 &&& Int32.toUInt32 31)).toInt32) &&& (nI 1431655765))) &&& (nI 858993459)) + ((((x - ((((x).toUInt32 >>> ((nI 1).toUInt32 &&& Int32.toUInt32 31)).toInt32) &&& (nI 1431655765))).toUInt32 >>> ((nI 2).toUInt32 &&& Int32.toUInt32 31)).toInt32) &&& (nI 858993459))) + (((((x - ((((x).toUInt32 >>> ((nI 1).toUInt32 &&& Int32.toUInt32 31)).toInt32) &&& (nI 1431655765))) &&& (nI 858993459)) + ((((x - ((((x).toUInt32 >>> ((nI 1).toUInt32 &&& Int32.toUInt32 31)).toInt32) &&& (nI 1431655765))).toUInt32 >>> ((nI 2).toUInt32 &&& Int32.toUInt32 31)).toInt32) &&& (nI 858993459))).toUInt32 >>> ((nI 4).toUInt32 &&& Int32.toUInt32 31)).toInt32)) &&& (nI 252645135)) + (((((((x - ((((x).toUInt32 >>> ((nI 1).toUInt32 &&& Int32.toUInt32 31)).toInt32) &&& (nI 1431655765))) &&& (nI 858993459)) + ((((x - ((((x).toUInt32 >>> ((nI 1).toUInt32 &&& Int32.toUInt32 31)).toInt32) &&& (nI 1431655765))).toUInt32 >>> ((nI 2).toUInt32 &&& Int32.toUInt32 31)).toInt32) &&& (nI 858993459))) + (((((x - ((((x).toUInt32 >>> ((nI 1).toUInt32 &&& Int32.toUInt32 31)).toInt32) &&& (nI 1431655765))) &&& (nI 858993459)) + ((((x - ((((x).toUInt32 >>> ((nI 1).toUInt32 &&& Int32.toUInt32 31)).toInt32) &&& (nI 1431655765))).toUInt32 >>> ((nI 2).toUInt32 &&& Int32.toUInt32 31)).toInt32) &&& (nI 858993459))).toUInt32 >>> ((nI 4).toUInt32 &&& Int32.toUInt32 31)).toInt32)) &&& (nI 252645135)).toUInt32 >>> ((nI 8).toUInt32 &&& Int32.toUInt32 31)).toInt32)).toUInt32 >>> ((nI 16).toUInt32 &&& Int32.toUInt32 31)).toInt32)) &&& (nI 63)) rfl hx hb hr rfl hlocks dJ15_bitCount_52 rfl rfl
theorem xBit_eq : ∀ k, k < 64 → xBit (nI k) = mBits (nI k) := by decide +kernel
theorem bits_1 : ∀ k, k < 64 → 0 < k → (¬ mBits (nI k) = nI 1 → nI 1 < mBits (nI k)) ∧ (mBits (nI k) = nI 1 → ¬ nI 1 < mBits (nI k)) := by decide +kernel
theorem has_some : ∀ nb, nb < 7 → ∀ k, k < 2 ^ nb → 0 < k → ∃ b, b < nb ∧ (nI k >>> (nI b &&& 31)) &&& nI 1 = nI 1 := by decide +kernel
noncomputable def xLeast (M : Nat → Nat → Int32) (x : Int32) (nb : Nat) : Int32 := it (fun b g => pif (mHas x b) (pif (M 0 (10 + 5 * b) < g) (M 0 (10 + 5 * b)) g) g) (nb - 0) 0 (nI 9)
theorem all_nat {M : Nat → Nat → Int32} {x : Int32} {l : Nat → Nat} : ∀ (n i a : Nat), (∀ b, i ≤ b → b < i + n → l b ≤ 9 ∧ M 0 (10 + 5 * b) = nI (l b)) → ∃ r, a ≤ r ∧ r ≤ a + 9 * n ∧ it (fun b g => g + pif (mHas x b) (M 0 (10 + 5 * b)) (nI 0)) n i (nI a) = nI r ∧ ∀ b, i ≤ b → b < i + n → mHas x b → a + l b ≤ r
  | 0, i, a, _ => ⟨a, by omega, by omega, it_0, fun b h1 h2 => by omega⟩
  | n + 1, i, a, h => by
    rw [it_succ]
    obtain ⟨h9, e⟩ := h i (Nat.le_refl _) (by omega)
    by_cases c : mHas x i
    · rw [pif_t c, e, nI_add]
      obtain ⟨r, h1, h2, h3, h4⟩ := all_nat n (i + 1) (a + l i) (fun b q1 q2 => h b (by omega) (by omega))
      refine ⟨r, by omega, by omega, h3, fun b q1 q2 q3 => ?_⟩
      by_cases e2 : b = i
      · subst e2; exact h1
      · have := h4 b (by omega) (by omega) q3
        omega
    · rw [pif_f c, nI_add]
      obtain ⟨r, h1, h2, h3, h4⟩ := all_nat n (i + 1) (a + 0) (fun b q1 q2 => h b (by omega) (by omega))
      refine ⟨r, by omega, by omega, h3, fun b q1 q2 q3 => ?_⟩
      by_cases e2 : b = i
      · subst e2; exact absurd q3 c
      · exact h4 b (by omega) (by omega) q3
theorem least_nat {M : Nat → Nat → Int32} {x : Int32} {l : Nat → Nat} : ∀ (n i a : Nat), a ≤ 9 → (∀ b, i ≤ b → b < i + n → l b ≤ 9 ∧ M 0 (10 + 5 * b) = nI (l b)) → ∃ r, r ≤ a ∧ it (fun b g => pif (mHas x b) (pif (M 0 (10 + 5 * b) < g) (M 0 (10 + 5 * b)) g) g) n i (nI a) = nI r ∧ (∀ b, i ≤ b → b < i + n → mHas x b → r ≤ l b) ∧ (r = a ∨ ∃ b, i ≤ b ∧ b < i + n ∧ mHas x b ∧ r = l b)
  | 0, i, a, _, _ => ⟨a, by omega, it_0, fun b h1 h2 => by omega, Or.inl rfl⟩
  | n + 1, i, a, ha, h => by
    rw [it_succ]
    obtain ⟨h9, e⟩ := h i (Nat.le_refl _) (by omega)
    by_cases c : mHas x i
    · rw [pif_t c, e]
      by_cases c2 : l i < a
      · rw [pif_t ((nI_ltI (by omega) (by omega)).mpr c2)]
        obtain ⟨r, h1, h3, h4, h5⟩ := least_nat n (i + 1) (l i) h9 (fun b q1 q2 => h b (by omega) (by omega))
        refine ⟨r, by omega, h3, fun b q1 q2 q3 => ?_, ?_⟩
        · by_cases e2 : b = i
          · subst e2; exact h1
          · exact h4 b (by omega) (by omega) q3
        · rcases h5 with h5 | ⟨b, q1, q2, q3, q4⟩
          · exact Or.inr ⟨i, Nat.le_refl _, by omega, c, h5⟩
          · exact Or.inr ⟨b, by omega, by omega, q3, q4⟩
      · rw [pif_f (fun h8 => c2 ((nI_ltI (by omega) (by omega)).mp h8))]
        obtain ⟨r, h1, h3, h4, h5⟩ := least_nat n (i + 1) a ha (fun b q1 q2 => h b (by omega) (by omega))
        refine ⟨r, h1, h3, fun b q1 q2 q3 => ?_, ?_⟩
        · by_cases e2 : b = i
          · subst e2; omega
          · exact h4 b (by omega) (by omega) q3
        · rcases h5 with h5 | ⟨b, q1, q2, q3, q4⟩
          · exact Or.inl h5
          · exact Or.inr ⟨b, by omega, by omega, q3, q4⟩
    · rw [pif_f c]
      obtain ⟨r, h1, h3, h4, h5⟩ := least_nat n (i + 1) a ha (fun b q1 q2 => h b (by omega) (by omega))
      refine ⟨r, h1, h3, fun b q1 q2 q3 => ?_, ?_⟩
      · by_cases e2 : b = i
        · subst e2; exact absurd q3 c
        · exact h4 b (by omega) (by omega) q3
      · rcases h5 with h5 | ⟨b, q1, q2, q3, q4⟩
        · exact Or.inl h5
        · exact Or.inr ⟨b, by omega, by omega, q3, q4⟩
theorem canBe_iff {M : Nat → Nat → Int32} {nb ne k : Nat} (hnb : nb ≤ 6) (hk0 : 0 < k) (hk : k < 2 ^ nb) (hl : ∀ b, b < nb → ∃ v, 1 ≤ v ∧ v ≤ 9 ∧ M 0 (10 + 5 * b) = nI v) : (¬ mAll M (nI k) nb < mMost M ne ∧ (mBits (nI k) = nI 1 ∨ mAll M (nI k) nb - xLeast M (nI k) nb < mMost M ne)) ↔ mCanBe M (nI k) nb ne := by
  have hk64 : k < 64 := Nat.lt_of_lt_of_le hk (Nat.pow_le_pow_right (n := 2) (by decide) hnb)
  have hc : ∀ b, b < nb → cl (M 0 (10 + 5 * b)) ≤ 9 ∧ M 0 (10 + 5 * b) = nI (cl (M 0 (10 + 5 * b))) := fun b hb => by
    obtain ⟨v, -, h2, h3⟩ := hl b hb
    rw [h3, show cl (nI v) = v from nI_clamp (by omega)]
    exact ⟨h2, rfl⟩
  obtain ⟨A, -, hA2, eA, hA⟩ := all_nat (x := nI k) (l := fun b => cl (M 0 (10 + 5 * b))) (nb - 0) 0 0 (fun b _ h => hc b (by omega))
  obtain ⟨m, hm, em, hm2, hm3⟩ := least_nat (x := nI k) (l := fun b => cl (M 0 (10 + 5 * b))) (nb - 0) 0 9 (by decide) (fun b _ h => hc b (by omega))
  have eA' : mAll M (nI k) nb = nI A := eA
  have em' : xLeast M (nI k) nb = nI m := em
  obtain ⟨b0, hb0, hh0⟩ := has_some nb (by omega) k hk hk0
  have hex : ∃ b, b < nb ∧ mHas (nI k) b ∧ m = cl (M 0 (10 + 5 * b)) := by
    rcases hm3 with h | ⟨b, -, q2, q3, q4⟩
    · have h1 := hm2 b0 (by omega) (by omega) hh0
      have h2 := (hc b0 hb0).1
      have h1' : m ≤ cl (M 0 (10 + 5 * b0)) := h1
      exact ⟨b0, hb0, hh0, by omega⟩
    · exact ⟨b, by omega, q3, q4⟩
  unfold mCanBe
  rw [eA', em']
  constructor
  · rintro ⟨h1, h2⟩
    refine ⟨h1, fun b hb hbit hh => ?_⟩
    rcases h2 with h2 | h2
    · exact absurd hbit ((bits_1 k hk64 hk0).2 h2)
    · obtain ⟨q1, q2⟩ := hc b hb
      have q3 := hA b (by omega) (by omega) hh
      have q4 := hm2 b (by omega) (by omega) hh
      have q3' : 0 + cl (M 0 (10 + 5 * b)) ≤ A := q3
      have q4' : m ≤ cl (M 0 (10 + 5 * b)) := q4
      rw [q2, pk_sub (by omega)]
      rw [pk_sub (by omega)] at h2
      exact Int32.lt_of_le_of_lt ((nI_leI (by omega) (by omega)).mpr (by omega)) h2
  · rintro ⟨h1, h2⟩
    refine ⟨h1, ?_⟩
    by_cases c : mBits (nI k) = nI 1
    · exact Or.inl c
    · obtain ⟨b, hb, hh, e⟩ := hex
      have := h2 b hb ((bits_1 k hk64 hk0).1 c) hh
      rw [(hc b hb).2, ← e] at this
      exact Or.inr this
theorem max_sw {g s : Int32} : pif (g < s) s g = pif (s ≤ g) g s := by
  by_cases h : s ≤ g
  · rw [pif_t h, pif_f (Int32.not_lt.mpr h)]
  · rw [pif_f h, pif_t (Int32.not_le.mp h)]
set_option maxHeartbeats 4000000 in
set_option maxRecDepth 100000 in
theorem met_X0_canBe (l : Launch) (G : gG) (ad : Nat → Nat) (sz : Nat) (X Z : Nat → Nat → Int32) (T : Nat → Nat → Option Nat) (M : Nat → Nat → Int32) (nb nk nx np h nu ns ne nt : Nat) (hR : RS X 51 (M 0) nb nk nx np h nu ns ne nt) (kk : Nat) (hk0 : 0 < kk) (hkk : kk < 2 ^ nb) : Met l yX0_canBe (ws_ yX0_canBe cX0_canBe 6 (some .boolean)) ({ frames := 1, cells := 0, slots := 0, locals := 41 } : Room) (cP G [.ref (ad 0), .int (nI kk)] (xH G ad X Z T sz)) (cR (some (.int (bI (mCanBe M (nI kk) nb ne))))) 0 0 (fun _ => False) := by
  refine c_start (by decide) (Nat.le_of_ble_eq_true rfl) ?_
  intro p e s m below meth c hx hb hr hlocks hml hown hts hB hK ls hl
  have hz := hB.2.2
  have hw := XS.of hB
  have hl : lv_has ls 6 [(0, .ref (ad 0)), (1, .int (nI kk))] := hl
  have hR0 := hR
  obtain ⟨⟨rnb, mnb, hnb⟩, ⟨rnk, mnk, hnk⟩, ⟨rnx, mnx, hnx⟩, rtx, ⟨rns, mns, hns⟩, ⟨rne, mne, hne⟩, ⟨rnt, mnt, hnt⟩, ⟨rnp, mnp, hnp⟩, ⟨rh, mh, hh⟩, ⟨rnu, mnu, hnu⟩, rbl, rbe, rgi, rki, rse, rto, rpi, rbu, rkd, rva, rst⟩ := hR
  change X 52 0 = _ at rnb; change X 52 1 = _ at rnk; change X 52 2 = _ at rnx; change X 52 3 = _ at rtx; change X 52 4 = _ at rns; change X 52 5 = _ at rne; change X 52 6 = _ at rnt; change X 53 112 = _ at rnp; change X 53 113 = _ at rh; change X 53 114 = _ at rnu
  have h2nb : 2 ^ nb ≤ 64 := Nat.pow_le_pow_right (by decide) hnb
  refine lv_iconst (v := nI 0) hx hb dX0_canBe_0 (by decide) ?_
  refine lv_istore_n (lv' := [(2, .int (nI 0)), (0, .ref (ad 0)), (1, .int (nI kk))]) hx hb dX0_canBe_1 rfl hl (by decide) rfl (fun ls hl => ?_)
  refine lv_bipush (v := nI 9) hx hb dX0_canBe_2 (by decide) ?_
  refine lv_istore_n (lv' := [(3, .int (nI 9)), (2, .int (nI 0)), (0, .ref (ad 0)), (1, .int (nI kk))]) hx hb dX0_canBe_4 rfl hl (by decide) rfl (fun ls hl => ?_)
  refine lv_iconst (v := nI 0) hx hb dX0_canBe_5 (by decide) ?_
  refine lv_istore (lv' := [(4, .int (nI 0)), (3, .int (nI 9)), (2, .int (nI 0)), (0, .ref (ad 0)), (1, .int (nI kk))]) hx hb dX0_canBe_6 hl (by decide) rfl (fun ls hl => ?_)
  have L_8 : ∀ (fuel : Nat) (b : Nat) (u : Int32) (g : Int32), nb - b < fuel → (b ≤ nb) → (it (fun b g => g + pif (mHas (nI kk) b) (M 0 (10 + 5 * b)) (nI 0)) (nb - b) b u = mAll M (nI kk) nb) → (it (fun b g => pif (mHas (nI kk) b) (pif (M 0 (10 + 5 * b) < g) (M 0 (10 + 5 * b)) g) g) (nb - b) b g = xLeast M (nI kk) nb) → ∀ (ls : Array Slot), lv_has ls 6 [(0, .ref (ad 0)), (1, .int (nI kk)), (2, .int u), (3, .int g), (4, .int (nI b))] → W p l e ({ frames := 1, cells := 0, slots := 0, locals := 41 } : Room) s m ([.ref (ad 0), .int (nI kk)] : List Value).toArray below meth c s.heap [] 0 0 (MQ below (cR (some (.int (bI (mCanBe M (nI kk) nb ne))))) ([.ref (ad 0), .int (nI kk)] : List Value).toArray s 0 0 (fun _ => False)) (F0 m 8 ls []) := by
    intro fuel
    induction fuel with
    | zero => intro b u g hf; exact absurd hf (Nat.not_lt_zero _)
    | succ fuel ih =>
      intro b u g hf hi_b hq_u hq_g ls hl
      have ih8 := ih
      refine lv_iload hx hb dX0_canBe_8 (lv_at hl 4 rfl) ?_
      refine lv_aload_n hx hb dX0_canBe_10 rfl (lv_at hl 0 rfl) ?_
      refine x_g_now hx hb hts hown hK hw dX0_canBe_11 ?_
      refine x_sX0_51_n hx hb hts hown hK hw dX0_canBe_14 ?_
      refine lv_iconst (v := nI 0) hx hb dX0_canBe_17 (by decide) ?_
      refine x_l (k := 52) (j := 0) (n := 7) (v := nI nb) hx hb hK hw rnb (by decide) (by decide) dX0_canBe_18 ?_
      refine n_icmp_ge (tgt := 72) hx hb dX0_canBe_19 (by decide) (by omega) (by omega) (fun c_1 => ?_) (fun c_1 => ?_)
      · obtain rfl : u = mAll M (nI kk) nb := (it_z (by omega)).symm.trans hq_u
        obtain rfl : g = xLeast M (nI kk) nb := (it_z (by omega)).symm.trans hq_g
        refine lv_iconst (v := nI 0) hx hb dX0_canBe_72 (by decide) ?_
        refine lv_istore (lv' := [(4, .int (nI 0)), (0, .ref (ad 0)), (1, .int (nI kk)), (2, .int (mAll M (nI kk) nb)), (3, .int (xLeast M (nI kk) nb))]) hx hb dX0_canBe_73 hl (by decide) rfl (fun ls hl => ?_)
        refine lv_iconst (v := nI 0) hx hb dX0_canBe_75 (by decide) ?_
        refine lv_istore (lv' := [(5, .int (nI 0)), (4, .int (nI 0)), (0, .ref (ad 0)), (1, .int (nI kk)), (2, .int (mAll M (nI kk) nb)), (3, .int (xLeast M (nI kk) nb))]) hx hb dX0_canBe_76 hl (by decide) rfl (fun ls hl => ?_)
        have L78_2 : ∀ (fuel : Nat) (k : Nat) (v : Int32), ne - k < fuel → (k ≤ ne) → (it (fun k g => pif (M 0 (60 + k) ≤ g) g (M 0 (60 + k))) (ne - k) k v = mMost M ne) → ∀ (ls : Array Slot), lv_has ls 6 [(0, .ref (ad 0)), (1, .int (nI kk)), (2, .int (mAll M (nI kk) nb)), (3, .int (xLeast M (nI kk) nb)), (4, .int v), (5, .int (nI k))] → W p l e ({ frames := 1, cells := 0, slots := 0, locals := 41 } : Room) s m ([.ref (ad 0), .int (nI kk)] : List Value).toArray below meth c s.heap [] 0 0 (MQ below (cR (some (.int (bI (mCanBe M (nI kk) nb ne))))) ([.ref (ad 0), .int (nI kk)] : List Value).toArray s 0 0 (fun _ => False)) (F0 m 78 ls []) := by
          intro fuel
          induction fuel with
          | zero => intro k v hf; exact absurd hf (Nat.not_lt_zero _)
          | succ fuel ih =>
            intro k v hf hi_k hq_v ls hl
            have ih78 := ih
            refine lv_iload hx hb dX0_canBe_78 (lv_at hl 5 rfl) ?_
            refine lv_aload_n hx hb dX0_canBe_80 rfl (lv_at hl 0 rfl) ?_
            refine x_g_now hx hb hts hown hK hw dX0_canBe_81 ?_
            refine x_sX0_51_n hx hb hts hown hK hw dX0_canBe_84 ?_
            refine lv_iconst (v := nI 5) hx hb dX0_canBe_87 (by decide) ?_
            refine x_l (k := 52) (j := 5) (n := 7) (v := nI ne) hx hb hK hw rne (by decide) (by decide) dX0_canBe_88 ?_
            refine n_icmp_ge (tgt := 115) hx hb dX0_canBe_89 (by decide) (by omega) (by omega) (fun c_3 => ?_) (fun c_3 => ?_)
            · obtain rfl : v = mMost M ne := (it_z (by omega)).symm.trans hq_v
              refine lv_iload_n hx hb dX0_canBe_115 rfl (lv_at hl 2 rfl) ?_
              refine lv_iload hx hb dX0_canBe_116 (lv_at hl 4 rfl) ?_
              refine lv_icmp_lt (tgt := 141) hx hb dX0_canBe_118 (by decide) (fun c_4 => ?_) (fun c_4 => ?_)
              · refine lv_iconst (v := nI 0) hx hb dX0_canBe_141 (by decide) ?_
                exact c_rret (v := nI 0) ((bI_f (fun h9 => by have h8 := (canBe_iff (ne := ne) hnb hk0 hkk rva.1).mpr h9; first | exact h8.1 (by first | with_reducible assumption | exact Int32.not_le.mp (by with_reducible assumption) | exact Int32.not_lt.mp (by with_reducible assumption) | exact Int32.not_lt.mpr (by with_reducible assumption) | exact Int32.not_le.mpr (by with_reducible assumption)) | exact h8.2.elim (fun h7 => absurd h7 (by with_reducible assumption)) (fun h7 => absurd h7 (by first | with_reducible assumption | exact Int32.not_le.mp (by with_reducible assumption) | exact Int32.not_lt.mp (by with_reducible assumption) | exact Int32.not_lt.mpr (by with_reducible assumption) | exact Int32.not_le.mpr (by with_reducible assumption))))).symm) hx hb hr rfl hlocks dX0_canBe_142 rfl rfl
              refine lv_iload_n hx hb dX0_canBe_121 rfl (lv_at hl 1 rfl) ?_
              refine c_read (va_runS (As := [.int (nI kk)]) (rest := []) ⟨hx, hb, hml, hown, hts⟩ (met_J15_bitCount l G (nI kk)) (cs_X0_J15_bitCount hts ⟨Nat.le_of_ble_eq_true rfl, Nat.le_of_ble_eq_true rfl⟩) (cP.pre hK trivial) rfl rfl hl.1 rfl (lv_room (Nat.le_of_ble_eq_true rfl)) dX0_canBe_122 ⟨by first | exact Nat.zero_le _ | omega | decide, by first | exact Nat.zero_le _ | omega | decide⟩) ?_
              change W p l e _ s m _ below meth c _ _ _ _ _ (F0 m _ ls (.int (xBit (nI kk)) :: _))
              rw [xBit_eq kk (by omega)]
              refine lv_iconst (v := nI 1) hx hb dX0_canBe_125 (by decide) ?_
              refine lv_icmp_eq (tgt := 137) hx hb dX0_canBe_126 (by decide) (fun c_5 => ?_) (fun c_5 => ?_)
              · refine lv_iconst (v := nI 1) hx hb dX0_canBe_137 (by decide) ?_
                refine lv_goto (tgt := 142) hx hb dX0_canBe_138 (by decide) ?_
                exact c_rret (v := nI 1) ((bI_t ((canBe_iff (ne := ne) hnb hk0 hkk rva.1).mp ⟨by first | with_reducible assumption | exact Int32.not_le.mp (by with_reducible assumption) | exact Int32.not_lt.mp (by with_reducible assumption) | exact Int32.not_lt.mpr (by with_reducible assumption) | exact Int32.not_le.mpr (by with_reducible assumption), by first | exact Or.inl (by with_reducible assumption) | exact Or.inr (by first | with_reducible assumption | exact Int32.not_le.mp (by with_reducible assumption) | exact Int32.not_lt.mp (by with_reducible assumption) | exact Int32.not_lt.mpr (by with_reducible assumption) | exact Int32.not_le.mpr (by with_reducible assumption))⟩)).symm) hx hb hr rfl hlocks dX0_canBe_142 rfl rfl
              refine lv_iload_n hx hb dX0_canBe_129 rfl (lv_at hl 2 rfl) ?_
              refine lv_iload_n hx hb dX0_canBe_130 rfl (lv_at hl 3 rfl) ?_
              refine lv_isub hx hb dX0_canBe_131 ?_
              refine lv_iload hx hb dX0_canBe_132 (lv_at hl 4 rfl) ?_
              refine lv_icmp_ge (tgt := 141) hx hb dX0_canBe_134 (by decide) (fun c_6 => ?_) (fun c_6 => ?_)
              · refine lv_iconst (v := nI 0) hx hb dX0_canBe_141 (by decide) ?_
                exact c_rret (v := nI 0) ((bI_f (fun h9 => by have h8 := (canBe_iff (ne := ne) hnb hk0 hkk rva.1).mpr h9; first | exact h8.1 (by first | with_reducible assumption | exact Int32.not_le.mp (by with_reducible assumption) | exact Int32.not_lt.mp (by with_reducible assumption) | exact Int32.not_lt.mpr (by with_reducible assumption) | exact Int32.not_le.mpr (by with_reducible assumption)) | exact h8.2.elim (fun h7 => absurd h7 (by with_reducible assumption)) (fun h7 => absurd h7 (by first | with_reducible assumption | exact Int32.not_le.mp (by with_reducible assumption) | exact Int32.not_lt.mp (by with_reducible assumption) | exact Int32.not_lt.mpr (by with_reducible assumption) | exact Int32.not_le.mpr (by with_reducible assumption))))).symm) hx hb hr rfl hlocks dX0_canBe_142 rfl rfl
              refine lv_iconst (v := nI 1) hx hb dX0_canBe_137 (by decide) ?_
              refine lv_goto (tgt := 142) hx hb dX0_canBe_138 (by decide) ?_
              exact c_rret (v := nI 1) ((bI_t ((canBe_iff (ne := ne) hnb hk0 hkk rva.1).mp ⟨by first | with_reducible assumption | exact Int32.not_le.mp (by with_reducible assumption) | exact Int32.not_lt.mp (by with_reducible assumption) | exact Int32.not_lt.mpr (by with_reducible assumption) | exact Int32.not_le.mpr (by with_reducible assumption), by first | exact Or.inl (by with_reducible assumption) | exact Or.inr (by first | with_reducible assumption | exact Int32.not_le.mp (by with_reducible assumption) | exact Int32.not_lt.mp (by with_reducible assumption) | exact Int32.not_lt.mpr (by with_reducible assumption) | exact Int32.not_le.mpr (by with_reducible assumption))⟩)).symm) hx hb hr rfl hlocks dX0_canBe_142 rfl rfl
            refine lv_iload hx hb dX0_canBe_92 (lv_at hl 4 rfl) ?_
            refine lv_aload_n hx hb dX0_canBe_94 rfl (lv_at hl 0 rfl) ?_
            refine x_g_now hx hb hts hown hK hw dX0_canBe_95 ?_
            refine x_sX0_51_seen hx hb hts hown hK hw dX0_canBe_98 ?_
            refine lv_iload hx hb dX0_canBe_101 (lv_at hl 5 rfl) ?_
            refine x_l (k := 54) (j := k) (n := 8) (v := M 0 (60 + k)) hx hb hK hw (rse k (by omega)) (by decide) (by omega) dX0_canBe_103 ?_
            refine c_mmax (x := v) (y := (M 0 (60 + k))) hx hb (hml.trans hl.1.symm) hown (hts _ q1091) (hts _ q568) (hts _ q109) (hts _ q569) (Nat.le_of_ble_eq_true rfl) (Nat.le_trans (Nat.add_le_add_right (show (([] : List Value).map fun v => v.category).sum ≤ 20 from Nat.le_of_ble_eq_true rfl) 13) (Nat.le_of_ble_eq_true rfl)) (Nat.le_of_ble_eq_true rfl) (Nat.le_of_ble_eq_true rfl) dX0_canBe_104 ?_
            refine lv_istore (lv' := [(4, .int (pif (v < (M 0 (60 + k))) (M 0 (60 + k)) v)), (0, .ref (ad 0)), (1, .int (nI kk)), (2, .int (mAll M (nI kk) nb)), (3, .int (xLeast M (nI kk) nb)), (5, .int (nI k))]) hx hb dX0_canBe_107 hl (by decide) rfl (fun ls hl => ?_)
            refine lv_iinc (v := nI (k + 1)) (lv' := [(5, .int (nI (k + 1))), (4, .int (pif (v < (M 0 (60 + k))) (M 0 (60 + k)) v)), (0, .ref (ad 0)), (1, .int (nI kk)), (2, .int (mAll M (nI kk) nb)), (3, .int (xLeast M (nI kk) nb))]) hx hb dX0_canBe_109 hl (k := 5) rfl (n_inc k 1) (by decide) rfl (fun ls hl => ?_)
            refine lv_goto (tgt := 78) hx hb dX0_canBe_112 (by decide) ?_
            exact ih78 (k + 1) (pif (v < (M 0 (60 + k))) (M 0 (60 + k)) v) (by omega) (by omega) (by refine Eq.trans ?_ ((it_s (by omega)).symm.trans hq_v); congr 1; exact max_sw) ls (lv_sub hl [2, 3, 4, 5, 1, 0] rfl)
        exact L78_2 _ 0 (nI 0) (Nat.lt_succ_self _) (by first | assumption | omega | rfl) rfl ls (lv_sub hl [2, 3, 4, 5, 1, 0] rfl)
      refine lv_iload_n hx hb dX0_canBe_22 rfl (lv_at hl 1 rfl) ?_
      refine lv_iload hx hb dX0_canBe_23 (lv_at hl 4 rfl) ?_
      refine lv_ishr hx hb dX0_canBe_25 ?_
      refine lv_iconst (v := nI 1) hx hb dX0_canBe_26 (by decide) ?_
      refine lv_iand hx hb dX0_canBe_27 ?_
      refine lv_if_ne (tgt := 34) hx hb dX0_canBe_28 (by decide) (fun c_7 => ?_) (fun c_7 => ?_)
      · have hhas : mHas (nI kk) b := bit_has c_7
        refine lv_iload_n hx hb dX0_canBe_34 rfl (lv_at hl 2 rfl) ?_
        refine lv_aload_n hx hb dX0_canBe_35 rfl (lv_at hl 0 rfl) ?_
        refine x_g_now hx hb hts hown hK hw dX0_canBe_36 ?_
        refine x_sX0_51_blower hx hb hts hown hK hw dX0_canBe_39 ?_
        refine lv_iload hx hb dX0_canBe_42 (lv_at hl 4 rfl) ?_
        refine x_a (r := 61 + b) hx hb hK hw xO_55 rfl (by decide) (by omega) rfl dX0_canBe_44 ?_
        refine lv_iconst (v := nI 0) hx hb dX0_canBe_45 (by decide) ?_
        refine x_l (k := 61 + b) (j := 0) (n := 3) (v := M 0 (10 + 5 * b)) hx hb hK hw ((rbl b (by omega)).1) (xL_61 (by omega)) (by decide) dX0_canBe_46 ?_
        refine lv_iadd hx hb dX0_canBe_47 ?_
        refine lv_istore_n (lv' := [(2, .int (u + (M 0 (10 + 5 * b)))), (0, .ref (ad 0)), (1, .int (nI kk)), (3, .int g), (4, .int (nI b))]) hx hb dX0_canBe_48 rfl hl (by decide) rfl (fun ls hl => ?_)
        refine lv_iload_n hx hb dX0_canBe_49 rfl (lv_at hl 3 rfl) ?_
        refine lv_aload_n hx hb dX0_canBe_50 rfl (lv_at hl 1 rfl) ?_
        refine x_g_now hx hb hts hown hK hw dX0_canBe_51 ?_
        refine x_sX0_51_blower hx hb hts hown hK hw dX0_canBe_54 ?_
        refine lv_iload hx hb dX0_canBe_57 (lv_at hl 4 rfl) ?_
        refine x_a (r := 61 + b) hx hb hK hw xO_55 rfl (by decide) (by omega) rfl dX0_canBe_59 ?_
        refine lv_iconst (v := nI 0) hx hb dX0_canBe_60 (by decide) ?_
        refine x_l (k := 61 + b) (j := 0) (n := 3) (v := M 0 (10 + 5 * b)) hx hb hK hw ((rbl b (by omega)).1) (xL_61 (by omega)) (by decide) dX0_canBe_61 ?_
        refine c_mmin (x := g) (y := (M 0 (10 + 5 * b))) hx hb (hml.trans hl.1.symm) hown (hts _ q988) (hts _ q440) (hts _ q109) (hts _ q441) (Nat.le_of_ble_eq_true rfl) (Nat.le_trans (Nat.add_le_add_right (show (([] : List Value).map fun v => v.category).sum ≤ 20 from Nat.le_of_ble_eq_true rfl) 13) (Nat.le_of_ble_eq_true rfl)) (Nat.le_of_ble_eq_true rfl) (Nat.le_of_ble_eq_true rfl) dX0_canBe_62 ?_
        refine lv_istore_n (lv' := [(3, .int (pif ((M 0 (10 + 5 * b)) < g) (M 0 (10 + 5 * b)) g)), (2, .int (u + (M 0 (10 + 5 * b)))), (0, .ref (ad 0)), (1, .int (nI kk)), (4, .int (nI b))]) hx hb dX0_canBe_65 rfl hl (by decide) rfl (fun ls hl => ?_)
        refine lv_iinc (v := nI (b + 1)) (lv' := [(4, .int (nI (b + 1))), (3, .int (pif ((M 0 (10 + 5 * b)) < g) (M 0 (10 + 5 * b)) g)), (2, .int (u + (M 0 (10 + 5 * b)))), (0, .ref (ad 0)), (1, .int (nI kk))]) hx hb dX0_canBe_66 hl (k := 4) rfl (n_inc b 1) (by decide) rfl (fun ls hl => ?_)
        refine lv_goto (tgt := 8) hx hb dX0_canBe_69 (by decide) ?_
        exact ih8 (b + 1) (u + (M 0 (10 + 5 * b))) (pif ((M 0 (10 + 5 * b)) < g) (M 0 (10 + 5 * b)) g) (by omega) (by omega) (by refine Eq.trans ?_ ((it_s (by omega)).symm.trans hq_u); congr 1; rw [pif_t hhas]) (by refine Eq.trans ?_ ((it_s (by omega)).symm.trans hq_g); congr 1; rw [pif_t hhas]) ls (lv_sub hl [3, 4, 2, 1, 0] rfl)
      refine lv_goto (tgt := 66) hx hb dX0_canBe_31 (by decide) ?_
      refine lv_iinc (v := nI (b + 1)) (lv' := [(4, .int (nI (b + 1))), (0, .ref (ad 0)), (1, .int (nI kk)), (2, .int u), (3, .int g)]) hx hb dX0_canBe_66 hl (k := 4) rfl (n_inc b 1) (by decide) rfl (fun ls hl => ?_)
      refine lv_goto (tgt := 8) hx hb dX0_canBe_69 (by decide) ?_
      exact ih8 (b + 1) u g (by omega) (by omega) (by refine Eq.trans ?_ ((it_s (by omega)).symm.trans hq_u); congr 1; rw [pif_f (fun h9 => absurd (h9.symm.trans c_7) (by decide)), nI_0, Int32.add_zero]) (by refine Eq.trans ?_ ((it_s (by omega)).symm.trans hq_g); congr 1; rw [pif_f (fun h9 => absurd (h9.symm.trans c_7) (by decide))]) ls (lv_sub hl [1, 2, 3, 4, 0] rfl)
  exact L_8 _ 0 (nI 0) (nI 9) (Nat.lt_succ_self _) (by first | assumption | omega | rfl) rfl rfl ls (lv_sub hl [3, 4, 2, 1, 0] rfl)
set_option maxHeartbeats 4000000 in
set_option maxRecDepth 100000 in
theorem met_X0_whose (l : Launch) (G : gG) (ad : Nat → Nat) (sz : Nat) (X Z : Nat → Nat → Int32) (T : Nat → Nat → Option Nat) (M : Nat → Nat → Int32) (nb nk nx np h nu ns ne nt : Nat) (hR : RS X 51 (M 0) nb nk nx np h nu ns ne nt) (x : Int32) : Met l yX0_whose (ws_ yX0_whose cX0_whose 4 (some .int)) ({ frames := 2, cells := 0, slots := 0, locals := 66 } : Room) (cP G [.ref (ad 0), .int x] (xH G ad X Z T sz)) (cR (some (.int (mWhose M nb ne x)))) 0 0 (fun _ => False) := by
  refine c_start (by decide) (Nat.le_of_ble_eq_true rfl) ?_
  intro p e s m below meth c hx hb hr hlocks hml hown hts hB hK ls hl
  have hz := hB.2.2
  have hw := XS.of hB
  have hl : lv_has ls 4 [(0, .ref (ad 0)), (1, .int x)] := hl
  have hR0 := hR
  obtain ⟨⟨rnb, mnb, hnb⟩, ⟨rnk, mnk, hnk⟩, ⟨rnx, mnx, hnx⟩, rtx, ⟨rns, mns, hns⟩, ⟨rne, mne, hne⟩, ⟨rnt, mnt, hnt⟩, ⟨rnp, mnp, hnp⟩, ⟨rh, mh, hh⟩, ⟨rnu, mnu, hnu⟩, rbl, rbe, rgi, rki, rse, rto, rpi, rbu, rkd, rva, rst⟩ := hR
  change X 52 0 = _ at rnb; change X 52 1 = _ at rnk; change X 52 2 = _ at rnx; change X 52 3 = _ at rtx; change X 52 4 = _ at rns; change X 52 5 = _ at rne; change X 52 6 = _ at rnt; change X 53 112 = _ at rnp; change X 53 113 = _ at rh; change X 53 114 = _ at rnu
  have h2nb : 2 ^ nb ≤ 64 := Nat.pow_le_pow_right (by decide) hnb
  refine lv_iload_n hx hb dX0_whose_0 rfl (lv_at hl 1 rfl) ?_
  refine lv_iconst (v := (-1)) hx hb dX0_whose_1 (by decide) ?_
  refine lv_icmp_ge (tgt := 7) hx hb dX0_whose_2 (by decide) (fun c_1 => ?_) (fun c_1 => ?_)
  · refine lv_iconst (v := nI 0) hx hb dX0_whose_7 (by decide) ?_
    refine lv_istore_n (lv' := [(2, .int (nI 0)), (0, .ref (ad 0)), (1, .int x)]) hx hb dX0_whose_8 rfl hl (by decide) rfl (fun ls hl => ?_)
    refine lv_iconst (v := nI 1) hx hb dX0_whose_9 (by decide) ?_
    refine lv_istore_n (lv' := [(3, .int (nI 1)), (2, .int (nI 0)), (0, .ref (ad 0)), (1, .int x)]) hx hb dX0_whose_10 rfl hl (by decide) rfl (fun ls hl => ?_)
    have L11_2 : ∀ (fuel : Nat) (k : Nat) (n : Int32), 2 ^ nb - k < fuel → (1 ≤ k) → (k ≤ 2 ^ nb) → (pif (0 < ne) (it (mWhoF M nb ne x) (2 ^ nb - k) k (n, none)) (n, none) = pif (0 < ne) (it (mWhoF M nb ne x) (2 ^ nb - 1) 1 (nI 0, none)) (nI 0, none)) → ∀ (ls : Array Slot), lv_has ls 4 [(0, .ref (ad 0)), (1, .int x), (2, .int n), (3, .int (nI k))] → W p l e ({ frames := 2, cells := 0, slots := 0, locals := 66 } : Room) s m ([.ref (ad 0), .int x] : List Value).toArray below meth c s.heap [] 0 0 (MQ below (cR (some (.int (mWhose M nb ne x)))) ([.ref (ad 0), .int x] : List Value).toArray s 0 0 (fun _ => False)) (F0 m 11 ls []) := by
      intro fuel
      induction fuel with
      | zero => intro k n hf; exact absurd hf (Nat.not_lt_zero _)
      | succ fuel ih =>
        intro k n hf h1k hi_k hq ls hl
        have ih11 := ih
        refine lv_iload_n hx hb dX0_whose_11 rfl (lv_at hl 3 rfl) ?_
        refine lv_iconst (v := nI 1) hx hb dX0_whose_12 (by decide) ?_
        refine lv_aload_n hx hb dX0_whose_13 rfl (lv_at hl 0 rfl) ?_
        refine x_g_now hx hb hts hown hK hw dX0_whose_14 ?_
        refine x_sX0_51_n hx hb hts hown hK hw dX0_whose_17 ?_
        refine lv_iconst (v := nI 0) hx hb dX0_whose_20 (by decide) ?_
        refine x_l (k := 52) (j := 0) (n := 7) (v := nI nb) hx hb hK hw rnb (by decide) (by decide) dX0_whose_21 ?_
        refine lv_ishl hx hb dX0_whose_22 ?_
        rw [shl1 nb (by omega)]
        refine n_icmp_ge (tgt := 73) hx hb dX0_whose_23 (by decide) (by omega) (by omega) (fun c_3 => ?_) (fun c_3 => ?_)
        · refine lv_iload_n hx hb dX0_whose_73 rfl (lv_at hl 1 rfl) ?_
          refine lv_iconst (v := (-1)) hx hb dX0_whose_74 (by decide) ?_
          refine lv_icmp_ne (tgt := 82) hx hb dX0_whose_75 (by decide) (fun c_4 => ?_) (fun c_4 => ?_)
          · refine lv_iconst (v := (-1)) hx hb dX0_whose_82 (by decide) ?_
            exact c_rret (v := (-1)) (by unfold mWhose; rw [pif_f (by first | with_reducible assumption | exact Int32.not_le.mp (by with_reducible assumption) | exact Int32.not_lt.mp (by with_reducible assumption) | exact Int32.not_lt.mpr (by with_reducible assumption) | exact Int32.not_le.mpr (by with_reducible assumption)), ← hq]; first | (rw [pif_t (by with_reducible assumption), it_z (by omega)]; show _ = pif _ _ _; first | rw [pif_t (by with_reducible assumption)] | rw [pif_f (by with_reducible assumption)]) | (rw [pif_f (by omega)]; show _ = pif _ _ _; first | rw [pif_t (by with_reducible assumption)] | rw [pif_f (by with_reducible assumption)]) | (by_cases h0 : 0 < ne; (rw [pif_t h0, it_z (by omega)]; show _ = pif _ _ _; first | rw [pif_t (by with_reducible assumption)] | rw [pif_f (by with_reducible assumption)]); (rw [pif_f h0]; show _ = pif _ _ _; first | rw [pif_t (by with_reducible assumption)] | rw [pif_f (by with_reducible assumption)]))) hx hb hr rfl hlocks dX0_whose_83 rfl rfl
          refine lv_iload_n hx hb dX0_whose_78 rfl (lv_at hl 2 rfl) ?_
          refine lv_goto (tgt := 83) hx hb dX0_whose_79 (by decide) ?_
          exact c_rret (v := n) (by unfold mWhose; rw [pif_f (by first | with_reducible assumption | exact Int32.not_le.mp (by with_reducible assumption) | exact Int32.not_lt.mp (by with_reducible assumption) | exact Int32.not_lt.mpr (by with_reducible assumption) | exact Int32.not_le.mpr (by with_reducible assumption)), ← hq]; first | (rw [pif_t (by with_reducible assumption), it_z (by omega)]; show _ = pif _ _ _; first | rw [pif_t (by with_reducible assumption)] | rw [pif_f (by with_reducible assumption)]) | (rw [pif_f (by omega)]; show _ = pif _ _ _; first | rw [pif_t (by with_reducible assumption)] | rw [pif_f (by with_reducible assumption)]) | (by_cases h0 : 0 < ne; (rw [pif_t h0, it_z (by omega)]; show _ = pif _ _ _; first | rw [pif_t (by with_reducible assumption)] | rw [pif_f (by with_reducible assumption)]); (rw [pif_f h0]; show _ = pif _ _ _; first | rw [pif_t (by with_reducible assumption)] | rw [pif_f (by with_reducible assumption)]))) hx hb hr rfl hlocks dX0_whose_83 rfl rfl
        refine lv_aload_n hx hb dX0_whose_26 rfl (lv_at hl 0 rfl) ?_
        refine x_g_now hx hb hts hown hK hw dX0_whose_27 ?_
        refine x_sX0_51_n hx hb hts hown hK hw dX0_whose_30 ?_
        refine lv_iconst (v := nI 5) hx hb dX0_whose_33 (by decide) ?_
        refine x_l (k := 52) (j := 5) (n := 7) (v := nI ne) hx hb hK hw rne (by decide) (by decide) dX0_whose_34 ?_
        refine n_if_le (tgt := 73) hx hb dX0_whose_35 (by decide) (by omega) (fun c_5 => ?_) (fun c_5 => ?_)
        · refine lv_iload_n hx hb dX0_whose_73 rfl (lv_at hl 1 rfl) ?_
          refine lv_iconst (v := (-1)) hx hb dX0_whose_74 (by decide) ?_
          refine lv_icmp_ne (tgt := 82) hx hb dX0_whose_75 (by decide) (fun c_6 => ?_) (fun c_6 => ?_)
          · refine lv_iconst (v := (-1)) hx hb dX0_whose_82 (by decide) ?_
            exact c_rret (v := (-1)) (by unfold mWhose; rw [pif_f (by first | with_reducible assumption | exact Int32.not_le.mp (by with_reducible assumption) | exact Int32.not_lt.mp (by with_reducible assumption) | exact Int32.not_lt.mpr (by with_reducible assumption) | exact Int32.not_le.mpr (by with_reducible assumption)), ← hq]; first | (rw [pif_t (by with_reducible assumption), it_z (by omega)]; show _ = pif _ _ _; first | rw [pif_t (by with_reducible assumption)] | rw [pif_f (by with_reducible assumption)]) | (rw [pif_f (by omega)]; show _ = pif _ _ _; first | rw [pif_t (by with_reducible assumption)] | rw [pif_f (by with_reducible assumption)]) | (by_cases h0 : 0 < ne; (rw [pif_t h0, it_z (by omega)]; show _ = pif _ _ _; first | rw [pif_t (by with_reducible assumption)] | rw [pif_f (by with_reducible assumption)]); (rw [pif_f h0]; show _ = pif _ _ _; first | rw [pif_t (by with_reducible assumption)] | rw [pif_f (by with_reducible assumption)]))) hx hb hr rfl hlocks dX0_whose_83 rfl rfl
          refine lv_iload_n hx hb dX0_whose_78 rfl (lv_at hl 2 rfl) ?_
          refine lv_goto (tgt := 83) hx hb dX0_whose_79 (by decide) ?_
          exact c_rret (v := n) (by unfold mWhose; rw [pif_f (by first | with_reducible assumption | exact Int32.not_le.mp (by with_reducible assumption) | exact Int32.not_lt.mp (by with_reducible assumption) | exact Int32.not_lt.mpr (by with_reducible assumption) | exact Int32.not_le.mpr (by with_reducible assumption)), ← hq]; first | (rw [pif_t (by with_reducible assumption), it_z (by omega)]; show _ = pif _ _ _; first | rw [pif_t (by with_reducible assumption)] | rw [pif_f (by with_reducible assumption)]) | (rw [pif_f (by omega)]; show _ = pif _ _ _; first | rw [pif_t (by with_reducible assumption)] | rw [pif_f (by with_reducible assumption)]) | (by_cases h0 : 0 < ne; (rw [pif_t h0, it_z (by omega)]; show _ = pif _ _ _; first | rw [pif_t (by with_reducible assumption)] | rw [pif_f (by with_reducible assumption)]); (rw [pif_f h0]; show _ = pif _ _ _; first | rw [pif_t (by with_reducible assumption)] | rw [pif_f (by with_reducible assumption)]))) hx hb hr rfl hlocks dX0_whose_83 rfl rfl
        refine lv_iload_n hx hb dX0_whose_38 rfl (lv_at hl 3 rfl) ?_
        refine c_read (va_runS (As := [.int (nI k)]) (rest := []) ⟨hx, hb, hml, hown, hts⟩ (met_J15_bitCount l G (nI k)) (cs_X0_J15_bitCount hts ⟨Nat.le_of_ble_eq_true rfl, Nat.le_of_ble_eq_true rfl⟩) (cP.pre hK trivial) rfl rfl hl.1 rfl (lv_room (Nat.le_of_ble_eq_true rfl)) dX0_whose_39 ⟨by first | exact Nat.zero_le _ | omega | decide, by first | exact Nat.zero_le _ | omega | decide⟩) ?_
        change W p l e _ s m _ below meth c _ _ _ _ _ (F0 m _ ls (.int (xBit (nI k)) :: _))
        rw [xBit_eq k (by omega)]
        refine lv_iconst (v := nI 3) hx hb dX0_whose_42 (by decide) ?_
        refine lv_icmp_gt (tgt := 67) hx hb dX0_whose_43 (by decide) (fun c_7 => ?_) (fun c_7 => ?_)
        · refine lv_iinc (v := nI (k + 1)) (lv' := [(3, .int (nI (k + 1))), (0, .ref (ad 0)), (1, .int x), (2, .int n)]) hx hb dX0_whose_67 hl (k := 3) rfl (n_inc k 1) (by decide) rfl (fun ls hl => ?_)
          refine lv_goto (tgt := 11) hx hb dX0_whose_70 (by decide) ?_
          exact ih11 (k + 1) n (by omega) (by omega) (by omega) (by rw [pif_t (by with_reducible assumption)] at hq ⊢; refine Eq.trans ?_ ((it_s (by omega)).symm.trans hq); congr 1; rw [mWhoF_none]; first | (rw [pif_t (by first | with_reducible assumption | exact Int32.not_le.mp (by with_reducible assumption) | exact Int32.not_lt.mp (by with_reducible assumption) | exact Int32.not_lt.mpr (by with_reducible assumption) | exact Int32.not_le.mpr (by with_reducible assumption))]) | (rw [pif_f (by first | with_reducible assumption | exact Int32.not_le.mp (by with_reducible assumption) | exact Int32.not_lt.mp (by with_reducible assumption) | exact Int32.not_lt.mpr (by with_reducible assumption) | exact Int32.not_le.mpr (by with_reducible assumption)), pif_f (by with_reducible assumption)]) | (rw [pif_f (by first | with_reducible assumption | exact Int32.not_le.mp (by with_reducible assumption) | exact Int32.not_lt.mp (by with_reducible assumption) | exact Int32.not_lt.mpr (by with_reducible assumption) | exact Int32.not_le.mpr (by with_reducible assumption)), pif_t (by with_reducible assumption), pif_f (by with_reducible assumption)])) ls (lv_sub hl [1, 2, 3, 0] rfl)
        refine lv_aload_n hx hb dX0_whose_46 rfl (lv_at hl 0 rfl) ?_
        refine lv_iload_n hx hb dX0_whose_47 rfl (lv_at hl 3 rfl) ?_
        refine c_read (va_runV (As := [.int (nI k)]) (rest := []) ⟨hx, hb, hml, hown, hts⟩ (met_X0_canBe l G ad sz X Z T M nb nk nx np h nu ns ne nt hR0 k (by omega) (by omega)) (cv_X0_X0_canBe hts ⟨Nat.le_of_ble_eq_true rfl, Nat.le_of_ble_eq_true rfl⟩) (cP.preV hK hw.1 (hw.1.recv hK)) rfl rfl hl.1 rfl (lv_room (Nat.le_of_ble_eq_true rfl)) dX0_whose_48 ⟨by first | exact Nat.zero_le _ | omega | decide, by first | exact Nat.zero_le _ | omega | decide⟩) ?_
        refine b_if_ne (tgt := 57) hx hb dX0_whose_51 (by decide) (fun c_8 => ?_) (fun c_8 => ?_)
        · refine lv_iload_n hx hb dX0_whose_57 rfl (lv_at hl 2 rfl) ?_
          refine lv_iload_n hx hb dX0_whose_58 rfl (lv_at hl 1 rfl) ?_
          refine lv_icmp_ne (tgt := 64) hx hb dX0_whose_59 (by decide) (fun c_9 => ?_) (fun c_9 => ?_)
          · refine lv_iinc (v := n + Int32.ofInt 1) (lv' := [(2, .int (n + Int32.ofInt 1)), (0, .ref (ad 0)), (1, .int x), (3, .int (nI k))]) hx hb dX0_whose_64 hl (k := 2) rfl rfl (by decide) rfl (fun ls hl => ?_)
            refine lv_iinc (v := nI (k + 1)) (lv' := [(3, .int (nI (k + 1))), (2, .int (n + Int32.ofInt 1)), (0, .ref (ad 0)), (1, .int x)]) hx hb dX0_whose_67 hl (k := 3) rfl (n_inc k 1) (by decide) rfl (fun ls hl => ?_)
            refine lv_goto (tgt := 11) hx hb dX0_whose_70 (by decide) ?_
            exact ih11 (k + 1) (n + Int32.ofInt 1) (by omega) (by omega) (by omega) (by rw [pif_t (by with_reducible assumption)] at hq ⊢; refine Eq.trans ?_ ((it_s (by omega)).symm.trans hq); congr 1; rw [mWhoF_none]; first | (rw [pif_t (by first | with_reducible assumption | exact Int32.not_le.mp (by with_reducible assumption) | exact Int32.not_lt.mp (by with_reducible assumption) | exact Int32.not_lt.mpr (by with_reducible assumption) | exact Int32.not_le.mpr (by with_reducible assumption))]) | (rw [pif_f (by first | with_reducible assumption | exact Int32.not_le.mp (by with_reducible assumption) | exact Int32.not_lt.mp (by with_reducible assumption) | exact Int32.not_lt.mpr (by with_reducible assumption) | exact Int32.not_le.mpr (by with_reducible assumption)), pif_f (by with_reducible assumption)]) | (rw [pif_f (by first | with_reducible assumption | exact Int32.not_le.mp (by with_reducible assumption) | exact Int32.not_lt.mp (by with_reducible assumption) | exact Int32.not_lt.mpr (by with_reducible assumption) | exact Int32.not_le.mpr (by with_reducible assumption)), pif_t (by with_reducible assumption), pif_f (by with_reducible assumption)])) ls (lv_sub hl [2, 3, 1, 0] rfl)
          refine lv_iload_n hx hb dX0_whose_62 rfl (lv_at hl 3 rfl) ?_
          exact c_rret (v := nI k) (by unfold mWhose; rw [pif_f (by first | with_reducible assumption | exact Int32.not_le.mp (by with_reducible assumption) | exact Int32.not_lt.mp (by with_reducible assumption) | exact Int32.not_lt.mpr (by with_reducible assumption) | exact Int32.not_le.mpr (by with_reducible assumption)), ← hq, pif_t (by with_reducible assumption), it_s (by omega), mWhoF_none, pif_f (by first | with_reducible assumption | exact Int32.not_le.mp (by with_reducible assumption) | exact Int32.not_lt.mp (by with_reducible assumption) | exact Int32.not_lt.mpr (by with_reducible assumption) | exact Int32.not_le.mpr (by with_reducible assumption)), pif_t (by with_reducible assumption), pif_t (by with_reducible assumption), mWho_some]; rfl) hx hb hr rfl hlocks dX0_whose_63 rfl rfl
        refine lv_goto (tgt := 67) hx hb dX0_whose_54 (by decide) ?_
        refine lv_iinc (v := nI (k + 1)) (lv' := [(3, .int (nI (k + 1))), (0, .ref (ad 0)), (1, .int x), (2, .int n)]) hx hb dX0_whose_67 hl (k := 3) rfl (n_inc k 1) (by decide) rfl (fun ls hl => ?_)
        refine lv_goto (tgt := 11) hx hb dX0_whose_70 (by decide) ?_
        exact ih11 (k + 1) n (by omega) (by omega) (by omega) (by rw [pif_t (by with_reducible assumption)] at hq ⊢; refine Eq.trans ?_ ((it_s (by omega)).symm.trans hq); congr 1; rw [mWhoF_none]; first | (rw [pif_t (by first | with_reducible assumption | exact Int32.not_le.mp (by with_reducible assumption) | exact Int32.not_lt.mp (by with_reducible assumption) | exact Int32.not_lt.mpr (by with_reducible assumption) | exact Int32.not_le.mpr (by with_reducible assumption))]) | (rw [pif_f (by first | with_reducible assumption | exact Int32.not_le.mp (by with_reducible assumption) | exact Int32.not_lt.mp (by with_reducible assumption) | exact Int32.not_lt.mpr (by with_reducible assumption) | exact Int32.not_le.mpr (by with_reducible assumption)), pif_f (by with_reducible assumption)]) | (rw [pif_f (by first | with_reducible assumption | exact Int32.not_le.mp (by with_reducible assumption) | exact Int32.not_lt.mp (by with_reducible assumption) | exact Int32.not_lt.mpr (by with_reducible assumption) | exact Int32.not_le.mpr (by with_reducible assumption)), pif_t (by with_reducible assumption), pif_f (by with_reducible assumption)])) ls (lv_sub hl [1, 2, 3, 0] rfl)
    exact L11_2 _ 1 (nI 0) (Nat.lt_succ_self _) (by omega) Nat.one_le_two_pow rfl ls (lv_sub hl [2, 3, 1, 0] rfl)
  refine lv_iconst (v := (-1)) hx hb dX0_whose_5 (by decide) ?_
  exact c_rret (v := (-1)) (by unfold mWhose; rw [pif_t (by first | with_reducible assumption | exact Int32.not_le.mp (by with_reducible assumption) | exact Int32.not_lt.mp (by with_reducible assumption) | exact Int32.not_lt.mpr (by with_reducible assumption) | exact Int32.not_le.mpr (by with_reducible assumption))]) hx hb hr rfl hlocks dX0_whose_6 rfl rfl
