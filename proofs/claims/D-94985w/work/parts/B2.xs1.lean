/-! Strings, letters, digits, words (printed by gen/xs1.py) -/
theorem xshr0 (x : Int32) : x >>> (nI 0 &&& 31) = x := by
  rw [show (nI 0 &&& 31 : Int32) = 0 by decide]
  apply Int32.toBitVec_inj.mp
  rw [Int32.toBitVec_shiftRight]
  simp
/-- the letters of the constants -/
def kNt (i : Nat) : List Nat := if i < 25 then wd i else [60, 62, 61, 35, 43, 45, 42, 47, 40, 41, 59, 63, 58]
theorem kLen_eq : ∀ i, i < 26 → kLen.getD i 0 = (kNt i).length := by decide +kernel
theorem kByt_eq : ∀ i, i < 26 → ∀ j, j < (kNt i).length → (((kByt.getD i []).getD j 0) &&& nI 255).toUInt32 % 65536 = (nI ((kNt i).getD j 0)).toUInt32 ∧ (kNt i).getD j 0 < 128 := by decide +kernel
theorem xnch {n : Nat} (h : n < 128) : narrow .char (.int (nI n)) = .int (nI n) := by
  have : ∀ k, k < 128 → narrow .char (.int (nI k)) = .int (nI k) := by decide +kernel
  exact this n h
section PT2
variable {p : Program} {l : Launch} {e : Env} {R : Room} {s : State} {m : MethodId} {args : Array Value} {below : List Frame} {meth : Method} {c : Code} {H : Heap} {locs : List Loc} {cells slots : Nat} {Q : State → Prop}
variable {cc : ByteArray} {pc : Nat} {ls : Array Slot} {rest st0 : List Value} {G : gG}
theorem p_len (hx : p.tables.exec = Jvm.exec) (hb : c.code = cc) (hK : KK G s) {a n : Nat} {x : ClassId} {f : Nat → Option Nat} {t : Nat} {ty : FieldType} (hat : va_at (gD G) g_cl (a, .inl (x, n, .inr (.inr (.inr (.inr f))))) H) (ht : (g_ty G.2.2)[t]? = some (x, ty)) (hdg : decode cc pc = .ok (.arraylength, 1)) (kk : W p l e R s m args below meth c H locs cells slots Q (F0 m (pc + 1) ls (.int (nI n) :: rest))) : W p l e R s m args below meth c H locs cells slots Q (F0 m pc ls (.ref a :: rest)) := by
  exact va_alen (D := gD G) hx hb hK.1 (va_P1 hat) 0 t rfl ht rfl hdg kk
end PT2
set_option maxHeartbeats 4000000 in
set_option maxRecDepth 100000 in
theorem met_J5_checkIndexR (l : Launch) (G : gG) (i n a : Nat) (hi : i < n) (hn : n < 2 ^ 31) : Met l yJ5_checkIndex (ws_ yJ5_checkIndex cJ5_checkIndex 3 (some .int)) ({ frames := 0, cells := 0, slots := 0, locals := 0 } : Room) (cP G [.int (nI i), .int (nI n), .ref a] (fun _ => True)) (cR (some (.int (nI i)))) 0 0 (fun _ => False) := by
  refine c_start (by decide) (Nat.le_of_ble_eq_true rfl) ?_
  intro p e s m below meth c hx hb hr hlocks hml hown hts hB hK ls hl
  have hl : lv_has ls 3 [(0, .int (nI i)), (1, .int (nI n)), (2, .ref a)] := hl
  refine lv_iload_n hx hb dJ5_checkIndex_0 rfl (lv_at hl 0 rfl) ?_
  refine n_if_lt (tgt := 9) hx hb dJ5_checkIndex_1 (by decide) (by omega) ?_
  refine lv_iload_n hx hb dJ5_checkIndex_4 rfl (lv_at hl 0 rfl) ?_
  refine lv_iload_n hx hb dJ5_checkIndex_5 rfl (lv_at hl 1 rfl) ?_
  refine n_icmp_lt (tgt := 16) hx hb dJ5_checkIndex_6 (by decide) (by omega) (by omega) (fun c_1 => ?_) (fun c_1 => ?_)
  · refine lv_iload_n hx hb dJ5_checkIndex_16 rfl (lv_at hl 0 rfl) ?_
    exact c_rret (v := nI i) rfl hx hb hr rfl hlocks dJ5_checkIndex_17 rfl rfl
  exfalso; omega
set_option maxHeartbeats 4000000 in
set_option maxRecDepth 100000 in
theorem met_J3_coder (l : Launch) (G : gG) (κ : kK) (z : Nat) (i : Nat) (hi : i < 26) : Met l yJ3_coder (ws_ yJ3_coder cJ3_coder 1 (some Jvm.ClassFile.FieldType.byte)) ({ frames := 0, cells := 0, slots := 0, locals := 0 } : Room) (cT G κ z [.ref (κ.1 i)] (fun _ => True)) (cR (some (.int (nI 0)))) 0 0 (fun _ => False) := by
  refine t_startR (by decide) (Nat.le_of_ble_eq_true rfl) ?_
  intro p e s m below meth c hx hb hr hlocks hml hown hts hB hK hZ hname ls hl
  have hl : lv_has ls 1 [(0, .ref (κ.1 i))] := hl
  refine va_gets (v := .int (nI 1)) hx hb hZ.2.2.1 va_S.rf hown (hts _ q395) (fun _ h9 => h9) dJ3_coder_0 ?_
  refine n_if_eq (tgt := 13) hx hb dJ3_coder_3 (by decide) (by decide) (fun h9 => absurd h9 (by decide)) (fun _ => ?_)
  refine lv_aload_n hx hb dJ3_coder_6 rfl (lv_at hl 0 rfl) ?_
  refine vk_getf (v := .int (nI 0)) hx hb (hZ.1.1.1 i hi).2.1 va_S.rf hown (hts _ q1650) (fun _ h9 => h9) dJ3_coder_7 ?_
  refine lv_goto (tgt := 14) hx hb dJ3_coder_10 (by decide) ?_
  exact c_rret (v := nI 0) rfl hx hb hr rfl hlocks dJ3_coder_14 rfl rfl
set_option maxHeartbeats 4000000 in
set_option maxRecDepth 100000 in
theorem met_J3_isLatin1 (l : Launch) (G : gG) (κ : kK) (z : Nat) (i : Nat) (hi : i < 26) : Met l yJ3_isLatin1 (ws_ yJ3_isLatin1 cJ3_isLatin1 1 (some .boolean)) ({ frames := 0, cells := 0, slots := 0, locals := 0 } : Room) (cT G κ z [.ref (κ.1 i)] (fun _ => True)) (cR (some (.int (nI 1)))) 0 0 (fun _ => False) := by
  refine t_startR (by decide) (Nat.le_of_ble_eq_true rfl) ?_
  intro p e s m below meth c hx hb hr hlocks hml hown hts hB hK hZ hname ls hl
  have hl : lv_has ls 1 [(0, .ref (κ.1 i))] := hl
  refine va_gets (v := .int (nI 1)) hx hb hZ.2.2.1 va_S.rf hown (hts _ q395) (fun _ h9 => h9) dJ3_isLatin1_0 ?_
  refine n_if_eq (tgt := 17) hx hb dJ3_isLatin1_3 (by decide) (by decide) (fun h9 => absurd h9 (by decide)) (fun _ => ?_)
  refine lv_aload_n hx hb dJ3_isLatin1_6 rfl (lv_at hl 0 rfl) ?_
  refine vk_getf (v := .int (nI 0)) hx hb (hZ.1.1.1 i hi).2.1 va_S.rf hown (hts _ q1650) (fun _ h9 => h9) dJ3_isLatin1_7 ?_
  refine n_if_ne (tgt := 17) hx hb dJ3_isLatin1_10 (by decide) (by decide) (fun h9 => absurd h9 (by decide)) (fun _ => ?_)
  refine lv_iconst (v := nI 1) hx hb dJ3_isLatin1_13 (by decide) ?_
  refine lv_goto (tgt := 18) hx hb dJ3_isLatin1_14 (by decide) ?_
  exact c_rret (v := nI 1) rfl hx hb hr rfl hlocks dJ3_isLatin1_18 rfl rfl
set_option maxHeartbeats 4000000 in
set_option maxRecDepth 100000 in
theorem met_J3_length (l : Launch) (G : gG) (κ : kK) (z : Nat) (i : Nat) (hi : i < 26) : Met l yJ3_length (ws_ yJ3_length cJ3_length 1 (some .int)) ({ frames := 1, cells := 0, slots := 0, locals := 20 } : Room) (cT G κ z [.ref (κ.1 i)] (fun _ => True)) (cR (some (.int (nI (kNt i).length)))) 0 0 (fun _ => False) := by
  refine t_startR (by decide) (Nat.le_of_ble_eq_true rfl) ?_
  intro p e s m below meth c hx hb hr hlocks hml hown hts hB hK hZ hname ls hl
  have hl : lv_has ls 1 [(0, .ref (κ.1 i))] := hl
  refine lv_aload_n hx hb dJ3_length_0 rfl (lv_at hl 0 rfl) ?_
  refine vk_getf (v := .ref (κ.2.1 i)) hx hb (hZ.1.1.1 i hi).2.2.1 va_S.rf hown (hts _ q1649) (fun _ h9 => h9) dJ3_length_1 ?_
  refine va_tlen (v := nI (kNt i).length) hx hb (hZ.1.1.1 i hi).2.2.2 va_S.rf (by rw [kLen_eq i hi]; rfl) dJ3_length_4 ?_
  refine lv_aload_n hx hb dJ3_length_5 rfl (lv_at hl 0 rfl) ?_
  refine c_read (va_runV (As := []) (rest := [.int (nI ((kNt i).length))]) ⟨hx, hb, hml, hown, hts⟩ (met_J3_coder l G κ z i hi) (cv_J3_J3_coder hts ⟨Nat.le_of_ble_eq_true rfl, Nat.le_of_ble_eq_true rfl⟩) (cT.preV hK hZ va_S.rf trivial (vk_recv hZ.1.1 hi va_S.rf)) rfl rfl hl.1 rfl (lv_room (Nat.le_of_ble_eq_true rfl)) dJ3_length_6 ⟨by first | exact Nat.zero_le _ | omega | decide, by first | exact Nat.zero_le _ | omega | decide⟩) ?_
  refine lv_ishr hx hb dJ3_length_9 ?_
  rw [xshr0]
  exact c_rret (v := nI ((kNt i).length)) rfl hx hb hr rfl hlocks dJ3_length_10 rfl rfl
set_option maxHeartbeats 4000000 in
set_option maxRecDepth 100000 in
theorem met_J3_checkIndex (l : Launch) (G : gG) (κ : kK) (z : Nat) (j n : Nat) (hj : j < n) (hn : n < 2 ^ 31) : Met l yJ3_checkIndex (ws_ yJ3_checkIndex cJ3_checkIndex 2 none) ({ frames := 1, cells := 0, slots := 0, locals := 22 } : Room) (cT G κ z [.int (nI j), .int (nI n)] (fun _ => True)) (cR none) 0 0 (fun _ => False) := by
  refine t_startR (by decide) (Nat.le_of_ble_eq_true rfl) ?_
  intro p e s m below meth c hx hb hr hlocks hml hown hts hB hK hZ hname ls hl
  have hl : lv_has ls 2 [(0, .int (nI j)), (1, .int (nI n))] := hl
  refine lv_iload_n hx hb dJ3_checkIndex_0 rfl (lv_at hl 0 rfl) ?_
  refine lv_iload_n hx hb dJ3_checkIndex_1 rfl (lv_at hl 1 rfl) ?_
  rcases hZ.2.2.2.1 with hsi | ⟨ta, hsi⟩
  · refine va_gets (v := .null) hx hb hsi va_S.rf hown (hts _ q411) (fun _ h9 => h9) dJ3_checkIndex_2 ?_
    refine c_read (va_runS (As := [.int (nI j), .int (nI n), .null]) (rest := []) ⟨hx, hb, hml, hown, hts⟩ (met_J5_checkIndex l G j n hj hn) (cs_J3_J5_checkIndex hts ⟨Nat.le_of_ble_eq_true rfl, Nat.le_of_ble_eq_true rfl⟩) (cP.pre hK trivial) rfl rfl hl.1 rfl (lv_room (Nat.le_of_ble_eq_true rfl)) dJ3_checkIndex_5 ⟨by first | exact Nat.zero_le _ | omega | decide, by first | exact Nat.zero_le _ | omega | decide⟩) ?_
    refine lv_pop hx hb dJ3_checkIndex_8 rfl ?_
    exact c_rvret hx hb hr hlocks dJ3_checkIndex_9 rfl rfl
  · refine va_gets (v := .ref ta) hx hb hsi va_S.rf hown (hts _ q411) (fun _ h9 => h9) dJ3_checkIndex_2 ?_
    refine c_read (va_runS (As := [.int (nI j), .int (nI n), .ref ta]) (rest := []) ⟨hx, hb, hml, hown, hts⟩ (met_J5_checkIndexR l G j n ta hj hn) (cs_J3_J5_checkIndex hts ⟨Nat.le_of_ble_eq_true rfl, Nat.le_of_ble_eq_true rfl⟩) (cP.pre hK trivial) rfl rfl hl.1 rfl (lv_room (Nat.le_of_ble_eq_true rfl)) dJ3_checkIndex_5 ⟨by first | exact Nat.zero_le _ | omega | decide, by first | exact Nat.zero_le _ | omega | decide⟩) ?_
    refine lv_pop hx hb dJ3_checkIndex_8 rfl ?_
    exact c_rvret hx hb hr hlocks dJ3_checkIndex_9 rfl rfl
set_option maxHeartbeats 4000000 in
set_option maxRecDepth 100000 in
theorem met_J4_charAt (l : Launch) (G : gG) (κ : kK) (z : Nat) (i j : Nat) (hi : i < 26) (hj : j < (kNt i).length) : Met l yJ4_charAt (ws_ yJ4_charAt cJ4_charAt 2 (some .char)) ({ frames := 2, cells := 0, slots := 0, locals := 43 } : Room) (cT G κ z [.ref (κ.2.1 i), .int (nI j)] (fun _ => True)) (cR (some (.int (nI ((kNt i).getD j 0))))) 0 0 (fun _ => False) := by
  refine t_startR (by decide) (Nat.le_of_ble_eq_true rfl) ?_
  intro p e s m below meth c hx hb hr hlocks hml hown hts hB hK hZ hname ls hl
  have hl : lv_has ls 2 [(0, .ref (κ.2.1 i)), (1, .int (nI j))] := hl
  have hlen : (kNt i).length < 2 ^ 31 := (by decide +kernel : ∀ i, i < 26 → (kNt i).length < 2 ^ 31) i hi
  refine lv_iload_n hx hb dJ4_charAt_0 rfl (lv_at hl 1 rfl) ?_
  refine lv_aload_n hx hb dJ4_charAt_1 rfl (lv_at hl 0 rfl) ?_
  refine va_tlen (v := nI (kNt i).length) hx hb (hZ.1.1.1 i hi).2.2.2 va_S.rf (by rw [kLen_eq i hi]; rfl) dJ4_charAt_2 ?_
  refine c_read (va_runS (As := [.int (nI j), .int (nI ((kNt i).length))]) (rest := []) ⟨hx, hb, hml, hown, hts⟩ (met_J3_checkIndex l G κ z j (kNt i).length hj hlen) (cs_J4_J3_checkIndex hts ⟨Nat.le_of_ble_eq_true rfl, Nat.le_of_ble_eq_true rfl⟩) (cT.pre hK hZ va_S.rf trivial) rfl rfl hl.1 rfl (lv_room (Nat.le_of_ble_eq_true rfl)) dJ4_charAt_3 ⟨by first | exact Nat.zero_le _ | omega | decide, by first | exact Nat.zero_le _ | omega | decide⟩) ?_
  refine lv_aload_n hx hb dJ4_charAt_6 rfl (lv_at hl 0 rfl) ?_
  refine lv_iload_n hx hb dJ4_charAt_7 rfl (lv_at hl 1 rfl) ?_
  refine va_tb (v := .int ((kByt.getD i []).getD j 0)) hx hb (hZ.1.1.1 i hi).2.2.2 va_S.rf (vp_in_nI (by rw [kLen_eq i hi]; exact hj) (by rw [kLen_eq i hi]; exact hlen)) (by rw [nI_clamp (show j < 2 ^ 31 by omega)]) dJ4_charAt_8 ?_
  refine lv_sipush (v := nI 255) hx hb dJ4_charAt_9 (by decide) ?_
  refine lv_iand hx hb dJ4_charAt_12 ?_
  refine lv_i2c (v := nI ((kNt i).getD j 0)) hx hb dJ4_charAt_13 (by rw [(kByt_eq i hi j hj).1]; exact Int32.toInt32_toUInt32 _) ?_
  exact c_rret (v := nI ((kNt i).getD j 0)) rfl hx hb hr (xnch (kByt_eq i hi j hj).2) hlocks dJ4_charAt_14 rfl rfl
set_option maxHeartbeats 4000000 in
set_option maxRecDepth 100000 in
theorem met_J3_charAt (l : Launch) (G : gG) (κ : kK) (z : Nat) (i j : Nat) (hi : i < 26) (hj : j < (kNt i).length) : Met l yJ3_charAt (ws_ yJ3_charAt cJ3_charAt 2 (some .char)) ({ frames := 3, cells := 0, slots := 0, locals := 64 } : Room) (cT G κ z [.ref (κ.1 i), .int (nI j)] (fun _ => True)) (cR (some (.int (nI ((kNt i).getD j 0))))) 0 0 (fun _ => False) := by
  refine t_startR (by decide) (Nat.le_of_ble_eq_true rfl) ?_
  intro p e s m below meth c hx hb hr hlocks hml hown hts hB hK hZ hname ls hl
  have hl : lv_has ls 2 [(0, .ref (κ.1 i)), (1, .int (nI j))] := hl
  refine lv_aload_n hx hb dJ3_charAt_0 rfl (lv_at hl 0 rfl) ?_
  refine c_read (va_runV (As := []) (rest := []) ⟨hx, hb, hml, hown, hts⟩ (met_J3_isLatin1 l G κ z i hi) (cv_J3_J3_isLatin1 hts ⟨Nat.le_of_ble_eq_true rfl, Nat.le_of_ble_eq_true rfl⟩) (cT.preV hK hZ va_S.rf trivial (vk_recv hZ.1.1 hi va_S.rf)) rfl rfl hl.1 rfl (lv_room (Nat.le_of_ble_eq_true rfl)) dJ3_charAt_1 ⟨by first | exact Nat.zero_le _ | omega | decide, by first | exact Nat.zero_le _ | omega | decide⟩) ?_
  refine n_if_eq (tgt := 16) hx hb dJ3_charAt_4 (by decide) (by decide) (fun h9 => absurd h9 (by decide)) (fun _ => ?_)
  refine lv_aload_n hx hb dJ3_charAt_7 rfl (lv_at hl 0 rfl) ?_
  refine vk_getf (v := .ref (κ.2.1 i)) hx hb (hZ.1.1.1 i hi).2.2.1 va_S.rf hown (hts _ q1649) (fun _ h9 => h9) dJ3_charAt_8 ?_
  refine lv_iload_n hx hb dJ3_charAt_11 rfl (lv_at hl 1 rfl) ?_
  refine c_read (va_runS (As := [.ref (κ.2.1 i), .int (nI j)]) (rest := []) ⟨hx, hb, hml, hown, hts⟩ (met_J4_charAt l G κ z i j hi hj) (cs_J3_J4_charAt hts ⟨Nat.le_of_ble_eq_true rfl, Nat.le_of_ble_eq_true rfl⟩) (cT.pre hK hZ va_S.rf trivial) rfl rfl hl.1 rfl (lv_room (Nat.le_of_ble_eq_true rfl)) dJ3_charAt_12 ⟨by first | exact Nat.zero_le _ | omega | decide, by first | exact Nat.zero_le _ | omega | decide⟩) ?_
  exact c_rret (v := nI ((kNt i).getD j 0)) rfl hx hb hr (xnch (kByt_eq i hi j hj).2) hlocks dJ3_charAt_15 rfl rfl
