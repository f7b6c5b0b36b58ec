/-! chains and texts in the making (printed by gen/xs9.py) -/
/-- a list's state: nothing yet, or an array of our own -/
abbrev lsC (κ : kK) (z l k arr cap : Nat) : Prop := ((k = 0 ∧ cap = 0 ∧ arr = κ.2.2.2 3) ∨ (0 < cap ∧ k ≤ cap ∧ z ≤ arr ∧ arr ≠ l)) ∧ cap ≤ 10 + 2 * k ∧ cap ≤ 12 * k
/-- a chain in the making -/
def chI (G : gG) (κ : kK) (z ch x0 lm lg k am cm as_ cs : Nat) (fm fs : Nat → Option Nat) (H : Heap) : Prop :=
  va_at (gD G) g_cl (ch, .inr (7, [.ref x0, .ref lm, .ref lg])) H ∧ (∃ mc, lsB G lm k am cm mc fm H) ∧ (∃ mc, lsB G lg k as_ cs mc fs H) ∧ lsC κ z lm k am cm ∧ lsC κ z lg k as_ cs ∧ (z ≤ ch ∧ ch < lm ∧ lm < lg ∧ (0 < cm → lg < am) ∧ (0 < cs → lg < as_) ∧ (0 < cm → 0 < cs → am ≠ as_))
theorem aI.aO {G : gG} {H : Heap} {x : Nat} {v : Int32} (h : aI G H x v) : aO G H x := by
  obtain ⟨cell, q1, q2, q3, -⟩ := h
  exact ⟨16, by omega, cell, q1, q3, q2⟩
/-- a chain is kept -/
theorem chI.kept {G : gG} {κ : kK} {z ch x0 lm lg k am cm as_ cs : Nat} {fm fs : Nat → Option Nat} {H H1 : Heap} (h : chI G κ z ch x0 lm lg k am cm as_ cs fm fs H) (ho : ∀ q, q < H.size → (q = ch ∨ q = lm ∨ q = lg ∨ (q = am ∧ 0 < cm) ∨ (q = as_ ∧ 0 < cs)) → H1[q]? = H[q]?) : chI G κ z ch x0 lm lg k am cm as_ cs fm fs H1 := by
  obtain ⟨h1, ⟨m1, h2, h3⟩, ⟨m2, h4, h5⟩, h6⟩ := h
  exact ⟨h1.kept (ho _ (at_lt h1) (Or.inl rfl)), ⟨m1, h2.kept (ho _ (at_lt h2) (Or.inr (Or.inl rfl))), fun q => (h3 q).kept (ho _ (at_lt (h3 q)) (Or.inr (Or.inr (Or.inr (Or.inl ⟨rfl, q⟩)))))⟩, ⟨m2, h4.kept (ho _ (at_lt h4) (Or.inr (Or.inr (Or.inl rfl)))), fun q => (h5 q).kept (ho _ (at_lt (h5 q)) (Or.inr (Or.inr (Or.inr (Or.inr ⟨rfl, q⟩)))))⟩, h6⟩
set_option maxHeartbeats 4000000 in
set_option maxRecDepth 100000 in
theorem met_X7_init (l : Launch) (G : gG) (κ : kK) (z : Nat) (ch x N0 : Nat) (hz : z ≤ ch) (hzN : z ≤ N0) : Met l yX7_init (ws_ yX7_init cX7_init 2 none) ({ frames := 4, cells := 2, slots := 6, locals := 100 } : Room) (cT G κ z [.ref ch, .ref x] (fun H => va_at (gD G) g_cl (ch, .inr (7, [.null, .null, .null])) H ∧ H.size = N0)) (tQ (fun ov H0 H1 => ov = none ∧ va_at (gD G) g_cl (ch, .inr (7, [.ref x, .ref N0, .ref (N0 + 1)])) H1 ∧ va_at (gD G) g_cl (N0, .inr (15, [.int (nI 0), .ref (κ.2.2.2 3), .int (nI 0)])) H1 ∧ va_at (gD G) g_cl ((N0 + 1), .inr (15, [.int (nI 0), .ref (κ.2.2.2 3), .int (nI 0)])) H1 ∧ H1.size = N0 + 2 ∧ hU H1 ≤ hU H0 + 6) (fun q => q = ch ∨ N0 ≤ q)) 2 6 (fun q => q = ch ∨ N0 ≤ q) := by
  refine t_startR (by decide) (Nat.le_of_ble_eq_true rfl) ?_
  intro p e s m below meth c hx hb hr hlocks hml hown hts hB hK hZ hname ls hl
  have hl : lv_has ls 2 [(0, .ref ch), (1, .ref x)] := hl
  obtain ⟨hk, hN⟩ := hB
  have hAZ : ∀ q, (q = ch ∨ N0 ≤ q) → aZ z q := fun q e => show z ≤ q by rcases e with e | e <;> omega
  have hS : va_S (fun q => q = ch ∨ N0 ≤ q) s.heap s.heap [] := va_S.rf
  have hchN := at_lt hk
  refine lv_aload_n hx hb dX7_init_0 rfl (lv_at hl 0 rfl) ?_
  refine W.objInit hx hb hown (hts _ q751) (hts _ q135) (hts _ q136) rfl (by rw [hml]; exact hl.1) rfl dX7_init_1 (Nat.le_of_ble_eq_true rfl) (Nat.le_of_ble_eq_true rfl) ?_
  refine W.eq (g2 := F0 m 4 ls []) rfl ?_
  refine lv_aload_n hx hb dX7_init_4 rfl (lv_at hl 0 rfl) ?_
  refine p_new (own := RX7) (C := RJ2) (T := TJ2) (N := 3) (ci := 15) (fs := [.int (nI 0), .null, .int (nI 0)]) hx hb hts in_J2 tyJ2 tyJ2_ok hown (hts _ q752) (hts _ q335) (hts _ q104) hK rfl (by decide +kernel) (Nat.le_of_ble_eq_true rfl) (Nat.le_of_ble_eq_true rfl) dX7_init_5 (fun q_1 H hq_1 eq_1 zq_1 oq_1 => ?_)
  have lch_q_1 : ch < q_1 := by have := at_lt hk; omega
  replace hk := va_at.kept hk (oq_1 _ (at_lt hk))
  replace hS := xS_new hS (by omega) oq_1
  refine lv_dup hx hb dX7_init_8 rfl ?_
  refine t_callR (va_runI (As := []) (rest := [.ref q_1, .ref ch]) ⟨hx, hb, hml, hown, hts⟩ (met_J2_init l G κ z q_1 (by omega)) (ci_X7_J2_init hts ⟨Nat.le_of_ble_eq_true rfl, Nat.le_of_ble_eq_true rfl⟩) (cT.pre hK hZ (xS_mono hS hAZ) hq_1) rfl rfl hl.1 rfl (lv_room (Nat.le_of_ble_eq_true rfl)) dX7_init_9 ⟨Nat.le_of_ble_eq_true rfl, Nat.le_of_ble_eq_true rfl⟩) hS (fun q hq e => Or.inr (by have e : @Eq Nat q q_1 := e; omega)) (fun q e => Or.inr (by have e : @Eq Nat q q_1 := e; omega)) (fun v9 H locs hB9 hz9 hk9 hS => ?_)
  obtain ⟨rfl, hq_1, hsq_1, huq_1⟩ := hB9
  replace hk := va_at.kept hk (hk9 _ (at_lt hk) (by omega))
  refine p_putF (own := RX7) (C := RX7) (T := TX7) (N := 3) (ci := 7) (a := ch) (fs := [.null, .null, .null]) (ty := tyX7 1) (v := .ref q_1) hx hb hts in_X7 tyX7 tyX7_ok nmX7 hown hK hk rfl 1 (by decide) (hts _ q755) (fun _ h9 => h9) rfl hname rfl (tyX7_ok 1 (by decide)) rfl rfl (Nat.le_of_ble_eq_true rfl) dX7_init_12 (fun H locs hk hz9 ho9 hl9 => ?_)
  replace hk : va_at (gD G) g_cl (ch, .inr (7, [.null, .ref q_1, .null])) H := hk
  replace hq_1 := va_at.kept hq_1 (ho9 _ (by omega))
  replace hS := xS_put hS (Or.inl rfl) hz9 ho9 hl9
  refine lv_aload_n hx hb dX7_init_15 rfl (lv_at hl 0 rfl) ?_
  refine p_new (own := RX7) (C := RJ2) (T := TJ2) (N := 3) (ci := 15) (fs := [.int (nI 0), .null, .int (nI 0)]) hx hb hts in_J2 tyJ2 tyJ2_ok hown (hts _ q752) (hts _ q335) (hts _ q104) hK rfl (by decide +kernel) (Nat.le_of_ble_eq_true rfl) (Nat.le_of_ble_eq_true rfl) dX7_init_16 (fun q_2 H hq_2 eq_2 zq_2 oq_2 => ?_)
  have lch_q_2 : ch < q_2 := by have := at_lt hk; omega
  have lq_1_q_2 : q_1 < q_2 := by have := at_lt hq_1; omega
  replace hk := va_at.kept hk (oq_2 _ (at_lt hk))
  replace hq_1 := va_at.kept hq_1 (oq_2 _ (at_lt hq_1))
  replace hS := xS_new hS (by omega) oq_2
  refine lv_dup hx hb dX7_init_19 rfl ?_
  refine t_callR (va_runI (As := []) (rest := [.ref q_2, .ref ch]) ⟨hx, hb, hml, hown, hts⟩ (met_J2_init l G κ z q_2 (by omega)) (ci_X7_J2_init hts ⟨Nat.le_of_ble_eq_true rfl, Nat.le_of_ble_eq_true rfl⟩) (cT.pre hK hZ (xS_mono hS hAZ) hq_2) rfl rfl hl.1 rfl (lv_room (Nat.le_of_ble_eq_true rfl)) dX7_init_20 ⟨Nat.le_of_ble_eq_true rfl, Nat.le_of_ble_eq_true rfl⟩) hS (fun q hq e => Or.inr (by have e : @Eq Nat q q_2 := e; omega)) (fun q e => Or.inr (by have e : @Eq Nat q q_2 := e; omega)) (fun v9 H locs hB9 hz9 hk9 hS => ?_)
  obtain ⟨rfl, hq_2, hsq_2, huq_2⟩ := hB9
  replace hk := va_at.kept hk (hk9 _ (at_lt hk) (by omega))
  replace hq_1 := va_at.kept hq_1 (hk9 _ (at_lt hq_1) (by omega))
  refine p_putF (own := RX7) (C := RX7) (T := TX7) (N := 3) (ci := 7) (a := ch) (fs := [.null, .ref q_1, .null]) (ty := tyX7 2) (v := .ref q_2) hx hb hts in_X7 tyX7 tyX7_ok nmX7 hown hK hk rfl 2 (by decide) (hts _ q756) (fun _ h9 => h9) rfl hname rfl (tyX7_ok 2 (by decide)) rfl rfl (Nat.le_of_ble_eq_true rfl) dX7_init_23 (fun H locs hk hz9 ho9 hl9 => ?_)
  replace hk : va_at (gD G) g_cl (ch, .inr (7, [.null, .ref q_1, .ref q_2])) H := hk
  replace hq_1 := va_at.kept hq_1 (ho9 _ (by omega))
  replace hq_2 := va_at.kept hq_2 (ho9 _ (by omega))
  replace hS := xS_put hS (Or.inl rfl) hz9 ho9 hl9
  refine lv_aload_n hx hb dX7_init_26 rfl (lv_at hl 0 rfl) ?_
  refine lv_aload_n hx hb dX7_init_27 rfl (lv_at hl 1 rfl) ?_
  refine p_putF (own := RX7) (C := RX7) (T := TX7) (N := 3) (ci := 7) (a := ch) (fs := [.null, .ref q_1, .ref q_2]) (ty := tyX7 0) (v := .ref x) hx hb hts in_X7 tyX7 tyX7_ok nmX7 hown hK hk rfl 0 (by decide) (hts _ q754) (fun _ h9 => h9) rfl hname rfl (tyX7_ok 0 (by decide)) rfl rfl (Nat.le_of_ble_eq_true rfl) dX7_init_28 (fun H locs hk hz9 ho9 hl9 => ?_)
  replace hk : va_at (gD G) g_cl (ch, .inr (7, [.ref x, .ref q_1, .ref q_2])) H := hk
  replace hq_1 := va_at.kept hq_1 (ho9 _ (by omega))
  replace hq_2 := va_at.kept hq_2 (ho9 _ (by omega))
  replace hS := xS_put hS (Or.inl rfl) hz9 ho9 hl9
  refine W_own (fun z1 z2 => ?_)
  obtain rfl : N0 = q_1 := by omega
  obtain rfl : q_2 = N0 + 1 := by omega
  refine W.widen (k := 2) (n := 6) (by omega) (by omega) ?_
  exact t_vret hx hb hr hlocks ⟨rfl, hk, hq_1, hq_2, by omega, by omega⟩ hS dX7_init_31
set_option maxHeartbeats 4000000 in
set_option maxRecDepth 100000 in
theorem met_X7_add (l : Launch) (G : gG) (κ : kK) (z : Nat) (ch x0 lm lg k am cm as_ cs N0 y sg : Nat) (fm fs : Nat → Option Nat) (hzN : z ≤ N0) (hk20 : k < 2 ^ 17) (hsg : sg ≤ 127) : Met l yX7_add (ws_ yX7_add cX7_add 3 none) ({ frames := 7, cells := 2, slots := (gC cs + gC cm), locals := 207 } : Room) (cT G κ z [.ref ch, .int (nI sg), .ref y] (fun H => chI G κ z ch x0 lm lg k am cm as_ cs fm fs H ∧ (∀ i, i < k → ∀ y, fm i = some y → aO G H y) ∧ (∀ i, i < k → ∀ y, fs i = some y → aO G H y) ∧ aO G H y ∧ H.size = N0)) (tQ (fun ov H0 H1 => ov = none ∧ ∃ (am1 cm1 as1 cs1 : Nat) (gm gs : Nat → Option Nat), chI G κ z ch x0 lm lg (k + 1) am1 cm1 as1 cs1 gm gs H1 ∧ gm k = some y ∧ gs k = some (κ.2.2.1 (sg + 128)) ∧ (∀ i, i < k → gm i = fm i) ∧ (∀ i, i < k → gs i = fs i) ∧ (am1 = am ∧ 0 < cm ∨ N0 ≤ am1) ∧ (as1 = as_ ∧ 0 < cs ∨ N0 ≤ as1) ∧ H1.size ≤ N0 + 2 ∧ hU H1 + 4 * cm + 4 * cs ≤ hU H0 + 4 * cm1 + 4 * cs1) (fun q => q = lm ∨ q = lg ∨ (q = am ∧ 0 < cm) ∨ (q = as_ ∧ 0 < cs) ∨ N0 ≤ q)) 2 ((gC cs + gC cm)) (fun q => q = lm ∨ q = lg ∨ (q = am ∧ 0 < cm) ∨ (q = as_ ∧ 0 < cs) ∨ N0 ≤ q) := by
  refine t_startR (by decide) (Nat.le_of_ble_eq_true rfl) ?_
  intro p e s m below meth c hx hb hr hlocks hml hown hts hB hK hZ hname ls hl
  have hl : lv_has ls 3 [(0, .ref ch), (1, .int (nI sg)), (2, .ref y)] := hl
  obtain ⟨⟨hk, ⟨mcm, hlm, ham⟩, ⟨mcs, hls, has⟩, ⟨hcm, hcm2, hcm3⟩, ⟨hcs, hcs2, hcs3⟩, ⟨ho1, ho2, ho3, ho4, ho5, ho6⟩⟩, helm, hels, hyO, hN⟩ := hB
  have hAZ : ∀ q, (q = lm ∨ q = lg ∨ (q = am ∧ 0 < cm) ∨ (q = as_ ∧ 0 < cs) ∨ N0 ≤ q) → aZ z q := fun q e => show z ≤ q by omega
  have hS : va_S (fun q => q = lm ∨ q = lg ∨ (q = am ∧ 0 < cm) ∨ (q = as_ ∧ 0 < cs) ∨ N0 ≤ q) s.heap s.heap [] := va_S.rf
  have hchN := at_lt hk
  have hlmN := at_lt hlm
  have hlsN := at_lt hls
  have hamN : 0 < cm → am < N0 := fun h9 => by have := at_lt (ham h9); omega
  have hasN : 0 < cs → as_ < N0 := fun h9 => by have := at_lt (has h9); omega
  have hNN := hS.1
  have hylg := hyO.ne_l hK hls
  have hyas : 0 < cs → y ≠ as_ := fun h9 => hyO.ne_a hK (has h9)
  have hyN := hyO.lt
  have hmls : ∀ i, i < k → ∀ y, fm i = some y → y ≠ lg ∧ (0 < cs → y ≠ as_) := fun i hi y hy => ⟨(helm i hi y hy).ne_l hK hls, fun h9 => (helm i hi y hy).ne_a hK (has h9)⟩
  have gbm := gC_b cm
  have gbs := gC_b cs
  refine lv_aload_n hx hb dX7_add_0 rfl (lv_at hl 0 rfl) ?_
  refine a_get (own := RX7) (C := RX7) (T := TX7) (N := 3) (ci := 7) hx hb hts in_X7 hown hK hk rfl 2 (by decide) (hts _ q756) (fun _ h9 => h9) rfl dX7_add_1 ?_
  refine lv_iload_n hx hb dX7_add_4 rfl (lv_at hl 1 rfl) ?_
  refine c_read (va_runS (As := [.int (nI sg)]) (rest := [.ref lg]) ⟨hx, hb, hml, hown, hts⟩ (met_J15_valueOf l G κ z sg hsg) (cs_X7_J15_valueOf hts ⟨Nat.le_of_ble_eq_true rfl, Nat.le_of_ble_eq_true rfl⟩) (cT.pre hK hZ (xS_mono hS hAZ) trivial) rfl rfl hl.1 rfl (lv_room (Nat.le_of_ble_eq_true rfl)) dX7_add_5 ⟨by first | exact Nat.zero_le _ | omega | decide, by first | exact Nat.zero_le _ | omega | decide⟩) ?_
  have hIO := (aI_cache hK hZ (xS_mono hS hAZ) hsg).1.aO
  have hNN := hS.1
  refine t_callR (va_runV (As := [.ref (κ.2.2.1 (sg + 128))]) (rest := []) ⟨hx, hb, hml, hown, hts⟩ (met_J2_add l G κ z lg k as_ cs _ (κ.2.2.1 (sg + 128)) mcs fs (by omega) (Nat.le_trans hzN (Nat.le_trans (Nat.le_of_eq hN.symm) hS.1)) hcs (by omega) (by omega)) (cv_X7_J2_add hts ⟨Nat.le_of_ble_eq_true rfl, Nat.le_of_ble_eq_true rfl⟩) (cT.preV hK hZ (xS_mono hS hAZ) ⟨⟨hls, has⟩, rfl, hels, hIO⟩ (a_recv (ci := 15) hK hls rfl)) rfl rfl hl.1 rfl (lv_room (Nat.le_of_ble_eq_true rfl)) dX7_add_8 ⟨by show _ ≤ 2; omega, by show _ ≤ gC cs + gC cm; omega⟩) hS (fun q hq e => by omega) (fun q e => by have e : @Eq Nat q lg ∨ (@Eq Nat q as_ ∧ 0 < cs) ∨ @LE.le Nat instLENat _ q := e; omega) (fun v9 H locs hB9 hz9 hk9 hS => ?_)
  obtain ⟨rfl, mcS, arS, cpS, gS, hls, has, hgS, hgiS, hcpS, hzaS, horS, hszS, huS⟩ := hB9
  replace hk := va_at.kept hk (hk9 _ (at_lt hk) (by omega))
  replace hlm := va_at.kept hlm (hk9 _ (at_lt hlm) (by omega))
  replace helm := fun i hi y hy => (helm i hi y hy).kept (hk9 y (helm i hi y hy).lt (by have h7 := hmls i hi y hy; have h8 := (helm i hi y hy).lt; omega))
  replace hyO := hyO.kept (hk9 y hyO.lt (by omega))
  replace ham := fun h9 => (ham h9).kept (hk9 am (at_lt (ham h9)) (by have := hamN h9; omega))
  have hNN := hS.1
  refine lv_pop hx hb dX7_add_11 rfl ?_
  refine lv_aload_n hx hb dX7_add_12 rfl (lv_at hl 0 rfl) ?_
  refine a_get (own := RX7) (C := RX7) (T := TX7) (N := 3) (ci := 7) hx hb hts in_X7 hown hK hk rfl 1 (by decide) (hts _ q755) (fun _ h9 => h9) rfl dX7_add_13 ?_
  refine lv_aload_n hx hb dX7_add_16 rfl (lv_at hl 2 rfl) ?_
  have hasL := at_lt has
  have hNN := hS.1
  refine t_callR (va_runV (As := [.ref y]) (rest := []) ⟨hx, hb, hml, hown, hts⟩ (met_J2_add l G κ z lm k am cm _ y mcm fm (by omega) (Nat.le_trans hzN (Nat.le_trans (Nat.le_of_eq hN.symm) hS.1)) hcm (by omega) (by omega)) (cv_X7_J2_add hts ⟨Nat.le_of_ble_eq_true rfl, Nat.le_of_ble_eq_true rfl⟩) (cT.preV hK hZ (xS_mono hS hAZ) ⟨⟨hlm, ham⟩, rfl, helm, hyO⟩ (a_recv (ci := 15) hK hlm rfl)) rfl rfl hl.1 rfl (lv_room (Nat.le_of_ble_eq_true rfl)) dX7_add_17 ⟨by show _ ≤ 2; omega, by show _ ≤ gC cs + gC cm; omega⟩) hS (fun q hq e => by omega) (fun q e => by have e : @Eq Nat q lm ∨ (@Eq Nat q am ∧ 0 < cm) ∨ @LE.le Nat instLENat _ q := e; omega) (fun v9 H locs hB9 hz9 hk9 hS => ?_)
  obtain ⟨rfl, mcM, arM, cpM, gM, hlm, ham, hgM, hgiM, hcpM, hzaM, horM, hszM, huM⟩ := hB9
  replace hk := va_at.kept hk (hk9 _ (at_lt hk) (by omega))
  replace hls := va_at.kept hls (hk9 _ (at_lt hls) (by omega))
  replace has := va_at.kept has (hk9 arS (at_lt has) (by omega))
  have hNN := hS.1
  refine lv_pop hx hb dX7_add_20 rfl ?_
  refine W.widen (k := 2) (n := (gC cs + gC cm)) (by omega) (by omega) ?_
  exact t_vret hx hb hr hlocks ⟨rfl, arM, cpM, arS, cpS, gM, gS, ⟨hk, ⟨mcM, hlm, fun _ => ham⟩, ⟨mcS, hls, fun _ => has⟩, ⟨Or.inr (by omega), by omega, by omega⟩, ⟨Or.inr (by omega), by omega, by omega⟩, ho1, ho2, ho3, fun _ => by omega, fun _ => by omega, fun _ _ => by omega⟩, hgM, hgS, hgiM, hgiS, horM.imp id (fun h9 => by omega), horS.imp id (fun h9 => by omega), by omega, by omega⟩ hS dX7_add_21
set_option maxHeartbeats 4000000 in
set_option maxRecDepth 100000 in
theorem met_X7_itself (l : Launch) (G : gG) (κ : kK) (z : Nat) (ch x0 lm lg k am cm as_ cs : Nat) (fm fs : Nat → Option Nat) (xs : Nat → Nat) (hk20 : k < 2 ^ 17) : Met l yX7_itself (ws_ yX7_itself cX7_itself 1 (some (Jvm.ClassFile.FieldType.object "BreathOnLoan$Sum"))) ({ frames := 1, cells := 0, slots := 0, locals := 20 } : Room) (cT G κ z [.ref ch] (fun H => chI G κ z ch x0 lm lg k am cm as_ cs fm fs H ∧ ∀ i, i < k → fm i = some (xs i))) (cR (some (.ref (if k = 0 then x0 else ch)))) 0 0 (fun _ => False) := by
  refine t_startR (by decide) (Nat.le_of_ble_eq_true rfl) ?_
  intro p e s m below meth c hx hb hr hlocks hml hown hts hB hK hZ hname ls hl
  have hl : lv_has ls 1 [(0, .ref ch)] := hl
  obtain ⟨⟨hk, ⟨mcm, hlm, ham⟩, -, ⟨hcm, hcm2, hcm3⟩, -⟩, hxs⟩ := hB
  refine lv_aload_n hx hb dX7_itself_0 rfl (lv_at hl 0 rfl) ?_
  refine a_get (own := RX7) (C := RX7) (T := TX7) (N := 3) (ci := 7) hx hb hts in_X7 hown hK hk rfl 1 (by decide) (hts _ q755) (fun _ h9 => h9) rfl dX7_itself_1 ?_
  refine c_read (va_runV (As := []) (rest := []) ⟨hx, hb, hml, hown, hts⟩ (met_J2_isEmpty l G (fun _ => True) lm k xs) (cv_X7_J2_isEmpty hts ⟨Nat.le_of_ble_eq_true rfl, Nat.le_of_ble_eq_true rfl⟩) (cP.preV hK ⟨mcm, am, cm, fm, trivial, by omega, by omega, hlm, fun h9 => ⟨trivial, ham (by omega)⟩, hxs⟩ (a_recv (ci := 15) hK hlm rfl)) rfl rfl hl.1 rfl (lv_room (Nat.le_of_ble_eq_true rfl)) dX7_itself_4 ⟨by first | exact Nat.zero_le _ | omega | decide, by first | exact Nat.zero_le _ | omega | decide⟩) ?_
  refine b_if_eq (tgt := 17) hx hb dX7_itself_7 (by decide) (fun c_1 => ?_) (fun c_1 => ?_)
  · refine lv_aload_n hx hb dX7_itself_17 rfl (lv_at hl 0 rfl) ?_
    exact c_rref (v := .ref ch) (by rw [if_neg (by assumption)]) hx hb hr (Or.inl ⟨_, rfl⟩) (Or.inr ⟨_, rfl⟩) hlocks dX7_itself_18 rfl rfl
  refine lv_aload_n hx hb dX7_itself_10 rfl (lv_at hl 0 rfl) ?_
  refine a_get (own := RX7) (C := RX7) (T := TX7) (N := 3) (ci := 7) hx hb hts in_X7 hown hK hk rfl 0 (by decide) (hts _ q754) (fun _ h9 => h9) rfl dX7_itself_11 ?_
  refine lv_goto (tgt := 18) hx hb dX7_itself_14 (by decide) ?_
  exact c_rref (v := .ref x0) (by rw [if_pos (by assumption)]) hx hb hr (Or.inl ⟨_, rfl⟩) (Or.inr ⟨_, rfl⟩) hlocks dX7_itself_18 rfl rfl
set_option maxHeartbeats 4000000 in
set_option maxRecDepth 100000 in
theorem met_X4_init (l : Launch) (G : gG) (κ : kK) (z : Nat) (a N0 : Nat) (hz : z ≤ a) (hzN : z ≤ N0) : Met l yX4_init (ws_ yX4_init cX4_init 1 none) ({ frames := 4, cells := 2, slots := 7, locals := 100 } : Room) (cT G κ z [.ref a] (fun H => va_at (gD G) g_cl (a, .inr (4, [.null, .null, .int (nI 0)])) H ∧ H.size = N0)) (tQ (fun ov H0 H1 => ov = none ∧ va_at (gD G) g_cl (a, .inr (4, [.ref N0, .ref (N0 + 1), .int (nI 0)])) H1 ∧ va_at (gD G) g_cl (N0, .inl (G.2.2 7, 4, .inr (.inr (.inr (.inr (fun _ => none)))))) H1 ∧ va_at (gD G) g_cl ((N0 + 1), .inr (15, [.int (nI 0), .ref (κ.2.2.2 3), .int (nI 0)])) H1 ∧ H1.size = N0 + 2 ∧ hU H1 ≤ hU H0 + 7) (fun q => q = a ∨ N0 ≤ q)) 2 7 (fun q => q = a ∨ N0 ≤ q) := by
  refine t_startR (by decide) (Nat.le_of_ble_eq_true rfl) ?_
  intro p e s m below meth c hx hb hr hlocks hml hown hts hB hK hZ hname ls hl
  have hl : lv_has ls 1 [(0, .ref a)] := hl
  obtain ⟨hk, hN⟩ := hB
  have hAZ : ∀ q, (q = a ∨ N0 ≤ q) → aZ z q := fun q e => show z ≤ q by rcases e with e | e <;> omega
  have hS : va_S (fun q => q = a ∨ N0 ≤ q) s.heap s.heap [] := va_S.rf
  have haN := at_lt hk
  refine lv_aload_n hx hb dX4_init_0 rfl (lv_at hl 0 rfl) ?_
  refine W.objInit hx hb hown (hts _ q331) (hts _ q135) (hts _ q136) rfl (by rw [hml]; exact hl.1) rfl dX4_init_1 (Nat.le_of_ble_eq_true rfl) (Nat.le_of_ble_eq_true rfl) ?_
  refine W.eq (g2 := F0 m 4 ls []) rfl ?_
  refine lv_aload_n hx hb dX4_init_4 rfl (lv_at hl 0 rfl) ?_
  refine lv_iconst (v := nI 4) hx hb dX4_init_5 (by decide) ?_
  refine p_anew (n := 4) (t := 7) hx hb hown (hts _ q332) (hK.2.2.2.1 _ (List.mem_of_getElem? (i := 1) rfl)) hK rfl (by omega) (Nat.le_of_ble_eq_true rfl) (Nat.le_of_ble_eq_true rfl) dX4_init_6 (fun b H hb1 eb zb ob => ?_)
  have la_b : a < b := by have := at_lt hk; omega
  replace hk := va_at.kept hk (ob _ (at_lt hk))
  replace hS := xS_new hS (by omega) ob
  refine p_putF (own := RX4) (C := RX4) (T := TX4) (N := 3) (ci := 4) (a := a) (fs := [.null, .null, .int (nI 0)]) (ty := tyX4 0) (v := .ref b) hx hb hts in_X4 tyX4 tyX4_ok nmX4 hown hK hk rfl 0 (by decide) (hts _ q360) (fun _ h9 => h9) rfl hname rfl (tyX4_ok 0 (by decide)) rfl rfl (Nat.le_of_ble_eq_true rfl) dX4_init_9 (fun H locs hk hz9 ho9 hl9 => ?_)
  replace hk : va_at (gD G) g_cl (a, .inr (4, [.ref b, .null, .int (nI 0)])) H := hk
  replace hb1 := va_at.kept hb1 (ho9 _ (by omega))
  replace hS := xS_put hS (Or.inl rfl) hz9 ho9 hl9
  refine lv_aload_n hx hb dX4_init_12 rfl (lv_at hl 0 rfl) ?_
  refine p_new (own := RX4) (C := RJ2) (T := TJ2) (N := 3) (ci := 15) (fs := [.int (nI 0), .null, .int (nI 0)]) hx hb hts in_J2 tyJ2 tyJ2_ok hown (hts _ q334) (hts _ q335) (hts _ q104) hK rfl (by decide +kernel) (Nat.le_of_ble_eq_true rfl) (Nat.le_of_ble_eq_true rfl) dX4_init_13 (fun q_1 H hq_1 eq_1 zq_1 oq_1 => ?_)
  have la_q_1 : a < q_1 := by have := at_lt hk; omega
  have lb_q_1 : b < q_1 := by have := at_lt hb1; omega
  replace hk := va_at.kept hk (oq_1 _ (at_lt hk))
  replace hb1 := va_at.kept hb1 (oq_1 _ (at_lt hb1))
  replace hS := xS_new hS (by omega) oq_1
  refine lv_dup hx hb dX4_init_16 rfl ?_
  refine t_callR (va_runI (As := []) (rest := [.ref q_1, .ref a]) ⟨hx, hb, hml, hown, hts⟩ (met_J2_init l G κ z q_1 (by omega)) (ci_X4_J2_init hts ⟨Nat.le_of_ble_eq_true rfl, Nat.le_of_ble_eq_true rfl⟩) (cT.pre hK hZ (xS_mono hS hAZ) hq_1) rfl rfl hl.1 rfl (lv_room (Nat.le_of_ble_eq_true rfl)) dX4_init_17 ⟨Nat.le_of_ble_eq_true rfl, Nat.le_of_ble_eq_true rfl⟩) hS (fun q hq e => Or.inr (by have e : @Eq Nat q q_1 := e; omega)) (fun q e => Or.inr (by have e : @Eq Nat q q_1 := e; omega)) (fun v9 H locs hB9 hz9 hk9 hS => ?_)
  obtain ⟨rfl, hq_1, hsq_1, huq_1⟩ := hB9
  replace hk := va_at.kept hk (hk9 _ (at_lt hk) (by omega))
  replace hb1 := va_at.kept hb1 (hk9 _ (at_lt hb1) (by omega))
  refine p_putF (own := RX4) (C := RX4) (T := TX4) (N := 3) (ci := 4) (a := a) (fs := [.ref b, .null, .int (nI 0)]) (ty := tyX4 1) (v := .ref q_1) hx hb hts in_X4 tyX4 tyX4_ok nmX4 hown hK hk rfl 1 (by decide) (hts _ q363) (fun _ h9 => h9) rfl hname rfl (tyX4_ok 1 (by decide)) rfl rfl (Nat.le_of_ble_eq_true rfl) dX4_init_20 (fun H locs hk hz9 ho9 hl9 => ?_)
  replace hk : va_at (gD G) g_cl (a, .inr (4, [.ref b, .ref q_1, .int (nI 0)])) H := hk
  replace hb1 := va_at.kept hb1 (ho9 _ (by omega))
  replace hq_1 := va_at.kept hq_1 (ho9 _ (by omega))
  replace hS := xS_put hS (Or.inl rfl) hz9 ho9 hl9
  refine W_own (fun z1 z2 => ?_)
  obtain rfl : N0 = b := by omega
  obtain rfl : q_1 = N0 + 1 := by omega
  refine W.widen (k := 2) (n := 7) (by omega) (by omega) ?_
  exact t_vret hx hb hr hlocks ⟨rfl, hk, hb1, hq_1, by omega, by omega⟩ hS dX4_init_23
