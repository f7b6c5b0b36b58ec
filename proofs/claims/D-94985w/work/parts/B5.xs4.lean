/-! constructors of records and lists (printed by gen/xs4.py) -/
theorem xfz {g : Nat} (h : g < 2) : fits .boolean (.int (nI g)) = true := by
  obtain rfl | rfl : g = 0 ∨ g = 1 := by omega
  · rfl
  · rfl
theorem xnz {g : Nat} (h : g < 2) : narrow .boolean (.int (nI g)) = .int (nI g) := by
  obtain rfl | rfl : g = 0 ∨ g = 1 := by omega
  · rfl
  · rfl
/-- an object that lists may hold -/
def aO (G : gG) (H : Heap) (x : Nat) : Prop := ∃ ci, (ci = 6 ∨ ci = 7 ∨ ci = 8 ∨ ci = 9 ∨ ci = 10 ∨ ci = 11 ∨ ci = 12 ∨ ci = 13 ∨ ci = 14 ∨ ci = 16) ∧ ∃ cell : Cell, H[x]? = some cell ∧ cell.vm.isStatics = false ∧ cell.cls = G.1 ci
theorem aO.kept {G : gG} {H H1 : Heap} {x : Nat} (h : aO G H x) (h1 : H1[x]? = H[x]?) : aO G H1 x := by
  obtain ⟨ci, hc, cell, q, e⟩ := h
  exact ⟨ci, hc, cell, h1.trans q, e⟩
theorem aO.lt {G : gG} {H : Heap} {x : Nat} (h : aO G H x) : x < H.size := by
  obtain ⟨ci, hc, cell, q, e⟩ := h
  exact (Array.getElem?_eq_some_iff.mp q).1
theorem aO.cast {G : gG} {H : Heap} {x : Nat} {s : State} (hK : KK G s) (h : aO G H x) : ∃ C : String, (∃ cell : Cell, H[x]? = some cell ∧ cell.vm.isStatics = false ∧ s.vm.findClass C = some cell.cls) ∧ va_Nw (.castable C "java/lang/Object") s := by
  obtain ⟨ci, hc, cell, q1, q2, q3⟩ := h
  rcases hc with rfl | rfl | rfl | rfl | rfl | rfl | rfl | rfl | rfl | rfl
  · exact ⟨RX6, ⟨cell, q1, q2, by rw [q3]; exact ((hK.1.1 6 _ rfl).2).1⟩, hK.2.1 _ q1625 rfl⟩
  · exact ⟨RX7, ⟨cell, q1, q2, by rw [q3]; exact ((hK.1.1 7 _ rfl).2).1⟩, hK.2.1 _ q1626 rfl⟩
  · exact ⟨RX8, ⟨cell, q1, q2, by rw [q3]; exact ((hK.1.1 8 _ rfl).2).1⟩, hK.2.1 _ q1627 rfl⟩
  · exact ⟨RX9, ⟨cell, q1, q2, by rw [q3]; exact ((hK.1.1 9 _ rfl).2).1⟩, hK.2.1 _ q1628 rfl⟩
  · exact ⟨RX10, ⟨cell, q1, q2, by rw [q3]; exact ((hK.1.1 10 _ rfl).2).1⟩, hK.2.1 _ q1629 rfl⟩
  · exact ⟨RX11, ⟨cell, q1, q2, by rw [q3]; exact ((hK.1.1 11 _ rfl).2).1⟩, hK.2.1 _ q1630 rfl⟩
  · exact ⟨RX12, ⟨cell, q1, q2, by rw [q3]; exact ((hK.1.1 12 _ rfl).2).1⟩, hK.2.1 _ q1631 rfl⟩
  · exact ⟨RX13, ⟨cell, q1, q2, by rw [q3]; exact ((hK.1.1 13 _ rfl).2).1⟩, hK.2.1 _ q1632 rfl⟩
  · exact ⟨RX14, ⟨cell, q1, q2, by rw [q3]; exact ((hK.1.1 14 _ rfl).2).1⟩, hK.2.1 _ q1633 rfl⟩
  · exact ⟨RJ15, ⟨cell, q1, q2, by rw [q3]; exact ((hK.1.1 16 _ rfl).2).1⟩, hK.2.1 _ q1634 rfl⟩
theorem aO.any {G : gG} {H : Heap} {x : Nat} {s : State} (hK : KK G s) (h : aO G H x) : va_Any "java/lang/Object" s H x := by
  obtain ⟨C, ⟨cell, h1, h2, h3⟩, h4⟩ := h.cast hK
  obtain ⟨kC, hkC, -⟩ := Vm.findClass_spec h3
  exact ⟨cell, h1, h2, ⟨kC, hkC⟩, fun comp hc => vb_asgC h4 comp _ hc h3⟩
theorem aO.at {G : gG} {H : Heap} {x ci : Nat} {fs : List Value} (hci : ci = 6 ∨ ci = 7 ∨ ci = 8 ∨ ci = 9 ∨ ci = 10 ∨ ci = 11 ∨ ci = 12 ∨ ci = 13 ∨ ci = 14 ∨ ci = 16) (h : va_at (gD G) g_cl (x, .inr (ci, fs)) H) : aO G H x := by
  obtain ⟨r, h1, cell, q1, q2, q3, -⟩ := h
  exact ⟨ci, hci, cell, q1, by rw [q3]; rfl, q2⟩
theorem aS.aO {G : gG} {O : Nat → Prop} {H : Heap} : ∀ {n : Nat} {b : Bool} {r : Nat} {L : Cd}, aS G O H n b r L → aO G H r
  | 0, _, _, _, h => h.elim
  | n + 1, true, r, L, h => by
    obtain ⟨-, h⟩ := h
    rcases h with ⟨_, h1, -⟩ | ⟨_, -, h1, -⟩ | ⟨_, _, h1, -⟩ | ⟨_, _, _, _, _, _, _, _, _, h1, -⟩ | ⟨_, _, _, _, _, _, h1, -⟩
    · exact aO.at (by omega) h1
    · exact aO.at (by omega) h1
    · exact aO.at (by omega) h1
    · exact aO.at (by omega) h1
    · exact aO.at (by omega) h1
  | n + 1, false, r, L, h => by
    obtain ⟨-, h⟩ := h
    rcases h with ⟨_, _, _, _, _, _, h1, -⟩ | ⟨_, _, h1, -⟩ | ⟨_, _, _, _, _, _, h1, -⟩
    · exact aO.at (by omega) h1
    · exact aO.at (by omega) h1
    · exact aO.at (by omega) h1
set_option maxHeartbeats 4000000 in
set_option maxRecDepth 100000 in
theorem met_J10_init (l : Launch) (G : gG) (a : Nat) : Met l yJ10_init (ws_ yJ10_init cJ10_init 1 none) ({ frames := 1, cells := 0, slots := 0, locals := 40 } : Room) (cP G [.ref a] (fun _ => True)) (cR none) 0 0 (fun _ => False) := by
  refine c_start (by decide) (Nat.le_of_ble_eq_true rfl) ?_
  intro p e s m below meth c hx hb hr hlocks hml hown hts hB hK ls hl
  have hl : lv_has ls 1 [(0, .ref a)] := hl
  refine lv_aload_n hx hb dJ10_init_0 rfl (lv_at hl 0 rfl) ?_
  refine W.objInit hx hb hown (hts _ q527) (hts _ q135) (hts _ q136) rfl (by rw [hml]; exact hl.1) rfl dJ10_init_1 (Nat.le_of_ble_eq_true rfl) (Nat.le_of_ble_eq_true rfl) ?_
  refine W.eq (g2 := F0 m 4 ls []) rfl ?_
  exact c_rvret hx hb hr hlocks dJ10_init_4 rfl rfl
set_option maxHeartbeats 4000000 in
set_option maxRecDepth 100000 in
theorem met_J0_init (l : Launch) (G : gG) (a : Nat) : Met l yJ0_init (ws_ yJ0_init cJ0_init 1 none) ({ frames := 1, cells := 0, slots := 0, locals := 40 } : Room) (cP G [.ref a] (fun _ => True)) (cR none) 0 0 (fun _ => False) := by
  refine c_start (by decide) (Nat.le_of_ble_eq_true rfl) ?_
  intro p e s m below meth c hx hb hr hlocks hml hown hts hB hK ls hl
  have hl : lv_has ls 1 [(0, .ref a)] := hl
  refine lv_aload_n hx hb dJ0_init_0 rfl (lv_at hl 0 rfl) ?_
  refine W.objInit hx hb hown (hts _ q345) (hts _ q135) (hts _ q136) rfl (by rw [hml]; exact hl.1) rfl dJ0_init_1 (Nat.le_of_ble_eq_true rfl) (Nat.le_of_ble_eq_true rfl) ?_
  refine W.eq (g2 := F0 m 4 ls []) rfl ?_
  exact c_rvret hx hb hr hlocks dJ0_init_4 rfl rfl
set_option maxHeartbeats 4000000 in
set_option maxRecDepth 100000 in
theorem met_X8_init (l : Launch) (G : gG) (κ : kK) (z : Nat) (a : Nat) (v : Int32) (hz : z ≤ a) : Met l yX8_init (ws_ yX8_init cX8_init 2 none) ({ frames := 2, cells := 0, slots := 0, locals := 60 } : Room) (cT G κ z [.ref a, .int v] (fun H => va_at (gD G) g_cl (a, .inr (8, [.int (nI 0)])) H)) (tQ (fun ov H0 H1 => ov = none ∧ va_at (gD G) g_cl (a, .inr (8, [.int v])) H1 ∧ H1.size = H0.size ∧ hU H1 ≤ hU H0) (fun q => q = a)) 0 0 (fun q => q = a) := by
  refine t_startR (by decide) (Nat.le_of_ble_eq_true rfl) ?_
  intro p e s m below meth c hx hb hr hlocks hml hown hts hB hK hZ hname ls hl
  have hl : lv_has ls 2 [(0, .ref a), (1, .int v)] := hl
  have hk := hB
  have hAZ : ∀ q, q = a → aZ z q := fun q e => e ▸ hz
  have hS : va_S (fun q => q = a) s.heap s.heap [] := va_S.rf

  refine lv_aload_n hx hb dX8_init_0 rfl (lv_at hl 0 rfl) ?_
  refine c_read (va_runI (As := []) (rest := []) ⟨hx, hb, hml, hown, hts⟩ (met_J10_init l G a) (ci_X8_J10_init hts ⟨Nat.le_of_ble_eq_true rfl, Nat.le_of_ble_eq_true rfl⟩) (cP.pre hK trivial) rfl rfl hl.1 rfl (lv_room (Nat.le_of_ble_eq_true rfl)) dX8_init_1 ⟨by first | exact Nat.zero_le _ | omega | decide, by first | exact Nat.zero_le _ | omega | decide⟩) ?_
  refine lv_aload_n hx hb dX8_init_4 rfl (lv_at hl 0 rfl) ?_
  refine lv_iload_n hx hb dX8_init_5 rfl (lv_at hl 1 rfl) ?_
  refine p_putF (own := RX8) (C := RX8) (T := TX8) (N := 1) (ci := 8) (a := a) (fs := [.int (nI 0)]) (ty := tyX8 0) (v := .int v) hx hb hts in_X8 tyX8 tyX8_ok nmX8 hown hK hk rfl 0 (by decide) (hts _ q628) (fun _ h9 => h9) rfl hname rfl (tyX8_ok 0 (by decide)) rfl rfl (Nat.le_of_ble_eq_true rfl) dX8_init_6 (fun H locs hk hz9 ho9 hl9 => ?_)
  replace hk : va_at (gD G) g_cl (a, .inr (8, [.int v])) H := hk
  replace hS := xS_put hS rfl hz9 ho9 hl9
  refine W_own (fun z1 z2 => ?_)
  exact t_vret hx hb hr hlocks ⟨rfl, hk, Nat.le_antisymm (by omega) hS.1, by omega⟩ hS dX8_init_9
set_option maxHeartbeats 4000000 in
set_option maxRecDepth 100000 in
theorem met_X9_init (l : Launch) (G : gG) (κ : kK) (z : Nat) (a : Nat) (v : Int32) (hz : z ≤ a) : Met l yX9_init (ws_ yX9_init cX9_init 2 none) ({ frames := 2, cells := 0, slots := 0, locals := 60 } : Room) (cT G κ z [.ref a, .int v] (fun H => va_at (gD G) g_cl (a, .inr (9, [.int (nI 0)])) H)) (tQ (fun ov H0 H1 => ov = none ∧ va_at (gD G) g_cl (a, .inr (9, [.int v])) H1 ∧ H1.size = H0.size ∧ hU H1 ≤ hU H0) (fun q => q = a)) 0 0 (fun q => q = a) := by
  refine t_startR (by decide) (Nat.le_of_ble_eq_true rfl) ?_
  intro p e s m below meth c hx hb hr hlocks hml hown hts hB hK hZ hname ls hl
  have hl : lv_has ls 2 [(0, .ref a), (1, .int v)] := hl
  have hk := hB
  have hAZ : ∀ q, q = a → aZ z q := fun q e => e ▸ hz
  have hS : va_S (fun q => q = a) s.heap s.heap [] := va_S.rf

  refine lv_aload_n hx hb dX9_init_0 rfl (lv_at hl 0 rfl) ?_
  refine c_read (va_runI (As := []) (rest := []) ⟨hx, hb, hml, hown, hts⟩ (met_J10_init l G a) (ci_X9_J10_init hts ⟨Nat.le_of_ble_eq_true rfl, Nat.le_of_ble_eq_true rfl⟩) (cP.pre hK trivial) rfl rfl hl.1 rfl (lv_room (Nat.le_of_ble_eq_true rfl)) dX9_init_1 ⟨by first | exact Nat.zero_le _ | omega | decide, by first | exact Nat.zero_le _ | omega | decide⟩) ?_
  refine lv_aload_n hx hb dX9_init_4 rfl (lv_at hl 0 rfl) ?_
  refine lv_iload_n hx hb dX9_init_5 rfl (lv_at hl 1 rfl) ?_
  refine p_putF (own := RX9) (C := RX9) (T := TX9) (N := 1) (ci := 9) (a := a) (fs := [.int (nI 0)]) (ty := tyX9 0) (v := .int v) hx hb hts in_X9 tyX9 tyX9_ok nmX9 hown hK hk rfl 0 (by decide) (hts _ q640) (fun _ h9 => h9) rfl hname rfl (tyX9_ok 0 (by decide)) rfl rfl (Nat.le_of_ble_eq_true rfl) dX9_init_6 (fun H locs hk hz9 ho9 hl9 => ?_)
  replace hk : va_at (gD G) g_cl (a, .inr (9, [.int v])) H := hk
  replace hS := xS_put hS rfl hz9 ho9 hl9
  refine W_own (fun z1 z2 => ?_)
  exact t_vret hx hb hr hlocks ⟨rfl, hk, Nat.le_antisymm (by omega) hS.1, by omega⟩ hS dX9_init_9
set_option maxHeartbeats 4000000 in
set_option maxRecDepth 100000 in
theorem met_X10_init (l : Launch) (G : gG) (κ : kK) (z : Nat) (a : Nat) (x : Nat) (hz : z ≤ a) : Met l yX10_init (ws_ yX10_init cX10_init 2 none) ({ frames := 2, cells := 0, slots := 0, locals := 60 } : Room) (cT G κ z [.ref a, .ref x] (fun H => va_at (gD G) g_cl (a, .inr (10, [.null])) H)) (tQ (fun ov H0 H1 => ov = none ∧ va_at (gD G) g_cl (a, .inr (10, [.ref x])) H1 ∧ H1.size = H0.size ∧ hU H1 ≤ hU H0) (fun q => q = a)) 0 0 (fun q => q = a) := by
  refine t_startR (by decide) (Nat.le_of_ble_eq_true rfl) ?_
  intro p e s m below meth c hx hb hr hlocks hml hown hts hB hK hZ hname ls hl
  have hl : lv_has ls 2 [(0, .ref a), (1, .ref x)] := hl
  have hk := hB
  have hAZ : ∀ q, q = a → aZ z q := fun q e => e ▸ hz
  have hS : va_S (fun q => q = a) s.heap s.heap [] := va_S.rf

  refine lv_aload_n hx hb dX10_init_0 rfl (lv_at hl 0 rfl) ?_
  refine c_read (va_runI (As := []) (rest := []) ⟨hx, hb, hml, hown, hts⟩ (met_J10_init l G a) (ci_X10_J10_init hts ⟨Nat.le_of_ble_eq_true rfl, Nat.le_of_ble_eq_true rfl⟩) (cP.pre hK trivial) rfl rfl hl.1 rfl (lv_room (Nat.le_of_ble_eq_true rfl)) dX10_init_1 ⟨by first | exact Nat.zero_le _ | omega | decide, by first | exact Nat.zero_le _ | omega | decide⟩) ?_
  refine lv_aload_n hx hb dX10_init_4 rfl (lv_at hl 0 rfl) ?_
  refine lv_aload_n hx hb dX10_init_5 rfl (lv_at hl 1 rfl) ?_
  refine p_putF (own := RX10) (C := RX10) (T := TX10) (N := 1) (ci := 10) (a := a) (fs := [.null]) (ty := tyX10 0) (v := .ref x) hx hb hts in_X10 tyX10 tyX10_ok nmX10 hown hK hk rfl 0 (by decide) (hts _ q672) (fun _ h9 => h9) rfl hname rfl (tyX10_ok 0 (by decide)) rfl rfl (Nat.le_of_ble_eq_true rfl) dX10_init_6 (fun H locs hk hz9 ho9 hl9 => ?_)
  replace hk : va_at (gD G) g_cl (a, .inr (10, [.ref x])) H := hk
  replace hS := xS_put hS rfl hz9 ho9 hl9
  refine W_own (fun z1 z2 => ?_)
  exact t_vret hx hb hr hlocks ⟨rfl, hk, Nat.le_antisymm (by omega) hS.1, by omega⟩ hS dX10_init_9
set_option maxHeartbeats 4000000 in
set_option maxRecDepth 100000 in
theorem met_X11_init (l : Launch) (G : gG) (κ : kK) (z : Nat) (a : Nat) (v : Int32) (x y : Nat) (hz : z ≤ a) : Met l yX11_init (ws_ yX11_init cX11_init 4 none) ({ frames := 2, cells := 0, slots := 0, locals := 60 } : Room) (cT G κ z [.ref a, .int v, .ref x, .ref y] (fun H => va_at (gD G) g_cl (a, .inr (11, [.int (nI 0), .null, .null])) H)) (tQ (fun ov H0 H1 => ov = none ∧ va_at (gD G) g_cl (a, .inr (11, [.int v, .ref x, .ref y])) H1 ∧ H1.size = H0.size ∧ hU H1 ≤ hU H0) (fun q => q = a)) 0 0 (fun q => q = a) := by
  refine t_startR (by decide) (Nat.le_of_ble_eq_true rfl) ?_
  intro p e s m below meth c hx hb hr hlocks hml hown hts hB hK hZ hname ls hl
  have hl : lv_has ls 4 [(0, .ref a), (1, .int v), (2, .ref x), (3, .ref y)] := hl
  have hk := hB
  have hAZ : ∀ q, q = a → aZ z q := fun q e => e ▸ hz
  have hS : va_S (fun q => q = a) s.heap s.heap [] := va_S.rf

  refine lv_aload_n hx hb dX11_init_0 rfl (lv_at hl 0 rfl) ?_
  refine c_read (va_runI (As := []) (rest := []) ⟨hx, hb, hml, hown, hts⟩ (met_J10_init l G a) (ci_X11_J10_init hts ⟨Nat.le_of_ble_eq_true rfl, Nat.le_of_ble_eq_true rfl⟩) (cP.pre hK trivial) rfl rfl hl.1 rfl (lv_room (Nat.le_of_ble_eq_true rfl)) dX11_init_1 ⟨by first | exact Nat.zero_le _ | omega | decide, by first | exact Nat.zero_le _ | omega | decide⟩) ?_
  refine lv_aload_n hx hb dX11_init_4 rfl (lv_at hl 0 rfl) ?_
  refine lv_iload_n hx hb dX11_init_5 rfl (lv_at hl 1 rfl) ?_
  refine p_putF (own := RX11) (C := RX11) (T := TX11) (N := 3) (ci := 11) (a := a) (fs := [.int (nI 0), .null, .null]) (ty := tyX11 0) (v := .int v) hx hb hts in_X11 tyX11 tyX11_ok nmX11 hown hK hk rfl 0 (by decide) (hts _ q682) (fun _ h9 => h9) rfl hname rfl (tyX11_ok 0 (by decide)) rfl rfl (Nat.le_of_ble_eq_true rfl) dX11_init_6 (fun H locs hk hz9 ho9 hl9 => ?_)
  replace hk : va_at (gD G) g_cl (a, .inr (11, [.int v, .null, .null])) H := hk
  replace hS := xS_put hS rfl hz9 ho9 hl9
  refine lv_aload_n hx hb dX11_init_9 rfl (lv_at hl 0 rfl) ?_
  refine lv_aload_n hx hb dX11_init_10 rfl (lv_at hl 2 rfl) ?_
  refine p_putF (own := RX11) (C := RX11) (T := TX11) (N := 3) (ci := 11) (a := a) (fs := [.int v, .null, .null]) (ty := tyX11 1) (v := .ref x) hx hb hts in_X11 tyX11 tyX11_ok nmX11 hown hK hk rfl 1 (by decide) (hts _ q683) (fun _ h9 => h9) rfl hname rfl (tyX11_ok 1 (by decide)) rfl rfl (Nat.le_of_ble_eq_true rfl) dX11_init_11 (fun H locs hk hz9 ho9 hl9 => ?_)
  replace hk : va_at (gD G) g_cl (a, .inr (11, [.int v, .ref x, .null])) H := hk
  replace hS := xS_put hS rfl hz9 ho9 hl9
  refine lv_aload_n hx hb dX11_init_14 rfl (lv_at hl 0 rfl) ?_
  refine lv_aload_n hx hb dX11_init_15 rfl (lv_at hl 3 rfl) ?_
  refine p_putF (own := RX11) (C := RX11) (T := TX11) (N := 3) (ci := 11) (a := a) (fs := [.int v, .ref x, .null]) (ty := tyX11 2) (v := .ref y) hx hb hts in_X11 tyX11 tyX11_ok nmX11 hown hK hk rfl 2 (by decide) (hts _ q684) (fun _ h9 => h9) rfl hname rfl (tyX11_ok 2 (by decide)) rfl rfl (Nat.le_of_ble_eq_true rfl) dX11_init_16 (fun H locs hk hz9 ho9 hl9 => ?_)
  replace hk : va_at (gD G) g_cl (a, .inr (11, [.int v, .ref x, .ref y])) H := hk
  replace hS := xS_put hS rfl hz9 ho9 hl9
  refine W_own (fun z1 z2 => ?_)
  exact t_vret hx hb hr hlocks ⟨rfl, hk, Nat.le_antisymm (by omega) hS.1, by omega⟩ hS dX11_init_19
set_option maxHeartbeats 4000000 in
set_option maxRecDepth 100000 in
theorem met_X12_init (l : Launch) (G : gG) (κ : kK) (z : Nat) (a : Nat) (g x : Nat) (hz : z ≤ a) (hg : g < 2) : Met l yX12_init (ws_ yX12_init cX12_init 3 none) ({ frames := 2, cells := 0, slots := 0, locals := 60 } : Room) (cT G κ z [.ref a, .int (nI g), .ref x] (fun H => va_at (gD G) g_cl (a, .inr (12, [.int (nI 0), .null])) H)) (tQ (fun ov H0 H1 => ov = none ∧ va_at (gD G) g_cl (a, .inr (12, [.int (nI g), .ref x])) H1 ∧ H1.size = H0.size ∧ hU H1 ≤ hU H0) (fun q => q = a)) 0 0 (fun q => q = a) := by
  refine t_startR (by decide) (Nat.le_of_ble_eq_true rfl) ?_
  intro p e s m below meth c hx hb hr hlocks hml hown hts hB hK hZ hname ls hl
  have hl : lv_has ls 3 [(0, .ref a), (1, .int (nI g)), (2, .ref x)] := hl
  have hk := hB
  have hAZ : ∀ q, q = a → aZ z q := fun q e => e ▸ hz
  have hS : va_S (fun q => q = a) s.heap s.heap [] := va_S.rf

  refine lv_aload_n hx hb dX12_init_0 rfl (lv_at hl 0 rfl) ?_
  refine c_read (va_runI (As := []) (rest := []) ⟨hx, hb, hml, hown, hts⟩ (met_J10_init l G a) (ci_X12_J10_init hts ⟨Nat.le_of_ble_eq_true rfl, Nat.le_of_ble_eq_true rfl⟩) (cP.pre hK trivial) rfl rfl hl.1 rfl (lv_room (Nat.le_of_ble_eq_true rfl)) dX12_init_1 ⟨by first | exact Nat.zero_le _ | omega | decide, by first | exact Nat.zero_le _ | omega | decide⟩) ?_
  refine lv_aload_n hx hb dX12_init_4 rfl (lv_at hl 0 rfl) ?_
  refine lv_iload_n hx hb dX12_init_5 rfl (lv_at hl 1 rfl) ?_
  refine p_putF (own := RX12) (C := RX12) (T := TX12) (N := 2) (ci := 12) (a := a) (fs := [.int (nI 0), .null]) (ty := tyX12 0) (v := .int (nI g)) hx hb hts in_X12 tyX12 tyX12_ok nmX12 hown hK hk rfl 0 (by decide) (hts _ q715) (fun _ h9 => h9) rfl hname rfl (tyX12_ok 0 (by decide)) (xnz hg) (xfz hg) (Nat.le_of_ble_eq_true rfl) dX12_init_6 (fun H locs hk hz9 ho9 hl9 => ?_)
  replace hk : va_at (gD G) g_cl (a, .inr (12, [.int (nI g), .null])) H := hk
  replace hS := xS_put hS rfl hz9 ho9 hl9
  refine lv_aload_n hx hb dX12_init_9 rfl (lv_at hl 0 rfl) ?_
  refine lv_aload_n hx hb dX12_init_10 rfl (lv_at hl 2 rfl) ?_
  refine p_putF (own := RX12) (C := RX12) (T := TX12) (N := 2) (ci := 12) (a := a) (fs := [.int (nI g), .null]) (ty := tyX12 1) (v := .ref x) hx hb hts in_X12 tyX12 tyX12_ok nmX12 hown hK hk rfl 1 (by decide) (hts _ q716) (fun _ h9 => h9) rfl hname rfl (tyX12_ok 1 (by decide)) rfl rfl (Nat.le_of_ble_eq_true rfl) dX12_init_11 (fun H locs hk hz9 ho9 hl9 => ?_)
  replace hk : va_at (gD G) g_cl (a, .inr (12, [.int (nI g), .ref x])) H := hk
  replace hS := xS_put hS rfl hz9 ho9 hl9
  refine W_own (fun z1 z2 => ?_)
  exact t_vret hx hb hr hlocks ⟨rfl, hk, Nat.le_antisymm (by omega) hS.1, by omega⟩ hS dX12_init_14
set_option maxHeartbeats 4000000 in
set_option maxRecDepth 100000 in
theorem met_X13_init (l : Launch) (G : gG) (κ : kK) (z : Nat) (a : Nat) (x y w : Nat) (hz : z ≤ a) : Met l yX13_init (ws_ yX13_init cX13_init 4 none) ({ frames := 2, cells := 0, slots := 0, locals := 60 } : Room) (cT G κ z [.ref a, .ref x, .ref y, .ref w] (fun H => va_at (gD G) g_cl (a, .inr (13, [.null, .null, .null])) H)) (tQ (fun ov H0 H1 => ov = none ∧ va_at (gD G) g_cl (a, .inr (13, [.ref x, .ref y, .ref w])) H1 ∧ H1.size = H0.size ∧ hU H1 ≤ hU H0) (fun q => q = a)) 0 0 (fun q => q = a) := by
  refine t_startR (by decide) (Nat.le_of_ble_eq_true rfl) ?_
  intro p e s m below meth c hx hb hr hlocks hml hown hts hB hK hZ hname ls hl
  have hl : lv_has ls 4 [(0, .ref a), (1, .ref x), (2, .ref y), (3, .ref w)] := hl
  have hk := hB
  have hAZ : ∀ q, q = a → aZ z q := fun q e => e ▸ hz
  have hS : va_S (fun q => q = a) s.heap s.heap [] := va_S.rf

  refine lv_aload_n hx hb dX13_init_0 rfl (lv_at hl 0 rfl) ?_
  refine c_read (va_runI (As := []) (rest := []) ⟨hx, hb, hml, hown, hts⟩ (met_J10_init l G a) (ci_X13_J10_init hts ⟨Nat.le_of_ble_eq_true rfl, Nat.le_of_ble_eq_true rfl⟩) (cP.pre hK trivial) rfl rfl hl.1 rfl (lv_room (Nat.le_of_ble_eq_true rfl)) dX13_init_1 ⟨by first | exact Nat.zero_le _ | omega | decide, by first | exact Nat.zero_le _ | omega | decide⟩) ?_
  refine lv_aload_n hx hb dX13_init_4 rfl (lv_at hl 0 rfl) ?_
  refine lv_aload_n hx hb dX13_init_5 rfl (lv_at hl 1 rfl) ?_
  refine p_putF (own := RX13) (C := RX13) (T := TX13) (N := 3) (ci := 13) (a := a) (fs := [.null, .null, .null]) (ty := tyX13 0) (v := .ref x) hx hb hts in_X13 tyX13 tyX13_ok nmX13 hown hK hk rfl 0 (by decide) (hts _ q728) (fun _ h9 => h9) rfl hname rfl (tyX13_ok 0 (by decide)) rfl rfl (Nat.le_of_ble_eq_true rfl) dX13_init_6 (fun H locs hk hz9 ho9 hl9 => ?_)
  replace hk : va_at (gD G) g_cl (a, .inr (13, [.ref x, .null, .null])) H := hk
  replace hS := xS_put hS rfl hz9 ho9 hl9
  refine lv_aload_n hx hb dX13_init_9 rfl (lv_at hl 0 rfl) ?_
  refine lv_aload_n hx hb dX13_init_10 rfl (lv_at hl 2 rfl) ?_
  refine p_putF (own := RX13) (C := RX13) (T := TX13) (N := 3) (ci := 13) (a := a) (fs := [.ref x, .null, .null]) (ty := tyX13 1) (v := .ref y) hx hb hts in_X13 tyX13 tyX13_ok nmX13 hown hK hk rfl 1 (by decide) (hts _ q729) (fun _ h9 => h9) rfl hname rfl (tyX13_ok 1 (by decide)) rfl rfl (Nat.le_of_ble_eq_true rfl) dX13_init_11 (fun H locs hk hz9 ho9 hl9 => ?_)
  replace hk : va_at (gD G) g_cl (a, .inr (13, [.ref x, .ref y, .null])) H := hk
  replace hS := xS_put hS rfl hz9 ho9 hl9
  refine lv_aload_n hx hb dX13_init_14 rfl (lv_at hl 0 rfl) ?_
  refine lv_aload_n hx hb dX13_init_15 rfl (lv_at hl 3 rfl) ?_
  refine p_putF (own := RX13) (C := RX13) (T := TX13) (N := 3) (ci := 13) (a := a) (fs := [.ref x, .ref y, .null]) (ty := tyX13 2) (v := .ref w) hx hb hts in_X13 tyX13 tyX13_ok nmX13 hown hK hk rfl 2 (by decide) (hts _ q730) (fun _ h9 => h9) rfl hname rfl (tyX13_ok 2 (by decide)) rfl rfl (Nat.le_of_ble_eq_true rfl) dX13_init_16 (fun H locs hk hz9 ho9 hl9 => ?_)
  replace hk : va_at (gD G) g_cl (a, .inr (13, [.ref x, .ref y, .ref w])) H := hk
  replace hS := xS_put hS rfl hz9 ho9 hl9
  refine W_own (fun z1 z2 => ?_)
  exact t_vret hx hb hr hlocks ⟨rfl, hk, Nat.le_antisymm (by omega) hS.1, by omega⟩ hS dX13_init_19
set_option maxHeartbeats 4000000 in
set_option maxRecDepth 100000 in
theorem met_X14_init (l : Launch) (G : gG) (κ : kK) (z : Nat) (a : Nat) (x : Nat) (hz : z ≤ a) : Met l yX14_init (ws_ yX14_init cX14_init 2 none) ({ frames := 2, cells := 0, slots := 0, locals := 60 } : Room) (cT G κ z [.ref a, .ref x] (fun H => va_at (gD G) g_cl (a, .inr (14, [.null])) H)) (tQ (fun ov H0 H1 => ov = none ∧ va_at (gD G) g_cl (a, .inr (14, [.ref x])) H1 ∧ H1.size = H0.size ∧ hU H1 ≤ hU H0) (fun q => q = a)) 0 0 (fun q => q = a) := by
  refine t_startR (by decide) (Nat.le_of_ble_eq_true rfl) ?_
  intro p e s m below meth c hx hb hr hlocks hml hown hts hB hK hZ hname ls hl
  have hl : lv_has ls 2 [(0, .ref a), (1, .ref x)] := hl
  have hk := hB
  have hAZ : ∀ q, q = a → aZ z q := fun q e => e ▸ hz
  have hS : va_S (fun q => q = a) s.heap s.heap [] := va_S.rf

  refine lv_aload_n hx hb dX14_init_0 rfl (lv_at hl 0 rfl) ?_
  refine c_read (va_runI (As := []) (rest := []) ⟨hx, hb, hml, hown, hts⟩ (met_J10_init l G a) (ci_X14_J10_init hts ⟨Nat.le_of_ble_eq_true rfl, Nat.le_of_ble_eq_true rfl⟩) (cP.pre hK trivial) rfl rfl hl.1 rfl (lv_room (Nat.le_of_ble_eq_true rfl)) dX14_init_1 ⟨by first | exact Nat.zero_le _ | omega | decide, by first | exact Nat.zero_le _ | omega | decide⟩) ?_
  refine lv_aload_n hx hb dX14_init_4 rfl (lv_at hl 0 rfl) ?_
  refine lv_aload_n hx hb dX14_init_5 rfl (lv_at hl 1 rfl) ?_
  refine p_putF (own := RX14) (C := RX14) (T := TX14) (N := 1) (ci := 14) (a := a) (fs := [.null]) (ty := tyX14 0) (v := .ref x) hx hb hts in_X14 tyX14 tyX14_ok nmX14 hown hK hk rfl 0 (by decide) (hts _ q744) (fun _ h9 => h9) rfl hname rfl (tyX14_ok 0 (by decide)) rfl rfl (Nat.le_of_ble_eq_true rfl) dX14_init_6 (fun H locs hk hz9 ho9 hl9 => ?_)
  replace hk : va_at (gD G) g_cl (a, .inr (14, [.ref x])) H := hk
  replace hS := xS_put hS rfl hz9 ho9 hl9
  refine W_own (fun z1 z2 => ?_)
  exact t_vret hx hb hr hlocks ⟨rfl, hk, Nat.le_antisymm (by omega) hS.1, by omega⟩ hS dX14_init_9
set_option maxHeartbeats 4000000 in
set_option maxRecDepth 100000 in
theorem met_X6_init (l : Launch) (G : gG) (κ : kK) (z : Nat) (a : Nat) (v1 v2 v3 v4 v5 : Int32) (hz : z ≤ a) : Met l yX6_init (ws_ yX6_init cX6_init 6 none) ({ frames := 2, cells := 0, slots := 0, locals := 60 } : Room) (cT G κ z [.ref a, .int v1, .int v2, .int v3, .int v4, .int v5] (fun H => va_at (gD G) g_cl (a, .inr (6, [.int (nI 0), .int (nI 0), .int (nI 0), .int (nI 0), .int (nI 0)])) H)) (tQ (fun ov H0 H1 => ov = none ∧ va_at (gD G) g_cl (a, .inr (6, [.int v1, .int v2, .int v3, .int v4, .int v5])) H1 ∧ H1.size = H0.size ∧ hU H1 ≤ hU H0) (fun q => q = a)) 0 0 (fun q => q = a) := by
  refine t_startR (by decide) (Nat.le_of_ble_eq_true rfl) ?_
  intro p e s m below meth c hx hb hr hlocks hml hown hts hB hK hZ hname ls hl
  have hl : lv_has ls 6 [(0, .ref a), (1, .int v1), (2, .int v2), (3, .int v3), (4, .int v4), (5, .int v5)] := hl
  have hk := hB
  have hAZ : ∀ q, q = a → aZ z q := fun q e => e ▸ hz
  have hS : va_S (fun q => q = a) s.heap s.heap [] := va_S.rf

  refine lv_aload_n hx hb dX6_init_0 rfl (lv_at hl 0 rfl) ?_
  refine c_read (va_runI (As := []) (rest := []) ⟨hx, hb, hml, hown, hts⟩ (met_J10_init l G a) (ci_X6_J10_init hts ⟨Nat.le_of_ble_eq_true rfl, Nat.le_of_ble_eq_true rfl⟩) (cP.pre hK trivial) rfl rfl hl.1 rfl (lv_room (Nat.le_of_ble_eq_true rfl)) dX6_init_1 ⟨by first | exact Nat.zero_le _ | omega | decide, by first | exact Nat.zero_le _ | omega | decide⟩) ?_
  refine lv_aload_n hx hb dX6_init_4 rfl (lv_at hl 0 rfl) ?_
  refine lv_iload_n hx hb dX6_init_5 rfl (lv_at hl 1 rfl) ?_
  refine p_putF (own := RX6) (C := RX6) (T := TX6) (N := 5) (ci := 6) (a := a) (fs := [.int (nI 0), .int (nI 0), .int (nI 0), .int (nI 0), .int (nI 0)]) (ty := tyX6 0) (v := .int v1) hx hb hts in_X6 tyX6 tyX6_ok nmX6 hown hK hk rfl 0 (by decide) (hts _ q528) (fun _ h9 => h9) rfl hname rfl (tyX6_ok 0 (by decide)) rfl rfl (Nat.le_of_ble_eq_true rfl) dX6_init_6 (fun H locs hk hz9 ho9 hl9 => ?_)
  replace hk : va_at (gD G) g_cl (a, .inr (6, [.int v1, .int (nI 0), .int (nI 0), .int (nI 0), .int (nI 0)])) H := hk
  replace hS := xS_put hS rfl hz9 ho9 hl9
  refine lv_aload_n hx hb dX6_init_9 rfl (lv_at hl 0 rfl) ?_
  refine lv_iload_n hx hb dX6_init_10 rfl (lv_at hl 2 rfl) ?_
  refine p_putF (own := RX6) (C := RX6) (T := TX6) (N := 5) (ci := 6) (a := a) (fs := [.int v1, .int (nI 0), .int (nI 0), .int (nI 0), .int (nI 0)]) (ty := tyX6 1) (v := .int v2) hx hb hts in_X6 tyX6 tyX6_ok nmX6 hown hK hk rfl 1 (by decide) (hts _ q529) (fun _ h9 => h9) rfl hname rfl (tyX6_ok 1 (by decide)) rfl rfl (Nat.le_of_ble_eq_true rfl) dX6_init_11 (fun H locs hk hz9 ho9 hl9 => ?_)
  replace hk : va_at (gD G) g_cl (a, .inr (6, [.int v1, .int v2, .int (nI 0), .int (nI 0), .int (nI 0)])) H := hk
  replace hS := xS_put hS rfl hz9 ho9 hl9
  refine lv_aload_n hx hb dX6_init_14 rfl (lv_at hl 0 rfl) ?_
  refine lv_iload_n hx hb dX6_init_15 rfl (lv_at hl 3 rfl) ?_
  refine p_putF (own := RX6) (C := RX6) (T := TX6) (N := 5) (ci := 6) (a := a) (fs := [.int v1, .int v2, .int (nI 0), .int (nI 0), .int (nI 0)]) (ty := tyX6 2) (v := .int v3) hx hb hts in_X6 tyX6 tyX6_ok nmX6 hown hK hk rfl 2 (by decide) (hts _ q530) (fun _ h9 => h9) rfl hname rfl (tyX6_ok 2 (by decide)) rfl rfl (Nat.le_of_ble_eq_true rfl) dX6_init_16 (fun H locs hk hz9 ho9 hl9 => ?_)
  replace hk : va_at (gD G) g_cl (a, .inr (6, [.int v1, .int v2, .int v3, .int (nI 0), .int (nI 0)])) H := hk
  replace hS := xS_put hS rfl hz9 ho9 hl9
  refine lv_aload_n hx hb dX6_init_19 rfl (lv_at hl 0 rfl) ?_
  refine lv_iload hx hb dX6_init_20 (lv_at hl 4 rfl) ?_
  refine p_putF (own := RX6) (C := RX6) (T := TX6) (N := 5) (ci := 6) (a := a) (fs := [.int v1, .int v2, .int v3, .int (nI 0), .int (nI 0)]) (ty := tyX6 3) (v := .int v4) hx hb hts in_X6 tyX6 tyX6_ok nmX6 hown hK hk rfl 3 (by decide) (hts _ q531) (fun _ h9 => h9) rfl hname rfl (tyX6_ok 3 (by decide)) rfl rfl (Nat.le_of_ble_eq_true rfl) dX6_init_22 (fun H locs hk hz9 ho9 hl9 => ?_)
  replace hk : va_at (gD G) g_cl (a, .inr (6, [.int v1, .int v2, .int v3, .int v4, .int (nI 0)])) H := hk
  replace hS := xS_put hS rfl hz9 ho9 hl9
  refine lv_aload_n hx hb dX6_init_25 rfl (lv_at hl 0 rfl) ?_
  refine lv_iload hx hb dX6_init_26 (lv_at hl 5 rfl) ?_
  refine p_putF (own := RX6) (C := RX6) (T := TX6) (N := 5) (ci := 6) (a := a) (fs := [.int v1, .int v2, .int v3, .int v4, .int (nI 0)]) (ty := tyX6 4) (v := .int v5) hx hb hts in_X6 tyX6 tyX6_ok nmX6 hown hK hk rfl 4 (by decide) (hts _ q532) (fun _ h9 => h9) rfl hname rfl (tyX6_ok 4 (by decide)) rfl rfl (Nat.le_of_ble_eq_true rfl) dX6_init_28 (fun H locs hk hz9 ho9 hl9 => ?_)
  replace hk : va_at (gD G) g_cl (a, .inr (6, [.int v1, .int v2, .int v3, .int v4, .int v5])) H := hk
  replace hS := xS_put hS rfl hz9 ho9 hl9
  refine W_own (fun z1 z2 => ?_)
  exact t_vret hx hb hr hlocks ⟨rfl, hk, Nat.le_antisymm (by omega) hS.1, by omega⟩ hS dX6_init_31
set_option maxHeartbeats 4000000 in
set_option maxRecDepth 100000 in
theorem met_X3_init (l : Launch) (G : gG) (κ : kK) (z : Nat) (a : Nat) (ta t : Nat) (hz : z ≤ a) : Met l yX3_init (ws_ yX3_init cX3_init 3 none) ({ frames := 1, cells := 0, slots := 0, locals := 40 } : Room) (cT G κ z [.ref a, .ref ta, .int (nI t)] (fun H => va_at (gD G) g_cl (a, .inr (3, [.null, .int (nI 0), .int (nI 0), .int (nI 0), .int (nI 0), .int (nI 0), .int (nI 0), .int (nI 0)])) H)) (tQ (fun ov H0 H1 => ov = none ∧ va_at (gD G) g_cl (a, .inr (3, [.ref ta, .int (nI t), .int (nI 0), .int (nI 0), .int (nI 0), .int (nI 0), .int (nI 0), .int (nI 0)])) H1 ∧ H1.size = H0.size ∧ hU H1 ≤ hU H0) (fun q => q = a)) 0 0 (fun q => q = a) := by
  refine t_startR (by decide) (Nat.le_of_ble_eq_true rfl) ?_
  intro p e s m below meth c hx hb hr hlocks hml hown hts hB hK hZ hname ls hl
  have hl : lv_has ls 3 [(0, .ref a), (1, .ref ta), (2, .int (nI t))] := hl
  have hk := hB
  have hAZ : ∀ q, q = a → aZ z q := fun q e => e ▸ hz
  have hS : va_S (fun q => q = a) s.heap s.heap [] := va_S.rf

  refine lv_aload_n hx hb dX3_init_0 rfl (lv_at hl 0 rfl) ?_
  refine W.objInit hx hb hown (hts _ q296) (hts _ q135) (hts _ q136) rfl (by rw [hml]; exact hl.1) rfl dX3_init_1 (Nat.le_of_ble_eq_true rfl) (Nat.le_of_ble_eq_true rfl) ?_
  refine W.eq (g2 := F0 m 4 ls []) rfl ?_
  refine lv_aload_n hx hb dX3_init_4 rfl (lv_at hl 0 rfl) ?_
  refine lv_aload_n hx hb dX3_init_5 rfl (lv_at hl 1 rfl) ?_
  refine p_putF (own := RX3) (C := RX3) (T := TX3) (N := 8) (ci := 3) (a := a) (fs := [.null, .int (nI 0), .int (nI 0), .int (nI 0), .int (nI 0), .int (nI 0), .int (nI 0), .int (nI 0)]) (ty := tyX3 0) (v := .ref ta) hx hb hts in_X3 tyX3 tyX3_ok nmX3 hown hK hk rfl 0 (by decide) (hts _ q297) (fun _ h9 => h9) rfl hname rfl (tyX3_ok 0 (by decide)) rfl rfl (Nat.le_of_ble_eq_true rfl) dX3_init_6 (fun H locs hk hz9 ho9 hl9 => ?_)
  replace hk : va_at (gD G) g_cl (a, .inr (3, [.ref ta, .int (nI 0), .int (nI 0), .int (nI 0), .int (nI 0), .int (nI 0), .int (nI 0), .int (nI 0)])) H := hk
  replace hS := xS_put hS rfl hz9 ho9 hl9
  refine lv_aload_n hx hb dX3_init_9 rfl (lv_at hl 0 rfl) ?_
  refine lv_iload_n hx hb dX3_init_10 rfl (lv_at hl 2 rfl) ?_
  refine p_putF (own := RX3) (C := RX3) (T := TX3) (N := 8) (ci := 3) (a := a) (fs := [.ref ta, .int (nI 0), .int (nI 0), .int (nI 0), .int (nI 0), .int (nI 0), .int (nI 0), .int (nI 0)]) (ty := tyX3 1) (v := .int (nI t)) hx hb hts in_X3 tyX3 tyX3_ok nmX3 hown hK hk rfl 1 (by decide) (hts _ q298) (fun _ h9 => h9) rfl hname rfl (tyX3_ok 1 (by decide)) rfl rfl (Nat.le_of_ble_eq_true rfl) dX3_init_11 (fun H locs hk hz9 ho9 hl9 => ?_)
  replace hk : va_at (gD G) g_cl (a, .inr (3, [.ref ta, .int (nI t), .int (nI 0), .int (nI 0), .int (nI 0), .int (nI 0), .int (nI 0), .int (nI 0)])) H := hk
  replace hS := xS_put hS rfl hz9 ho9 hl9
  refine W_own (fun z1 z2 => ?_)
  exact t_vret hx hb hr hlocks ⟨rfl, hk, Nat.le_antisymm (by omega) hS.1, by omega⟩ hS dX3_init_14
set_option maxHeartbeats 4000000 in
set_option maxRecDepth 100000 in
theorem met_J1_init (l : Launch) (G : gG) (κ : kK) (z : Nat) (a : Nat) (hz : z ≤ a) : Met l yJ1_init (ws_ yJ1_init cJ1_init 1 none) ({ frames := 2, cells := 0, slots := 0, locals := 60 } : Room) (cT G κ z [.ref a] (fun H => va_at (gD G) g_cl (a, .inr (15, [.int (nI 0), .null, .int (nI 0)])) H)) (tQ (fun ov H0 H1 => ov = none ∧ va_at (gD G) g_cl (a, .inr (15, [.int (nI 0), .null, .int (nI 0)])) H1 ∧ H1.size = H0.size ∧ hU H1 ≤ hU H0) (fun q => q = a)) 0 0 (fun q => q = a) := by
  refine t_startR (by decide) (Nat.le_of_ble_eq_true rfl) ?_
  intro p e s m below meth c hx hb hr hlocks hml hown hts hB hK hZ hname ls hl
  have hl : lv_has ls 1 [(0, .ref a)] := hl
  have hk := hB
  have hAZ : ∀ q, q = a → aZ z q := fun q e => e ▸ hz
  have hS : va_S (fun q => q = a) s.heap s.heap [] := va_S.rf

  refine lv_aload_n hx hb dJ1_init_0 rfl (lv_at hl 0 rfl) ?_
  refine c_read (va_runI (As := []) (rest := []) ⟨hx, hb, hml, hown, hts⟩ (met_J0_init l G a) (ci_J1_J0_init hts ⟨Nat.le_of_ble_eq_true rfl, Nat.le_of_ble_eq_true rfl⟩) (cP.pre hK trivial) rfl rfl hl.1 rfl (lv_room (Nat.le_of_ble_eq_true rfl)) dJ1_init_1 ⟨by first | exact Nat.zero_le _ | omega | decide, by first | exact Nat.zero_le _ | omega | decide⟩) ?_
  refine lv_aload_n hx hb dJ1_init_4 rfl (lv_at hl 0 rfl) ?_
  refine lv_iconst (v := nI 0) hx hb dJ1_init_5 (by decide) ?_
  refine p_put (own := RJ1) (C := RJ2) (T := TJ2) (N := 3) (ci := 15) (a := a) (fs := [.int (nI 0), .null, .int (nI 0)]) (ty := tyJ2 0) (v := .int (nI 0)) hx hb hts in_J2 tyJ2 tyJ2_ok nmJ2 hown hK hk rfl 0 (by decide) (hts _ q350) (fun _ h9 => h9) rfl (tyJ2_ok 0 (by decide)) rfl rfl (Nat.le_of_ble_eq_true rfl) dJ1_init_6 (fun H locs hk hz9 ho9 hl9 => ?_)
  replace hk : va_at (gD G) g_cl (a, .inr (15, [.int (nI 0), .null, .int (nI 0)])) H := hk
  replace hS := xS_put hS rfl hz9 ho9 hl9
  refine W_own (fun z1 z2 => ?_)
  exact t_vret hx hb hr hlocks ⟨rfl, hk, Nat.le_antisymm (by omega) hS.1, by omega⟩ hS dJ1_init_9
set_option maxHeartbeats 4000000 in
set_option maxRecDepth 100000 in
theorem met_J2_init (l : Launch) (G : gG) (κ : kK) (z : Nat) (a : Nat) (hz : z ≤ a) : Met l yJ2_init (ws_ yJ2_init cJ2_init 1 none) ({ frames := 3, cells := 0, slots := 0, locals := 80 } : Room) (cT G κ z [.ref a] (fun H => va_at (gD G) g_cl (a, .inr (15, [.int (nI 0), .null, .int (nI 0)])) H)) (tQ (fun ov H0 H1 => ov = none ∧ va_at (gD G) g_cl (a, .inr (15, [.int (nI 0), .ref (κ.2.2.2 3), .int (nI 0)])) H1 ∧ H1.size = H0.size ∧ hU H1 ≤ hU H0) (fun q => q = a)) 0 0 (fun q => q = a) := by
  refine t_startR (by decide) (Nat.le_of_ble_eq_true rfl) ?_
  intro p e s m below meth c hx hb hr hlocks hml hown hts hB hK hZ hname ls hl
  have hl : lv_has ls 1 [(0, .ref a)] := hl
  have hk := hB
  have hAZ : ∀ q, q = a → aZ z q := fun q e => e ▸ hz
  have hS : va_S (fun q => q = a) s.heap s.heap [] := va_S.rf

  refine lv_aload_n hx hb dJ2_init_0 rfl (lv_at hl 0 rfl) ?_
  refine t_callR (va_runI (As := []) (rest := []) ⟨hx, hb, hml, hown, hts⟩ (met_J1_init l G κ z a hz) (ci_J2_J1_init hts ⟨Nat.le_of_ble_eq_true rfl, Nat.le_of_ble_eq_true rfl⟩) (cT.pre hK hZ (xS_mono hS hAZ) hk) rfl rfl hl.1 rfl (lv_room (Nat.le_of_ble_eq_true rfl)) dJ2_init_1 ⟨by omega, by omega⟩) hS (fun q hq e => e) (fun q e => e) (fun v9 H locs hB9 hz9 hk9 hS => ?_)
  obtain ⟨rfl, hk, hq1, hq2⟩ := hB9
  refine lv_aload_n hx hb dJ2_init_4 rfl (lv_at hl 0 rfl) ?_
  refine va_gets (v := .ref (κ.2.2.2 3)) hx hb hZ.2.2.2.2.2.2.2.1.1 (xS_mono hS hAZ) hown (hts _ q346) (fun _ h9 => h9) dJ2_init_5 ?_
  refine p_put (own := RJ2) (C := RJ2) (T := TJ2) (N := 3) (ci := 15) (a := a) (fs := [.int (nI 0), .null, .int (nI 0)]) (ty := tyJ2 1) (v := .ref (κ.2.2.2 3)) hx hb hts in_J2 tyJ2 tyJ2_ok nmJ2 hown hK hk rfl 1 (by decide) (hts _ q348) (fun _ h9 => h9) rfl (tyJ2_ok 1 (by decide)) rfl rfl (Nat.le_of_ble_eq_true rfl) dJ2_init_8 (fun H locs hk hz9 ho9 hl9 => ?_)
  replace hk : va_at (gD G) g_cl (a, .inr (15, [.int (nI 0), .ref (κ.2.2.2 3), .int (nI 0)])) H := hk
  replace hS := xS_put hS rfl hz9 ho9 hl9
  refine W_own (fun z1 z2 => ?_)
  exact t_vret hx hb hr hlocks ⟨rfl, hk, Nat.le_antisymm (by omega) hS.1, by omega⟩ hS dJ2_init_11
