set_option maxHeartbeats 4000000 in
set_option maxRecDepth 100000 in
theorem met_X6_sort (l : Launch) (G : gG) (r : Nat) (v0 v1 v2 v3 v4 : Int32) : Met l yX6_sort (ws_ yX6_sort cX6_sort 1 (some .int)) ({ frames := 0, cells := 0, slots := 0, locals := 0 } : Room) (cP G [.ref r] (fun H => va_at (gD G) g_cl (r, .inr (6, [.int v0, .int v1, .int v2, .int v3, .int v4])) H)) (cR (some (.int v0))) 0 0 (fun _ => False) := by
  refine c_start (by decide) (Nat.le_of_ble_eq_true rfl) ?_
  intro p e s m below meth c hx hb hr hlocks hml hown hts hB hK ls hl
  have hl : lv_has ls 1 [(0, .ref r)] := hl
  refine lv_aload_n hx hb dX6_sort_0 rfl (lv_at hl 0 rfl) ?_
  refine a_get (own := RX6) (C := RX6) (T := TX6) (N := 5) (ci := 6) hx hb hts in_X6 hown hK hB rfl 0 (by decide) (hts _ q528) (fun _ h9 => h9) rfl dX6_sort_1 ?_
  exact c_rret (v := v0) rfl hx hb hr rfl hlocks dX6_sort_4 rfl rfl
set_option maxHeartbeats 4000000 in
set_option maxRecDepth 100000 in
theorem met_X6_a (l : Launch) (G : gG) (r : Nat) (v0 v1 v2 v3 v4 : Int32) : Met l yX6_a (ws_ yX6_a cX6_a 1 (some .int)) ({ frames := 0, cells := 0, slots := 0, locals := 0 } : Room) (cP G [.ref r] (fun H => va_at (gD G) g_cl (r, .inr (6, [.int v0, .int v1, .int v2, .int v3, .int v4])) H)) (cR (some (.int v1))) 0 0 (fun _ => False) := by
  refine c_start (by decide) (Nat.le_of_ble_eq_true rfl) ?_
  intro p e s m below meth c hx hb hr hlocks hml hown hts hB hK ls hl
  have hl : lv_has ls 1 [(0, .ref r)] := hl
  refine lv_aload_n hx hb dX6_a_0 rfl (lv_at hl 0 rfl) ?_
  refine a_get (own := RX6) (C := RX6) (T := TX6) (N := 5) (ci := 6) hx hb hts in_X6 hown hK hB rfl 1 (by decide) (hts _ q529) (fun _ h9 => h9) rfl dX6_a_1 ?_
  exact c_rret (v := v1) rfl hx hb hr rfl hlocks dX6_a_4 rfl rfl
set_option maxHeartbeats 4000000 in
set_option maxRecDepth 100000 in
theorem met_X6_b (l : Launch) (G : gG) (r : Nat) (v0 v1 v2 v3 v4 : Int32) : Met l yX6_b (ws_ yX6_b cX6_b 1 (some .int)) ({ frames := 0, cells := 0, slots := 0, locals := 0 } : Room) (cP G [.ref r] (fun H => va_at (gD G) g_cl (r, .inr (6, [.int v0, .int v1, .int v2, .int v3, .int v4])) H)) (cR (some (.int v2))) 0 0 (fun _ => False) := by
  refine c_start (by decide) (Nat.le_of_ble_eq_true rfl) ?_
  intro p e s m below meth c hx hb hr hlocks hml hown hts hB hK ls hl
  have hl : lv_has ls 1 [(0, .ref r)] := hl
  refine lv_aload_n hx hb dX6_b_0 rfl (lv_at hl 0 rfl) ?_
  refine a_get (own := RX6) (C := RX6) (T := TX6) (N := 5) (ci := 6) hx hb hts in_X6 hown hK hB rfl 2 (by decide) (hts _ q530) (fun _ h9 => h9) rfl dX6_b_1 ?_
  exact c_rret (v := v2) rfl hx hb hr rfl hlocks dX6_b_4 rfl rfl
set_option maxHeartbeats 4000000 in
set_option maxRecDepth 100000 in
theorem met_X6_n (l : Launch) (G : gG) (r : Nat) (v0 v1 v2 v3 v4 : Int32) : Met l yX6_n (ws_ yX6_n cX6_n 1 (some .int)) ({ frames := 0, cells := 0, slots := 0, locals := 0 } : Room) (cP G [.ref r] (fun H => va_at (gD G) g_cl (r, .inr (6, [.int v0, .int v1, .int v2, .int v3, .int v4])) H)) (cR (some (.int v3))) 0 0 (fun _ => False) := by
  refine c_start (by decide) (Nat.le_of_ble_eq_true rfl) ?_
  intro p e s m below meth c hx hb hr hlocks hml hown hts hB hK ls hl
  have hl : lv_has ls 1 [(0, .ref r)] := hl
  refine lv_aload_n hx hb dX6_n_0 rfl (lv_at hl 0 rfl) ?_
  refine a_get (own := RX6) (C := RX6) (T := TX6) (N := 5) (ci := 6) hx hb hts in_X6 hown hK hB rfl 3 (by decide) (hts _ q531) (fun _ h9 => h9) rfl dX6_n_1 ?_
  exact c_rret (v := v3) rfl hx hb hr rfl hlocks dX6_n_4 rfl rfl
set_option maxHeartbeats 4000000 in
set_option maxRecDepth 100000 in
theorem met_X6_number (l : Launch) (G : gG) (r : Nat) (v0 v1 v2 v3 v4 : Int32) : Met l yX6_number (ws_ yX6_number cX6_number 1 (some .int)) ({ frames := 0, cells := 0, slots := 0, locals := 0 } : Room) (cP G [.ref r] (fun H => va_at (gD G) g_cl (r, .inr (6, [.int v0, .int v1, .int v2, .int v3, .int v4])) H)) (cR (some (.int v4))) 0 0 (fun _ => False) := by
  refine c_start (by decide) (Nat.le_of_ble_eq_true rfl) ?_
  intro p e s m below meth c hx hb hr hlocks hml hown hts hB hK ls hl
  have hl : lv_has ls 1 [(0, .ref r)] := hl
  refine lv_aload_n hx hb dX6_number_0 rfl (lv_at hl 0 rfl) ?_
  refine a_get (own := RX6) (C := RX6) (T := TX6) (N := 5) (ci := 6) hx hb hts in_X6 hown hK hB rfl 4 (by decide) (hts _ q532) (fun _ h9 => h9) rfl dX6_number_1 ?_
  exact c_rret (v := v4) rfl hx hb hr rfl hlocks dX6_number_4 rfl rfl
