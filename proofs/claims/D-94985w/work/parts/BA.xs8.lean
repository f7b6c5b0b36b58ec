/-! want, number, opens; chains and texts (printed by gen/xs8.py) -/
theorem wst_b {tp : Nat → Nat} {s e : Nat} : ∀ n, n ≤ 25 → wst tp s e n ≤ 224 ∨ wst tp s e n = 302 := by
  intro n hn
  rcases wst_or (tp := tp) (s := s) (e := e) n with h | ⟨i, h1, h2, _⟩ <;> omega
theorem cst_b (tp : Nat → Nat) (t p : Nat) : cst tp t p ≤ 304 := by
  rcases cst_by tp t p with ⟨_, q⟩ | ⟨_, q⟩ | ⟨_, q, _⟩ | ⟨_, q⟩ | ⟨_, q⟩ | ⟨_, q⟩ | ⟨_, q⟩ | ⟨q, h9⟩
  all_goals try omega
  · rcases wst_b (tp := tp) (s := lxS tp t p) (e := lxQ tp t p) 25 (Nat.le_refl _) with h | h <;> omega
  · rw [sgn_i] at h9; omega
set_option maxHeartbeats 4000000 in
set_option maxRecDepth 100000 in
theorem met_X3_want (l : Launch) (G : gG) (κ : kK) (z : Nat) (tp : Nat → Nat) (Xb : Nat → Int32) (r ta t p0 o kd N0 : Nat) (x : Nat) (hXb : ∀ j, j < t → Xb j = sb (tp j) ∧ tp j < 256) (ht : t ≤ 300) (hp : p0 ≤ t) (hra : r ≠ ta) (hz : z ≤ r) (hzN : z ≤ N0) (hst : l.stackTraces = false) (hx9 : x < 400) : vq_Met l yX3_want (ws_ yX3_want cX3_want 2 none) ({ frames := 8, cells := 1, slots := 8, locals := 151 } : Room) (cT G κ z [.ref r, .int (nI x)] (fun H => tkP G r ta t Xb tp p0 o kd H ∧ H.size = N0)) (tQ (fun v H0 H1 => v = none ∧ cst tp t p0 = x ∧ tkP G r ta t Xb tp (lxQ tp t p0) o kd H1 ∧ H1.size = H0.size ∧ hU H1 ≤ hU H0) (fun q => q = r ∨ N0 ≤ q)) (tX (fun q9 H0 H1 => cst tp t p0 ≠ x ∧ XW G q9 (nI 1) (nI (lxS tp t p0)) H1) (fun q => q = r ∨ N0 ≤ q)) 1 8 (fun q => q = r ∨ N0 ≤ q) := by
  refine t_start (by decide) (Nat.le_of_ble_eq_true rfl) ?_
  intro p e s m below meth c hx hb hr hlocks hml hown hts hB hK hZ htab ls hl
  have hl : lv_has ls 2 [(0, .ref r), (1, .int (nI x))] := hl
  obtain ⟨⟨num, hnum, hk, htp⟩, hN⟩ := hB
  have hAZ : ∀ q, (q = r ∨ N0 ≤ q) → aZ z q := fun q e => show z ≤ q by rcases e with e | e <;> omega
  have hS : va_S (fun q => q = r ∨ N0 ≤ q) s.heap s.heap [] := va_S.rf
  have hrN := at_lt hk
  have htN := at_lt htp
  have hcb := cst_b tp t p0
  refine lv_aload_n hx hb dX3_want_0 rfl (lv_at hl 0 rfl) ?_
  refine a_get (own := RX3) (C := RX3) (T := TX3) (N := 8) (ci := 3) hx hb hts in_X3 hown hK hk rfl 4 (by decide) (hts _ q301) (fun _ h9 => h9) rfl dX3_want_1 ?_
  refine lv_iload_n hx hb dX3_want_4 rfl (lv_at hl 1 rfl) ?_
  refine n_icmp_eq (tgt := 14) hx hb dX3_want_5 (by decide) (by omega) (by omega) (fun hc => ?_) (fun hc => ?_)
  · refine lv_aload_n hx hb dX3_want_14 rfl (lv_at hl 0 rfl) ?_
    refine t_callR (va_runV (As := []) (rest := []) ⟨hx, hb, hml, hown, hts⟩ (met_X3_next l G κ z tp Xb r ta t (lxQ tp t p0) (nI (lxS tp t p0)) (nI (cst tp t p0)) num (nI o) (nI kd) hXb ht (lxQ_le hp) hra hz) (cv_X3_X3_next hts ⟨Nat.le_of_ble_eq_true rfl, Nat.le_of_ble_eq_true rfl⟩) (cT.preV hK hZ (xS_mono hS hAZ) ⟨hk, htp⟩ (a_recv (ci := 3) hK hk rfl)) rfl rfl hl.1 rfl (lv_room (Nat.le_of_ble_eq_true rfl)) dX3_want_15 ⟨Nat.le_of_ble_eq_true rfl, Nat.le_of_ble_eq_true rfl⟩) hS (fun q hq e => Or.inl e) (fun q e => Or.inl e) (fun v9 H locs hB9 hz9 hk9 hS => ?_)
    obtain ⟨rfl, num9, hnum, hk, htp⟩ := hB9
    refine W_own (fun z1 z2 => ?_)
    refine vq_ret ?_
    refine W.widen (k := 1) (n := 8) (by omega) (by omega) ?_
    exact t_vret hx hb hr hlocks ⟨rfl, hc, ⟨_, hnum, hk, htp⟩, Nat.le_antisymm (by omega) hS.1, by omega⟩ hS dX3_want_18
  refine lv_aload_n hx hb dX3_want_8 rfl (lv_at hl 0 rfl) ?_
  refine lv_iconst (v := nI 1) hx hb dX3_want_9 (by decide) ?_
  refine t_callR (va_runV (As := [.int (nI 1)]) (rest := []) ⟨hx, hb, hml, hown, hts⟩ (met_X3_wrong l G κ z Xb r ta t _ (nI 1) (nI (lxQ tp t p0)) (nI (lxS tp t p0)) (nI (cst tp t p0)) num (nI o) (nI kd) (Nat.le_trans hzN (Nat.le_trans (Nat.le_of_eq hN.symm) hS.1)) hst) (cv_X3_X3_wrong hts ⟨Nat.le_of_ble_eq_true rfl, Nat.le_of_ble_eq_true rfl⟩) (cT.preV hK hZ (xS_mono hS hAZ) ⟨⟨hk, htp⟩, rfl⟩ (a_recv (ci := 3) hK hk rfl)) rfl rfl hl.1 rfl (lv_room (Nat.le_of_ble_eq_true rfl)) dX3_want_10 ⟨Nat.le_of_ble_eq_true rfl, Nat.le_of_ble_eq_true rfl⟩) hS (fun q hq e => absurd hq (Nat.not_lt.mpr e)) (fun q e => Or.inr (Nat.le_trans (Nat.le_trans (Nat.le_of_eq hN.symm) hS.1) e)) (fun v9 H locs hB9 hz9 hk9 hS => ?_)
  obtain ⟨rfl, hwx, hwz, hwu⟩ := hB9
  replace hk := va_at.kept hk (hk9 _ (at_lt hk) (Nat.not_le.mpr (at_lt hk)))
  replace htp := va_at.kept htp (hk9 _ (at_lt htp) (Nat.not_le.mpr (at_lt htp)))
  refine vq_athrow hx hb dX3_want_13 ?_
  obtain ⟨fw, hwx⟩ := hwx
  exact t_outA htab hlocks hK hwx ⟨hc, fw, hwx⟩ hS (by omega) (by omega)
set_option maxHeartbeats 4000000 in
set_option maxRecDepth 100000 in
theorem met_X3_number (l : Launch) (G : gG) (κ : kK) (z : Nat) (tp : Nat → Nat) (Xb : Nat → Int32) (r ta t p0 o kd N0 : Nat) (lo hi : Nat) (hXb : ∀ j, j < t → Xb j = sb (tp j) ∧ tp j < 256) (ht : t ≤ 300) (hp : p0 ≤ t) (hra : r ≠ ta) (hz : z ≤ r) (hzN : z ≤ N0) (hst : l.stackTraces = false) (hlo : lo ≤ hi) (hhi : hi < 99999) : vq_Met l yX3_number (ws_ yX3_number cX3_number 4 (some .int)) ({ frames := 8, cells := 1, slots := 8, locals := 151 } : Room) (cT G κ z [.ref r, .int (nI lo), .int (nI hi)] (fun H => tkP G r ta t Xb tp p0 o kd H ∧ H.size = N0)) (tQ (fun v H0 H1 => v = some (.int (nI (lxN tp t p0))) ∧ lxT tp t p0 = 1 ∧ (lo ≤ lxN tp t p0 ∧ lxN tp t p0 ≤ hi) ∧ tkP G r ta t Xb tp (lxQ tp t p0) o kd H1 ∧ H1.size = H0.size ∧ hU H1 ≤ hU H0) (fun q => q = r ∨ N0 ≤ q)) (tX (fun q9 H0 H1 => (lxT tp t p0 ≠ 1 ∧ XW G q9 (nI 1) (nI (lxS tp t p0)) H1) ∨ (lxT tp t p0 = 1 ∧ (lxN tp t p0 < lo ∨ hi < lxN tp t p0) ∧ XW G q9 (nI 2) (nI (lxS tp t p0)) H1)) (fun q => q = r ∨ N0 ≤ q)) 1 8 (fun q => q = r ∨ N0 ≤ q) := by
  refine t_start (by decide) (Nat.le_of_ble_eq_true rfl) ?_
  intro p e s m below meth c hx hb hr hlocks hml hown hts hB hK hZ htab ls hl
  have hl : lv_has ls 4 [(0, .ref r), (1, .int (nI lo)), (2, .int (nI hi))] := hl
  obtain ⟨⟨num, hnum, hk, htp⟩, hN⟩ := hB
  have hAZ : ∀ q, (q = r ∨ N0 ≤ q) → aZ z q := fun q e => show z ≤ q by rcases e with e | e <;> omega
  have hS : va_S (fun q => q = r ∨ N0 ≤ q) s.heap s.heap [] := va_S.rf
  have hrN := at_lt hk
  have htN := at_lt htp
  have hcb := cst_b tp t p0
  refine lv_aload_n hx hb dX3_number_0 rfl (lv_at hl 0 rfl) ?_
  refine a_get (own := RX3) (C := RX3) (T := TX3) (N := 8) (ci := 3) hx hb hts in_X3 hown hK hk rfl 4 (by decide) (hts _ q301) (fun _ h9 => h9) rfl dX3_number_1 ?_
  refine lv_sipush (v := nI 300) hx hb dX3_number_4 (by decide) ?_
  refine n_icmp_eq (tgt := 16) hx hb dX3_number_7 (by decide) (by omega) (by omega) (fun hc => ?_) (fun hc => ?_)
  · obtain rfl := hnum (cst_1.mpr hc)
    refine lv_aload_n hx hb dX3_number_16 rfl (lv_at hl 0 rfl) ?_
    refine a_get (own := RX3) (C := RX3) (T := TX3) (N := 8) (ci := 3) hx hb hts in_X3 hown hK hk rfl 5 (by decide) (hts _ q302) (fun _ h9 => h9) rfl dX3_number_17 ?_
    refine lv_iload_n hx hb dX3_number_20 rfl (lv_at hl 1 rfl) ?_
    refine n_icmp_lt (tgt := 32) hx hb dX3_number_21 (by decide) (by omega) (by omega) (fun hlw => ?_) (fun hlw => ?_)
    · refine lv_aload_n hx hb dX3_number_32 rfl (lv_at hl 0 rfl) ?_
      refine lv_iconst (v := nI 2) hx hb dX3_number_33 (by decide) ?_
      refine t_callR (va_runV (As := [.int (nI 2)]) (rest := []) ⟨hx, hb, hml, hown, hts⟩ (met_X3_wrong l G κ z Xb r ta t _ (nI 2) (nI (lxQ tp t p0)) (nI (lxS tp t p0)) (nI (cst tp t p0)) (nI (min 99999 (lxN tp t p0))) (nI o) (nI kd) (Nat.le_trans hzN (Nat.le_trans (Nat.le_of_eq hN.symm) hS.1)) hst) (cv_X3_X3_wrong hts ⟨Nat.le_of_ble_eq_true rfl, Nat.le_of_ble_eq_true rfl⟩) (cT.preV hK hZ (xS_mono hS hAZ) ⟨⟨hk, htp⟩, rfl⟩ (a_recv (ci := 3) hK hk rfl)) rfl rfl hl.1 rfl (lv_room (Nat.le_of_ble_eq_true rfl)) dX3_number_34 ⟨Nat.le_of_ble_eq_true rfl, Nat.le_of_ble_eq_true rfl⟩) hS (fun q hq e => absurd hq (Nat.not_lt.mpr e)) (fun q e => Or.inr (Nat.le_trans (Nat.le_trans (Nat.le_of_eq hN.symm) hS.1) e)) (fun v9 H locs hB9 hz9 hk9 hS => ?_)
      obtain ⟨rfl, hwx, hwz, hwu⟩ := hB9
      replace hk := va_at.kept hk (hk9 _ (at_lt hk) (Nat.not_le.mpr (at_lt hk)))
      replace htp := va_at.kept htp (hk9 _ (at_lt htp) (Nat.not_le.mpr (at_lt htp)))
      refine vq_athrow hx hb dX3_number_37 ?_
      obtain ⟨fw, hwx⟩ := hwx
      exact t_outA htab hlocks hK hwx (Or.inr ⟨cst_1.mpr hc, Or.inl (by omega), fw, hwx⟩) hS (by omega) (by omega)
    refine lv_aload_n hx hb dX3_number_24 rfl (lv_at hl 0 rfl) ?_
    refine a_get (own := RX3) (C := RX3) (T := TX3) (N := 8) (ci := 3) hx hb hts in_X3 hown hK hk rfl 5 (by decide) (hts _ q302) (fun _ h9 => h9) rfl dX3_number_25 ?_
    refine lv_iload_n hx hb dX3_number_28 rfl (lv_at hl 2 rfl) ?_
    refine n_icmp_le (tgt := 38) hx hb dX3_number_29 (by decide) (by omega) (by omega) (fun hhg => ?_) (fun hhg => ?_)
    · refine lv_aload_n hx hb dX3_number_38 rfl (lv_at hl 0 rfl) ?_
      refine a_get (own := RX3) (C := RX3) (T := TX3) (N := 8) (ci := 3) hx hb hts in_X3 hown hK hk rfl 5 (by decide) (hts _ q302) (fun _ h9 => h9) rfl dX3_number_39 ?_
      refine lv_istore_n (lv' := [(3, .int (nI (min 99999 (lxN tp t p0)))), (0, .ref r), (1, .int (nI lo)), (2, .int (nI hi))]) hx hb dX3_number_42 rfl hl (by decide) rfl (fun ls hl => ?_)
      refine lv_aload_n hx hb dX3_number_43 rfl (lv_at hl 1 rfl) ?_
      refine t_callR (va_runV (As := []) (rest := []) ⟨hx, hb, hml, hown, hts⟩ (met_X3_next l G κ z tp Xb r ta t (lxQ tp t p0) (nI (lxS tp t p0)) (nI (cst tp t p0)) (nI (min 99999 (lxN tp t p0))) (nI o) (nI kd) hXb ht (lxQ_le hp) hra hz) (cv_X3_X3_next hts ⟨Nat.le_of_ble_eq_true rfl, Nat.le_of_ble_eq_true rfl⟩) (cT.preV hK hZ (xS_mono hS hAZ) ⟨hk, htp⟩ (a_recv (ci := 3) hK hk rfl)) rfl rfl hl.1 rfl (lv_room (Nat.le_of_ble_eq_true rfl)) dX3_number_44 ⟨Nat.le_of_ble_eq_true rfl, Nat.le_of_ble_eq_true rfl⟩) hS (fun q hq e => Or.inl e) (fun q e => Or.inl e) (fun v9 H locs hB9 hz9 hk9 hS => ?_)
      obtain ⟨rfl, num9, hnum, hk, htp⟩ := hB9
      refine lv_iload_n hx hb dX3_number_47 rfl (lv_at hl 0 rfl) ?_
      refine W_own (fun z1 z2 => ?_)
      rw [show min 99999 (lxN tp t p0) = lxN tp t p0 by omega]
      refine vq_ret ?_
      refine W.widen (k := 1) (n := 8) (by omega) (by omega) ?_
      exact t_iret hx hb hr rfl hlocks ⟨rfl, cst_1.mpr hc, ⟨by omega, by omega⟩, ⟨_, hnum, hk, htp⟩, Nat.le_antisymm (by omega) hS.1, by omega⟩ hS dX3_number_48
    refine lv_aload_n hx hb dX3_number_32 rfl (lv_at hl 0 rfl) ?_
    refine lv_iconst (v := nI 2) hx hb dX3_number_33 (by decide) ?_
    refine t_callR (va_runV (As := [.int (nI 2)]) (rest := []) ⟨hx, hb, hml, hown, hts⟩ (met_X3_wrong l G κ z Xb r ta t _ (nI 2) (nI (lxQ tp t p0)) (nI (lxS tp t p0)) (nI (cst tp t p0)) (nI (min 99999 (lxN tp t p0))) (nI o) (nI kd) (Nat.le_trans hzN (Nat.le_trans (Nat.le_of_eq hN.symm) hS.1)) hst) (cv_X3_X3_wrong hts ⟨Nat.le_of_ble_eq_true rfl, Nat.le_of_ble_eq_true rfl⟩) (cT.preV hK hZ (xS_mono hS hAZ) ⟨⟨hk, htp⟩, rfl⟩ (a_recv (ci := 3) hK hk rfl)) rfl rfl hl.1 rfl (lv_room (Nat.le_of_ble_eq_true rfl)) dX3_number_34 ⟨Nat.le_of_ble_eq_true rfl, Nat.le_of_ble_eq_true rfl⟩) hS (fun q hq e => absurd hq (Nat.not_lt.mpr e)) (fun q e => Or.inr (Nat.le_trans (Nat.le_trans (Nat.le_of_eq hN.symm) hS.1) e)) (fun v9 H locs hB9 hz9 hk9 hS => ?_)
    obtain ⟨rfl, hwx, hwz, hwu⟩ := hB9
    replace hk := va_at.kept hk (hk9 _ (at_lt hk) (Nat.not_le.mpr (at_lt hk)))
    replace htp := va_at.kept htp (hk9 _ (at_lt htp) (Nat.not_le.mpr (at_lt htp)))
    refine vq_athrow hx hb dX3_number_37 ?_
    obtain ⟨fw, hwx⟩ := hwx
    exact t_outA htab hlocks hK hwx (Or.inr ⟨cst_1.mpr hc, Or.inr (by omega), fw, hwx⟩) hS (by omega) (by omega)
  refine lv_aload_n hx hb dX3_number_10 rfl (lv_at hl 0 rfl) ?_
  refine lv_iconst (v := nI 1) hx hb dX3_number_11 (by decide) ?_
  refine t_callR (va_runV (As := [.int (nI 1)]) (rest := []) ⟨hx, hb, hml, hown, hts⟩ (met_X3_wrong l G κ z Xb r ta t _ (nI 1) (nI (lxQ tp t p0)) (nI (lxS tp t p0)) (nI (cst tp t p0)) num (nI o) (nI kd) (Nat.le_trans hzN (Nat.le_trans (Nat.le_of_eq hN.symm) hS.1)) hst) (cv_X3_X3_wrong hts ⟨Nat.le_of_ble_eq_true rfl, Nat.le_of_ble_eq_true rfl⟩) (cT.preV hK hZ (xS_mono hS hAZ) ⟨⟨hk, htp⟩, rfl⟩ (a_recv (ci := 3) hK hk rfl)) rfl rfl hl.1 rfl (lv_room (Nat.le_of_ble_eq_true rfl)) dX3_number_12 ⟨Nat.le_of_ble_eq_true rfl, Nat.le_of_ble_eq_true rfl⟩) hS (fun q hq e => absurd hq (Nat.not_lt.mpr e)) (fun q e => Or.inr (Nat.le_trans (Nat.le_trans (Nat.le_of_eq hN.symm) hS.1) e)) (fun v9 H locs hB9 hz9 hk9 hS => ?_)
  obtain ⟨rfl, hwx, hwz, hwu⟩ := hB9
  replace hk := va_at.kept hk (hk9 _ (at_lt hk) (Nat.not_le.mpr (at_lt hk)))
  replace htp := va_at.kept htp (hk9 _ (at_lt htp) (Nat.not_le.mpr (at_lt htp)))
  refine vq_athrow hx hb dX3_number_15 ?_
  obtain ⟨fw, hwx⟩ := hwx
  exact t_outA htab hlocks hK hwx (Or.inl ⟨fun h9 => hc (cst_1.mp h9), fw, hwx⟩) hS (by omega) (by omega)
set_option maxHeartbeats 4000000 in
set_option maxRecDepth 100000 in
theorem met_X3_opens (l : Launch) (G : gG) (κ : kK) (z : Nat) (tp : Nat → Nat) (Xb : Nat → Int32) (r ta t p0 o kd N0 : Nat) (hXb : ∀ j, j < t → Xb j = sb (tp j) ∧ tp j < 256) (ht : t ≤ 300) (hp : p0 ≤ t) (hra : r ≠ ta) (hz : z ≤ r) (hzN : z ≤ N0) (hst : l.stackTraces = false) (ho : o ≤ 8) : vq_Met l yX3_opens (ws_ yX3_opens cX3_opens 1 none) ({ frames := 8, cells := 1, slots := 8, locals := 151 } : Room) (cT G κ z [.ref r] (fun H => tkP G r ta t Xb tp p0 o kd H ∧ H.size = N0)) (tQ (fun v H0 H1 => v = none ∧ o < 8 ∧ tkP G r ta t Xb tp (lxQ tp t p0) (o + 1) kd H1 ∧ H1.size = H0.size ∧ hU H1 ≤ hU H0) (fun q => q = r ∨ N0 ≤ q)) (tX (fun q9 H0 H1 => o = 8 ∧ XW G q9 (nI 3) (nI (lxS tp t p0)) H1) (fun q => q = r ∨ N0 ≤ q)) 1 8 (fun q => q = r ∨ N0 ≤ q) := by
  refine t_start (by decide) (Nat.le_of_ble_eq_true rfl) ?_
  intro p e s m below meth c hx hb hr hlocks hml hown hts hB hK hZ htab ls hl
  have hl : lv_has ls 1 [(0, .ref r)] := hl
  obtain ⟨⟨num, hnum, hk, htp⟩, hN⟩ := hB
  have hAZ : ∀ q, (q = r ∨ N0 ≤ q) → aZ z q := fun q e => show z ≤ q by rcases e with e | e <;> omega
  have hS : va_S (fun q => q = r ∨ N0 ≤ q) s.heap s.heap [] := va_S.rf
  have hrN := at_lt hk
  have htN := at_lt htp
  have hcb := cst_b tp t p0
  refine lv_aload_n hx hb dX3_opens_0 rfl (lv_at hl 0 rfl) ?_
  refine a_get (own := RX3) (C := RX3) (T := TX3) (N := 8) (ci := 3) hx hb hts in_X3 hown hK hk rfl 6 (by decide) (hts _ q303) (fun _ h9 => h9) rfl dX3_opens_1 ?_
  refine lv_bipush (v := nI 8) hx hb dX3_opens_4 (by decide) ?_
  refine n_icmp_ne (tgt := 15) hx hb dX3_opens_6 (by decide) (by omega) (by omega) (fun hc => ?_) (fun hc => ?_)
  · refine lv_aload_n hx hb dX3_opens_15 rfl (lv_at hl 0 rfl) ?_
    refine lv_dup hx hb dX3_opens_16 rfl ?_
    refine a_get (own := RX3) (C := RX3) (T := TX3) (N := 8) (ci := 3) hx hb hts in_X3 hown hK hk rfl 6 (by decide) (hts _ q303) (fun _ h9 => h9) rfl dX3_opens_17 ?_
    refine lv_iconst (v := nI 1) hx hb dX3_opens_20 (by decide) ?_
    refine n_iadd hx hb dX3_opens_21 ?_
    refine p_put (own := RX3) (C := RX3) (T := TX3) (N := 8) (ci := 3) (a := r) (fs := [.ref ta, .int (nI t), .int (nI (lxQ tp t p0)), .int (nI (lxS tp t p0)), .int (nI (cst tp t p0)), .int num, .int (nI o), .int (nI kd)]) (ty := tyX3 6) (v := .int (nI (o + 1))) hx hb hts in_X3 tyX3 tyX3_ok nmX3 hown hK hk rfl 6 (by decide) (hts _ q303) (fun _ h9 => h9) rfl (tyX3_ok 6 (by decide)) rfl rfl (Nat.le_of_ble_eq_true rfl) dX3_opens_22 (fun H locs hk hz9 ho9 hl9 => ?_)
    replace hk : va_at (gD G) g_cl (r, .inr (3, [.ref ta, .int (nI t), .int (nI (lxQ tp t p0)), .int (nI (lxS tp t p0)), .int (nI (cst tp t p0)), .int num, .int (nI (o + 1)), .int (nI kd)])) H := hk
    replace htp := va_at.kept htp (ho9 _ (Ne.symm hra))
    replace hS := xS_put hS (Or.inl rfl) hz9 ho9 hl9
    refine lv_aload_n hx hb dX3_opens_25 rfl (lv_at hl 0 rfl) ?_
    refine t_callR (va_runV (As := []) (rest := []) ⟨hx, hb, hml, hown, hts⟩ (met_X3_next l G κ z tp Xb r ta t (lxQ tp t p0) (nI (lxS tp t p0)) (nI (cst tp t p0)) num (nI (o + 1)) (nI kd) hXb ht (lxQ_le hp) hra hz) (cv_X3_X3_next hts ⟨Nat.le_of_ble_eq_true rfl, Nat.le_of_ble_eq_true rfl⟩) (cT.preV hK hZ (xS_mono hS hAZ) ⟨hk, htp⟩ (a_recv (ci := 3) hK hk rfl)) rfl rfl hl.1 rfl (lv_room (Nat.le_of_ble_eq_true rfl)) dX3_opens_26 ⟨Nat.le_of_ble_eq_true rfl, Nat.le_of_ble_eq_true rfl⟩) hS (fun q hq e => Or.inl e) (fun q e => Or.inl e) (fun v9 H locs hB9 hz9 hk9 hS => ?_)
    obtain ⟨rfl, num9, hnum, hk, htp⟩ := hB9
    refine W_own (fun z1 z2 => ?_)
    refine vq_ret ?_
    refine W.widen (k := 1) (n := 8) (by omega) (by omega) ?_
    exact t_vret hx hb hr hlocks ⟨rfl, by omega, ⟨_, hnum, hk, htp⟩, Nat.le_antisymm (by omega) hS.1, by omega⟩ hS dX3_opens_29
  refine lv_aload_n hx hb dX3_opens_9 rfl (lv_at hl 0 rfl) ?_
  refine lv_iconst (v := nI 3) hx hb dX3_opens_10 (by decide) ?_
  refine t_callR (va_runV (As := [.int (nI 3)]) (rest := []) ⟨hx, hb, hml, hown, hts⟩ (met_X3_wrong l G κ z Xb r ta t _ (nI 3) (nI (lxQ tp t p0)) (nI (lxS tp t p0)) (nI (cst tp t p0)) num (nI o) (nI kd) (Nat.le_trans hzN (Nat.le_trans (Nat.le_of_eq hN.symm) hS.1)) hst) (cv_X3_X3_wrong hts ⟨Nat.le_of_ble_eq_true rfl, Nat.le_of_ble_eq_true rfl⟩) (cT.preV hK hZ (xS_mono hS hAZ) ⟨⟨hk, htp⟩, rfl⟩ (a_recv (ci := 3) hK hk rfl)) rfl rfl hl.1 rfl (lv_room (Nat.le_of_ble_eq_true rfl)) dX3_opens_11 ⟨Nat.le_of_ble_eq_true rfl, Nat.le_of_ble_eq_true rfl⟩) hS (fun q hq e => absurd hq (Nat.not_lt.mpr e)) (fun q e => Or.inr (Nat.le_trans (Nat.le_trans (Nat.le_of_eq hN.symm) hS.1) e)) (fun v9 H locs hB9 hz9 hk9 hS => ?_)
  obtain ⟨rfl, hwx, hwz, hwu⟩ := hB9
  replace hk := va_at.kept hk (hk9 _ (at_lt hk) (Nat.not_le.mpr (at_lt hk)))
  replace htp := va_at.kept htp (hk9 _ (at_lt htp) (Nat.not_le.mpr (at_lt htp)))
  refine vq_athrow hx hb dX3_opens_14 ?_
  obtain ⟨fw, hwx⟩ := hwx
  exact t_outA htab hlocks hK hwx ⟨hc, fw, hwx⟩ hS (by omega) (by omega)
