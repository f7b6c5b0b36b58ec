set_option maxRecDepth 100000 in
/-- an array of whole numbers onto another -/
theorem met_X1_copy (l : Launch) (G : gG) (a b n : Nat) (f g : Nat → Int32) (hab : a ≠ b) (hn : n < 2 ^ 31) : Met l yX1_copy (ws_ yX1_copy cX1_copy 2 none) ({ frames := 1, cells := 0, slots := 0, locals := 40 } : Room) (cP G [.ref a, .ref b] (fun H => va_at (gD G) g_cl (a, .inl (G.2.2 0, n, .inl f)) H ∧ va_at (gD G) g_cl (b, .inl (G.2.2 0, n, .inl g)) H)) (cQ none (va_at (gD G) g_cl (b, .inl (G.2.2 0, n, .inl f))) (fun q => q = b)) 0 0 (fun q => q = a ∨ q = b) := by
  refine c_start (by decide) (Nat.le_of_ble_eq_true rfl) ?_
  intro p e s m below meth c hx hb hr hlocks hml hown hts hB hK ls hl
  have hl : lv_has ls 2 [(0, .ref a), (1, .ref b)] := hl
  have hP : va_P (gD G) g_cl [(a, .inl (G.2.2 0, n, .inl f)), (b, .inl (G.2.2 0, n, .inl g))] s.heap := by
    intro k q hq
    match k, hq with
    | 0, hq => cases hq; exact hB.1
    | 1, hq => cases hq; exact hB.2
    | k + 2, hq => simp at hq
  have hD : va_D (fun q => q = a ∨ q = b) ([(a, .inl (G.2.2 0, n, .inl f)), (b, .inl (G.2.2 0, n, .inl g))] : va_W) := by
    refine ⟨fun i j p q hi hj e => ?_, fun k q hq => ?_⟩
    · match i, j, hi, hj with
      | 0, 0, _, _ => rfl
      | 1, 1, _, _ => rfl
      | 0, 1, hi, hj => cases hi; cases hj; exact absurd e hab
      | 1, 0, hi, hj => cases hi; cases hj; exact absurd e.symm hab
      | k + 2, _, hi, _ => simp at hi
      | _, k + 2, _, hj => simp at hj
    · match k, hq with
      | 0, hq => cases hq; exact Or.inl rfl
      | 1, hq => cases hq; exact Or.inr rfl
      | k + 2, hq => simp at hq
  refine lv_aload_n hx hb dX1_copy_0 rfl (lv_at hl 0 rfl) ?_
  refine lv_iconst (v := nI 0) hx hb dX1_copy_1 (by decide) ?_
  refine lv_aload_n hx hb dX1_copy_2 rfl (lv_at hl 1 rfl) ?_
  refine lv_iconst (v := nI 0) hx hb dX1_copy_3 (by decide) ?_
  refine lv_aload_n hx hb dX1_copy_4 rfl (lv_at hl 0 rfl) ?_
  refine va_alen (D := gD G) (v := nI n) hx hb hK.1 hP 0 0 rfl rfl rfl dX1_copy_5 ?_
  have c0 : (nI 0).toNatClampNeg = 0 := nI_clamp (by decide)
  have c1 : (nI n).toNatClampNeg = n := nI_clamp hn
  refine va_copyi (D := gD G) (f := f) (g := g) hx hb (hml.trans hl.1.symm) hown (hts _ q191) (hts _ q193) (hts _ q192) (hts _ q98) hK.1 hP hD va_S.rf 0 1 0 0 rfl rfl rfl rfl rfl (nI_pos (by decide)) (nI_pos (by decide)) (nI_pos hn) (by rw [c0, c1]; omega) (by rw [c0, c1]; omega) (fun i _ => rfl) (Nat.le_of_ble_eq_true rfl) (by decide) dX1_copy_6 (fun H1 locs1 hP1 hD1 hS1 => ?_)
  rw [c0, c1] at hP1
  have hat : va_at (gD G) g_cl (b, .inl (G.2.2 0, n, .inl (va_cpy f g 0 0 n))) H1 := hP1 1 _ rfl
  have hat2 : va_at (gD G) g_cl (a, .inl (G.2.2 0, n, .inl f)) H1 := hP1 0 _ rfl
  have e1 : vp_cell (G.2.2 0) (n, .inl (va_cpy f g 0 0 n)) = vp_cell (G.2.2 0) (n, .inl f) := by
    rw [vp_cell_i, vp_cell_i]
    unfold arrV
    congr 1
    apply Array.ext
    · simp
    · intro i h1 h2
      simp at h1
      simp [va_cpy, h1]
  refine W.vret hx hb hr (fun t ht _ => ⟨rfl, ?_, ?_⟩) hS1.2.2 dX1_copy_9 hlocks
  · rw [ht]
    show H1[b]? = some _
    exact Eq.trans hat (congrArg some e1)
  · refine ⟨by rw [ht]; exact hS1.1, fun q hq hne => ?_⟩
    rw [ht]
    by_cases h : q = a
    · subst h
      exact Eq.trans hat2 (Eq.symm hB.1)
    · exact hS1.2.1 q hq (fun z => z.elim h hne)
set_option maxHeartbeats 4000000 in
set_option maxRecDepth 100000 in
theorem met_X0_in (l : Launch) (G : gG) (v lo hi : Int32) : Met l yX0_in (ws_ yX0_in cX0_in 3 (some .boolean)) ({ frames := 0, cells := 0, slots := 0, locals := 0 } : Room) (cP G [.int v, .int lo, .int hi] (fun _ => True)) (cR (some (.int (bI (lo ≤ v ∧ v ≤ hi))))) 0 0 (fun _ => False) := by
  refine c_start (by decide) (Nat.le_of_ble_eq_true rfl) ?_
  intro p e s m below meth c hx hb hr hlocks hml hown hts hB hK ls hl
  have hl : lv_has ls 3 [(0, .int v), (1, .int lo), (2, .int hi)] := hl
  refine lv_iload_n hx hb dX0_in_0 rfl (lv_at hl 0 rfl) ?_
  refine lv_iload_n hx hb dX0_in_1 rfl (lv_at hl 1 rfl) ?_
  refine lv_icmp_lt (tgt := 14) hx hb dX0_in_2 (by decide) (fun c_1 => ?_) (fun c_1 => ?_)
  · refine lv_iconst (v := nI 0) hx hb dX0_in_14 (by decide) ?_
    exact c_rret (v := nI 0) ((bI_f (by simp [c_1, Int32.not_le.mpr c_1])).symm) hx hb hr rfl hlocks dX0_in_15 rfl rfl
  refine lv_iload_n hx hb dX0_in_5 rfl (lv_at hl 0 rfl) ?_
  refine lv_iload_n hx hb dX0_in_6 rfl (lv_at hl 2 rfl) ?_
  refine lv_icmp_gt (tgt := 14) hx hb dX0_in_7 (by decide) (fun c_2 => ?_) (fun c_2 => ?_)
  · refine lv_iconst (v := nI 0) hx hb dX0_in_14 (by decide) ?_
    exact c_rret (v := nI 0) ((bI_f (by simp [c_1, Int32.not_lt.mp c_1, c_2, Int32.not_le.mpr c_2])).symm) hx hb hr rfl hlocks dX0_in_15 rfl rfl
  refine lv_iconst (v := nI 1) hx hb dX0_in_10 (by decide) ?_
  refine lv_goto (tgt := 15) hx hb dX0_in_11 (by decide) ?_
  exact c_rret (v := nI 1) ((bI_t (by simp [c_1, Int32.not_lt.mp c_1, c_2, Int32.not_lt.mp c_2])).symm) hx hb hr rfl hlocks dX0_in_15 rfl rfl
set_option maxHeartbeats 4000000 in
set_option maxRecDepth 100000 in
theorem met_X0_isBlower (l : Launch) (G : gG) (ad : Nat → Nat) (sz : Nat) (X Z : Nat → Nat → Int32) (T : Nat → Nat → Option Nat) (b : Int32) (n : Nat) (en : X 52 0 = nI n) (hn : n < 2 ^ 31) : Met l yX0_isBlower (ws_ yX0_isBlower cX0_isBlower 2 (some .boolean)) ({ frames := 1, cells := 0, slots := 0, locals := 22 } : Room) (cP G [.ref (ad 0), .int b] (xH G ad X Z T sz)) (cR (some (.int (bI (vp_in b n))))) 0 0 (fun _ => False) := by
  refine c_start (by decide) (Nat.le_of_ble_eq_true rfl) ?_
  intro p e s m below meth c hx hb hr hlocks hml hown hts hB hK ls hl
  have hz := hB.2.2
  have hw := XS.of hB
  have hl : lv_has ls 2 [(0, .ref (ad 0)), (1, .int b)] := hl
  refine lv_iload_n hx hb dX0_isBlower_0 rfl (lv_at hl 1 rfl) ?_
  refine lv_iconst (v := nI 0) hx hb dX0_isBlower_1 (by decide) ?_
  refine lv_aload_n hx hb dX0_isBlower_2 rfl (lv_at hl 0 rfl) ?_
  refine x_g_now hx hb hts hown hK hw dX0_isBlower_3 ?_
  refine x_sX0_51_n hx hb hts hown hK hw dX0_isBlower_6 ?_
  refine lv_iconst (v := nI 0) hx hb dX0_isBlower_9 (by decide) ?_
  refine x_l (k := 52) (j := 0) (n := 7) (v := nI n) hx hb hK hw en (by decide) (by decide) dX0_isBlower_10 ?_
  refine lv_iconst (v := nI 1) hx hb dX0_isBlower_11 (by decide) ?_
  refine lv_isub hx hb dX0_isBlower_12 ?_
  refine c_read (va_runS (As := [.int b, .int (nI 0), .int ((nI n) - (nI 1))]) (rest := []) ⟨hx, hb, hml, hown, hts⟩ (met_X0_in l G b (nI 0) ((nI n) - (nI 1))) (cs_X0_X0_in hts ⟨Nat.le_of_ble_eq_true rfl, Nat.le_of_ble_eq_true rfl⟩) (cP.pre hK trivial) rfl rfl hl.1 rfl (lv_room (Nat.le_of_ble_eq_true rfl)) dX0_isBlower_13 ⟨by first | exact Nat.zero_le _ | omega | decide, by first | exact Nat.zero_le _ | omega | decide⟩) ?_
  exact c_rret (v := bI (nI 0 ≤ b ∧ b ≤ (nI n) - (nI 1))) (bI_congr (in_vp hn)) hx hb hr (bI_nar _) hlocks dX0_isBlower_16 rfl rfl
set_option maxHeartbeats 4000000 in
set_option maxRecDepth 100000 in
theorem met_X0_isKind (l : Launch) (G : gG) (ad : Nat → Nat) (sz : Nat) (X Z : Nat → Nat → Int32) (T : Nat → Nat → Option Nat) (b : Int32) (n : Nat) (en : X 52 1 = nI n) (hn : n < 2 ^ 31) : Met l yX0_isKind (ws_ yX0_isKind cX0_isKind 2 (some .boolean)) ({ frames := 1, cells := 0, slots := 0, locals := 22 } : Room) (cP G [.ref (ad 0), .int b] (xH G ad X Z T sz)) (cR (some (.int (bI (vp_in b n))))) 0 0 (fun _ => False) := by
  refine c_start (by decide) (Nat.le_of_ble_eq_true rfl) ?_
  intro p e s m below meth c hx hb hr hlocks hml hown hts hB hK ls hl
  have hz := hB.2.2
  have hw := XS.of hB
  have hl : lv_has ls 2 [(0, .ref (ad 0)), (1, .int b)] := hl
  refine lv_iload_n hx hb dX0_isKind_0 rfl (lv_at hl 1 rfl) ?_
  refine lv_iconst (v := nI 0) hx hb dX0_isKind_1 (by decide) ?_
  refine lv_aload_n hx hb dX0_isKind_2 rfl (lv_at hl 0 rfl) ?_
  refine x_g_now hx hb hts hown hK hw dX0_isKind_3 ?_
  refine x_sX0_51_n hx hb hts hown hK hw dX0_isKind_6 ?_
  refine lv_iconst (v := nI 1) hx hb dX0_isKind_9 (by decide) ?_
  refine x_l (k := 52) (j := 1) (n := 7) (v := nI n) hx hb hK hw en (by decide) (by decide) dX0_isKind_10 ?_
  refine lv_iconst (v := nI 1) hx hb dX0_isKind_11 (by decide) ?_
  refine lv_isub hx hb dX0_isKind_12 ?_
  refine c_read (va_runS (As := [.int b, .int (nI 0), .int ((nI n) - (nI 1))]) (rest := []) ⟨hx, hb, hml, hown, hts⟩ (met_X0_in l G b (nI 0) ((nI n) - (nI 1))) (cs_X0_X0_in hts ⟨Nat.le_of_ble_eq_true rfl, Nat.le_of_ble_eq_true rfl⟩) (cP.pre hK trivial) rfl rfl hl.1 rfl (lv_room (Nat.le_of_ble_eq_true rfl)) dX0_isKind_13 ⟨by first | exact Nat.zero_le _ | omega | decide, by first | exact Nat.zero_le _ | omega | decide⟩) ?_
  exact c_rret (v := bI (nI 0 ≤ b ∧ b ≤ (nI n) - (nI 1))) (bI_congr (in_vp hn)) hx hb hr (bI_nar _) hlocks dX0_isKind_16 rfl rfl
set_option maxHeartbeats 4000000 in
set_option maxRecDepth 100000 in
theorem met_X0_isPiece (l : Launch) (G : gG) (ad : Nat → Nat) (sz : Nat) (X Z : Nat → Nat → Int32) (T : Nat → Nat → Option Nat) (b : Int32) (n : Nat) (en : X 53 112 = nI n) (hn : n < 2 ^ 31) : Met l yX0_isPiece (ws_ yX0_isPiece cX0_isPiece 2 (some .boolean)) ({ frames := 1, cells := 0, slots := 0, locals := 22 } : Room) (cP G [.ref (ad 0), .int b] (xH G ad X Z T sz)) (cR (some (.int (bI (vp_in b n))))) 0 0 (fun _ => False) := by
  refine c_start (by decide) (Nat.le_of_ble_eq_true rfl) ?_
  intro p e s m below meth c hx hb hr hlocks hml hown hts hB hK ls hl
  have hz := hB.2.2
  have hw := XS.of hB
  have hl : lv_has ls 2 [(0, .ref (ad 0)), (1, .int b)] := hl
  refine lv_iload_n hx hb dX0_isPiece_0 rfl (lv_at hl 1 rfl) ?_
  refine lv_iconst (v := nI 0) hx hb dX0_isPiece_1 (by decide) ?_
  refine lv_aload_n hx hb dX0_isPiece_2 rfl (lv_at hl 0 rfl) ?_
  refine x_g_now hx hb hts hown hK hw dX0_isPiece_3 ?_
  refine x_sX0_51_row hx hb hts hown hK hw dX0_isPiece_6 ?_
  refine lv_bipush (v := nI 112) hx hb dX0_isPiece_9 (by decide) ?_
  refine x_l (k := 53) (j := 112) (n := 275) (v := nI n) hx hb hK hw en (by decide) (by decide) dX0_isPiece_11 ?_
  refine lv_iconst (v := nI 1) hx hb dX0_isPiece_12 (by decide) ?_
  refine lv_isub hx hb dX0_isPiece_13 ?_
  refine c_read (va_runS (As := [.int b, .int (nI 0), .int ((nI n) - (nI 1))]) (rest := []) ⟨hx, hb, hml, hown, hts⟩ (met_X0_in l G b (nI 0) ((nI n) - (nI 1))) (cs_X0_X0_in hts ⟨Nat.le_of_ble_eq_true rfl, Nat.le_of_ble_eq_true rfl⟩) (cP.pre hK trivial) rfl rfl hl.1 rfl (lv_room (Nat.le_of_ble_eq_true rfl)) dX0_isPiece_14 ⟨by first | exact Nat.zero_le _ | omega | decide, by first | exact Nat.zero_le _ | omega | decide⟩) ?_
  exact c_rret (v := bI (nI 0 ≤ b ∧ b ≤ (nI n) - (nI 1))) (bI_congr (in_vp hn)) hx hb hr (bI_nar _) hlocks dX0_isPiece_17 rfl rfl
set_option maxHeartbeats 4000000 in
set_option maxRecDepth 100000 in
theorem met_X0_isText (l : Launch) (G : gG) (ad : Nat → Nat) (sz : Nat) (X Z : Nat → Nat → Int32) (T : Nat → Nat → Option Nat) (b : Int32) (n : Nat) (en : X 52 2 = nI n) (hn : n < 2 ^ 31) : Met l yX0_isText (ws_ yX0_isText cX0_isText 2 (some .boolean)) ({ frames := 1, cells := 0, slots := 0, locals := 22 } : Room) (cP G [.ref (ad 0), .int b] (xH G ad X Z T sz)) (cR (some (.int (bI (vp_in b n))))) 0 0 (fun _ => False) := by
  refine c_start (by decide) (Nat.le_of_ble_eq_true rfl) ?_
  intro p e s m below meth c hx hb hr hlocks hml hown hts hB hK ls hl
  have hz := hB.2.2
  have hw := XS.of hB
  have hl : lv_has ls 2 [(0, .ref (ad 0)), (1, .int b)] := hl
  refine lv_iload_n hx hb dX0_isText_0 rfl (lv_at hl 1 rfl) ?_
  refine lv_iconst (v := nI 0) hx hb dX0_isText_1 (by decide) ?_
  refine lv_aload_n hx hb dX0_isText_2 rfl (lv_at hl 0 rfl) ?_
  refine x_g_now hx hb hts hown hK hw dX0_isText_3 ?_
  refine x_sX0_51_n hx hb hts hown hK hw dX0_isText_6 ?_
  refine lv_iconst (v := nI 2) hx hb dX0_isText_9 (by decide) ?_
  refine x_l (k := 52) (j := 2) (n := 7) (v := nI n) hx hb hK hw en (by decide) (by decide) dX0_isText_10 ?_
  refine lv_iconst (v := nI 1) hx hb dX0_isText_11 (by decide) ?_
  refine lv_isub hx hb dX0_isText_12 ?_
  refine c_read (va_runS (As := [.int b, .int (nI 0), .int ((nI n) - (nI 1))]) (rest := []) ⟨hx, hb, hml, hown, hts⟩ (met_X0_in l G b (nI 0) ((nI n) - (nI 1))) (cs_X0_X0_in hts ⟨Nat.le_of_ble_eq_true rfl, Nat.le_of_ble_eq_true rfl⟩) (cP.pre hK trivial) rfl rfl hl.1 rfl (lv_room (Nat.le_of_ble_eq_true rfl)) dX0_isText_13 ⟨by first | exact Nat.zero_le _ | omega | decide, by first | exact Nat.zero_le _ | omega | decide⟩) ?_
  exact c_rret (v := bI (nI 0 ≤ b ∧ b ≤ (nI n) - (nI 1))) (bI_congr (in_vp hn)) hx hb hr (bI_nar _) hlocks dX0_isText_16 rfl rfl
set_option maxHeartbeats 4000000 in
set_option maxRecDepth 100000 in
theorem met_X0_at (l : Launch) (G : gG) (q w : Nat) : Met l yX0_at (ws_ yX0_at cX0_at 2 (some .int)) ({ frames := 0, cells := 0, slots := 0, locals := 0 } : Room) (cP G [.int (nI q), .int (nI w)] (fun _ => True)) (cR (some (.int (nI (12 + 10 * q + w))))) 0 0 (fun _ => False) := by
  refine c_start (by decide) (Nat.le_of_ble_eq_true rfl) ?_
  intro p e s m below meth c hx hb hr hlocks hml hown hts hB hK ls hl
  have hl : lv_has ls 2 [(0, .int (nI q)), (1, .int (nI w))] := hl
  refine lv_bipush (v := nI 12) hx hb dX0_at_0 (by decide) ?_
  refine lv_bipush (v := nI 10) hx hb dX0_at_2 (by decide) ?_
  refine lv_iload_n hx hb dX0_at_4 rfl (lv_at hl 0 rfl) ?_
  refine n_imul hx hb dX0_at_5 ?_
  refine n_iadd hx hb dX0_at_6 ?_
  refine lv_iload_n hx hb dX0_at_7 rfl (lv_at hl 1 rfl) ?_
  refine n_iadd hx hb dX0_at_8 ?_
  exact c_rret (v := nI (12 + 10 * q + w)) (by first | rfl | simp [pif_true, pif_false]) hx hb hr rfl hlocks dX0_at_9 rfl rfl
set_option maxHeartbeats 4000000 in
set_option maxRecDepth 100000 in
theorem met_X0_ofPiece (l : Launch) (G : gG) (ad : Nat → Nat) (sz : Nat) (X Z : Nat → Nat → Int32) (T : Nat → Nat → Option Nat) (q w : Nat) (v : Int32) (h : 12 + 10 * q + w < 275) (hv : X 53 (12 + 10 * q + w) = v) : Met l yX0_ofPiece (ws_ yX0_ofPiece cX0_ofPiece 3 (some .int)) ({ frames := 1, cells := 0, slots := 0, locals := 21 } : Room) (cP G [.ref (ad 0), .int (nI q), .int (nI w)] (xH G ad X Z T sz)) (cR (some (.int v))) 0 0 (fun _ => False) := by
  refine c_start (by decide) (Nat.le_of_ble_eq_true rfl) ?_
  intro p e s m below meth c hx hb hr hlocks hml hown hts hB hK ls hl
  have hz := hB.2.2
  have hw := XS.of hB
  have hl : lv_has ls 3 [(0, .ref (ad 0)), (1, .int (nI q)), (2, .int (nI w))] := hl
  refine lv_aload_n hx hb dX0_ofPiece_0 rfl (lv_at hl 0 rfl) ?_
  refine x_g_now hx hb hts hown hK hw dX0_ofPiece_1 ?_
  refine x_sX0_51_row hx hb hts hown hK hw dX0_ofPiece_4 ?_
  refine lv_iload_n hx hb dX0_ofPiece_7 rfl (lv_at hl 1 rfl) ?_
  refine lv_iload_n hx hb dX0_ofPiece_8 rfl (lv_at hl 2 rfl) ?_
  refine c_read (va_runS (As := [.int (nI q), .int (nI w)]) (rest := [.ref (ad 53)]) ⟨hx, hb, hml, hown, hts⟩ (met_X0_at l G q w) (cs_X0_X0_at hts ⟨Nat.le_of_ble_eq_true rfl, Nat.le_of_ble_eq_true rfl⟩) (cP.pre hK trivial) rfl rfl hl.1 rfl (lv_room (Nat.le_of_ble_eq_true rfl)) dX0_ofPiece_9 ⟨by first | exact Nat.zero_le _ | omega | decide, by first | exact Nat.zero_le _ | omega | decide⟩) ?_
  refine x_l (k := 53) (j := 12 + 10 * q + w) (n := 275) (v := v) hx hb hK hw hv (by decide) (by omega) dX0_ofPiece_12 ?_
  exact c_rret (v := v) (by first | rfl | simp [pif_true, pif_false]) hx hb hr rfl hlocks dX0_ofPiece_13 rfl rfl
set_option maxHeartbeats 4000000 in
set_option maxRecDepth 100000 in
theorem met_X0_hour (l : Launch) (G : gG) (ad : Nat → Nat) (sz : Nat) (X Z : Nat → Nat → Int32) (T : Nat → Nat → Option Nat) (v : Int32) (hv : X 53 113 = v) : Met l yX0_hour (ws_ yX0_hour cX0_hour 1 (some .int)) ({ frames := 0, cells := 0, slots := 0, locals := 0 } : Room) (cP G [.ref (ad 0)] (xH G ad X Z T sz)) (cR (some (.int v))) 0 0 (fun _ => False) := by
  refine c_start (by decide) (Nat.le_of_ble_eq_true rfl) ?_
  intro p e s m below meth c hx hb hr hlocks hml hown hts hB hK ls hl
  have hz := hB.2.2
  have hw := XS.of hB
  have hl : lv_has ls 1 [(0, .ref (ad 0))] := hl
  refine lv_aload_n hx hb dX0_hour_0 rfl (lv_at hl 0 rfl) ?_
  refine x_g_now hx hb hts hown hK hw dX0_hour_1 ?_
  refine x_sX0_51_row hx hb hts hown hK hw dX0_hour_4 ?_
  refine lv_bipush (v := nI 113) hx hb dX0_hour_7 (by decide) ?_
  refine x_l (k := 53) (j := 113) (n := 275) (v := v) hx hb hK hw hv (by decide) (by decide) dX0_hour_9 ?_
  exact c_rret (v := v) (by first | rfl | simp [pif_true, pif_false]) hx hb hr rfl hlocks dX0_hour_10 rfl rfl
set_option maxHeartbeats 4000000 in
set_option maxRecDepth 100000 in
theorem met_X0_fault (l : Launch) (G : gG) (ad : Nat → Nat) (sz : Nat) (X Z : Nat → Nat → Int32) (T : Nat → Nat → Option Nat) (x : Int32) : Met l yX0_fault (ws_ yX0_fault cX0_fault 2 (some .int)) ({ frames := 0, cells := 0, slots := 0, locals := 0 } : Room) (cP G [.ref (ad 0), .int x] (xH G ad X Z T sz)) (cR (some (.int (pif (x = 0) (X 0 4) (pif (x = nI 1) (X 0 5) (-1)))))) 0 0 (fun _ => False) := by
  refine c_start (by decide) (Nat.le_of_ble_eq_true rfl) ?_
  intro p e s m below meth c hx hb hr hlocks hml hown hts hB hK ls hl
  have hz := hB.2.2
  have hw := XS.of hB
  have hl : lv_has ls 2 [(0, .ref (ad 0)), (1, .int x)] := hl
  refine lv_iload_n hx hb dX0_fault_0 rfl (lv_at hl 1 rfl) ?_
  refine lv_if_ne (tgt := 11) hx hb dX0_fault_1 (by decide) (fun c_1 => ?_) (fun c_1 => ?_)
  · refine lv_iload_n hx hb dX0_fault_11 rfl (lv_at hl 1 rfl) ?_
    refine lv_iconst (v := nI 1) hx hb dX0_fault_12 (by decide) ?_
    refine lv_icmp_ne (tgt := 23) hx hb dX0_fault_13 (by decide) (fun c_2 => ?_) (fun c_2 => ?_)
    · refine lv_iconst (v := (-1)) hx hb dX0_fault_23 (by decide) ?_
      exact c_rret (v := (-1)) (by first | rfl | (rw [pif_t (by assumption)]) | (rw [pif_f (by assumption), pif_t (by assumption)]) | (rw [pif_f (by assumption), pif_f (by assumption)])) hx hb hr rfl hlocks dX0_fault_24 rfl rfl
    refine lv_aload_n hx hb dX0_fault_16 rfl (lv_at hl 0 rfl) ?_
    refine x_g_faultAt hx hb hts hown hK hw dX0_fault_17 ?_
    refine lv_goto (tgt := 24) hx hb dX0_fault_20 (by decide) ?_
    exact c_rret (v := X 0 5) (by first | rfl | (rw [pif_t (by assumption)]) | (rw [pif_f (by assumption), pif_t (by assumption)]) | (rw [pif_f (by assumption), pif_f (by assumption)])) hx hb hr rfl hlocks dX0_fault_24 rfl rfl
  refine lv_aload_n hx hb dX0_fault_4 rfl (lv_at hl 0 rfl) ?_
  refine x_g_fault hx hb hts hown hK hw dX0_fault_5 ?_
  refine lv_goto (tgt := 24) hx hb dX0_fault_8 (by decide) ?_
  exact c_rret (v := X 0 4) (by first | rfl | (rw [pif_t (by assumption)]) | (rw [pif_f (by assumption), pif_t (by assumption)]) | (rw [pif_f (by assumption), pif_f (by assumption)])) hx hb hr rfl hlocks dX0_fault_24 rfl rfl
set_option maxHeartbeats 4000000 in
set_option maxRecDepth 100000 in
theorem met_X0_end (l : Launch) (G : gG) (ad : Nat → Nat) (sz : Nat) (X Z : Nat → Nat → Int32) (T : Nat → Nat → Option Nat) (x : Int32) (t : Nat) (et : X 0 3 = nI t) : Met l yX0_end (ws_ yX0_end cX0_end 2 (some .int)) ({ frames := 1, cells := 0, slots := 0, locals := 22 } : Room) (cP G [.ref (ad 0), .int x] (xH G ad X Z T sz)) (cQ (some (.int (pif (nI 0 ≤ x ∧ x ≤ nI t) x (-1)))) (xH G ad (pif (nI 0 ≤ x ∧ x ≤ nI t) (up2 X 0 3 x) X) Z T sz) (xA ad sz)) 0 0 (xA ad sz) := by
  refine c_start (by decide) (Nat.le_of_ble_eq_true rfl) ?_
  intro p e s m below meth c hx hb hr hlocks hml hown hts hB hK ls hl
  have hz := hB.2.2
  have hw := XS.of hB
  have hl : lv_has ls 2 [(0, .ref (ad 0)), (1, .int x)] := hl
  refine lv_iload_n hx hb dX0_end_0 rfl (lv_at hl 1 rfl) ?_
  refine lv_iconst (v := nI 0) hx hb dX0_end_1 (by decide) ?_
  refine lv_aload_n hx hb dX0_end_2 rfl (lv_at hl 0 rfl) ?_
  refine x_g_taped hx hb hts hown hK hw dX0_end_3 ?_
  rw [show X 0 3 = nI t from et]
  refine c_read (va_runS (As := [.int x, .int (nI 0), .int (nI t)]) (rest := []) ⟨hx, hb, hml, hown, hts⟩ (met_X0_in l G x (nI 0) (nI t)) (cs_X0_X0_in hts ⟨Nat.le_of_ble_eq_true rfl, Nat.le_of_ble_eq_true rfl⟩) (cP.pre hK trivial) rfl rfl hl.1 rfl (lv_room (Nat.le_of_ble_eq_true rfl)) dX0_end_6 ⟨by first | exact Nat.zero_le _ | omega | decide, by first | exact Nat.zero_le _ | omega | decide⟩) ?_
  refine b_if_ne (tgt := 14) hx hb dX0_end_9 (by decide) (fun c_1 => ?_) (fun c_1 => ?_)
  · refine lv_aload_n hx hb dX0_end_14 rfl (lv_at hl 0 rfl) ?_
    refine lv_iload_n hx hb dX0_end_15 rfl (lv_at hl 1 rfl) ?_
    refine x_p_taped hx hb hts hown hK hw dX0_end_16 (fun H locs hw => ?_)
    refine lv_iload_n hx hb dX0_end_19 rfl (lv_at hl 1 rfl) ?_
    exact c_iret (v := x) (by first | rfl | simp [c_1, pif_true, pif_false]) hx hb hr rfl hlocks (xH.to (by first | rfl | simp [c_1, pif_true, pif_false]) rfl rfl hw.1) hw.2.1 dX0_end_20
  refine lv_iconst (v := (-1)) hx hb dX0_end_12 (by decide) ?_
  exact c_iret (v := (-1)) (by first | rfl | simp [c_1, pif_true, pif_false]) hx hb hr rfl hlocks (xH.to (by first | rfl | simp [c_1, pif_true, pif_false]) rfl rfl hw.1) hw.2.1 dX0_end_13
def xByte (v : Int32) (k : Nat) : Int32 := (v >>> (nI k &&& 31)).toInt8.toInt32
def xFour (X : Nat → Nat → Int32) (t : Nat) (v : Int32) : Nat → Nat → Int32 := up2 (up2 (up2 (up2 (up2 (up2 (up2 (up2 X 1 t (xByte v 24)) 0 3 (nI (t + 1))) 1 (t + 1) (xByte v 16)) 0 3 (nI (t + 2))) 1 (t + 2) (xByte v 8)) 0 3 (nI (t + 3))) 1 (t + 3) (xByte v 0)) 0 3 (nI (t + 4))
theorem xFour_3 {X : Nat → Nat → Int32} {t : Nat} {v : Int32} : xFour X t v 0 3 = nI (t + 4) := up2_at
def xFeed (X : Nat → Nat → Int32) (t : Nat) (a b c d e : Int32) : Nat → Nat → Int32 := xFour (xFour (xFour (xFour (xFour X t a) (t + 4) b) (t + 8) c) (t + 12) d) (t + 16) e
set_option maxHeartbeats 4000000 in
set_option maxRecDepth 100000 in
theorem met_X0_put (l : Launch) (G : gG) (ad : Nat → Nat) (sz : Nat) (X Z : Nat → Nat → Int32) (T : Nat → Nat → Option Nat) (v : Int32) (t : Nat) (et : X 0 3 = nI t) (ht : t + 4 ≤ 300) : Met l yX0_put (ws_ yX0_put cX0_put 3 none) ({ frames := 0, cells := 0, slots := 0, locals := 0 } : Room) (cP G [.ref (ad 0), .int v] (xH G ad X Z T sz)) (cQ none (xH G ad (xFour X t v) Z T sz) (xA ad sz)) 0 0 (xA ad sz) := by
  refine c_start (by decide) (Nat.le_of_ble_eq_true rfl) ?_
  intro p e s m below meth c hx hb hr hlocks hml hown hts hB hK ls hl
  have hz := hB.2.2
  have hw := XS.of hB
  have hl : lv_has ls 3 [(0, .ref (ad 0)), (1, .int v)] := hl
  refine lv_bipush (v := nI 24) hx hb dX0_put_0 (by decide) ?_
  refine lv_istore_n (lv' := [(2, .int (nI 24)), (0, .ref (ad 0)), (1, .int v)]) hx hb dX0_put_2 rfl hl (by decide) rfl (fun ls hl => ?_)
  refine lv_iload_n hx hb dX0_put_3 rfl (lv_at hl 0 rfl) ?_
  refine n_if_lt (tgt := 36) hx hb dX0_put_4 (by decide) (by decide) ?_
  refine lv_aload_n hx hb dX0_put_7 rfl (lv_at hl 1 rfl) ?_
  refine x_g_tape hx hb hts hown hK hw dX0_put_8 ?_
  refine lv_aload_n hx hb dX0_put_11 rfl (lv_at hl 1 rfl) ?_
  refine x_g_taped hx hb hts hown hK hw dX0_put_12 ?_
  rw [show X 0 3 = nI t from et]
  refine lv_iload_n hx hb dX0_put_15 rfl (lv_at hl 2 rfl) ?_
  refine lv_iload_n hx hb dX0_put_16 rfl (lv_at hl 0 rfl) ?_
  refine lv_ishr hx hb dX0_put_17 ?_
  refine lv_i2b (v := (v >>> ((nI 24) &&& 31)).toInt8.toInt32) hx hb dX0_put_18 rfl ?_
  refine x_st (j := t) hx hb hK hw (pk_vb _) (by omega) dX0_put_19 (fun H locs hw => ?_)
  refine lv_aload_n hx hb dX0_put_20 rfl (lv_at hl 1 rfl) ?_
  refine lv_dup hx hb dX0_put_21 rfl ?_
  refine x_g_taped hx hb hts hown hK hw dX0_put_22 ?_
  rw [show (up2 X 1 t ((v >>> ((nI 24) &&& 31)).toInt8.toInt32)) 0 3 = nI t from (up2_ne (Or.inl (by decide))).trans et]
  refine lv_iconst (v := nI 1) hx hb dX0_put_25 (by decide) ?_
  refine n_iadd hx hb dX0_put_26 ?_
  refine x_p_taped hx hb hts hown hK hw dX0_put_27 (fun H locs hw => ?_)
  refine lv_iinc (v := nI 16) (lv' := [(2, .int (nI 16)), (0, .ref (ad 0)), (1, .int v)]) hx hb dX0_put_30 hl (k := 0) rfl (by decide) (by decide) rfl (fun ls hl => ?_)
  refine lv_goto (tgt := 3) hx hb dX0_put_33 (by decide) ?_
  refine lv_iload_n hx hb dX0_put_3 rfl (lv_at hl 0 rfl) ?_
  refine n_if_lt (tgt := 36) hx hb dX0_put_4 (by decide) (by decide) ?_
  refine lv_aload_n hx hb dX0_put_7 rfl (lv_at hl 1 rfl) ?_
  refine x_g_tape hx hb hts hown hK hw dX0_put_8 ?_
  refine lv_aload_n hx hb dX0_put_11 rfl (lv_at hl 1 rfl) ?_
  refine x_g_taped hx hb hts hown hK hw dX0_put_12 ?_
  rw [show (up2 (up2 X 1 t ((v >>> ((nI 24) &&& 31)).toInt8.toInt32)) 0 3 (nI (t + 1))) 0 3 = nI (t + 1) from up2_at]
  refine lv_iload_n hx hb dX0_put_15 rfl (lv_at hl 2 rfl) ?_
  refine lv_iload_n hx hb dX0_put_16 rfl (lv_at hl 0 rfl) ?_
  refine lv_ishr hx hb dX0_put_17 ?_
  refine lv_i2b (v := (v >>> ((nI 16) &&& 31)).toInt8.toInt32) hx hb dX0_put_18 rfl ?_
  refine x_st (j := t + 1) hx hb hK hw (pk_vb _) (by omega) dX0_put_19 (fun H locs hw => ?_)
  refine lv_aload_n hx hb dX0_put_20 rfl (lv_at hl 1 rfl) ?_
  refine lv_dup hx hb dX0_put_21 rfl ?_
  refine x_g_taped hx hb hts hown hK hw dX0_put_22 ?_
  rw [show (up2 (up2 (up2 X 1 t ((v >>> ((nI 24) &&& 31)).toInt8.toInt32)) 0 3 (nI (t + 1))) 1 (t + 1) ((v >>> ((nI 16) &&& 31)).toInt8.toInt32)) 0 3 = nI (t + 1) from (up2_ne (Or.inl (by decide))).trans up2_at]
  refine lv_iconst (v := nI 1) hx hb dX0_put_25 (by decide) ?_
  refine n_iadd hx hb dX0_put_26 ?_
  refine x_p_taped hx hb hts hown hK hw dX0_put_27 (fun H locs hw => ?_)
  refine lv_iinc (v := nI 8) (lv' := [(2, .int (nI 8)), (0, .ref (ad 0)), (1, .int v)]) hx hb dX0_put_30 hl (k := 0) rfl (by decide) (by decide) rfl (fun ls hl => ?_)
  refine lv_goto (tgt := 3) hx hb dX0_put_33 (by decide) ?_
  refine lv_iload_n hx hb dX0_put_3 rfl (lv_at hl 0 rfl) ?_
  refine n_if_lt (tgt := 36) hx hb dX0_put_4 (by decide) (by decide) ?_
  refine lv_aload_n hx hb dX0_put_7 rfl (lv_at hl 1 rfl) ?_
  refine x_g_tape hx hb hts hown hK hw dX0_put_8 ?_
  refine lv_aload_n hx hb dX0_put_11 rfl (lv_at hl 1 rfl) ?_
  refine x_g_taped hx hb hts hown hK hw dX0_put_12 ?_
  rw [show (up2 (up2 (up2 (up2 X 1 t ((v >>> ((nI 24) &&& 31)).toInt8.toInt32)) 0 3 (nI (t + 1))) 1 (t + 1) ((v >>> ((nI 16) &&& 31)).toInt8.toInt32)) 0 3 (nI (t + 2))) 0 3 = nI (t + 2) from up2_at]
  refine lv_iload_n hx hb dX0_put_15 rfl (lv_at hl 2 rfl) ?_
  refine lv_iload_n hx hb dX0_put_16 rfl (lv_at hl 0 rfl) ?_
  refine lv_ishr hx hb dX0_put_17 ?_
  refine lv_i2b (v := (v >>> ((nI 8) &&& 31)).toInt8.toInt32) hx hb dX0_put_18 rfl ?_
  refine x_st (j := t + 2) hx hb hK hw (pk_vb _) (by omega) dX0_put_19 (fun H locs hw => ?_)
  refine lv_aload_n hx hb dX0_put_20 rfl (lv_at hl 1 rfl) ?_
  refine lv_dup hx hb dX0_put_21 rfl ?_
  refine x_g_taped hx hb hts hown hK hw dX0_put_22 ?_
  rw [show (up2 (up2 (up2 (up2 (up2 X 1 t ((v >>> ((nI 24) &&& 31)).toInt8.toInt32)) 0 3 (nI (t + 1))) 1 (t + 1) ((v >>> ((nI 16) &&& 31)).toInt8.toInt32)) 0 3 (nI (t + 2))) 1 (t + 2) ((v >>> ((nI 8) &&& 31)).toInt8.toInt32)) 0 3 = nI (t + 2) from (up2_ne (Or.inl (by decide))).trans up2_at]
  refine lv_iconst (v := nI 1) hx hb dX0_put_25 (by decide) ?_
  refine n_iadd hx hb dX0_put_26 ?_
  refine x_p_taped hx hb hts hown hK hw dX0_put_27 (fun H locs hw => ?_)
  refine lv_iinc (v := nI 0) (lv' := [(2, .int (nI 0)), (0, .ref (ad 0)), (1, .int v)]) hx hb dX0_put_30 hl (k := 0) rfl (by decide) (by decide) rfl (fun ls hl => ?_)
  refine lv_goto (tgt := 3) hx hb dX0_put_33 (by decide) ?_
  refine lv_iload_n hx hb dX0_put_3 rfl (lv_at hl 0 rfl) ?_
  refine n_if_lt (tgt := 36) hx hb dX0_put_4 (by decide) (by decide) ?_
  refine lv_aload_n hx hb dX0_put_7 rfl (lv_at hl 1 rfl) ?_
  refine x_g_tape hx hb hts hown hK hw dX0_put_8 ?_
  refine lv_aload_n hx hb dX0_put_11 rfl (lv_at hl 1 rfl) ?_
  refine x_g_taped hx hb hts hown hK hw dX0_put_12 ?_
  rw [show (up2 (up2 (up2 (up2 (up2 (up2 X 1 t ((v >>> ((nI 24) &&& 31)).toInt8.toInt32)) 0 3 (nI (t + 1))) 1 (t + 1) ((v >>> ((nI 16) &&& 31)).toInt8.toInt32)) 0 3 (nI (t + 2))) 1 (t + 2) ((v >>> ((nI 8) &&& 31)).toInt8.toInt32)) 0 3 (nI (t + 3))) 0 3 = nI (t + 3) from up2_at]
  refine lv_iload_n hx hb dX0_put_15 rfl (lv_at hl 2 rfl) ?_
  refine lv_iload_n hx hb dX0_put_16 rfl (lv_at hl 0 rfl) ?_
  refine lv_ishr hx hb dX0_put_17 ?_
  refine lv_i2b (v := (v >>> ((nI 0) &&& 31)).toInt8.toInt32) hx hb dX0_put_18 rfl ?_
  refine x_st (j := t + 3) hx hb hK hw (pk_vb _) (by omega) dX0_put_19 (fun H locs hw => ?_)
  refine lv_aload_n hx hb dX0_put_20 rfl (lv_at hl 1 rfl) ?_
  refine lv_dup hx hb dX0_put_21 rfl ?_
  refine x_g_taped hx hb hts hown hK hw dX0_put_22 ?_
  rw [show (up2 (up2 (up2 (up2 (up2 (up2 (up2 X 1 t ((v >>> ((nI 24) &&& 31)).toInt8.toInt32)) 0 3 (nI (t + 1))) 1 (t + 1) ((v >>> ((nI 16) &&& 31)).toInt8.toInt32)) 0 3 (nI (t + 2))) 1 (t + 2) ((v >>> ((nI 8) &&& 31)).toInt8.toInt32)) 0 3 (nI (t + 3))) 1 (t + 3) ((v >>> ((nI 0) &&& 31)).toInt8.toInt32)) 0 3 = nI (t + 3) from (up2_ne (Or.inl (by decide))).trans up2_at]
  refine lv_iconst (v := nI 1) hx hb dX0_put_25 (by decide) ?_
  refine n_iadd hx hb dX0_put_26 ?_
  refine x_p_taped hx hb hts hown hK hw dX0_put_27 (fun H locs hw => ?_)
  refine lv_iinc (v := (-8)) (lv' := [(2, .int (-8)), (0, .ref (ad 0)), (1, .int v)]) hx hb dX0_put_30 hl (k := 0) rfl (by decide) (by decide) rfl (fun ls hl => ?_)
  refine lv_goto (tgt := 3) hx hb dX0_put_33 (by decide) ?_
  refine lv_iload_n hx hb dX0_put_3 rfl (lv_at hl 0 rfl) ?_
  refine lv_if_lt (tgt := 36) hx hb dX0_put_4 (by decide) (fun _ => ?_) (fun h9 => absurd (by decide) h9)
  exact c_vret hx hb hr hlocks (xH.to rfl rfl rfl hw.1) hw.2.1 dX0_put_36
set_option maxHeartbeats 4000000 in
set_option maxRecDepth 100000 in
theorem met_X0_feed (l : Launch) (G : gG) (ad : Nat → Nat) (sz : Nat) (X Z : Nat → Nat → Int32) (T : Nat → Nat → Option Nat) (a b d f g : Int32) (t : Nat) (et : X 0 3 = nI t) (ht : t ≤ 300) : Met l yX0_feed (ws_ yX0_feed cX0_feed 6 (some .int)) ({ frames := 1, cells := 0, slots := 0, locals := 22 } : Room) (cP G [.ref (ad 0), .int a, .int b, .int d, .int f, .int g] (xH G ad X Z T sz)) (cQ (some (.int (pif (t + 20 ≤ 300) (nI (t + 20)) (-1)))) (xH G ad (pif (t + 20 ≤ 300) (xFeed X t a b d f g) X) Z T sz) (xA ad sz)) 0 0 (xA ad sz) := by
  refine c_start (by decide) (Nat.le_of_ble_eq_true rfl) ?_
  intro p e s m below meth c hx hb hr hlocks hml hown hts hB hK ls hl
  have hz := hB.2.2
  have hw := XS.of hB
  have hl : lv_has ls 6 [(0, .ref (ad 0)), (1, .int a), (2, .int b), (3, .int d), (4, .int f), (5, .int g)] := hl
  refine lv_aload_n hx hb dX0_feed_0 rfl (lv_at hl 0 rfl) ?_
  refine x_g_taped hx hb hts hown hK hw dX0_feed_1 ?_
  rw [show X 0 3 = nI t from et]
  refine lv_bipush (v := nI 20) hx hb dX0_feed_4 (by decide) ?_
  refine n_iadd hx hb dX0_feed_6 ?_
  refine lv_sipush (v := nI 300) hx hb dX0_feed_7 (by decide) ?_
  refine n_icmp_le (tgt := 15) hx hb dX0_feed_10 (by decide) (by omega) (by decide) (fun c_1 => ?_) (fun c_1 => ?_)
  · refine lv_aload_n hx hb dX0_feed_15 rfl (lv_at hl 0 rfl) ?_
    refine lv_iload_n hx hb dX0_feed_16 rfl (lv_at hl 1 rfl) ?_
    refine c_call (va_runV (As := [.int a]) (rest := []) ⟨hx, hb, hml, hown, hts⟩ (met_X0_put l G ad sz X Z T a t et (by omega)) (cv_X0_X0_put hts ⟨Nat.le_of_ble_eq_true rfl, Nat.le_of_ble_eq_true rfl⟩) (cP.preV hK hw.1 (hw.1.recv hK)) rfl rfl hl.1 rfl (lv_room (Nat.le_of_ble_eq_true rfl)) dX0_feed_17 ⟨by first | exact Nat.zero_le _ | omega | decide, by first | exact Nat.zero_le _ | omega | decide⟩) hw.2.1 (fun q _ h => h) (fun q h => h) (fun H locs hw _ _ hS => ?_)
    replace hw := XS.mk hw hS hz
    refine lv_aload_n hx hb dX0_feed_20 rfl (lv_at hl 0 rfl) ?_
    refine lv_iload_n hx hb dX0_feed_21 rfl (lv_at hl 2 rfl) ?_
    refine c_call (va_runV (As := [.int b]) (rest := []) ⟨hx, hb, hml, hown, hts⟩ (met_X0_put l G ad sz (xFour X t a) Z T b (t + 4) xFour_3 (by omega)) (cv_X0_X0_put hts ⟨Nat.le_of_ble_eq_true rfl, Nat.le_of_ble_eq_true rfl⟩) (cP.preV hK hw.1 (hw.1.recv hK)) rfl rfl hl.1 rfl (lv_room (Nat.le_of_ble_eq_true rfl)) dX0_feed_22 ⟨by first | exact Nat.zero_le _ | omega | decide, by first | exact Nat.zero_le _ | omega | decide⟩) hw.2.1 (fun q _ h => h) (fun q h => h) (fun H locs hw _ _ hS => ?_)
    replace hw := XS.mk hw hS hz
    refine lv_aload_n hx hb dX0_feed_25 rfl (lv_at hl 0 rfl) ?_
    refine lv_iload_n hx hb dX0_feed_26 rfl (lv_at hl 3 rfl) ?_
    refine c_call (va_runV (As := [.int d]) (rest := []) ⟨hx, hb, hml, hown, hts⟩ (met_X0_put l G ad sz (xFour (xFour X t a) (t + 4) b) Z T d (t + 8) xFour_3 (by omega)) (cv_X0_X0_put hts ⟨Nat.le_of_ble_eq_true rfl, Nat.le_of_ble_eq_true rfl⟩) (cP.preV hK hw.1 (hw.1.recv hK)) rfl rfl hl.1 rfl (lv_room (Nat.le_of_ble_eq_true rfl)) dX0_feed_27 ⟨by first | exact Nat.zero_le _ | omega | decide, by first | exact Nat.zero_le _ | omega | decide⟩) hw.2.1 (fun q _ h => h) (fun q h => h) (fun H locs hw _ _ hS => ?_)
    replace hw := XS.mk hw hS hz
    refine lv_aload_n hx hb dX0_feed_30 rfl (lv_at hl 0 rfl) ?_
    refine lv_iload hx hb dX0_feed_31 (lv_at hl 4 rfl) ?_
    refine c_call (va_runV (As := [.int f]) (rest := []) ⟨hx, hb, hml, hown, hts⟩ (met_X0_put l G ad sz (xFour (xFour (xFour X t a) (t + 4) b) (t + 8) d) Z T f (t + 12) xFour_3 (by omega)) (cv_X0_X0_put hts ⟨Nat.le_of_ble_eq_true rfl, Nat.le_of_ble_eq_true rfl⟩) (cP.preV hK hw.1 (hw.1.recv hK)) rfl rfl hl.1 rfl (lv_room (Nat.le_of_ble_eq_true rfl)) dX0_feed_33 ⟨by first | exact Nat.zero_le _ | omega | decide, by first | exact Nat.zero_le _ | omega | decide⟩) hw.2.1 (fun q _ h => h) (fun q h => h) (fun H locs hw _ _ hS => ?_)
    replace hw := XS.mk hw hS hz
    refine lv_aload_n hx hb dX0_feed_36 rfl (lv_at hl 0 rfl) ?_
    refine lv_iload hx hb dX0_feed_37 (lv_at hl 5 rfl) ?_
    refine c_call (va_runV (As := [.int g]) (rest := []) ⟨hx, hb, hml, hown, hts⟩ (met_X0_put l G ad sz (xFour (xFour (xFour (xFour X t a) (t + 4) b) (t + 8) d) (t + 12) f) Z T g (t + 16) xFour_3 (by omega)) (cv_X0_X0_put hts ⟨Nat.le_of_ble_eq_true rfl, Nat.le_of_ble_eq_true rfl⟩) (cP.preV hK hw.1 (hw.1.recv hK)) rfl rfl hl.1 rfl (lv_room (Nat.le_of_ble_eq_true rfl)) dX0_feed_39 ⟨by first | exact Nat.zero_le _ | omega | decide, by first | exact Nat.zero_le _ | omega | decide⟩) hw.2.1 (fun q _ h => h) (fun q h => h) (fun H locs hw _ _ hS => ?_)
    replace hw := XS.mk hw hS hz
    refine lv_aload_n hx hb dX0_feed_42 rfl (lv_at hl 0 rfl) ?_
    refine x_g_taped hx hb hts hown hK hw dX0_feed_43 ?_
    rw [show (xFour (xFour (xFour (xFour (xFour X t a) (t + 4) b) (t + 8) d) (t + 12) f) (t + 16) g) 0 3 = nI (t + 20) from xFour_3]
    exact c_iret (v := nI (t + 20)) (by first | rw [pif_t (by omega)] | rw [pif_f (by omega)]) hx hb hr rfl hlocks (xH.to (by first | (rw [pif_t (by omega)]; rfl) | rw [pif_f (by omega)]) rfl rfl hw.1) hw.2.1 dX0_feed_46
  refine lv_iconst (v := (-1)) hx hb dX0_feed_13 (by decide) ?_
  exact c_iret (v := (-1)) (by first | rw [pif_t (by omega)] | rw [pif_f (by omega)]) hx hb hr rfl hlocks (xH.to (by first | (rw [pif_t (by omega)]; rfl) | rw [pif_f (by omega)]) rfl rfl hw.1) hw.2.1 dX0_feed_14
