set_option maxHeartbeats 4000000 in
set_option maxRecDepth 100000 in
theorem met_X0_kind (l : Launch) (G : gG) (ad : Nat → Nat) (sz : Nat) (X Z : Nat → Nat → Int32) (T : Nat → Nat → Option Nat) (x y z : Int32) (nk : Nat) (ek : X 52 1 = nI nk) (hk : nk ≤ 6) : Met l yX0_kind (ws_ yX0_kind cX0_kind 6 (some .int)) ({ frames := 2, cells := 1, slots := 3, locals := 61 } : Room) (cP G [.ref (ad 0), .int x, .int y, .int z] (xH G ad X Z T sz)) (cQ (some (.int (pif (mKiOk x y z nk) (nI nk) (-1)))) (xH G ad (pif (mKiOk x y z nk) (xKiPut X nk x y z) X) Z T sz) (xA ad sz)) 1 3 (xA ad sz) := by
  refine c_start (by decide) (Nat.le_of_ble_eq_true rfl) ?_
  intro p e s m below meth c hx hb hr hlocks hml hown hts hB hK ls hl
  have hz := hB.2.2
  have hw := XS.of hB
  have hl : lv_has ls 6 [(0, .ref (ad 0)), (1, .int x), (2, .int y), (3, .int z)] := hl
  refine lv_aload_n hx hb dX0_kind_0 rfl (lv_at hl 0 rfl) ?_
  refine x_g_now hx hb hts hown hK hw dX0_kind_1 ?_
  refine x_sX0_51_n hx hb hts hown hK hw dX0_kind_4 ?_
  refine lv_iconst (v := nI 1) hx hb dX0_kind_7 (by decide) ?_
  refine x_l (k := 52) (j := 1) (n := 7) (v := nI nk) hx hb hK hw ek (by decide) (by decide) dX0_kind_8 ?_
  refine lv_istore (lv' := [(4, .int (nI nk)), (0, .ref (ad 0)), (1, .int x), (2, .int y), (3, .int z)]) hx hb dX0_kind_9 hl (by decide) rfl (fun ls hl => ?_)
  refine lv_iload_n hx hb dX0_kind_11 rfl (lv_at hl 2 rfl) ?_
  refine lv_iconst (v := nI 1) hx hb dX0_kind_12 (by decide) ?_
  refine lv_bipush (v := nI 30) hx hb dX0_kind_13 (by decide) ?_
  refine c_read (va_runS (As := [.int x, .int (nI 1), .int (nI 30)]) (rest := []) ⟨hx, hb, hml, hown, hts⟩ (met_X0_in l G x (nI 1) (nI 30)) (cs_X0_X0_in hts ⟨Nat.le_of_ble_eq_true rfl, Nat.le_of_ble_eq_true rfl⟩) (cP.pre hK trivial) rfl rfl hl.1 rfl (lv_room (Nat.le_of_ble_eq_true rfl)) dX0_kind_15 ⟨by first | exact Nat.zero_le _ | omega | decide, by first | exact Nat.zero_le _ | omega | decide⟩) ?_
  refine b_if_eq (tgt := 49) hx hb dX0_kind_18 (by decide) (fun c_1 => ?_) (fun c_1 => ?_)
  · refine lv_iconst (v := (-1)) hx hb dX0_kind_49 (by decide) ?_
    refine W.widen (k := 1) (n := 3) (Nat.le_of_ble_eq_true rfl) (Nat.le_of_ble_eq_true rfl) ?_
    exact c_iret (v := (-1)) (by first | (rw [pif_t ⟨by assumption, by assumption, by assumption, by assumption⟩]; first | done | rfl) | rw [pif_f (fun h9 => by first | exact absurd h9.1 (by assumption) | exact absurd h9.2.1 (by assumption) | exact absurd h9.2.2.1 (by assumption) | exact absurd h9.2.2.2 (by assumption) | exact absurd (by assumption) h9.1 | exact absurd (by assumption) h9.2.1 | exact absurd (by assumption) h9.2.2.1 | exact absurd (by assumption) h9.2.2.2)]) hx hb hr rfl hlocks (xH.to (by first | (rw [pif_t ⟨by assumption, by assumption, by assumption, by assumption⟩]; first | done | rfl) | rw [pif_f (fun h9 => by first | exact absurd h9.1 (by assumption) | exact absurd h9.2.1 (by assumption) | exact absurd h9.2.2.1 (by assumption) | exact absurd h9.2.2.2 (by assumption) | exact absurd (by assumption) h9.1 | exact absurd (by assumption) h9.2.1 | exact absurd (by assumption) h9.2.2.1 | exact absurd (by assumption) h9.2.2.2)]) rfl rfl hw.1) hw.2.1 dX0_kind_50
  refine lv_iload_n hx hb dX0_kind_21 rfl (lv_at hl 3 rfl) ?_
  refine lv_iconst (v := nI 0) hx hb dX0_kind_22 (by decide) ?_
  refine lv_bipush (v := nI 15) hx hb dX0_kind_23 (by decide) ?_
  refine c_read (va_runS (As := [.int y, .int (nI 0), .int (nI 15)]) (rest := []) ⟨hx, hb, hml, hown, hts⟩ (met_X0_in l G y (nI 0) (nI 15)) (cs_X0_X0_in hts ⟨Nat.le_of_ble_eq_true rfl, Nat.le_of_ble_eq_true rfl⟩) (cP.pre hK trivial) rfl rfl hl.1 rfl (lv_room (Nat.le_of_ble_eq_true rfl)) dX0_kind_25 ⟨by first | exact Nat.zero_le _ | omega | decide, by first | exact Nat.zero_le _ | omega | decide⟩) ?_
  refine b_if_eq (tgt := 49) hx hb dX0_kind_28 (by decide) (fun c_2 => ?_) (fun c_2 => ?_)
  · refine lv_iconst (v := (-1)) hx hb dX0_kind_49 (by decide) ?_
    refine W.widen (k := 1) (n := 3) (Nat.le_of_ble_eq_true rfl) (Nat.le_of_ble_eq_true rfl) ?_
    exact c_iret (v := (-1)) (by first | (rw [pif_t ⟨by assumption, by assumption, by assumption, by assumption⟩]; first | done | rfl) | rw [pif_f (fun h9 => by first | exact absurd h9.1 (by assumption) | exact absurd h9.2.1 (by assumption) | exact absurd h9.2.2.1 (by assumption) | exact absurd h9.2.2.2 (by assumption) | exact absurd (by assumption) h9.1 | exact absurd (by assumption) h9.2.1 | exact absurd (by assumption) h9.2.2.1 | exact absurd (by assumption) h9.2.2.2)]) hx hb hr rfl hlocks (xH.to (by first | (rw [pif_t ⟨by assumption, by assumption, by assumption, by assumption⟩]; first | done | rfl) | rw [pif_f (fun h9 => by first | exact absurd h9.1 (by assumption) | exact absurd h9.2.1 (by assumption) | exact absurd h9.2.2.1 (by assumption) | exact absurd h9.2.2.2 (by assumption) | exact absurd (by assumption) h9.1 | exact absurd (by assumption) h9.2.1 | exact absurd (by assumption) h9.2.2.1 | exact absurd (by assumption) h9.2.2.2)]) rfl rfl hw.1) hw.2.1 dX0_kind_50
  refine lv_iload_n hx hb dX0_kind_31 rfl (lv_at hl 4 rfl) ?_
  refine lv_iconst (v := nI 0) hx hb dX0_kind_32 (by decide) ?_
  refine lv_sipush (v := nI 999) hx hb dX0_kind_33 (by decide) ?_
  refine c_read (va_runS (As := [.int z, .int (nI 0), .int (nI 999)]) (rest := []) ⟨hx, hb, hml, hown, hts⟩ (met_X0_in l G z (nI 0) (nI 999)) (cs_X0_X0_in hts ⟨Nat.le_of_ble_eq_true rfl, Nat.le_of_ble_eq_true rfl⟩) (cP.pre hK trivial) rfl rfl hl.1 rfl (lv_room (Nat.le_of_ble_eq_true rfl)) dX0_kind_36 ⟨by first | exact Nat.zero_le _ | omega | decide, by first | exact Nat.zero_le _ | omega | decide⟩) ?_
  refine b_if_eq (tgt := 49) hx hb dX0_kind_39 (by decide) (fun c_3 => ?_) (fun c_3 => ?_)
  · refine lv_iconst (v := (-1)) hx hb dX0_kind_49 (by decide) ?_
    refine W.widen (k := 1) (n := 3) (Nat.le_of_ble_eq_true rfl) (Nat.le_of_ble_eq_true rfl) ?_
    exact c_iret (v := (-1)) (by first | (rw [pif_t ⟨by assumption, by assumption, by assumption, by assumption⟩]; first | done | rfl) | rw [pif_f (fun h9 => by first | exact absurd h9.1 (by assumption) | exact absurd h9.2.1 (by assumption) | exact absurd h9.2.2.1 (by assumption) | exact absurd h9.2.2.2 (by assumption) | exact absurd (by assumption) h9.1 | exact absurd (by assumption) h9.2.1 | exact absurd (by assumption) h9.2.2.1 | exact absurd (by assumption) h9.2.2.2)]) hx hb hr rfl hlocks (xH.to (by first | (rw [pif_t ⟨by assumption, by assumption, by assumption, by assumption⟩]; first | done | rfl) | rw [pif_f (fun h9 => by first | exact absurd h9.1 (by assumption) | exact absurd h9.2.1 (by assumption) | exact absurd h9.2.2.1 (by assumption) | exact absurd h9.2.2.2 (by assumption) | exact absurd (by assumption) h9.1 | exact absurd (by assumption) h9.2.1 | exact absurd (by assumption) h9.2.2.1 | exact absurd (by assumption) h9.2.2.2)]) rfl rfl hw.1) hw.2.1 dX0_kind_50
  refine lv_iload hx hb dX0_kind_42 (lv_at hl 0 rfl) ?_
  refine lv_bipush (v := nI 6) hx hb dX0_kind_44 (by decide) ?_
  refine n_icmp_ne (tgt := 51) hx hb dX0_kind_46 (by decide) (by omega) (by decide) (fun c_4 => ?_) (fun c_4 => ?_)
  · refine lv_iconst (v := nI 3) hx hb dX0_kind_51 (by decide) ?_
    refine xn_new (n := 3) hx hb (hts _ q180) hK hw (by decide) (by decide) (Nat.le_of_ble_eq_true rfl) (Nat.le_of_ble_eq_true rfl) dX0_kind_52 (fun q_5 H hw hq_5 => ?_)
    refine lv_dup hx hb dX0_kind_54 rfl ?_
    refine lv_iconst (v := nI 0) hx hb dX0_kind_55 (by decide) ?_
    refine lv_iload_n hx hb dX0_kind_56 rfl (lv_at hl 2 rfl) ?_
    refine xn_s (j := 0) hx hb hK hw hq_5 (by decide) (by decide) dX0_kind_57 (fun H locs hw hq_5 => ?_)
    refine lv_dup hx hb dX0_kind_58 rfl ?_
    refine lv_iconst (v := nI 1) hx hb dX0_kind_59 (by decide) ?_
    refine lv_iload_n hx hb dX0_kind_60 rfl (lv_at hl 3 rfl) ?_
    refine xn_s (j := 1) hx hb hK hw hq_5 (by decide) (by decide) dX0_kind_61 (fun H locs hw hq_5 => ?_)
    refine lv_dup hx hb dX0_kind_62 rfl ?_
    refine lv_iconst (v := nI 2) hx hb dX0_kind_63 (by decide) ?_
    refine lv_iload_n hx hb dX0_kind_64 rfl (lv_at hl 4 rfl) ?_
    refine xn_s (j := 2) hx hb hK hw hq_5 (by decide) (by decide) dX0_kind_65 (fun H locs hw hq_5 => ?_)
    refine lv_astore (lv' := [(5, .ref q_5), (4, .int (nI nk)), (0, .ref (ad 0)), (1, .int x), (2, .int y), (3, .int z)]) hx hb dX0_kind_66 hl (by decide) rfl (fun ls hl => ?_)
    refine lv_aload hx hb dX0_kind_68 (lv_at hl 0 rfl) ?_
    refine lv_aload_n hx hb dX0_kind_70 rfl (lv_at hl 2 rfl) ?_
    refine x_g_now hx hb hts hown hK hw dX0_kind_71 ?_
    refine x_sX0_51_kind hx hb hts hown hK hw dX0_kind_74 ?_
    refine lv_iload hx hb dX0_kind_77 (lv_at hl 1 rfl) ?_
    refine x_a (r := 67 + nk) hx hb hK hw xO_56 rfl (by decide) (by omega) rfl dX0_kind_79 ?_
    refine c_call (va_runSN (As := [.ref q_5, .ref (ad (67 + nk))]) (rest := []) ⟨hx, hb, hml, hown, hts⟩ (met_X1_copy l G q_5 (ad (67 + nk)) 3 (upd (upd (upd (fun _ => 0) 0 x) 1 y) 2 z) (X (67 + nk)) (Ne.symm (hq_5.2.1 (67 + nk) (xLen_R (k := 67 + nk) (by rw [xL_67 (by omega)]; decide)))) (by decide)) ⟨cn_X0_X1_copy hts hK ⟨Nat.le_of_ble_eq_true rfl, Nat.le_of_ble_eq_true rfl⟩, hts _ q189, trivial⟩ (cP.pre hK ⟨hq_5.1, (hw.1.atx (xL_67 (by omega)) (by decide))⟩) rfl rfl hl.1 rfl (lv_room (Nat.le_of_ble_eq_true rfl)) dX0_kind_80 ⟨by first | exact Nat.zero_le _ | omega | decide, by first | exact Nat.zero_le _ | omega | decide⟩) hw.2.1 (fun q _ e9 => Or.inl ⟨67 + nk, (xLen_R (k := 67 + nk) (by rw [xL_67 (by omega)]; decide)), e9⟩) (fun q h9 => h9.elim (fun e9 => Or.inr (by rw [e9]; exact hq_5.2.2)) (fun e9 => Or.inl ⟨67 + nk, (xLen_R (k := 67 + nk) (by rw [xL_67 (by omega)]; decide)), e9⟩)) (fun H locs hB9 hz9 hk9 hS9 => ?_)
    replace hw := XS.row hw (xL_67 (by omega)) (by decide) hB9 hz9 hk9 hS9
    clear hB9 hz9 hk9 hS9
    refine lv_aload_n hx hb dX0_kind_83 rfl (lv_at hl 2 rfl) ?_
    refine x_g_now hx hb hts hown hK hw dX0_kind_84 ?_
    refine x_sX0_51_n hx hb hts hown hK hw dX0_kind_87 ?_
    refine lv_iconst (v := nI 1) hx hb dX0_kind_90 (by decide) ?_
    refine lv_dup2_11 hx hb dX0_kind_91 rfl rfl ?_
    refine x_l (k := 52) (j := 1) (n := 7) (v := nI nk) hx hb hK hw ((congrFun (upr_ne (by omega)) 1).trans ek) (by decide) (by decide) dX0_kind_92 ?_
    refine lv_iconst (v := nI 1) hx hb dX0_kind_93 (by decide) ?_
    refine n_iadd hx hb dX0_kind_94 ?_
    refine x_s (k := 52) (j := 1) (n := 7) hx hb hK hw (by decide) (by decide) dX0_kind_95 (fun H locs hw => ?_)
    refine lv_iload hx hb dX0_kind_96 (lv_at hl 1 rfl) ?_
    refine W.widen (k := 1) (n := 3) (Nat.le_of_ble_eq_true rfl) (Nat.le_of_ble_eq_true rfl) ?_
    exact c_iret (v := nI nk) (by first | (rw [pif_t ⟨by assumption, by assumption, by assumption, by assumption⟩]; first | done | rfl) | rw [pif_f (fun h9 => by first | exact absurd h9.1 (by assumption) | exact absurd h9.2.1 (by assumption) | exact absurd h9.2.2.1 (by assumption) | exact absurd h9.2.2.2 (by assumption) | exact absurd (by assumption) h9.1 | exact absurd (by assumption) h9.2.1 | exact absurd (by assumption) h9.2.2.1 | exact absurd (by assumption) h9.2.2.2)]) hx hb hr rfl hlocks (xH.to (by first | (rw [pif_t ⟨by assumption, by assumption, by assumption, by assumption⟩]; first | done | rfl) | rw [pif_f (fun h9 => by first | exact absurd h9.1 (by assumption) | exact absurd h9.2.1 (by assumption) | exact absurd h9.2.2.1 (by assumption) | exact absurd h9.2.2.2 (by assumption) | exact absurd (by assumption) h9.1 | exact absurd (by assumption) h9.2.1 | exact absurd (by assumption) h9.2.2.1 | exact absurd (by assumption) h9.2.2.2)]) rfl rfl hw.1) hw.2.1 dX0_kind_98
  refine lv_iconst (v := (-1)) hx hb dX0_kind_49 (by decide) ?_
  refine W.widen (k := 1) (n := 3) (Nat.le_of_ble_eq_true rfl) (Nat.le_of_ble_eq_true rfl) ?_
  exact c_iret (v := (-1)) (by first | (rw [pif_t ⟨by assumption, by assumption, by assumption, by assumption⟩]; first | done | rfl) | rw [pif_f (fun h9 => by first | exact absurd h9.1 (by assumption) | exact absurd h9.2.1 (by assumption) | exact absurd h9.2.2.1 (by assumption) | exact absurd h9.2.2.2 (by assumption) | exact absurd (by assumption) h9.1 | exact absurd (by assumption) h9.2.1 | exact absurd (by assumption) h9.2.2.1 | exact absurd (by assumption) h9.2.2.2)]) hx hb hr rfl hlocks (xH.to (by first | (rw [pif_t ⟨by assumption, by assumption, by assumption, by assumption⟩]; first | done | rfl) | rw [pif_f (fun h9 => by first | exact absurd h9.1 (by assumption) | exact absurd h9.2.1 (by assumption) | exact absurd h9.2.2.1 (by assumption) | exact absurd h9.2.2.2 (by assumption) | exact absurd (by assumption) h9.1 | exact absurd (by assumption) h9.2.1 | exact absurd (by assumption) h9.2.2.1 | exact absurd (by assumption) h9.2.2.2)]) rfl rfl hw.1) hw.2.1 dX0_kind_50
set_option maxHeartbeats 4000000 in
set_option maxRecDepth 100000 in
theorem met_X0_seen (l : Launch) (G : gG) (ad : Nat → Nat) (sz : Nat) (X Z : Nat → Nat → Int32) (T : Nat → Nat → Option Nat) (x : Int32) (ne : Nat) (ee : X 52 5 = nI ne) (he : ne ≤ 8) : Met l yX0_seen (ws_ yX0_seen cX0_seen 2 (some .int)) ({ frames := 1, cells := 0, slots := 0, locals := 22 } : Room) (cP G [.ref (ad 0), .int x] (xH G ad X Z T sz)) (cQ (some (.int (pif (x = (-1)) (nI 0) (pif (mSeenOk ne x) (nI (ne + 1)) (-2))))) (xH G ad (pif (x = (-1)) (up2 X 52 5 (nI 0)) (pif (mSeenOk ne x) (up2 (up2 X 54 ne x) 52 5 (nI (ne + 1))) X)) Z T sz) (xA ad sz)) 0 0 (xA ad sz) := by
  refine c_start (by decide) (Nat.le_of_ble_eq_true rfl) ?_
  intro p e s m below meth c hx hb hr hlocks hml hown hts hB hK ls hl
  have hz := hB.2.2
  have hw := XS.of hB
  have hl : lv_has ls 2 [(0, .ref (ad 0)), (1, .int x)] := hl
  refine lv_iload_n hx hb dX0_seen_0 rfl (lv_at hl 1 rfl) ?_
  refine lv_iconst (v := (-1)) hx hb dX0_seen_1 (by decide) ?_
  refine lv_icmp_ne (tgt := 17) hx hb dX0_seen_2 (by decide) (fun c_1 => ?_) (fun c_1 => ?_)
  · refine lv_iload_n hx hb dX0_seen_17 rfl (lv_at hl 1 rfl) ?_
    refine lv_iconst (v := nI 0) hx hb dX0_seen_18 (by decide) ?_
    refine lv_bipush (v := nI 40) hx hb dX0_seen_19 (by decide) ?_
    refine c_read (va_runS (As := [.int x, .int (nI 0), .int (nI 40)]) (rest := []) ⟨hx, hb, hml, hown, hts⟩ (met_X0_in l G x (nI 0) (nI 40)) (cs_X0_X0_in hts ⟨Nat.le_of_ble_eq_true rfl, Nat.le_of_ble_eq_true rfl⟩) (cP.pre hK trivial) rfl rfl hl.1 rfl (lv_room (Nat.le_of_ble_eq_true rfl)) dX0_seen_21 ⟨by first | exact Nat.zero_le _ | omega | decide, by first | exact Nat.zero_le _ | omega | decide⟩) ?_
    refine b_if_eq (tgt := 41) hx hb dX0_seen_24 (by decide) (fun c_2 => ?_) (fun c_2 => ?_)
    · refine lv_bipush (v := (-2)) hx hb dX0_seen_41 (by decide) ?_
      exact c_iret (v := (-2)) (by first | rw [pif_t (by assumption)] | rw [pif_f (by assumption), pif_t ⟨by assumption, by assumption⟩] | rw [pif_f (by assumption), pif_f (fun h9 => by first | exact absurd h9.1 (by assumption) | exact absurd (by assumption) h9.2)]) hx hb hr rfl hlocks (xH.to (by first | rw [pif_t (by assumption)] | rw [pif_f (by assumption), pif_t ⟨by assumption, by assumption⟩] | rw [pif_f (by assumption), pif_f (fun h9 => by first | exact absurd h9.1 (by assumption) | exact absurd (by assumption) h9.2)]) rfl rfl hw.1) hw.2.1 dX0_seen_43
    refine lv_aload_n hx hb dX0_seen_27 rfl (lv_at hl 0 rfl) ?_
    refine x_g_now hx hb hts hown hK hw dX0_seen_28 ?_
    refine x_sX0_51_n hx hb hts hown hK hw dX0_seen_31 ?_
    refine lv_iconst (v := nI 5) hx hb dX0_seen_34 (by decide) ?_
    refine x_l (k := 52) (j := 5) (n := 7) (v := nI ne) hx hb hK hw ee (by decide) (by decide) dX0_seen_35 ?_
    refine lv_bipush (v := nI 8) hx hb dX0_seen_36 (by decide) ?_
    refine n_icmp_ne (tgt := 44) hx hb dX0_seen_38 (by decide) (by omega) (by decide) (fun c_3 => ?_) (fun c_3 => ?_)
    · refine lv_aload_n hx hb dX0_seen_44 rfl (lv_at hl 0 rfl) ?_
      refine x_g_now hx hb hts hown hK hw dX0_seen_45 ?_
      refine x_sX0_51_seen hx hb hts hown hK hw dX0_seen_48 ?_
      refine lv_aload_n hx hb dX0_seen_51 rfl (lv_at hl 0 rfl) ?_
      refine x_g_now hx hb hts hown hK hw dX0_seen_52 ?_
      refine x_sX0_51_n hx hb hts hown hK hw dX0_seen_55 ?_
      refine lv_iconst (v := nI 5) hx hb dX0_seen_58 (by decide) ?_
      refine x_l (k := 52) (j := 5) (n := 7) (v := nI ne) hx hb hK hw ee (by decide) (by decide) dX0_seen_59 ?_
      refine lv_iload_n hx hb dX0_seen_60 rfl (lv_at hl 1 rfl) ?_
      refine x_s (k := 54) (j := ne) (n := 8) hx hb hK hw (by decide) (by omega) dX0_seen_61 (fun H locs hw => ?_)
      refine lv_aload_n hx hb dX0_seen_62 rfl (lv_at hl 0 rfl) ?_
      refine x_g_now hx hb hts hown hK hw dX0_seen_63 ?_
      refine x_sX0_51_n hx hb hts hown hK hw dX0_seen_66 ?_
      refine lv_iconst (v := nI 5) hx hb dX0_seen_69 (by decide) ?_
      refine lv_dup2_11 hx hb dX0_seen_70 rfl rfl ?_
      refine x_l (k := 52) (j := 5) (n := 7) (v := nI ne) hx hb hK hw ((up2_ne (Or.inl (by decide))).trans ee) (by decide) (by decide) dX0_seen_71 ?_
      refine lv_iconst (v := nI 1) hx hb dX0_seen_72 (by decide) ?_
      refine n_iadd hx hb dX0_seen_73 ?_
      refine x_s (k := 52) (j := 5) (n := 7) hx hb hK hw (by decide) (by decide) dX0_seen_74 (fun H locs hw => ?_)
      refine lv_aload_n hx hb dX0_seen_75 rfl (lv_at hl 0 rfl) ?_
      refine x_g_now hx hb hts hown hK hw dX0_seen_76 ?_
      refine x_sX0_51_n hx hb hts hown hK hw dX0_seen_79 ?_
      refine lv_iconst (v := nI 5) hx hb dX0_seen_82 (by decide) ?_
      refine x_l (k := 52) (j := 5) (n := 7) (v := nI (ne + 1)) hx hb hK hw up2_at (by decide) (by decide) dX0_seen_83 ?_
      exact c_iret (v := nI (ne + 1)) (by first | rw [pif_t (by assumption)] | rw [pif_f (by assumption), pif_t ⟨by assumption, by assumption⟩] | rw [pif_f (by assumption), pif_f (fun h9 => by first | exact absurd h9.1 (by assumption) | exact absurd (by assumption) h9.2)]) hx hb hr rfl hlocks (xH.to (by first | rw [pif_t (by assumption)] | rw [pif_f (by assumption), pif_t ⟨by assumption, by assumption⟩] | rw [pif_f (by assumption), pif_f (fun h9 => by first | exact absurd h9.1 (by assumption) | exact absurd (by assumption) h9.2)]) rfl rfl hw.1) hw.2.1 dX0_seen_84
    refine lv_bipush (v := (-2)) hx hb dX0_seen_41 (by decide) ?_
    exact c_iret (v := (-2)) (by first | rw [pif_t (by assumption)] | rw [pif_f (by assumption), pif_t ⟨by assumption, by assumption⟩] | rw [pif_f (by assumption), pif_f (fun h9 => by first | exact absurd h9.1 (by assumption) | exact absurd (by assumption) h9.2)]) hx hb hr rfl hlocks (xH.to (by first | rw [pif_t (by assumption)] | rw [pif_f (by assumption), pif_t ⟨by assumption, by assumption⟩] | rw [pif_f (by assumption), pif_f (fun h9 => by first | exact absurd h9.1 (by assumption) | exact absurd (by assumption) h9.2)]) rfl rfl hw.1) hw.2.1 dX0_seen_43
  refine lv_aload_n hx hb dX0_seen_5 rfl (lv_at hl 0 rfl) ?_
  refine x_g_now hx hb hts hown hK hw dX0_seen_6 ?_
  refine x_sX0_51_n hx hb hts hown hK hw dX0_seen_9 ?_
  refine lv_iconst (v := nI 5) hx hb dX0_seen_12 (by decide) ?_
  refine lv_iconst (v := nI 0) hx hb dX0_seen_13 (by decide) ?_
  refine x_s (k := 52) (j := 5) (n := 7) hx hb hK hw (by decide) (by decide) dX0_seen_14 (fun H locs hw => ?_)
  refine lv_iconst (v := nI 0) hx hb dX0_seen_15 (by decide) ?_
  exact c_iret (v := nI 0) (by first | rw [pif_t (by assumption)] | rw [pif_f (by assumption), pif_t ⟨by assumption, by assumption⟩] | rw [pif_f (by assumption), pif_f (fun h9 => by first | exact absurd h9.1 (by assumption) | exact absurd (by assumption) h9.2)]) hx hb hr rfl hlocks (xH.to (by first | rw [pif_t (by assumption)] | rw [pif_f (by assumption), pif_t ⟨by assumption, by assumption⟩] | rw [pif_f (by assumption), pif_f (fun h9 => by first | exact absurd h9.1 (by assumption) | exact absurd (by assumption) h9.2)]) rfl rfl hw.1) hw.2.1 dX0_seen_16
set_option maxHeartbeats 4000000 in
set_option maxRecDepth 100000 in
theorem met_X0_tell (l : Launch) (G : gG) (ad : Nat → Nat) (sz : Nat) (X Z : Nat → Nat → Int32) (T : Nat → Nat → Option Nat) (x y z v : Int32) (nb : Nat) (en : X 52 0 = nI nb) (hn : nb ≤ 6) (nt : Nat) (et : X 52 6 = nI nt) (ht : nt ≤ 20) : Met l yX0_tell (ws_ yX0_tell cX0_tell 6 (some .int)) ({ frames := 2, cells := 1, slots := 4, locals := 61 } : Room) (cP G [.ref (ad 0), .int x, .int y, .int z, .int v] (xH G ad X Z T sz)) (cQ (some (.int (pif (mTellOk nb nt x y z v) (nI (nt + 1)) (-1)))) (xH G ad (pif (mTellOk nb nt x y z v) (xTellPut X nt x y z v) X) Z T sz) (xA ad sz)) 1 4 (xA ad sz) := by
  refine c_start (by decide) (Nat.le_of_ble_eq_true rfl) ?_
  intro p e s m below meth c hx hb hr hlocks hml hown hts hB hK ls hl
  have hz := hB.2.2
  have hw := XS.of hB
  have hl : lv_has ls 6 [(0, .ref (ad 0)), (1, .int x), (2, .int y), (3, .int z), (4, .int v)] := hl
  refine lv_aload_n hx hb dX0_tell_0 rfl (lv_at hl 0 rfl) ?_
  refine lv_iload_n hx hb dX0_tell_1 rfl (lv_at hl 1 rfl) ?_
  refine c_read (va_runV (As := [.int x]) (rest := []) ⟨hx, hb, hml, hown, hts⟩ (met_X0_isBlower l G ad sz X Z T x nb en (by omega)) (cv_X0_X0_isBlower hts ⟨Nat.le_of_ble_eq_true rfl, Nat.le_of_ble_eq_true rfl⟩) (cP.preV hK hw.1 (hw.1.recv hK)) rfl rfl hl.1 rfl (lv_room (Nat.le_of_ble_eq_true rfl)) dX0_tell_2 ⟨by first | exact Nat.zero_le _ | omega | decide, by first | exact Nat.zero_le _ | omega | decide⟩) ?_
  refine b_if_eq (tgt := 55) hx hb dX0_tell_5 (by decide) (fun c_1 => ?_) (fun c_1 => ?_)
  · refine lv_iconst (v := (-1)) hx hb dX0_tell_55 (by decide) ?_
    refine W.widen (k := 1) (n := 4) (Nat.le_of_ble_eq_true rfl) (Nat.le_of_ble_eq_true rfl) ?_
    exact c_iret (v := (-1)) (by first | (rw [pif_t ⟨by first | assumption | exact vp_in_nI h_jx (by omega), by assumption, by assumption, (in_const (by decide)).mp (by assumption), by assumption⟩]; first | done | rfl) | rw [pif_f (fun h9 => by first | exact absurd h9.1 (by assumption) | exact absurd h9.2.1 (by assumption) | exact absurd h9.2.2.1 (by assumption) | exact absurd ((in_const (n := 999) (by decide)).mpr h9.2.2.2.1) (by assumption) | exact absurd (by assumption) h9.2.2.2.2)]) hx hb hr rfl hlocks (xH.to (by first | (rw [pif_t ⟨by first | assumption | exact vp_in_nI h_jx (by omega), by assumption, by assumption, (in_const (by decide)).mp (by assumption), by assumption⟩]; first | done | rfl) | rw [pif_f (fun h9 => by first | exact absurd h9.1 (by assumption) | exact absurd h9.2.1 (by assumption) | exact absurd h9.2.2.1 (by assumption) | exact absurd ((in_const (n := 999) (by decide)).mpr h9.2.2.2.1) (by assumption) | exact absurd (by assumption) h9.2.2.2.2)]) rfl rfl hw.1) hw.2.1 dX0_tell_56
  obtain ⟨jx, h_jx, rfl⟩ := vp_in_of c_1 (by omega)
  have k_jx : (nI jx).toNatClampNeg = jx := nI_clamp (by omega)
  refine lv_iload_n hx hb dX0_tell_8 rfl (lv_at hl 2 rfl) ?_
  refine lv_iconst (v := nI 0) hx hb dX0_tell_9 (by decide) ?_
  refine lv_bipush (v := nI 9) hx hb dX0_tell_10 (by decide) ?_
  refine c_read (va_runS (As := [.int y, .int (nI 0), .int (nI 9)]) (rest := []) ⟨hx, hb, hml, hown, hts⟩ (met_X0_in l G y (nI 0) (nI 9)) (cs_X0_X0_in hts ⟨Nat.le_of_ble_eq_true rfl, Nat.le_of_ble_eq_true rfl⟩) (cP.pre hK trivial) rfl rfl hl.1 rfl (lv_room (Nat.le_of_ble_eq_true rfl)) dX0_tell_12 ⟨by first | exact Nat.zero_le _ | omega | decide, by first | exact Nat.zero_le _ | omega | decide⟩) ?_
  refine b_if_eq (tgt := 55) hx hb dX0_tell_15 (by decide) (fun c_2 => ?_) (fun c_2 => ?_)
  · refine lv_iconst (v := (-1)) hx hb dX0_tell_55 (by decide) ?_
    refine W.widen (k := 1) (n := 4) (Nat.le_of_ble_eq_true rfl) (Nat.le_of_ble_eq_true rfl) ?_
    exact c_iret (v := (-1)) (by first | (rw [pif_t ⟨by first | assumption | exact vp_in_nI h_jx (by omega), by assumption, by assumption, (in_const (by decide)).mp (by assumption), by assumption⟩]; first | done | rfl) | rw [pif_f (fun h9 => by first | exact absurd h9.1 (by assumption) | exact absurd h9.2.1 (by assumption) | exact absurd h9.2.2.1 (by assumption) | exact absurd ((in_const (n := 999) (by decide)).mpr h9.2.2.2.1) (by assumption) | exact absurd (by assumption) h9.2.2.2.2)]) hx hb hr rfl hlocks (xH.to (by first | (rw [pif_t ⟨by first | assumption | exact vp_in_nI h_jx (by omega), by assumption, by assumption, (in_const (by decide)).mp (by assumption), by assumption⟩]; first | done | rfl) | rw [pif_f (fun h9 => by first | exact absurd h9.1 (by assumption) | exact absurd h9.2.1 (by assumption) | exact absurd h9.2.2.1 (by assumption) | exact absurd ((in_const (n := 999) (by decide)).mpr h9.2.2.2.1) (by assumption) | exact absurd (by assumption) h9.2.2.2.2)]) rfl rfl hw.1) hw.2.1 dX0_tell_56
  refine lv_iload_n hx hb dX0_tell_18 rfl (lv_at hl 3 rfl) ?_
  refine lv_iconst (v := nI 1) hx hb dX0_tell_19 (by decide) ?_
  refine lv_bipush (v := nI 9) hx hb dX0_tell_20 (by decide) ?_
  refine c_read (va_runS (As := [.int z, .int (nI 1), .int (nI 9)]) (rest := []) ⟨hx, hb, hml, hown, hts⟩ (met_X0_in l G z (nI 1) (nI 9)) (cs_X0_X0_in hts ⟨Nat.le_of_ble_eq_true rfl, Nat.le_of_ble_eq_true rfl⟩) (cP.pre hK trivial) rfl rfl hl.1 rfl (lv_room (Nat.le_of_ble_eq_true rfl)) dX0_tell_22 ⟨by first | exact Nat.zero_le _ | omega | decide, by first | exact Nat.zero_le _ | omega | decide⟩) ?_
  refine b_if_eq (tgt := 55) hx hb dX0_tell_25 (by decide) (fun c_3 => ?_) (fun c_3 => ?_)
  · refine lv_iconst (v := (-1)) hx hb dX0_tell_55 (by decide) ?_
    refine W.widen (k := 1) (n := 4) (Nat.le_of_ble_eq_true rfl) (Nat.le_of_ble_eq_true rfl) ?_
    exact c_iret (v := (-1)) (by first | (rw [pif_t ⟨by first | assumption | exact vp_in_nI h_jx (by omega), by assumption, by assumption, (in_const (by decide)).mp (by assumption), by assumption⟩]; first | done | rfl) | rw [pif_f (fun h9 => by first | exact absurd h9.1 (by assumption) | exact absurd h9.2.1 (by assumption) | exact absurd h9.2.2.1 (by assumption) | exact absurd ((in_const (n := 999) (by decide)).mpr h9.2.2.2.1) (by assumption) | exact absurd (by assumption) h9.2.2.2.2)]) hx hb hr rfl hlocks (xH.to (by first | (rw [pif_t ⟨by first | assumption | exact vp_in_nI h_jx (by omega), by assumption, by assumption, (in_const (by decide)).mp (by assumption), by assumption⟩]; first | done | rfl) | rw [pif_f (fun h9 => by first | exact absurd h9.1 (by assumption) | exact absurd h9.2.1 (by assumption) | exact absurd h9.2.2.1 (by assumption) | exact absurd ((in_const (n := 999) (by decide)).mpr h9.2.2.2.1) (by assumption) | exact absurd (by assumption) h9.2.2.2.2)]) rfl rfl hw.1) hw.2.1 dX0_tell_56
  refine lv_iload hx hb dX0_tell_28 (lv_at hl 4 rfl) ?_
  refine lv_iconst (v := nI 0) hx hb dX0_tell_30 (by decide) ?_
  refine lv_sipush (v := nI 999) hx hb dX0_tell_31 (by decide) ?_
  refine c_read (va_runS (As := [.int v, .int (nI 0), .int (nI 999)]) (rest := []) ⟨hx, hb, hml, hown, hts⟩ (met_X0_in l G v (nI 0) (nI 999)) (cs_X0_X0_in hts ⟨Nat.le_of_ble_eq_true rfl, Nat.le_of_ble_eq_true rfl⟩) (cP.pre hK trivial) rfl rfl hl.1 rfl (lv_room (Nat.le_of_ble_eq_true rfl)) dX0_tell_34 ⟨by first | exact Nat.zero_le _ | omega | decide, by first | exact Nat.zero_le _ | omega | decide⟩) ?_
  refine b_if_eq (tgt := 55) hx hb dX0_tell_37 (by decide) (fun c_4 => ?_) (fun c_4 => ?_)
  · refine lv_iconst (v := (-1)) hx hb dX0_tell_55 (by decide) ?_
    refine W.widen (k := 1) (n := 4) (Nat.le_of_ble_eq_true rfl) (Nat.le_of_ble_eq_true rfl) ?_
    exact c_iret (v := (-1)) (by first | (rw [pif_t ⟨by first | assumption | exact vp_in_nI h_jx (by omega), by assumption, by assumption, (in_const (by decide)).mp (by assumption), by assumption⟩]; first | done | rfl) | rw [pif_f (fun h9 => by first | exact absurd h9.1 (by assumption) | exact absurd h9.2.1 (by assumption) | exact absurd h9.2.2.1 (by assumption) | exact absurd ((in_const (n := 999) (by decide)).mpr h9.2.2.2.1) (by assumption) | exact absurd (by assumption) h9.2.2.2.2)]) hx hb hr rfl hlocks (xH.to (by first | (rw [pif_t ⟨by first | assumption | exact vp_in_nI h_jx (by omega), by assumption, by assumption, (in_const (by decide)).mp (by assumption), by assumption⟩]; first | done | rfl) | rw [pif_f (fun h9 => by first | exact absurd h9.1 (by assumption) | exact absurd h9.2.1 (by assumption) | exact absurd h9.2.2.1 (by assumption) | exact absurd ((in_const (n := 999) (by decide)).mpr h9.2.2.2.1) (by assumption) | exact absurd (by assumption) h9.2.2.2.2)]) rfl rfl hw.1) hw.2.1 dX0_tell_56
  refine lv_aload_n hx hb dX0_tell_40 rfl (lv_at hl 0 rfl) ?_
  refine x_g_now hx hb hts hown hK hw dX0_tell_41 ?_
  refine x_sX0_51_n hx hb hts hown hK hw dX0_tell_44 ?_
  refine lv_bipush (v := nI 6) hx hb dX0_tell_47 (by decide) ?_
  refine x_l (k := 52) (j := 6) (n := 7) (v := nI nt) hx hb hK hw et (by decide) (by decide) dX0_tell_49 ?_
  refine lv_bipush (v := nI 20) hx hb dX0_tell_50 (by decide) ?_
  refine n_icmp_ne (tgt := 57) hx hb dX0_tell_52 (by decide) (by omega) (by decide) (fun c_5 => ?_) (fun c_5 => ?_)
  · refine lv_iconst (v := nI 4) hx hb dX0_tell_57 (by decide) ?_
    refine xn_new (n := 4) hx hb (hts _ q180) hK hw (by decide) (by decide) (Nat.le_of_ble_eq_true rfl) (Nat.le_of_ble_eq_true rfl) dX0_tell_58 (fun q_6 H hw hq_6 => ?_)
    refine lv_dup hx hb dX0_tell_60 rfl ?_
    refine lv_iconst (v := nI 0) hx hb dX0_tell_61 (by decide) ?_
    refine lv_iload_n hx hb dX0_tell_62 rfl (lv_at hl 2 rfl) ?_
    refine xn_s (j := 0) hx hb hK hw hq_6 (by decide) (by decide) dX0_tell_63 (fun H locs hw hq_6 => ?_)
    refine lv_dup hx hb dX0_tell_64 rfl ?_
    refine lv_iconst (v := nI 1) hx hb dX0_tell_65 (by decide) ?_
    refine lv_iload_n hx hb dX0_tell_66 rfl (lv_at hl 1 rfl) ?_
    refine xn_s (j := 1) hx hb hK hw hq_6 (by decide) (by decide) dX0_tell_67 (fun H locs hw hq_6 => ?_)
    refine lv_dup hx hb dX0_tell_68 rfl ?_
    refine lv_iconst (v := nI 2) hx hb dX0_tell_69 (by decide) ?_
    refine lv_iload_n hx hb dX0_tell_70 rfl (lv_at hl 3 rfl) ?_
    refine xn_s (j := 2) hx hb hK hw hq_6 (by decide) (by decide) dX0_tell_71 (fun H locs hw hq_6 => ?_)
    refine lv_dup hx hb dX0_tell_72 rfl ?_
    refine lv_iconst (v := nI 3) hx hb dX0_tell_73 (by decide) ?_
    refine lv_iload hx hb dX0_tell_74 (lv_at hl 4 rfl) ?_
    refine xn_s (j := 3) hx hb hK hw hq_6 (by decide) (by decide) dX0_tell_76 (fun H locs hw hq_6 => ?_)
    refine lv_astore (lv' := [(5, .ref q_6), (0, .ref (ad 0)), (1, .int (nI jx)), (2, .int y), (3, .int z), (4, .int v)]) hx hb dX0_tell_77 hl (by decide) rfl (fun ls hl => ?_)
    refine lv_aload hx hb dX0_tell_79 (lv_at hl 0 rfl) ?_
    refine lv_aload_n hx hb dX0_tell_81 rfl (lv_at hl 1 rfl) ?_
    refine x_g_now hx hb hts hown hK hw dX0_tell_82 ?_
    refine x_sX0_51_told hx hb hts hown hK hw dX0_tell_85 ?_
    refine lv_aload_n hx hb dX0_tell_88 rfl (lv_at hl 1 rfl) ?_
    refine x_g_now hx hb hts hown hK hw dX0_tell_89 ?_
    refine x_sX0_51_n hx hb hts hown hK hw dX0_tell_92 ?_
    refine lv_bipush (v := nI 6) hx hb dX0_tell_95 (by decide) ?_
    refine x_l (k := 52) (j := 6) (n := 7) (v := nI nt) hx hb hK hw et (by decide) (by decide) dX0_tell_97 ?_
    refine x_a (r := 73 + nt) hx hb hK hw xO_57 rfl (by decide) (by omega) rfl dX0_tell_98 ?_
    refine c_call (va_runSN (As := [.ref q_6, .ref (ad (73 + nt))]) (rest := []) ⟨hx, hb, hml, hown, hts⟩ (met_X1_copy l G q_6 (ad (73 + nt)) 4 (upd (upd (upd (upd (fun _ => 0) 0 y) 1 (nI jx)) 2 z) 3 v) (X (73 + nt)) (Ne.symm (hq_6.2.1 (73 + nt) (xLen_R (k := 73 + nt) (by rw [xL_73 (by omega)]; decide)))) (by decide)) ⟨cn_X0_X1_copy hts hK ⟨Nat.le_of_ble_eq_true rfl, Nat.le_of_ble_eq_true rfl⟩, hts _ q189, trivial⟩ (cP.pre hK ⟨hq_6.1, (hw.1.atx (xL_73 (by omega)) (by decide))⟩) rfl rfl hl.1 rfl (lv_room (Nat.le_of_ble_eq_true rfl)) dX0_tell_99 ⟨by first | exact Nat.zero_le _ | omega | decide, by first | exact Nat.zero_le _ | omega | decide⟩) hw.2.1 (fun q _ e9 => Or.inl ⟨73 + nt, (xLen_R (k := 73 + nt) (by rw [xL_73 (by omega)]; decide)), e9⟩) (fun q h9 => h9.elim (fun e9 => Or.inr (by rw [e9]; exact hq_6.2.2)) (fun e9 => Or.inl ⟨73 + nt, (xLen_R (k := 73 + nt) (by rw [xL_73 (by omega)]; decide)), e9⟩)) (fun H locs hB9 hz9 hk9 hS9 => ?_)
    replace hw := XS.row hw (xL_73 (by omega)) (by decide) hB9 hz9 hk9 hS9
    clear hB9 hz9 hk9 hS9
    refine lv_aload_n hx hb dX0_tell_102 rfl (lv_at hl 1 rfl) ?_
    refine x_g_now hx hb hts hown hK hw dX0_tell_103 ?_
    refine x_sX0_51_n hx hb hts hown hK hw dX0_tell_106 ?_
    refine lv_bipush (v := nI 6) hx hb dX0_tell_109 (by decide) ?_
    refine lv_dup2_11 hx hb dX0_tell_111 rfl rfl ?_
    refine x_l (k := 52) (j := 6) (n := 7) (v := nI nt) hx hb hK hw ((congrFun (upr_ne (by omega)) 6).trans et) (by decide) (by decide) dX0_tell_112 ?_
    refine lv_iconst (v := nI 1) hx hb dX0_tell_113 (by decide) ?_
    refine n_iadd hx hb dX0_tell_114 ?_
    refine x_s (k := 52) (j := 6) (n := 7) hx hb hK hw (by decide) (by decide) dX0_tell_115 (fun H locs hw => ?_)
    refine lv_aload_n hx hb dX0_tell_116 rfl (lv_at hl 1 rfl) ?_
    refine x_g_now hx hb hts hown hK hw dX0_tell_117 ?_
    refine x_sX0_51_n hx hb hts hown hK hw dX0_tell_120 ?_
    refine lv_bipush (v := nI 6) hx hb dX0_tell_123 (by decide) ?_
    refine x_l (k := 52) (j := 6) (n := 7) (v := nI (nt + 1)) hx hb hK hw up2_at (by decide) (by decide) dX0_tell_125 ?_
    refine W.widen (k := 1) (n := 4) (Nat.le_of_ble_eq_true rfl) (Nat.le_of_ble_eq_true rfl) ?_
    exact c_iret (v := nI (nt + 1)) (by first | (rw [pif_t ⟨by first | assumption | exact vp_in_nI h_jx (by omega), by assumption, by assumption, (in_const (by decide)).mp (by assumption), by assumption⟩]; first | done | rfl) | rw [pif_f (fun h9 => by first | exact absurd h9.1 (by assumption) | exact absurd h9.2.1 (by assumption) | exact absurd h9.2.2.1 (by assumption) | exact absurd ((in_const (n := 999) (by decide)).mpr h9.2.2.2.1) (by assumption) | exact absurd (by assumption) h9.2.2.2.2)]) hx hb hr rfl hlocks (xH.to (by first | (rw [pif_t ⟨by first | assumption | exact vp_in_nI h_jx (by omega), by assumption, by assumption, (in_const (by decide)).mp (by assumption), by assumption⟩]; first | done | rfl) | rw [pif_f (fun h9 => by first | exact absurd h9.1 (by assumption) | exact absurd h9.2.1 (by assumption) | exact absurd h9.2.2.1 (by assumption) | exact absurd ((in_const (n := 999) (by decide)).mpr h9.2.2.2.1) (by assumption) | exact absurd (by assumption) h9.2.2.2.2)]) rfl rfl hw.1) hw.2.1 dX0_tell_126
  refine lv_iconst (v := (-1)) hx hb dX0_tell_55 (by decide) ?_
  refine W.widen (k := 1) (n := 4) (Nat.le_of_ble_eq_true rfl) (Nat.le_of_ble_eq_true rfl) ?_
  exact c_iret (v := (-1)) (by first | (rw [pif_t ⟨by first | assumption | exact vp_in_nI h_jx (by omega), by assumption, by assumption, (in_const (by decide)).mp (by assumption), by assumption⟩]; first | done | rfl) | rw [pif_f (fun h9 => by first | exact absurd h9.1 (by assumption) | exact absurd h9.2.1 (by assumption) | exact absurd h9.2.2.1 (by assumption) | exact absurd ((in_const (n := 999) (by decide)).mpr h9.2.2.2.1) (by assumption) | exact absurd (by assumption) h9.2.2.2.2)]) hx hb hr rfl hlocks (xH.to (by first | (rw [pif_t ⟨by first | assumption | exact vp_in_nI h_jx (by omega), by assumption, by assumption, (in_const (by decide)).mp (by assumption), by assumption⟩]; first | done | rfl) | rw [pif_f (fun h9 => by first | exact absurd h9.1 (by assumption) | exact absurd h9.2.1 (by assumption) | exact absurd h9.2.2.1 (by assumption) | exact absurd ((in_const (n := 999) (by decide)).mpr h9.2.2.2.1) (by assumption) | exact absurd (by assumption) h9.2.2.2.2)]) rfl rfl hw.1) hw.2.1 dX0_tell_56
