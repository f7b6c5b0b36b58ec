def xBlPut (X : Nat → Nat → Int32) (nb ns : Nat) (x y z : Int32) : Nat → Nat → Int32 := up2 (it (fun k X => up2 X (93 + k) nb z) (ns - 0) 0 (up2 (upr X (61 + nb) (upd (upd (upd (fun _ => 0) 0 x) 1 y) 2 (nI 0))) 53 nb z)) 52 0 (nI (nb + 1))
noncomputable def xQuarrel (X : Nat → Nat → Int32) (nb : Nat) (x y w : Int32) : Nat → Nat → Int32 := pif (vp_in x nb ∧ vp_in y nb ∧ ¬ x = y) (up2 (up2 X (61 + cl x) 2 (mQ (X (61 + cl x) 2) (cl y) w)) (61 + cl y) 2 (mQ (X (61 + cl y) 2) (cl x) w)) X
def xKiPut (X : Nat → Nat → Int32) (nk : Nat) (x y z : Int32) : Nat → Nat → Int32 := up2 (upr X (67 + nk) (upd (upd (upd (fun _ => 0) 0 x) 1 y) 2 z)) 52 1 (nI (nk + 1))
def xTellPut (X : Nat → Nat → Int32) (nt : Nat) (x y z v : Int32) : Nat → Nat → Int32 := up2 (upr X (73 + nt) (upd (upd (upd (upd (fun _ => 0) 0 y) 1 x) 2 z) 3 v)) 52 6 (nI (nt + 1))
def xBeginPut (X : Nat → Nat → Int32) (np ns : Nat) (x : Int32) : Nat → Nat → Int32 := up2 (up2 (xZero (xKeep X ns) (12 + 10 * np) (12 + 10 * np + 10)) 53 (12 + 10 * np) x) 53 112 (nI (np + 1))
def xKeepC (X : Nat → Nat → Int32) : Nat → Nat → Int32 := xKeep X (cl (X 52 4))
def xLater1 (X : Nat → Nat → Int32) : Nat → Nat → Int32 := xZero (up2 (xKeepC X) 53 113 (X 53 113 + nI 1)) 6 12
def xLater (X : Nat → Nat → Int32) (n : Nat) : Nat → Nat → Int32 := it (fun _ X => xLater1 X) n 0 X
def xUndo (X : Nat → Nat → Int32) (ns : Nat) : Nat → Nat → Int32 := upr (up2 X 52 4 (nI (ns - 1))) 53 ((up2 X 52 4 (nI (ns - 1))) (93 + (ns - 1)))
set_option maxHeartbeats 4000000 in
set_option maxRecDepth 100000 in
theorem met_X0_blower (l : Launch) (G : gG) (ad : Nat → Nat) (sz : Nat) (X Z : Nat → Nat → Int32) (T : Nat → Nat → Option Nat) (x y z : Int32) (nb : Nat) (en : X 52 0 = nI nb) (hn : nb ≤ 6) (ns : Nat) (es : X 52 4 = nI ns) (hs : ns ≤ 30) : Met l yX0_blower (ws_ yX0_blower cX0_blower 7 (some .int)) ({ frames := 2, cells := 1, slots := 3, locals := 61 } : Room) (cP G [.ref (ad 0), .int x, .int y, .int z] (xH G ad X Z T sz)) (cQ (some (.int (pif (mBlOk x y z nb) (nI nb) (-1)))) (xH G ad (pif (mBlOk x y z nb) (xBlPut X nb ns x y z) X) Z T sz) (xA ad sz)) 1 3 (xA ad sz) := by
  refine c_start (by decide) (Nat.le_of_ble_eq_true rfl) ?_
  intro p e s m below meth c hx hb hr hlocks hml hown hts hB hK ls hl
  have hz := hB.2.2
  have hw := XS.of hB
  have hl : lv_has ls 7 [(0, .ref (ad 0)), (1, .int x), (2, .int y), (3, .int z)] := hl
  refine lv_aload_n hx hb dX0_blower_0 rfl (lv_at hl 0 rfl) ?_
  refine x_g_now hx hb hts hown hK hw dX0_blower_1 ?_
  refine x_sX0_51_n hx hb hts hown hK hw dX0_blower_4 ?_
  refine lv_iconst (v := nI 0) hx hb dX0_blower_7 (by decide) ?_
  refine x_l (k := 52) (j := 0) (n := 7) (v := nI nb) hx hb hK hw en (by decide) (by decide) dX0_blower_8 ?_
  refine lv_istore (lv' := [(4, .int (nI nb)), (0, .ref (ad 0)), (1, .int x), (2, .int y), (3, .int z)]) hx hb dX0_blower_9 hl (by decide) rfl (fun ls hl => ?_)
  refine lv_iload_n hx hb dX0_blower_11 rfl (lv_at hl 2 rfl) ?_
  refine lv_iconst (v := nI 1) hx hb dX0_blower_12 (by decide) ?_
  refine lv_bipush (v := nI 9) hx hb dX0_blower_13 (by decide) ?_
  refine c_read (va_runS (As := [.int x, .int (nI 1), .int (nI 9)]) (rest := []) ⟨hx, hb, hml, hown, hts⟩ (met_X0_in l G x (nI 1) (nI 9)) (cs_X0_X0_in hts ⟨Nat.le_of_ble_eq_true rfl, Nat.le_of_ble_eq_true rfl⟩) (cP.pre hK trivial) rfl rfl hl.1 rfl (lv_room (Nat.le_of_ble_eq_true rfl)) dX0_blower_15 ⟨by first | exact Nat.zero_le _ | omega | decide, by first | exact Nat.zero_le _ | omega | decide⟩) ?_
  refine b_if_eq (tgt := 48) hx hb dX0_blower_18 (by decide) (fun c_1 => ?_) (fun c_1 => ?_)
  · refine lv_iconst (v := (-1)) hx hb dX0_blower_48 (by decide) ?_
    refine W.widen (k := 1) (n := 3) (Nat.le_of_ble_eq_true rfl) (Nat.le_of_ble_eq_true rfl) ?_
    exact c_iret (v := (-1)) (by first | (rw [pif_t ⟨by assumption, by assumption, by assumption, by assumption⟩]; first | done | rfl) | rw [pif_f (fun h9 => by first | exact absurd h9.1 (by assumption) | exact absurd h9.2.1 (by assumption) | exact absurd h9.2.2.1 (by assumption) | exact absurd h9.2.2.2 (by assumption) | exact absurd (by assumption) h9.1 | exact absurd (by assumption) h9.2.1 | exact absurd (by assumption) h9.2.2.1 | exact absurd (by assumption) h9.2.2.2)]) hx hb hr rfl hlocks (xH.to (by first | (rw [pif_t ⟨by assumption, by assumption, by assumption, by assumption⟩]; first | done | rfl) | rw [pif_f (fun h9 => by first | exact absurd h9.1 (by assumption) | exact absurd h9.2.1 (by assumption) | exact absurd h9.2.2.1 (by assumption) | exact absurd h9.2.2.2 (by assumption) | exact absurd (by assumption) h9.1 | exact absurd (by assumption) h9.2.1 | exact absurd (by assumption) h9.2.2.1 | exact absurd (by assumption) h9.2.2.2)]) rfl rfl hw.1) hw.2.1 dX0_blower_49
  refine lv_iload_n hx hb dX0_blower_21 rfl (lv_at hl 3 rfl) ?_
  refine lv_iconst (v := nI 0) hx hb dX0_blower_22 (by decide) ?_
  refine lv_iconst (v := nI 3) hx hb dX0_blower_23 (by decide) ?_
  refine c_read (va_runS (As := [.int y, .int (nI 0), .int (nI 3)]) (rest := []) ⟨hx, hb, hml, hown, hts⟩ (met_X0_in l G y (nI 0) (nI 3)) (cs_X0_X0_in hts ⟨Nat.le_of_ble_eq_true rfl, Nat.le_of_ble_eq_true rfl⟩) (cP.pre hK trivial) rfl rfl hl.1 rfl (lv_room (Nat.le_of_ble_eq_true rfl)) dX0_blower_24 ⟨by first | exact Nat.zero_le _ | omega | decide, by first | exact Nat.zero_le _ | omega | decide⟩) ?_
  refine b_if_eq (tgt := 48) hx hb dX0_blower_27 (by decide) (fun c_2 => ?_) (fun c_2 => ?_)
  · refine lv_iconst (v := (-1)) hx hb dX0_blower_48 (by decide) ?_
    refine W.widen (k := 1) (n := 3) (Nat.le_of_ble_eq_true rfl) (Nat.le_of_ble_eq_true rfl) ?_
    exact c_iret (v := (-1)) (by first | (rw [pif_t ⟨by assumption, by assumption, by assumption, by assumption⟩]; first | done | rfl) | rw [pif_f (fun h9 => by first | exact absurd h9.1 (by assumption) | exact absurd h9.2.1 (by assumption) | exact absurd h9.2.2.1 (by assumption) | exact absurd h9.2.2.2 (by assumption) | exact absurd (by assumption) h9.1 | exact absurd (by assumption) h9.2.1 | exact absurd (by assumption) h9.2.2.1 | exact absurd (by assumption) h9.2.2.2)]) hx hb hr rfl hlocks (xH.to (by first | (rw [pif_t ⟨by assumption, by assumption, by assumption, by assumption⟩]; first | done | rfl) | rw [pif_f (fun h9 => by first | exact absurd h9.1 (by assumption) | exact absurd h9.2.1 (by assumption) | exact absurd h9.2.2.1 (by assumption) | exact absurd h9.2.2.2 (by assumption) | exact absurd (by assumption) h9.1 | exact absurd (by assumption) h9.2.1 | exact absurd (by assumption) h9.2.2.1 | exact absurd (by assumption) h9.2.2.2)]) rfl rfl hw.1) hw.2.1 dX0_blower_49
  refine lv_iload_n hx hb dX0_blower_30 rfl (lv_at hl 4 rfl) ?_
  refine lv_iconst (v := nI 0) hx hb dX0_blower_31 (by decide) ?_
  refine lv_sipush (v := nI 999) hx hb dX0_blower_32 (by decide) ?_
  refine c_read (va_runS (As := [.int z, .int (nI 0), .int (nI 999)]) (rest := []) ⟨hx, hb, hml, hown, hts⟩ (met_X0_in l G z (nI 0) (nI 999)) (cs_X0_X0_in hts ⟨Nat.le_of_ble_eq_true rfl, Nat.le_of_ble_eq_true rfl⟩) (cP.pre hK trivial) rfl rfl hl.1 rfl (lv_room (Nat.le_of_ble_eq_true rfl)) dX0_blower_35 ⟨by first | exact Nat.zero_le _ | omega | decide, by first | exact Nat.zero_le _ | omega | decide⟩) ?_
  refine b_if_eq (tgt := 48) hx hb dX0_blower_38 (by decide) (fun c_3 => ?_) (fun c_3 => ?_)
  · refine lv_iconst (v := (-1)) hx hb dX0_blower_48 (by decide) ?_
    refine W.widen (k := 1) (n := 3) (Nat.le_of_ble_eq_true rfl) (Nat.le_of_ble_eq_true rfl) ?_
    exact c_iret (v := (-1)) (by first | (rw [pif_t ⟨by assumption, by assumption, by assumption, by assumption⟩]; first | done | rfl) | rw [pif_f (fun h9 => by first | exact absurd h9.1 (by assumption) | exact absurd h9.2.1 (by assumption) | exact absurd h9.2.2.1 (by assumption) | exact absurd h9.2.2.2 (by assumption) | exact absurd (by assumption) h9.1 | exact absurd (by assumption) h9.2.1 | exact absurd (by assumption) h9.2.2.1 | exact absurd (by assumption) h9.2.2.2)]) hx hb hr rfl hlocks (xH.to (by first | (rw [pif_t ⟨by assumption, by assumption, by assumption, by assumption⟩]; first | done | rfl) | rw [pif_f (fun h9 => by first | exact absurd h9.1 (by assumption) | exact absurd h9.2.1 (by assumption) | exact absurd h9.2.2.1 (by assumption) | exact absurd h9.2.2.2 (by assumption) | exact absurd (by assumption) h9.1 | exact absurd (by assumption) h9.2.1 | exact absurd (by assumption) h9.2.2.1 | exact absurd (by assumption) h9.2.2.2)]) rfl rfl hw.1) hw.2.1 dX0_blower_49
  refine lv_iload hx hb dX0_blower_41 (lv_at hl 0 rfl) ?_
  refine lv_bipush (v := nI 6) hx hb dX0_blower_43 (by decide) ?_
  refine n_icmp_ne (tgt := 50) hx hb dX0_blower_45 (by decide) (by omega) (by decide) (fun c_4 => ?_) (fun c_4 => ?_)
  · refine lv_iconst (v := nI 3) hx hb dX0_blower_50 (by decide) ?_
    refine xn_new (n := 3) hx hb (hts _ q180) hK hw (by decide) (by decide) (Nat.le_of_ble_eq_true rfl) (Nat.le_of_ble_eq_true rfl) dX0_blower_51 (fun q_5 H hw hq_5 => ?_)
    refine lv_dup hx hb dX0_blower_53 rfl ?_
    refine lv_iconst (v := nI 0) hx hb dX0_blower_54 (by decide) ?_
    refine lv_iload_n hx hb dX0_blower_55 rfl (lv_at hl 2 rfl) ?_
    refine xn_s (j := 0) hx hb hK hw hq_5 (by decide) (by decide) dX0_blower_56 (fun H locs hw hq_5 => ?_)
    refine lv_dup hx hb dX0_blower_57 rfl ?_
    refine lv_iconst (v := nI 1) hx hb dX0_blower_58 (by decide) ?_
    refine lv_iload_n hx hb dX0_blower_59 rfl (lv_at hl 3 rfl) ?_
    refine xn_s (j := 1) hx hb hK hw hq_5 (by decide) (by decide) dX0_blower_60 (fun H locs hw hq_5 => ?_)
    refine lv_dup hx hb dX0_blower_61 rfl ?_
    refine lv_iconst (v := nI 2) hx hb dX0_blower_62 (by decide) ?_
    refine lv_iconst (v := nI 0) hx hb dX0_blower_63 (by decide) ?_
    refine xn_s (j := 2) hx hb hK hw hq_5 (by decide) (by decide) dX0_blower_64 (fun H locs hw hq_5 => ?_)
    refine lv_astore (lv' := [(5, .ref q_5), (4, .int (nI nb)), (0, .ref (ad 0)), (1, .int x), (2, .int y), (3, .int z)]) hx hb dX0_blower_65 hl (by decide) rfl (fun ls hl => ?_)
    refine lv_aload hx hb dX0_blower_67 (lv_at hl 0 rfl) ?_
    refine lv_aload_n hx hb dX0_blower_69 rfl (lv_at hl 2 rfl) ?_
    refine x_g_now hx hb hts hown hK hw dX0_blower_70 ?_
    refine x_sX0_51_blower hx hb hts hown hK hw dX0_blower_73 ?_
    refine lv_iload hx hb dX0_blower_76 (lv_at hl 1 rfl) ?_
    refine x_a (r := 61 + nb) hx hb hK hw xO_55 rfl (by decide) (by omega) rfl dX0_blower_78 ?_
    refine c_call (va_runSN (As := [.ref q_5, .ref (ad (61 + nb))]) (rest := []) ⟨hx, hb, hml, hown, hts⟩ (met_X1_copy l G q_5 (ad (61 + nb)) 3 (upd (upd (upd (fun _ => 0) 0 x) 1 y) 2 (nI 0)) (X (61 + nb)) (Ne.symm (hq_5.2.1 (61 + nb) (xLen_R (k := 61 + nb) (by rw [xL_61 (by omega)]; decide)))) (by decide)) ⟨cn_X0_X1_copy hts hK ⟨Nat.le_of_ble_eq_true rfl, Nat.le_of_ble_eq_true rfl⟩, hts _ q189, trivial⟩ (cP.pre hK ⟨hq_5.1, (hw.1.atx (xL_61 (by omega)) (by decide))⟩) rfl rfl hl.1 rfl (lv_room (Nat.le_of_ble_eq_true rfl)) dX0_blower_79 ⟨by first | exact Nat.zero_le _ | omega | decide, by first | exact Nat.zero_le _ | omega | decide⟩) hw.2.1 (fun q _ e9 => Or.inl ⟨61 + nb, (xLen_R (k := 61 + nb) (by rw [xL_61 (by omega)]; decide)), e9⟩) (fun q h9 => h9.elim (fun e9 => Or.inr (by rw [e9]; exact hq_5.2.2)) (fun e9 => Or.inl ⟨61 + nb, (xLen_R (k := 61 + nb) (by rw [xL_61 (by omega)]; decide)), e9⟩)) (fun H locs hB9 hz9 hk9 hS9 => ?_)
    replace hw := XS.row hw (xL_61 (by omega)) (by decide) hB9 hz9 hk9 hS9
    clear hB9 hz9 hk9 hS9
    refine lv_aload_n hx hb dX0_blower_82 rfl (lv_at hl 2 rfl) ?_
    refine x_g_now hx hb hts hown hK hw dX0_blower_83 ?_
    refine x_sX0_51_row hx hb hts hown hK hw dX0_blower_86 ?_
    refine lv_iconst (v := nI 0) hx hb dX0_blower_89 (by decide) ?_
    refine lv_iload hx hb dX0_blower_90 (lv_at hl 1 rfl) ?_
    refine n_iadd0 hx hb dX0_blower_92 ?_
    refine lv_iload_n hx hb dX0_blower_93 rfl (lv_at hl 5 rfl) ?_
    refine x_s (k := 53) (j := nb) (n := 275) hx hb hK hw (by decide) (by omega) dX0_blower_94 (fun H locs hw => ?_)
    refine lv_iconst (v := nI 0) hx hb dX0_blower_95 (by decide) ?_
    refine lv_istore (lv' := [(6, .int (nI 0)), (5, .ref q_5), (4, .int (nI nb)), (0, .ref (ad 0)), (1, .int x), (2, .int y), (3, .int z)]) hx hb dX0_blower_96 hl (by decide) rfl (fun ls hl => ?_)
    have L98_6 : ∀ (fuel : Nat) (k : Nat) (X1 : Nat → Nat → Int32), ns - k < fuel → (k ≤ ns) → (it (fun i9 X9 => (up2 X9 (93 + i9) nb z)) (ns - k) k X1 = (it (fun i9 X9 => (up2 X9 (93 + i9) nb z)) (ns - 0) 0 (up2 (upr X (61 + nb) (upd (upd (upd (fun _ => 0) 0 x) 1 y) 2 (nI 0))) 53 nb z))) → (X1 52 0 = nI nb) → (X1 52 4 = nI ns) → ∀ (H : Heap) (locs : List Loc), XS G ad sz s.heap X1 Z T H locs → ∀ (ls : Array Slot), lv_has ls 7 [(0, .ref (ad 0)), (1, .int x), (2, .int y), (3, .int z), (4, .int (nI nb)), (6, .int (nI k))] → W p l e ({ frames := 2, cells := 1, slots := 3, locals := 61 } : Room) s m ([.ref (ad 0), .int x, .int y, .int z] : List Value).toArray below meth c H locs (0 + 1) (0 + 3) (MQ below (cQ (some (.int (pif (mBlOk x y z nb) (nI nb) (-1)))) (xH G ad (pif (mBlOk x y z nb) (xBlPut X nb ns x y z) X) Z T sz) (xA ad sz)) ([.ref (ad 0), .int x, .int y, .int z] : List Value).toArray s 1 3 (xA ad sz)) (F0 m 98 ls []) := by
      intro fuel
      induction fuel with
      | zero => intro k X1 hf; exact absurd hf (Nat.not_lt_zero _)
      | succ fuel ih =>
        intro k X1 hf hi_X1 hM_X1 hf0_X1 hf1_X1 H locs hw ls hl
        have ih98 := ih
        refine lv_iload hx hb dX0_blower_98 (lv_at hl 5 rfl) ?_
        refine lv_aload_n hx hb dX0_blower_100 rfl (lv_at hl 0 rfl) ?_
        refine x_g_now hx hb hts hown hK hw dX0_blower_101 ?_
        refine x_sX0_51_n hx hb hts hown hK hw dX0_blower_104 ?_
        refine lv_iconst (v := nI 4) hx hb dX0_blower_107 (by decide) ?_
        refine x_l (k := 52) (j := 4) (n := 7) (v := nI ns) hx hb hK hw hf1_X1 (by decide) (by decide) dX0_blower_108 ?_
        refine n_icmp_ge (tgt := 134) hx hb dX0_blower_109 (by decide) (by omega) (by omega) (fun c_7 => ?_) (fun c_7 => ?_)
        · obtain rfl : X1 = (it (fun i9 X9 => (up2 X9 (93 + i9) nb z)) (ns - 0) 0 (up2 (upr X (61 + nb) (upd (upd (upd (fun _ => 0) 0 x) 1 y) 2 (nI 0))) 53 nb z)) := (it_z (by omega)).symm.trans hM_X1
          refine lv_aload_n hx hb dX0_blower_134 rfl (lv_at hl 0 rfl) ?_
          refine x_g_now hx hb hts hown hK hw dX0_blower_135 ?_
          refine x_sX0_51_n hx hb hts hown hK hw dX0_blower_138 ?_
          refine lv_iconst (v := nI 0) hx hb dX0_blower_141 (by decide) ?_
          refine lv_dup2_11 hx hb dX0_blower_142 rfl rfl ?_
          refine x_l (k := 52) (j := 0) (n := 7) (v := nI nb) hx hb hK hw hf0_X1 (by decide) (by decide) dX0_blower_143 ?_
          refine lv_iconst (v := nI 1) hx hb dX0_blower_144 (by decide) ?_
          refine n_iadd hx hb dX0_blower_145 ?_
          refine x_s (k := 52) (j := 0) (n := 7) hx hb hK hw (by decide) (by decide) dX0_blower_146 (fun H locs hw => ?_)
          refine lv_iload hx hb dX0_blower_147 (lv_at hl 4 rfl) ?_
          refine W.widen (k := 1) (n := 3) (Nat.le_of_ble_eq_true rfl) (Nat.le_of_ble_eq_true rfl) ?_
          exact c_iret (v := nI nb) (by first | (rw [pif_t ⟨by assumption, by assumption, by assumption, by assumption⟩]; first | done | rfl) | rw [pif_f (fun h9 => by first | exact absurd h9.1 (by assumption) | exact absurd h9.2.1 (by assumption) | exact absurd h9.2.2.1 (by assumption) | exact absurd h9.2.2.2 (by assumption) | exact absurd (by assumption) h9.1 | exact absurd (by assumption) h9.2.1 | exact absurd (by assumption) h9.2.2.1 | exact absurd (by assumption) h9.2.2.2)]) hx hb hr rfl hlocks (xH.to (by first | (rw [pif_t ⟨by assumption, by assumption, by assumption, by assumption⟩]; first | done | rfl) | rw [pif_f (fun h9 => by first | exact absurd h9.1 (by assumption) | exact absurd h9.2.1 (by assumption) | exact absurd h9.2.2.1 (by assumption) | exact absurd h9.2.2.2 (by assumption) | exact absurd (by assumption) h9.1 | exact absurd (by assumption) h9.2.1 | exact absurd (by assumption) h9.2.2.1 | exact absurd (by assumption) h9.2.2.2)]) rfl rfl hw.1) hw.2.1 dX0_blower_149
        refine lv_aload_n hx hb dX0_blower_112 rfl (lv_at hl 0 rfl) ?_
        refine x_g_now hx hb hts hown hK hw dX0_blower_113 ?_
        refine x_sX0_51_step hx hb hts hown hK hw dX0_blower_116 ?_
        refine lv_iload hx hb dX0_blower_119 (lv_at hl 5 rfl) ?_
        refine x_a (r := 93 + k) hx hb hK hw xO_58 rfl (by decide) (by omega) rfl dX0_blower_121 ?_
        refine lv_iconst (v := nI 0) hx hb dX0_blower_122 (by decide) ?_
        refine lv_iload hx hb dX0_blower_123 (lv_at hl 4 rfl) ?_
        refine n_iadd0 hx hb dX0_blower_125 ?_
        refine lv_iload_n hx hb dX0_blower_126 rfl (lv_at hl 3 rfl) ?_
        refine x_s (k := 93 + k) (j := nb) (n := 275) hx hb hK hw (xL_93 (by omega)) (by omega) dX0_blower_127 (fun H locs hw => ?_)
        refine lv_iinc (v := nI (k + 1)) (lv' := [(6, .int (nI (k + 1))), (0, .ref (ad 0)), (1, .int x), (2, .int y), (3, .int z), (4, .int (nI nb))]) hx hb dX0_blower_128 hl (k := 5) rfl (n_inc k 1) (by decide) rfl (fun ls hl => ?_)
        refine lv_goto (tgt := 98) hx hb dX0_blower_131 (by decide) ?_
        exact ih98 (k + 1) (up2 X1 (93 + k) nb z) (by omega) (by omega) ((it_s (by omega)).symm.trans hM_X1) ((up2_ne (Or.inl (by omega))).trans hf0_X1) ((up2_ne (Or.inl (by omega))).trans hf1_X1) _ _ hw ls (lv_sub hl [1, 2, 3, 4, 5, 0] rfl)
    exact L98_6 _ 0 (up2 (upr X (61 + nb) (upd (upd (upd (fun _ => 0) 0 x) 1 y) 2 (nI 0))) 53 nb z) (Nat.lt_succ_self _) (by omega) rfl ((up2_ne (Or.inl (by decide))).trans ((congrFun (upr_ne (by omega)) 0).trans en)) ((up2_ne (Or.inl (by decide))).trans ((congrFun (upr_ne (by omega)) 4).trans es)) _ _ hw ls (lv_sub hl [3, 4, 5, 6, 2, 0] rfl)
  refine lv_iconst (v := (-1)) hx hb dX0_blower_48 (by decide) ?_
  refine W.widen (k := 1) (n := 3) (Nat.le_of_ble_eq_true rfl) (Nat.le_of_ble_eq_true rfl) ?_
  exact c_iret (v := (-1)) (by first | (rw [pif_t ⟨by assumption, by assumption, by assumption, by assumption⟩]; first | done | rfl) | rw [pif_f (fun h9 => by first | exact absurd h9.1 (by assumption) | exact absurd h9.2.1 (by assumption) | exact absurd h9.2.2.1 (by assumption) | exact absurd h9.2.2.2 (by assumption) | exact absurd (by assumption) h9.1 | exact absurd (by assumption) h9.2.1 | exact absurd (by assumption) h9.2.2.1 | exact absurd (by assumption) h9.2.2.2)]) hx hb hr rfl hlocks (xH.to (by first | (rw [pif_t ⟨by assumption, by assumption, by assumption, by assumption⟩]; first | done | rfl) | rw [pif_f (fun h9 => by first | exact absurd h9.1 (by assumption) | exact absurd h9.2.1 (by assumption) | exact absurd h9.2.2.1 (by assumption) | exact absurd h9.2.2.2 (by assumption) | exact absurd (by assumption) h9.1 | exact absurd (by assumption) h9.2.1 | exact absurd (by assumption) h9.2.2.1 | exact absurd (by assumption) h9.2.2.2)]) rfl rfl hw.1) hw.2.1 dX0_blower_49
