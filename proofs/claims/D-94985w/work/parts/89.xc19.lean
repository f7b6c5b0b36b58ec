theorem or16 {d k : Nat} (hd : d < 16) (hk : k < 4) : d ||| 2 ^ k < 16 := Nat.or_lt_two_pow (n := 4) hd (Nat.pow_lt_pow_right (by decide) hk)
def xEn (Z : Nat → Nat → Int32) (wk tm t : Nat) : Nat := cl (Z (435 + 60 * wk + tm) t)
def xLf (Z : Nat → Nat → Int32) (d t wk tm : Nat) : Int32 := Z (195 + 60 * wk + tm) t + Z (19 + (d ||| 2 ^ wk)) (xEn Z wk tm t + 1)
def xNf (Z : Nat → Nat → Int32) (d t wk tm : Nat) : Int32 := nI 1 + Z (35 + (d ||| 2 ^ wk)) (xEn Z wk tm t + 1)
def xMJ (Z : Nat → Nat → Int32) (d t wk tm : Nat) : Prop := ¬ Z (435 + 60 * wk + tm) t = (-1) ∧ xLf Z d t wk tm = Z (19 + d) t ∧ xNf Z d t wk tm = Z (35 + d) t
def xMB (Z : Nat → Nat → Int32) (d t wk tm : Nat) : Prop := ¬ Z (435 + 60 * wk + tm) t = (-1) ∧ (Z (19 + d) t < xLf Z d t wk tm ∨ xLf Z d t wk tm = Z (19 + d) t ∧ xNf Z d t wk tm < Z (35 + d) t)
def xEOk (v : Int32) : Prop := v = (-1) ∨ ∃ e, e < 24 ∧ v = nI e
set_option maxHeartbeats 4000000 in
set_option maxRecDepth 100000 in
theorem met_X0_isMore_j (l : Launch) (G : gG) (ad : Nat → Nat) (sz : Nat) (X Z : Nat → Nat → Int32) (T : Nat → Nat → Option Nat) (d t wk tm : Nat) (hd : d < 16) (ht : t < 24) (hwk : wk < 4) (htm : tm < 60) (hE : xEOk (Z (435 + 60 * wk + tm) t)) : Met l yX0_isMore (ws_ yX0_isMore cX0_isMore 9 (some .boolean)) ({ frames := 0, cells := 0, slots := 0, locals := 0 } : Room) (cP G [.ref (ad 0), .int (nI d), .int (nI t), .int (nI wk), .int (nI tm), .int (nI 1)] (xH G ad X Z T sz)) (cR (some (.int (bI (xMJ Z d t wk tm))))) 0 0 (fun _ => False) := by
  refine c_start (by decide) (Nat.le_of_ble_eq_true rfl) ?_
  intro p e s m below meth c hx hb hr hlocks hml hown hts hB hK ls hl
  have hz := hB.2.2
  have hw := XS.of hB
  have hl : lv_has ls 9 [(0, .ref (ad 0)), (1, .int (nI d)), (2, .int (nI t)), (3, .int (nI wk)), (4, .int (nI tm)), (5, .int (nI 1))] := hl
  refine lv_aload_n hx hb dX0_isMore_0 rfl (lv_at hl 0 rfl) ?_
  refine x_g_endIn hx hb hts hown hK hw dX0_isMore_1 ?_
  refine lv_iload_n hx hb dX0_isMore_4 rfl (lv_at hl 3 rfl) ?_
  refine x_a (r := 15 + wk) hx hb hK hw xO_5 rfl (by decide) (by omega) rfl dX0_isMore_5 ?_
  refine lv_iload hx hb dX0_isMore_6 (lv_at hl 4 rfl) ?_
  refine x_a (r := 435 + 60 * wk + tm) hx hb hK hw (xO_15 (by omega)) rfl (by decide) (by omega) rfl dX0_isMore_8 ?_
  refine lv_iload_n hx hb dX0_isMore_9 rfl (lv_at hl 2 rfl) ?_
  refine z_l (k := 435 + 60 * wk + tm) (j := t) (n := 24) (v := Z (435 + 60 * wk + tm) t) hx hb hK hw rfl (zM_435 (by omega) (by omega)) (by omega) dX0_isMore_10 ?_
  refine lv_istore (lv' := [(6, .int (Z (435 + 60 * wk + tm) t)), (0, .ref (ad 0)), (1, .int (nI d)), (2, .int (nI t)), (3, .int (nI wk)), (4, .int (nI tm)), (5, .int (nI 1))]) hx hb dX0_isMore_11 hl (by decide) rfl (fun ls hl => ?_)
  refine lv_iload hx hb dX0_isMore_13 (lv_at hl 0 rfl) ?_
  refine lv_iconst (v := (-1)) hx hb dX0_isMore_15 (by decide) ?_
  refine lv_icmp_ne (tgt := 21) hx hb dX0_isMore_16 (by decide) (fun c_1 => ?_) (fun c_1 => ?_)
  · obtain ⟨en, hen, een⟩ := hE.resolve_left c_1
    have hkcl : xEn Z wk tm t = en := by unfold xEn; rw [een]; exact nI_clamp (by omega)
    have hor := or16 hd hwk
    replace hl : lv_has ls 9 [(6, .int (nI en)), (0, .ref (ad 0)), (1, .int (nI d)), (2, .int (nI t)), (3, .int (nI wk)), (4, .int (nI tm)), (5, .int (nI 1))] := by rw [← een]; exact hl
    refine lv_aload_n hx hb dX0_isMore_21 rfl (lv_at hl 1 rfl) ?_
    refine x_g_gain hx hb hts hown hK hw dX0_isMore_22 ?_
    refine lv_iload_n hx hb dX0_isMore_25 rfl (lv_at hl 4 rfl) ?_
    refine x_a (r := 11 + wk) hx hb hK hw xO_4 rfl (by decide) (by omega) rfl dX0_isMore_26 ?_
    refine lv_iload hx hb dX0_isMore_27 (lv_at hl 5 rfl) ?_
    refine x_a (r := 195 + 60 * wk + tm) hx hb hK hw (xO_11 (by omega)) rfl (by decide) (by omega) rfl dX0_isMore_29 ?_
    refine lv_iload_n hx hb dX0_isMore_30 rfl (lv_at hl 3 rfl) ?_
    refine z_l (k := 195 + 60 * wk + tm) (j := t) (n := 24) (v := Z (195 + 60 * wk + tm) t) hx hb hK hw rfl (zM_195 (by omega) (by omega)) (by omega) dX0_isMore_31 ?_
    refine lv_aload_n hx hb dX0_isMore_32 rfl (lv_at hl 1 rfl) ?_
    refine x_g_most hx hb hts hown hK hw dX0_isMore_33 ?_
    refine lv_iload_n hx hb dX0_isMore_36 rfl (lv_at hl 2 rfl) ?_
    refine lv_iconst (v := nI 1) hx hb dX0_isMore_37 (by decide) ?_
    refine lv_iload_n hx hb dX0_isMore_38 rfl (lv_at hl 4 rfl) ?_
    refine lv_ishl hx hb dX0_isMore_39 ?_
    rw [shl1 wk (by omega)]
    refine lv_ior hx hb dX0_isMore_40 ?_
    rw [or_small d (by omega) _ (Nat.pow_lt_pow_right (m := wk) (n := 6) (by decide) (by omega))]
    refine x_a (r := 19 + (d ||| 2 ^ wk)) hx hb hK hw xO_9 rfl (by decide) (by omega) rfl dX0_isMore_41 ?_
    refine lv_iload hx hb dX0_isMore_42 (lv_at hl 0 rfl) ?_
    refine lv_iconst (v := nI 1) hx hb dX0_isMore_44 (by decide) ?_
    refine n_iadd hx hb dX0_isMore_45 ?_
    refine z_l (k := 19 + (d ||| 2 ^ wk)) (j := en + 1) (n := 25) (v := Z (19 + (d ||| 2 ^ wk)) (en + 1)) hx hb hK hw rfl (zL_19 (by omega)) (by omega) dX0_isMore_46 ?_
    refine lv_iadd hx hb dX0_isMore_47 ?_
    refine lv_istore (lv' := [(7, .int ((Z (195 + 60 * wk + tm) t) + (Z (19 + (d ||| 2 ^ wk)) (en + 1)))), (6, .int (nI en)), (0, .ref (ad 0)), (1, .int (nI d)), (2, .int (nI t)), (3, .int (nI wk)), (4, .int (nI tm)), (5, .int (nI 1))]) hx hb dX0_isMore_48 hl (by decide) rfl (fun ls hl => ?_)
    refine lv_iconst (v := nI 1) hx hb dX0_isMore_50 (by decide) ?_
    refine lv_aload_n hx hb dX0_isMore_51 rfl (lv_at hl 2 rfl) ?_
    refine x_g_fewest hx hb hts hown hK hw dX0_isMore_52 ?_
    refine lv_iload_n hx hb dX0_isMore_55 rfl (lv_at hl 3 rfl) ?_
    refine lv_iconst (v := nI 1) hx hb dX0_isMore_56 (by decide) ?_
    refine lv_iload_n hx hb dX0_isMore_57 rfl (lv_at hl 5 rfl) ?_
    refine lv_ishl hx hb dX0_isMore_58 ?_
    rw [shl1 wk (by omega)]
    refine lv_ior hx hb dX0_isMore_59 ?_
    rw [or_small d (by omega) _ (Nat.pow_lt_pow_right (m := wk) (n := 6) (by decide) (by omega))]
    refine x_a (r := 35 + (d ||| 2 ^ wk)) hx hb hK hw xO_10 rfl (by decide) (by omega) rfl dX0_isMore_60 ?_
    refine lv_iload hx hb dX0_isMore_61 (lv_at hl 1 rfl) ?_
    refine lv_iconst (v := nI 1) hx hb dX0_isMore_63 (by decide) ?_
    refine n_iadd hx hb dX0_isMore_64 ?_
    refine z_l (k := 35 + (d ||| 2 ^ wk)) (j := en + 1) (n := 25) (v := Z (35 + (d ||| 2 ^ wk)) (en + 1)) hx hb hK hw rfl (zL_35 (by omega)) (by omega) dX0_isMore_65 ?_
    refine lv_iadd hx hb dX0_isMore_66 ?_
    refine lv_istore (lv' := [(8, .int ((nI 1) + (Z (35 + (d ||| 2 ^ wk)) (en + 1)))), (7, .int ((Z (195 + 60 * wk + tm) t) + (Z (19 + (d ||| 2 ^ wk)) (en + 1)))), (6, .int (nI en)), (0, .ref (ad 0)), (1, .int (nI d)), (2, .int (nI t)), (3, .int (nI wk)), (4, .int (nI tm)), (5, .int (nI 1))]) hx hb dX0_isMore_67 hl (by decide) rfl (fun ls hl => ?_)
    have hxl : xLf Z d t wk tm = (Z (195 + 60 * wk + tm) t) + (Z (19 + (d ||| 2 ^ wk)) (en + 1)) := by unfold xLf; rw [hkcl]
    have hxn : xNf Z d t wk tm = (nI 1) + (Z (35 + (d ||| 2 ^ wk)) (en + 1)) := by unfold xNf; rw [hkcl]
    replace hl : lv_has ls 9 [(8, .int (xNf Z d t wk tm)), (7, .int (xLf Z d t wk tm)), (6, .int (nI en)), (0, .ref (ad 0)), (1, .int (nI d)), (2, .int (nI t)), (3, .int (nI wk)), (4, .int (nI tm)), (5, .int (nI 1))] := by rw [hxl, hxn]; exact hl
    refine lv_iload hx hb dX0_isMore_69 (lv_at hl 8 rfl) ?_
    refine n_if_eq (tgt := 106) hx hb dX0_isMore_71 (by decide) (by decide) (fun h9 => absurd h9 (by decide)) (fun _ => ?_)
    refine lv_iload hx hb dX0_isMore_74 (lv_at hl 1 rfl) ?_
    refine lv_aload_n hx hb dX0_isMore_76 rfl (lv_at hl 3 rfl) ?_
    refine x_g_most hx hb hts hown hK hw dX0_isMore_77 ?_
    refine lv_iload_n hx hb dX0_isMore_80 rfl (lv_at hl 4 rfl) ?_
    refine x_a (r := 19 + d) hx hb hK hw xO_9 rfl (by decide) (by omega) rfl dX0_isMore_81 ?_
    refine lv_iload_n hx hb dX0_isMore_82 rfl (lv_at hl 5 rfl) ?_
    refine z_l (k := 19 + d) (j := t) (n := 25) (v := Z (19 + d) t) hx hb hK hw rfl (zL_19 (by omega)) (by omega) dX0_isMore_83 ?_
    refine lv_icmp_ne (tgt := 104) hx hb dX0_isMore_84 (by decide) (fun c_2 => ?_) (fun c_2 => ?_)
    · refine lv_iconst (v := nI 0) hx hb dX0_isMore_104 (by decide) ?_
      exact c_rret (v := nI 0) ((bI_f (fun h9 : xMJ Z d t wk tm => by first | exact absurd h9.1 (by first | exact (fun h8 => h8 (by with_reducible assumption))) | exact absurd h9.2.1 (by with_reducible assumption) | exact absurd h9.2.2 (by with_reducible assumption))).symm) hx hb hr rfl hlocks dX0_isMore_105 rfl rfl
    refine lv_iload hx hb dX0_isMore_87 (lv_at hl 0 rfl) ?_
    refine lv_aload_n hx hb dX0_isMore_89 rfl (lv_at hl 3 rfl) ?_
    refine x_g_fewest hx hb hts hown hK hw dX0_isMore_90 ?_
    refine lv_iload_n hx hb dX0_isMore_93 rfl (lv_at hl 4 rfl) ?_
    refine x_a (r := 35 + d) hx hb hK hw xO_10 rfl (by decide) (by omega) rfl dX0_isMore_94 ?_
    refine lv_iload_n hx hb dX0_isMore_95 rfl (lv_at hl 5 rfl) ?_
    refine z_l (k := 35 + d) (j := t) (n := 25) (v := Z (35 + d) t) hx hb hK hw rfl (zL_35 (by omega)) (by omega) dX0_isMore_96 ?_
    refine lv_icmp_ne (tgt := 104) hx hb dX0_isMore_97 (by decide) (fun c_3 => ?_) (fun c_3 => ?_)
    · refine lv_iconst (v := nI 0) hx hb dX0_isMore_104 (by decide) ?_
      exact c_rret (v := nI 0) ((bI_f (fun h9 : xMJ Z d t wk tm => by first | exact absurd h9.1 (by first | exact (fun h8 => h8 (by with_reducible assumption))) | exact absurd h9.2.1 (by with_reducible assumption) | exact absurd h9.2.2 (by with_reducible assumption))).symm) hx hb hr rfl hlocks dX0_isMore_105 rfl rfl
    refine lv_iconst (v := nI 1) hx hb dX0_isMore_100 (by decide) ?_
    refine lv_goto (tgt := 105) hx hb dX0_isMore_101 (by decide) ?_
    exact c_rret (v := nI 1) ((bI_t (show xMJ Z d t wk tm from ⟨c_1, by with_reducible assumption, by with_reducible assumption⟩)).symm) hx hb hr rfl hlocks dX0_isMore_105 rfl rfl
  refine lv_iconst (v := nI 0) hx hb dX0_isMore_19 (by decide) ?_
  exact c_rret (v := nI 0) ((bI_f (fun h9 : xMJ Z d t wk tm => by first | exact absurd h9.1 (by first | exact (fun h8 => h8 (by with_reducible assumption))) | exact absurd h9.2.1 (by with_reducible assumption) | exact absurd h9.2.2 (by with_reducible assumption))).symm) hx hb hr rfl hlocks dX0_isMore_20 rfl rfl
set_option maxHeartbeats 4000000 in
set_option maxRecDepth 100000 in
theorem met_X0_isMore_m (l : Launch) (G : gG) (ad : Nat → Nat) (sz : Nat) (X Z : Nat → Nat → Int32) (T : Nat → Nat → Option Nat) (d t wk tm : Nat) (hd : d < 16) (ht : t < 24) (hwk : wk < 4) (htm : tm < 60) (hE : xEOk (Z (435 + 60 * wk + tm) t)) : Met l yX0_isMore (ws_ yX0_isMore cX0_isMore 9 (some .boolean)) ({ frames := 0, cells := 0, slots := 0, locals := 0 } : Room) (cP G [.ref (ad 0), .int (nI d), .int (nI t), .int (nI wk), .int (nI tm), .int (nI 0)] (xH G ad X Z T sz)) (cR (some (.int (bI (xMB Z d t wk tm))))) 0 0 (fun _ => False) := by
  refine c_start (by decide) (Nat.le_of_ble_eq_true rfl) ?_
  intro p e s m below meth c hx hb hr hlocks hml hown hts hB hK ls hl
  have hz := hB.2.2
  have hw := XS.of hB
  have hl : lv_has ls 9 [(0, .ref (ad 0)), (1, .int (nI d)), (2, .int (nI t)), (3, .int (nI wk)), (4, .int (nI tm)), (5, .int (nI 0))] := hl
  refine lv_aload_n hx hb dX0_isMore_0 rfl (lv_at hl 0 rfl) ?_
  refine x_g_endIn hx hb hts hown hK hw dX0_isMore_1 ?_
  refine lv_iload_n hx hb dX0_isMore_4 rfl (lv_at hl 3 rfl) ?_
  refine x_a (r := 15 + wk) hx hb hK hw xO_5 rfl (by decide) (by omega) rfl dX0_isMore_5 ?_
  refine lv_iload hx hb dX0_isMore_6 (lv_at hl 4 rfl) ?_
  refine x_a (r := 435 + 60 * wk + tm) hx hb hK hw (xO_15 (by omega)) rfl (by decide) (by omega) rfl dX0_isMore_8 ?_
  refine lv_iload_n hx hb dX0_isMore_9 rfl (lv_at hl 2 rfl) ?_
  refine z_l (k := 435 + 60 * wk + tm) (j := t) (n := 24) (v := Z (435 + 60 * wk + tm) t) hx hb hK hw rfl (zM_435 (by omega) (by omega)) (by omega) dX0_isMore_10 ?_
  refine lv_istore (lv' := [(6, .int (Z (435 + 60 * wk + tm) t)), (0, .ref (ad 0)), (1, .int (nI d)), (2, .int (nI t)), (3, .int (nI wk)), (4, .int (nI tm)), (5, .int (nI 0))]) hx hb dX0_isMore_11 hl (by decide) rfl (fun ls hl => ?_)
  refine lv_iload hx hb dX0_isMore_13 (lv_at hl 0 rfl) ?_
  refine lv_iconst (v := (-1)) hx hb dX0_isMore_15 (by decide) ?_
  refine lv_icmp_ne (tgt := 21) hx hb dX0_isMore_16 (by decide) (fun c_1 => ?_) (fun c_1 => ?_)
  · obtain ⟨en, hen, een⟩ := hE.resolve_left c_1
    have hkcl : xEn Z wk tm t = en := by unfold xEn; rw [een]; exact nI_clamp (by omega)
    have hor := or16 hd hwk
    replace hl : lv_has ls 9 [(6, .int (nI en)), (0, .ref (ad 0)), (1, .int (nI d)), (2, .int (nI t)), (3, .int (nI wk)), (4, .int (nI tm)), (5, .int (nI 0))] := by rw [← een]; exact hl
    refine lv_aload_n hx hb dX0_isMore_21 rfl (lv_at hl 1 rfl) ?_
    refine x_g_gain hx hb hts hown hK hw dX0_isMore_22 ?_
    refine lv_iload_n hx hb dX0_isMore_25 rfl (lv_at hl 4 rfl) ?_
    refine x_a (r := 11 + wk) hx hb hK hw xO_4 rfl (by decide) (by omega) rfl dX0_isMore_26 ?_
    refine lv_iload hx hb dX0_isMore_27 (lv_at hl 5 rfl) ?_
    refine x_a (r := 195 + 60 * wk + tm) hx hb hK hw (xO_11 (by omega)) rfl (by decide) (by omega) rfl dX0_isMore_29 ?_
    refine lv_iload_n hx hb dX0_isMore_30 rfl (lv_at hl 3 rfl) ?_
    refine z_l (k := 195 + 60 * wk + tm) (j := t) (n := 24) (v := Z (195 + 60 * wk + tm) t) hx hb hK hw rfl (zM_195 (by omega) (by omega)) (by omega) dX0_isMore_31 ?_
    refine lv_aload_n hx hb dX0_isMore_32 rfl (lv_at hl 1 rfl) ?_
    refine x_g_most hx hb hts hown hK hw dX0_isMore_33 ?_
    refine lv_iload_n hx hb dX0_isMore_36 rfl (lv_at hl 2 rfl) ?_
    refine lv_iconst (v := nI 1) hx hb dX0_isMore_37 (by decide) ?_
    refine lv_iload_n hx hb dX0_isMore_38 rfl (lv_at hl 4 rfl) ?_
    refine lv_ishl hx hb dX0_isMore_39 ?_
    rw [shl1 wk (by omega)]
    refine lv_ior hx hb dX0_isMore_40 ?_
    rw [or_small d (by omega) _ (Nat.pow_lt_pow_right (m := wk) (n := 6) (by decide) (by omega))]
    refine x_a (r := 19 + (d ||| 2 ^ wk)) hx hb hK hw xO_9 rfl (by decide) (by omega) rfl dX0_isMore_41 ?_
    refine lv_iload hx hb dX0_isMore_42 (lv_at hl 0 rfl) ?_
    refine lv_iconst (v := nI 1) hx hb dX0_isMore_44 (by decide) ?_
    refine n_iadd hx hb dX0_isMore_45 ?_
    refine z_l (k := 19 + (d ||| 2 ^ wk)) (j := en + 1) (n := 25) (v := Z (19 + (d ||| 2 ^ wk)) (en + 1)) hx hb hK hw rfl (zL_19 (by omega)) (by omega) dX0_isMore_46 ?_
    refine lv_iadd hx hb dX0_isMore_47 ?_
    refine lv_istore (lv' := [(7, .int ((Z (195 + 60 * wk + tm) t) + (Z (19 + (d ||| 2 ^ wk)) (en + 1)))), (6, .int (nI en)), (0, .ref (ad 0)), (1, .int (nI d)), (2, .int (nI t)), (3, .int (nI wk)), (4, .int (nI tm)), (5, .int (nI 0))]) hx hb dX0_isMore_48 hl (by decide) rfl (fun ls hl => ?_)
    refine lv_iconst (v := nI 1) hx hb dX0_isMore_50 (by decide) ?_
    refine lv_aload_n hx hb dX0_isMore_51 rfl (lv_at hl 2 rfl) ?_
    refine x_g_fewest hx hb hts hown hK hw dX0_isMore_52 ?_
    refine lv_iload_n hx hb dX0_isMore_55 rfl (lv_at hl 3 rfl) ?_
    refine lv_iconst (v := nI 1) hx hb dX0_isMore_56 (by decide) ?_
    refine lv_iload_n hx hb dX0_isMore_57 rfl (lv_at hl 5 rfl) ?_
    refine lv_ishl hx hb dX0_isMore_58 ?_
    rw [shl1 wk (by omega)]
    refine lv_ior hx hb dX0_isMore_59 ?_
    rw [or_small d (by omega) _ (Nat.pow_lt_pow_right (m := wk) (n := 6) (by decide) (by omega))]
    refine x_a (r := 35 + (d ||| 2 ^ wk)) hx hb hK hw xO_10 rfl (by decide) (by omega) rfl dX0_isMore_60 ?_
    refine lv_iload hx hb dX0_isMore_61 (lv_at hl 1 rfl) ?_
    refine lv_iconst (v := nI 1) hx hb dX0_isMore_63 (by decide) ?_
    refine n_iadd hx hb dX0_isMore_64 ?_
    refine z_l (k := 35 + (d ||| 2 ^ wk)) (j := en + 1) (n := 25) (v := Z (35 + (d ||| 2 ^ wk)) (en + 1)) hx hb hK hw rfl (zL_35 (by omega)) (by omega) dX0_isMore_65 ?_
    refine lv_iadd hx hb dX0_isMore_66 ?_
    refine lv_istore (lv' := [(8, .int ((nI 1) + (Z (35 + (d ||| 2 ^ wk)) (en + 1)))), (7, .int ((Z (195 + 60 * wk + tm) t) + (Z (19 + (d ||| 2 ^ wk)) (en + 1)))), (6, .int (nI en)), (0, .ref (ad 0)), (1, .int (nI d)), (2, .int (nI t)), (3, .int (nI wk)), (4, .int (nI tm)), (5, .int (nI 0))]) hx hb dX0_isMore_67 hl (by decide) rfl (fun ls hl => ?_)
    have hxl : xLf Z d t wk tm = (Z (195 + 60 * wk + tm) t) + (Z (19 + (d ||| 2 ^ wk)) (en + 1)) := by unfold xLf; rw [hkcl]
    have hxn : xNf Z d t wk tm = (nI 1) + (Z (35 + (d ||| 2 ^ wk)) (en + 1)) := by unfold xNf; rw [hkcl]
    replace hl : lv_has ls 9 [(8, .int (xNf Z d t wk tm)), (7, .int (xLf Z d t wk tm)), (6, .int (nI en)), (0, .ref (ad 0)), (1, .int (nI d)), (2, .int (nI t)), (3, .int (nI wk)), (4, .int (nI tm)), (5, .int (nI 0))] := by rw [hxl, hxn]; exact hl
    refine lv_iload hx hb dX0_isMore_69 (lv_at hl 8 rfl) ?_
    refine n_if_eq (tgt := 106) hx hb dX0_isMore_71 (by decide) (by decide) (fun _ => ?_) (fun h9 => absurd h9 (by decide))
    refine lv_iload hx hb dX0_isMore_106 (lv_at hl 1 rfl) ?_
    refine lv_aload_n hx hb dX0_isMore_108 rfl (lv_at hl 3 rfl) ?_
    refine x_g_most hx hb hts hown hK hw dX0_isMore_109 ?_
    refine lv_iload_n hx hb dX0_isMore_112 rfl (lv_at hl 4 rfl) ?_
    refine x_a (r := 19 + d) hx hb hK hw xO_9 rfl (by decide) (by omega) rfl dX0_isMore_113 ?_
    refine lv_iload_n hx hb dX0_isMore_114 rfl (lv_at hl 5 rfl) ?_
    refine z_l (k := 19 + d) (j := t) (n := 25) (v := Z (19 + d) t) hx hb hK hw rfl (zL_19 (by omega)) (by omega) dX0_isMore_115 ?_
    refine lv_icmp_gt (tgt := 145) hx hb dX0_isMore_116 (by decide) (fun c_2 => ?_) (fun c_2 => ?_)
    · refine lv_iconst (v := nI 1) hx hb dX0_isMore_145 (by decide) ?_
      refine lv_goto (tgt := 150) hx hb dX0_isMore_146 (by decide) ?_
      exact c_rret (v := nI 1) ((bI_t (show xMB Z d t wk tm from ⟨c_1, by first | exact Or.inl (by first | with_reducible assumption | exact Int32.not_le.mp (by with_reducible assumption) | exact Int32.not_lt.mp (by with_reducible assumption) | exact Int32.not_lt.mpr (by with_reducible assumption) | exact Int32.not_le.mpr (by with_reducible assumption)) | exact Or.inr ⟨by with_reducible assumption, by first | with_reducible assumption | exact Int32.not_le.mp (by with_reducible assumption) | exact Int32.not_lt.mp (by with_reducible assumption) | exact Int32.not_lt.mpr (by with_reducible assumption) | exact Int32.not_le.mpr (by with_reducible assumption)⟩⟩)).symm) hx hb hr rfl hlocks dX0_isMore_150 rfl rfl
    refine lv_iload hx hb dX0_isMore_119 (lv_at hl 1 rfl) ?_
    refine lv_aload_n hx hb dX0_isMore_121 rfl (lv_at hl 3 rfl) ?_
    refine x_g_most hx hb hts hown hK hw dX0_isMore_122 ?_
    refine lv_iload_n hx hb dX0_isMore_125 rfl (lv_at hl 4 rfl) ?_
    refine x_a (r := 19 + d) hx hb hK hw xO_9 rfl (by decide) (by omega) rfl dX0_isMore_126 ?_
    refine lv_iload_n hx hb dX0_isMore_127 rfl (lv_at hl 5 rfl) ?_
    refine z_l (k := 19 + d) (j := t) (n := 25) (v := Z (19 + d) t) hx hb hK hw rfl (zL_19 (by omega)) (by omega) dX0_isMore_128 ?_
    refine lv_icmp_ne (tgt := 149) hx hb dX0_isMore_129 (by decide) (fun c_3 => ?_) (fun c_3 => ?_)
    · refine lv_iconst (v := nI 0) hx hb dX0_isMore_149 (by decide) ?_
      exact c_rret (v := nI 0) ((bI_f (fun h9 : xMB Z d t wk tm => by first | exact absurd (by with_reducible assumption) h9.1 | (rcases h9.2 with h8 | ⟨h8, h7⟩; (exact absurd h8 (by first | with_reducible assumption | exact Int32.not_le.mp (by with_reducible assumption) | exact Int32.not_lt.mp (by with_reducible assumption) | exact Int32.not_lt.mpr (by with_reducible assumption) | exact Int32.not_le.mpr (by with_reducible assumption))); (first | exact absurd h8 (by with_reducible assumption) | exact absurd h7 (by first | with_reducible assumption | exact Int32.not_le.mp (by with_reducible assumption) | exact Int32.not_lt.mp (by with_reducible assumption) | exact Int32.not_lt.mpr (by with_reducible assumption) | exact Int32.not_le.mpr (by with_reducible assumption)))))).symm) hx hb hr rfl hlocks dX0_isMore_150 rfl rfl
    refine lv_iload hx hb dX0_isMore_132 (lv_at hl 0 rfl) ?_
    refine lv_aload_n hx hb dX0_isMore_134 rfl (lv_at hl 3 rfl) ?_
    refine x_g_fewest hx hb hts hown hK hw dX0_isMore_135 ?_
    refine lv_iload_n hx hb dX0_isMore_138 rfl (lv_at hl 4 rfl) ?_
    refine x_a (r := 35 + d) hx hb hK hw xO_10 rfl (by decide) (by omega) rfl dX0_isMore_139 ?_
    refine lv_iload_n hx hb dX0_isMore_140 rfl (lv_at hl 5 rfl) ?_
    refine z_l (k := 35 + d) (j := t) (n := 25) (v := Z (35 + d) t) hx hb hK hw rfl (zL_35 (by omega)) (by omega) dX0_isMore_141 ?_
    refine lv_icmp_ge (tgt := 149) hx hb dX0_isMore_142 (by decide) (fun c_4 => ?_) (fun c_4 => ?_)
    · refine lv_iconst (v := nI 0) hx hb dX0_isMore_149 (by decide) ?_
      exact c_rret (v := nI 0) ((bI_f (fun h9 : xMB Z d t wk tm => by first | exact absurd (by with_reducible assumption) h9.1 | (rcases h9.2 with h8 | ⟨h8, h7⟩; (exact absurd h8 (by first | with_reducible assumption | exact Int32.not_le.mp (by with_reducible assumption) | exact Int32.not_lt.mp (by with_reducible assumption) | exact Int32.not_lt.mpr (by with_reducible assumption) | exact Int32.not_le.mpr (by with_reducible assumption))); (first | exact absurd h8 (by with_reducible assumption) | exact absurd h7 (by first | with_reducible assumption | exact Int32.not_le.mp (by with_reducible assumption) | exact Int32.not_lt.mp (by with_reducible assumption) | exact Int32.not_lt.mpr (by with_reducible assumption) | exact Int32.not_le.mpr (by with_reducible assumption)))))).symm) hx hb hr rfl hlocks dX0_isMore_150 rfl rfl
    refine lv_iconst (v := nI 1) hx hb dX0_isMore_145 (by decide) ?_
    refine lv_goto (tgt := 150) hx hb dX0_isMore_146 (by decide) ?_
    exact c_rret (v := nI 1) ((bI_t (show xMB Z d t wk tm from ⟨c_1, by first | exact Or.inl (by first | with_reducible assumption | exact Int32.not_le.mp (by with_reducible assumption) | exact Int32.not_lt.mp (by with_reducible assumption) | exact Int32.not_lt.mpr (by with_reducible assumption) | exact Int32.not_le.mpr (by with_reducible assumption)) | exact Or.inr ⟨by with_reducible assumption, by first | with_reducible assumption | exact Int32.not_le.mp (by with_reducible assumption) | exact Int32.not_lt.mp (by with_reducible assumption) | exact Int32.not_lt.mpr (by with_reducible assumption) | exact Int32.not_le.mpr (by with_reducible assumption)⟩⟩)).symm) hx hb hr rfl hlocks dX0_isMore_150 rfl rfl
  refine lv_iconst (v := nI 0) hx hb dX0_isMore_19 (by decide) ?_
  exact c_rret (v := nI 0) ((bI_f (fun h9 : xMB Z d t wk tm => by first | exact absurd (by with_reducible assumption) h9.1 | (rcases h9.2 with h8 | ⟨h8, h7⟩; (exact absurd h8 (by first | with_reducible assumption | exact Int32.not_le.mp (by with_reducible assumption) | exact Int32.not_lt.mp (by with_reducible assumption) | exact Int32.not_lt.mpr (by with_reducible assumption) | exact Int32.not_le.mpr (by with_reducible assumption))); (first | exact absurd h8 (by with_reducible assumption) | exact absurd h7 (by first | with_reducible assumption | exact Int32.not_le.mp (by with_reducible assumption) | exact Int32.not_lt.mp (by with_reducible assumption) | exact Int32.not_lt.mpr (by with_reducible assumption) | exact Int32.not_le.mpr (by with_reducible assumption)))))).symm) hx hb hr rfl hlocks dX0_isMore_20 rfl rfl
