def xHit (Z : Nat → Nat → Int32) (nb d t wk tm : Nat) : Prop := ¬ mHas (nI d) wk ∧ xTeam nb tm ∧ xMJ Z d t wk tm
/-- the best plan's works, in order -/
def xChn (Z : Nat → Nat → Int32) (nb nw e1 N : Nat) (ds ts ws tms : Nat → Nat) : Prop :=
  ds 0 = 0 ∧ ts 0 = 0 ∧ N ≤ 4 ∧ (∀ i, i ≤ N → ds i < 16 ∧ ts i ≤ e1) ∧ Z (35 + ds N) (ts N) ≤ 0 ∧ ∀ i, i < N → ¬ Z (35 + ds i) (ts i) ≤ 0 ∧ ts i < e1 ∧ ws i < nw ∧ tms i < 60 ∧ xHit Z nb (ds i) (ts i) (ws i) (tms i) ∧ (∀ wk tm, tm < 60 → 60 * wk + tm < 60 * ws i + tms i → ¬ xHit Z nb (ds i) (ts i) wk tm) ∧ ds (i + 1) = ds i ||| 2 ^ ws i ∧ ts (i + 1) = xEn Z (ws i) (tms i) (ts i) + 1
theorem xMJ_congr {Z Z' : Nat → Nat → Int32} {d t wk tm : Nat} (h : ∀ k9, k9 ≠ 7 → k9 ≠ 8 → Z' k9 = Z k9) : xMJ Z' d t wk tm ↔ xMJ Z d t wk tm := by
  unfold xMJ xLf xNf xEn
  rw [h (435 + 60 * wk + tm) (by omega) (by omega), h (195 + 60 * wk + tm) (by omega) (by omega), h (19 + (d ||| 2 ^ wk)) (by omega) (by omega), h (35 + (d ||| 2 ^ wk)) (by omega) (by omega), h (19 + d) (by omega) (by omega), h (35 + d) (by omega) (by omega)]
set_option maxHeartbeats 4000000 in
set_option maxRecDepth 100000 in
theorem met_X0_goesPlan (l : Launch) (G : gG) (ad : Nat → Nat) (sz : Nat) (X Z : Nat → Nat → Int32) (T : Nat → Nat → Option Nat) (M : Nat → Nat → Int32) (nb nk nx np h nu ns ne nt : Nat) (hR : RS X 51 (M 0) nb nk nx np h nu ns ne nt) (nw e1 N : Nat) (ds ts ws tms : Nat → Nat) (hnw : nw ≤ 4) (he : e1 ≤ 24) (htab : ∀ i tm t, i < nw → tm < 60 → xTeam nb tm → t < e1 → xEOk (Z (435 + 60 * i + tm) t)) (hch : xChn Z nb nw e1 N ds ts ws tms) : Met l yX0_goesPlan (ws_ yX0_goesPlan cX0_goesPlan 7 (some .int)) ({ frames := 3, cells := 0, slots := 0, locals := 64 } : Room) (cP G [.ref (ad 0)] (xH G ad X Z T sz)) (cQ (some (.int (nI N))) (fun H => ∃ Z9, ((∀ j, j < N → Z9 7 j = Z 6 (ws j) ∧ Z9 8 j = nI (tms j)) ∧ (∀ k9, k9 ≠ 7 → k9 ≠ 8 → Z9 k9 = Z k9)) ∧ xH G ad X Z9 T sz H) (xA ad sz)) 0 0 (xA ad sz) := by
  refine c_start (by decide) (Nat.le_of_ble_eq_true rfl) ?_
  intro p e s m below meth c hx hb hr hlocks hml hown hts hB hK ls hl
  have hz := hB.2.2
  have hw := XS.of hB
  have hl : lv_has ls 7 [(0, .ref (ad 0))] := hl
  have hR0 := hR
  obtain ⟨⟨rnb, mnb, hnb⟩, ⟨rnk, mnk, hnk⟩, ⟨rnx, mnx, hnx⟩, rtx, ⟨rns, mns, hns⟩, ⟨rne, mne, hne⟩, ⟨rnt, mnt, hnt⟩, ⟨rnp, mnp, hnp⟩, ⟨rh, mh, hh⟩, ⟨rnu, mnu, hnu⟩, rbl, rbe, rgi, rki, rse, rto, rpi, rbu, rkd, rva, rst⟩ := hR
  change X 52 0 = _ at rnb; change X 52 1 = _ at rnk; change X 52 2 = _ at rnx; change X 52 3 = _ at rtx; change X 52 4 = _ at rns; change X 52 5 = _ at rne; change X 52 6 = _ at rnt; change X 53 112 = _ at rnp; change X 53 113 = _ at rh; change X 53 114 = _ at rnu
  have hN4 := hch.2.2.1
  refine lv_iconst (v := nI 0) hx hb dX0_goesPlan_0 (by decide) ?_
  refine lv_istore_n (lv' := [(1, .int (nI 0)), (0, .ref (ad 0))]) hx hb dX0_goesPlan_1 rfl hl (by decide) rfl (fun ls hl => ?_)
  refine lv_iconst (v := nI 0) hx hb dX0_goesPlan_2 (by decide) ?_
  refine lv_istore_n (lv' := [(2, .int (nI 0)), (1, .int (nI 0)), (0, .ref (ad 0))]) hx hb dX0_goesPlan_3 rfl hl (by decide) rfl (fun ls hl => ?_)
  refine lv_iconst (v := nI 0) hx hb dX0_goesPlan_4 (by decide) ?_
  refine lv_istore_n (lv' := [(3, .int (nI 0)), (2, .int (nI 0)), (1, .int (nI 0)), (0, .ref (ad 0))]) hx hb dX0_goesPlan_5 rfl hl (by decide) rfl (fun ls hl => ?_)
  have L_6 : ∀ (fuel : Nat) (i : Nat) (Za : Nat → Nat → Int32), N + 1 - i < fuel → (i ≤ N) → (∀ j, j < i → Za 7 j = Z 6 (ws j) ∧ Za 8 j = nI (tms j)) → (∀ k9, k9 ≠ 7 → k9 ≠ 8 → Za k9 = Z k9) → ∀ (H : Heap) (locs : List Loc), XS G ad sz s.heap X Za T H locs → ∀ (ls : Array Slot), lv_has ls 7 [(0, .ref (ad 0)), (1, .int (nI (ds i))), (2, .int (nI (ts i))), (3, .int (nI i))] → W p l e ({ frames := 3, cells := 0, slots := 0, locals := 64 } : Room) s m ([.ref (ad 0)] : List Value).toArray below meth c H locs 0 0 (MQ below (cQ (some (.int (nI N))) (fun H => ∃ Z9, ((∀ j, j < N → Z9 7 j = Z 6 (ws j) ∧ Z9 8 j = nI (tms j)) ∧ (∀ k9, k9 ≠ 7 → k9 ≠ 8 → Z9 k9 = Z k9)) ∧ xH G ad X Z9 T sz H) (xA ad sz)) ([.ref (ad 0)] : List Value).toArray s 0 0 (xA ad sz)) (F0 m 6 ls []) := by
    intro fuel
    induction fuel with
    | zero => intro i Za hf; exact absurd hf (Nat.not_lt_zero _)
    | succ fuel ih =>
      intro i Za hf hi_ hk7 hfa H locs hw ls hl
      have ih6 := ih
      have hbd := hch.2.2.2.1 i hi_
      refine lv_aload_n hx hb dX0_goesPlan_6 rfl (lv_at hl 0 rfl) ?_
      refine x_g_fewest hx hb hts hown hK hw dX0_goesPlan_7 ?_
      refine lv_iload_n hx hb dX0_goesPlan_10 rfl (lv_at hl 1 rfl) ?_
      refine x_a (r := 35 + (ds i)) hx hb hK hw xO_10 rfl (by decide) (by omega) rfl dX0_goesPlan_11 ?_
      refine lv_iload_n hx hb dX0_goesPlan_12 rfl (lv_at hl 2 rfl) ?_
      refine z_l (k := 35 + (ds i)) (j := ts i) (n := 25) (v := Z (35 + (ds i)) (ts i)) hx hb hK hw ((congrFun (hfa _ (by omega) (by omega)) (ts i)).trans rfl) (zL_35 (by omega)) (by omega) dX0_goesPlan_13 ?_
      refine lv_if_le (tgt := 139) hx hb dX0_goesPlan_14 (by decide) (fun c_1 => ?_) (fun c_1 => ?_)
      · obtain rfl : i = N := by
          rcases Nat.lt_or_ge i N with h9 | h9
          · exact absurd c_1 (hch.2.2.2.2.2 i h9).1
          · omega
        refine lv_iload_n hx hb dX0_goesPlan_139 rfl (lv_at hl 3 rfl) ?_
        exact c_iret (v := nI i) rfl hx hb hr rfl hlocks ⟨_, ⟨hk7, hfa⟩, xH.to rfl rfl rfl hw.1⟩ hw.2.1 dX0_goesPlan_140
      have hiN : i < N := by
        rcases Nat.lt_or_ge i N with h9 | h9
        · exact h9
        · obtain rfl : i = N := by omega
          exact absurd hch.2.2.2.2.1 c_1
      have hst := hch.2.2.2.2.2 i hiN
      have hs1 := hst.2.1
      have hs2 := hst.2.2.1
      have hs3 := hst.2.2.2.1
      refine lv_iconst (v := nI 0) hx hb dX0_goesPlan_17 (by decide) ?_
      refine lv_istore (lv' := [(4, .int (nI 0)), (0, .ref (ad 0)), (1, .int (nI (ds i))), (2, .int (nI (ts i))), (3, .int (nI i))]) hx hb dX0_goesPlan_18 hl (by decide) rfl (fun ls hl => ?_)
      refine lv_iconst (v := nI 0) hx hb dX0_goesPlan_20 (by decide) ?_
      refine lv_istore (lv' := [(5, .int (nI 0)), (4, .int (nI 0)), (0, .ref (ad 0)), (1, .int (nI (ds i))), (2, .int (nI (ts i))), (3, .int (nI i))]) hx hb dX0_goesPlan_21 hl (by decide) rfl (fun ls hl => ?_)
      have L23_2 : ∀ (fuel : Nat) (wk : Nat) (tm : Nat), 60 * ws i + tms i + 1 - (60 * wk + tm) < fuel → (tm < 60) → (60 * wk + tm ≤ 60 * ws i + tms i) → ∀ (H : Heap) (locs : List Loc), XS G ad sz s.heap X Za T H locs → ∀ (ls : Array Slot), lv_has ls 7 [(0, .ref (ad 0)), (1, .int (nI (ds i))), (2, .int (nI (ts i))), (3, .int (nI i)), (4, .int (nI wk)), (5, .int (nI tm))] → W p l e ({ frames := 3, cells := 0, slots := 0, locals := 64 } : Room) s m ([.ref (ad 0)] : List Value).toArray below meth c H locs 0 0 (MQ below (cQ (some (.int (nI N))) (fun H => ∃ Z9, ((∀ j, j < N → Z9 7 j = Z 6 (ws j) ∧ Z9 8 j = nI (tms j)) ∧ (∀ k9, k9 ≠ 7 → k9 ≠ 8 → Z9 k9 = Z k9)) ∧ xH G ad X Z9 T sz H) (xA ad sz)) ([.ref (ad 0)] : List Value).toArray s 0 0 (xA ad sz)) (F0 m 23 ls []) := by
        intro fuel
        induction fuel with
        | zero => intro wk tm hf; exact absurd hf (Nat.not_lt_zero _)
        | succ fuel ih =>
          intro wk tm hf htm hpos H locs hw ls hl
          have ih23 := ih
          refine lv_iload_n hx hb dX0_goesPlan_23 rfl (lv_at hl 1 rfl) ?_
          refine lv_iload hx hb dX0_goesPlan_24 (lv_at hl 4 rfl) ?_
          refine lv_ishr hx hb dX0_goesPlan_26 ?_
          refine lv_iconst (v := nI 1) hx hb dX0_goesPlan_27 (by decide) ?_
          refine lv_iand hx hb dX0_goesPlan_28 ?_
          refine lv_iconst (v := nI 1) hx hb dX0_goesPlan_29 (by decide) ?_
          refine lv_icmp_eq (tgt := 56) hx hb dX0_goesPlan_30 (by decide) (fun c_3 => ?_) (fun c_3 => ?_)
          · have hno : ¬ xHit Z nb (ds i) (ts i) wk tm := fun h9 => by first | exact absurd c_3 h9.1 | exact absurd h9.2.1 c_3 | exact absurd ((xMJ_congr hfa).mpr h9.2.2) c_3
            have hne : ¬ 60 * wk + tm = 60 * ws i + tms i := fun h9 => by
              obtain ⟨rfl, rfl⟩ : wk = ws i ∧ tm = tms i := by omega
              exact hno hst.2.2.2.2.1
            refine lv_iinc (v := nI (tm + 1)) (lv' := [(5, .int (nI (tm + 1))), (0, .ref (ad 0)), (1, .int (nI (ds i))), (2, .int (nI (ts i))), (3, .int (nI i)), (4, .int (nI wk))]) hx hb dX0_goesPlan_56 hl (k := 5) rfl (n_inc tm 1) (by decide) rfl (fun ls hl => ?_)
            refine lv_iload hx hb dX0_goesPlan_59 (lv_at hl 5 rfl) ?_
            refine lv_iload hx hb dX0_goesPlan_61 (lv_at hl 0 rfl) ?_
            refine lv_bipush (v := nI 60) hx hb dX0_goesPlan_63 (by decide) ?_
            refine n_icmp_ne (tgt := 72) hx hb dX0_goesPlan_65 (by decide) (by omega) (by decide) (fun c_4 => ?_) (fun c_4 => ?_)
            · refine lv_iconst (v := nI 0) hx hb dX0_goesPlan_72 (by decide) ?_
              refine n_iadd hx hb dX0_goesPlan_73 ?_
              refine lv_istore (lv' := [(4, .int (nI wk)), (5, .int (nI (tm + 1))), (0, .ref (ad 0)), (1, .int (nI (ds i))), (2, .int (nI (ts i))), (3, .int (nI i))]) hx hb dX0_goesPlan_74 hl (by decide) rfl (fun ls hl => ?_)
              refine lv_iload hx hb dX0_goesPlan_76 (lv_at hl 1 rfl) ?_
              refine lv_bipush (v := nI 60) hx hb dX0_goesPlan_78 (by decide) ?_
              refine n_irem hx hb (by omega) (by decide) (by decide) dX0_goesPlan_80 ?_
              refine lv_istore (lv' := [(5, .int (nI ((tm + 1) % 60))), (4, .int (nI wk)), (0, .ref (ad 0)), (1, .int (nI (ds i))), (2, .int (nI (ts i))), (3, .int (nI i))]) hx hb dX0_goesPlan_81 hl (by decide) rfl (fun ls hl => ?_)
              refine lv_goto (tgt := 23) hx hb dX0_goesPlan_83 (by decide) ?_
              exact ih23 wk ((tm + 1) % 60) (by omega) (by omega) (by omega) _ _ hw ls (lv_sub hl [2, 3, 4, 5, 1, 0] rfl)
            refine lv_iconst (v := nI 1) hx hb dX0_goesPlan_68 (by decide) ?_
            refine lv_goto (tgt := 73) hx hb dX0_goesPlan_69 (by decide) ?_
            refine n_iadd hx hb dX0_goesPlan_73 ?_
            refine lv_istore (lv' := [(4, .int (nI (wk + 1))), (5, .int (nI (tm + 1))), (0, .ref (ad 0)), (1, .int (nI (ds i))), (2, .int (nI (ts i))), (3, .int (nI i))]) hx hb dX0_goesPlan_74 hl (by decide) rfl (fun ls hl => ?_)
            refine lv_iload hx hb dX0_goesPlan_76 (lv_at hl 1 rfl) ?_
            refine lv_bipush (v := nI 60) hx hb dX0_goesPlan_78 (by decide) ?_
            refine n_irem hx hb (by omega) (by decide) (by decide) dX0_goesPlan_80 ?_
            refine lv_istore (lv' := [(5, .int (nI ((tm + 1) % 60))), (4, .int (nI (wk + 1))), (0, .ref (ad 0)), (1, .int (nI (ds i))), (2, .int (nI (ts i))), (3, .int (nI i))]) hx hb dX0_goesPlan_81 hl (by decide) rfl (fun ls hl => ?_)
            refine lv_goto (tgt := 23) hx hb dX0_goesPlan_83 (by decide) ?_
            exact ih23 (wk + 1) ((tm + 1) % 60) (by omega) (by omega) (by omega) _ _ hw ls (lv_sub hl [2, 3, 4, 5, 1, 0] rfl)
          have c_hn : ¬ mHas (nI (ds i)) wk := c_3
          refine lv_aload_n hx hb dX0_goesPlan_33 rfl (lv_at hl 0 rfl) ?_
          refine lv_iload hx hb dX0_goesPlan_34 (lv_at hl 5 rfl) ?_
          refine c_read (va_runV (As := [.int (nI tm)]) (rest := []) ⟨hx, hb, hml, hown, hts⟩ (met_X0_isTeam l G ad sz X Za T M nb nk nx np h nu ns ne nt hR0 tm (by omega)) (cv_X0_X0_isTeam hts ⟨Nat.le_of_ble_eq_true rfl, Nat.le_of_ble_eq_true rfl⟩) (cP.preV hK hw.1 (hw.1.recv hK)) rfl rfl hl.1 rfl (lv_room (Nat.le_of_ble_eq_true rfl)) dX0_goesPlan_36 ⟨by first | exact Nat.zero_le _ | omega | decide, by first | exact Nat.zero_le _ | omega | decide⟩) ?_
          refine b_if_eq (tgt := 56) hx hb dX0_goesPlan_39 (by decide) (fun c_5 => ?_) (fun c_5 => ?_)
          · have hno : ¬ xHit Z nb (ds i) (ts i) wk tm := fun h9 => by first | exact absurd c_5 h9.1 | exact absurd h9.2.1 c_5 | exact absurd ((xMJ_congr hfa).mpr h9.2.2) c_5
            have hne : ¬ 60 * wk + tm = 60 * ws i + tms i := fun h9 => by
              obtain ⟨rfl, rfl⟩ : wk = ws i ∧ tm = tms i := by omega
              exact hno hst.2.2.2.2.1
            refine lv_iinc (v := nI (tm + 1)) (lv' := [(5, .int (nI (tm + 1))), (0, .ref (ad 0)), (1, .int (nI (ds i))), (2, .int (nI (ts i))), (3, .int (nI i)), (4, .int (nI wk))]) hx hb dX0_goesPlan_56 hl (k := 5) rfl (n_inc tm 1) (by decide) rfl (fun ls hl => ?_)
            refine lv_iload hx hb dX0_goesPlan_59 (lv_at hl 5 rfl) ?_
            refine lv_iload hx hb dX0_goesPlan_61 (lv_at hl 0 rfl) ?_
            refine lv_bipush (v := nI 60) hx hb dX0_goesPlan_63 (by decide) ?_
            refine n_icmp_ne (tgt := 72) hx hb dX0_goesPlan_65 (by decide) (by omega) (by decide) (fun c_6 => ?_) (fun c_6 => ?_)
            · refine lv_iconst (v := nI 0) hx hb dX0_goesPlan_72 (by decide) ?_
              refine n_iadd hx hb dX0_goesPlan_73 ?_
              refine lv_istore (lv' := [(4, .int (nI wk)), (5, .int (nI (tm + 1))), (0, .ref (ad 0)), (1, .int (nI (ds i))), (2, .int (nI (ts i))), (3, .int (nI i))]) hx hb dX0_goesPlan_74 hl (by decide) rfl (fun ls hl => ?_)
              refine lv_iload hx hb dX0_goesPlan_76 (lv_at hl 1 rfl) ?_
              refine lv_bipush (v := nI 60) hx hb dX0_goesPlan_78 (by decide) ?_
              refine n_irem hx hb (by omega) (by decide) (by decide) dX0_goesPlan_80 ?_
              refine lv_istore (lv' := [(5, .int (nI ((tm + 1) % 60))), (4, .int (nI wk)), (0, .ref (ad 0)), (1, .int (nI (ds i))), (2, .int (nI (ts i))), (3, .int (nI i))]) hx hb dX0_goesPlan_81 hl (by decide) rfl (fun ls hl => ?_)
              refine lv_goto (tgt := 23) hx hb dX0_goesPlan_83 (by decide) ?_
              exact ih23 wk ((tm + 1) % 60) (by omega) (by omega) (by omega) _ _ hw ls (lv_sub hl [2, 3, 4, 5, 1, 0] rfl)
            refine lv_iconst (v := nI 1) hx hb dX0_goesPlan_68 (by decide) ?_
            refine lv_goto (tgt := 73) hx hb dX0_goesPlan_69 (by decide) ?_
            refine n_iadd hx hb dX0_goesPlan_73 ?_
            refine lv_istore (lv' := [(4, .int (nI (wk + 1))), (5, .int (nI (tm + 1))), (0, .ref (ad 0)), (1, .int (nI (ds i))), (2, .int (nI (ts i))), (3, .int (nI i))]) hx hb dX0_goesPlan_74 hl (by decide) rfl (fun ls hl => ?_)
            refine lv_iload hx hb dX0_goesPlan_76 (lv_at hl 1 rfl) ?_
            refine lv_bipush (v := nI 60) hx hb dX0_goesPlan_78 (by decide) ?_
            refine n_irem hx hb (by omega) (by decide) (by decide) dX0_goesPlan_80 ?_
            refine lv_istore (lv' := [(5, .int (nI ((tm + 1) % 60))), (4, .int (nI (wk + 1))), (0, .ref (ad 0)), (1, .int (nI (ds i))), (2, .int (nI (ts i))), (3, .int (nI i))]) hx hb dX0_goesPlan_81 hl (by decide) rfl (fun ls hl => ?_)
            refine lv_goto (tgt := 23) hx hb dX0_goesPlan_83 (by decide) ?_
            exact ih23 (wk + 1) ((tm + 1) % 60) (by omega) (by omega) (by omega) _ _ hw ls (lv_sub hl [2, 3, 4, 5, 1, 0] rfl)
          have hteam : xTeam nb tm := c_5
          have heok : xEOk (Za (435 + 60 * wk + tm) (ts i)) := by rw [hfa _ (by omega) (by omega)]; exact htab wk tm (ts i) (by omega) htm hteam hs1
          refine lv_aload_n hx hb dX0_goesPlan_42 rfl (lv_at hl 0 rfl) ?_
          refine lv_iload_n hx hb dX0_goesPlan_43 rfl (lv_at hl 1 rfl) ?_
          refine lv_iload_n hx hb dX0_goesPlan_44 rfl (lv_at hl 2 rfl) ?_
          refine lv_iload hx hb dX0_goesPlan_45 (lv_at hl 4 rfl) ?_
          refine lv_iload hx hb dX0_goesPlan_47 (lv_at hl 5 rfl) ?_
          refine lv_iconst (v := nI 1) hx hb dX0_goesPlan_49 (by decide) ?_
          refine c_read (va_runV (As := [.int (nI (ds i)), .int (nI (ts i)), .int (nI wk), .int (nI tm), .int (nI 1)]) (rest := []) ⟨hx, hb, hml, hown, hts⟩ (met_X0_isMore_j l G ad sz X Za T (ds i) (ts i) wk tm (by omega) (by omega) (by omega) (by omega) heok) (cv_X0_X0_isMore hts ⟨Nat.le_of_ble_eq_true rfl, Nat.le_of_ble_eq_true rfl⟩) (cP.preV hK hw.1 (hw.1.recv hK)) rfl rfl hl.1 rfl (lv_room (Nat.le_of_ble_eq_true rfl)) dX0_goesPlan_50 ⟨by first | exact Nat.zero_le _ | omega | decide, by first | exact Nat.zero_le _ | omega | decide⟩) ?_
          refine b_if_ne (tgt := 86) hx hb dX0_goesPlan_53 (by decide) (fun c_7 => ?_) (fun c_7 => ?_)
          · have hmj : xMJ Z (ds i) (ts i) wk tm := (xMJ_congr hfa).mp c_7
            obtain ⟨rfl, rfl⟩ : wk = ws i ∧ tm = tms i := by
              rcases Nat.lt_or_ge (60 * wk + tm) (60 * ws i + tms i) with h9 | h9
              · exact absurd ⟨c_hn, hteam, hmj⟩ (hst.2.2.2.2.2.1 wk tm htm h9)
              · omega
            obtain ⟨en, hen, een⟩ := heok.resolve_left (by rw [hfa _ (by omega) (by omega)]; exact hmj.1)
            have hen2 : xEn Z (ws i) (tms i) (ts i) = en := by unfold xEn; rw [← hfa _ (by omega) (by omega), een]; exact nI_clamp (by omega)
            refine lv_aload_n hx hb dX0_goesPlan_86 rfl (lv_at hl 0 rfl) ?_
            refine x_g_kindOf hx hb hts hown hK hw dX0_goesPlan_87 ?_
            refine lv_iload_n hx hb dX0_goesPlan_90 rfl (lv_at hl 3 rfl) ?_
            refine lv_aload_n hx hb dX0_goesPlan_91 rfl (lv_at hl 0 rfl) ?_
            refine x_g_work hx hb hts hown hK hw dX0_goesPlan_92 ?_
            refine lv_iload hx hb dX0_goesPlan_95 (lv_at hl 4 rfl) ?_
            refine z_l (k := 6) (j := ws i) (n := 4) (v := Z 6 (ws i)) hx hb hK hw ((congrFun (hfa _ (by decide) (by decide)) (ws i)).trans rfl) (by decide) (by omega) dX0_goesPlan_97 ?_
            refine z_s (k := 7) (j := i) (n := 4) hx hb hK hw (by decide) (by omega) dX0_goesPlan_98 (fun H locs hw => ?_)
            refine lv_aload_n hx hb dX0_goesPlan_99 rfl (lv_at hl 0 rfl) ?_
            refine x_g_teamOf hx hb hts hown hK hw dX0_goesPlan_100 ?_
            refine lv_iload_n hx hb dX0_goesPlan_103 rfl (lv_at hl 3 rfl) ?_
            refine lv_iload hx hb dX0_goesPlan_104 (lv_at hl 5 rfl) ?_
            refine z_s (k := 8) (j := i) (n := 4) hx hb hK hw (by decide) (by omega) dX0_goesPlan_106 (fun H locs hw => ?_)
            refine lv_iinc (v := nI (i + 1)) (lv' := [(3, .int (nI (i + 1))), (0, .ref (ad 0)), (1, .int (nI (ds i))), (2, .int (nI (ts i))), (4, .int (nI (ws i))), (5, .int (nI (tms i)))]) hx hb dX0_goesPlan_107 hl (k := 3) rfl (n_inc i 1) (by decide) rfl (fun ls hl => ?_)
            refine lv_aload_n hx hb dX0_goesPlan_110 rfl (lv_at hl 1 rfl) ?_
            refine x_g_endIn hx hb hts hown hK hw dX0_goesPlan_111 ?_
            refine lv_iload hx hb dX0_goesPlan_114 (lv_at hl 4 rfl) ?_
            refine x_a (r := 15 + (ws i)) hx hb hK hw xO_5 rfl (by decide) (by omega) rfl dX0_goesPlan_116 ?_
            refine lv_iload hx hb dX0_goesPlan_117 (lv_at hl 5 rfl) ?_
            refine x_a (r := 435 + 60 * (ws i) + (tms i)) hx hb hK hw (xO_15 (by omega)) rfl (by decide) (by omega) rfl dX0_goesPlan_119 ?_
            refine lv_iload_n hx hb dX0_goesPlan_120 rfl (lv_at hl 3 rfl) ?_
            refine z_l (k := 435 + 60 * (ws i) + (tms i)) (j := ts i) (n := 24) (v := nI en) hx hb hK hw ((up2_ne (Or.inl (by omega))).trans ((up2_ne (Or.inl (by omega))).trans een)) (zM_435 (by omega) (by omega)) (by omega) dX0_goesPlan_121 ?_
            refine lv_istore (lv' := [(6, .int (nI en)), (3, .int (nI (i + 1))), (0, .ref (ad 0)), (1, .int (nI (ds i))), (2, .int (nI (ts i))), (4, .int (nI (ws i))), (5, .int (nI (tms i)))]) hx hb dX0_goesPlan_122 hl (by decide) rfl (fun ls hl => ?_)
            refine lv_iload_n hx hb dX0_goesPlan_124 rfl (lv_at hl 3 rfl) ?_
            refine lv_iconst (v := nI 1) hx hb dX0_goesPlan_125 (by decide) ?_
            refine lv_iload hx hb dX0_goesPlan_126 (lv_at hl 5 rfl) ?_
            refine lv_ishl hx hb dX0_goesPlan_128 ?_
            rw [shl1 (ws i) (by omega)]
            refine lv_ior hx hb dX0_goesPlan_129 ?_
            rw [or_small (ds i) (by omega) _ (Nat.pow_lt_pow_right (m := ws i) (n := 6) (by decide) (by omega))]
            refine lv_istore_n (lv' := [(1, .int (nI (ds i ||| 2 ^ (ws i)))), (6, .int (nI en)), (3, .int (nI (i + 1))), (0, .ref (ad 0)), (2, .int (nI (ts i))), (4, .int (nI (ws i))), (5, .int (nI (tms i)))]) hx hb dX0_goesPlan_130 rfl hl (by decide) rfl (fun ls hl => ?_)
            refine lv_iload hx hb dX0_goesPlan_131 (lv_at hl 1 rfl) ?_
            refine lv_iconst (v := nI 1) hx hb dX0_goesPlan_133 (by decide) ?_
            refine n_iadd hx hb dX0_goesPlan_134 ?_
            refine lv_istore_n (lv' := [(2, .int (nI (en + 1))), (1, .int (nI (ds i ||| 2 ^ (ws i)))), (6, .int (nI en)), (3, .int (nI (i + 1))), (0, .ref (ad 0)), (4, .int (nI (ws i))), (5, .int (nI (tms i)))]) hx hb dX0_goesPlan_135 rfl hl (by decide) rfl (fun ls hl => ?_)
            refine lv_goto (tgt := 6) hx hb dX0_goesPlan_136 (by decide) ?_
            replace hl : lv_has ls 7 [(2, .int (nI (ts (i + 1)))), (1, .int (nI (ds (i + 1)))), (6, .int (nI en)), (3, .int (nI (i + 1))), (0, .ref (ad 0)), (4, .int (nI (ws i))), (5, .int (nI (tms i)))] := by rw [hst.2.2.2.2.2.2.1, hst.2.2.2.2.2.2.2, hen2]; exact hl
            exact ih6 (i + 1) (up2 (up2 Za 7 i (Z 6 (ws i))) 8 i (nI (tms i))) (by omega) (by omega) (fun j h9 => by rcases Nat.lt_succ_iff_lt_or_eq.mp h9 with h8 | h8; (obtain ⟨q1, q2⟩ := hk7 j h8; exact ⟨(up2_ne (Or.inl (by decide))).trans ((up2_ne (Or.inr (by omega))).trans q1), (up2_ne (Or.inr (by omega))).trans ((up2_ne (Or.inl (by decide))).trans q2)⟩); (subst h8; exact ⟨(up2_ne (Or.inl (by decide))).trans up2_at, up2_at⟩)) (fun k9 h9 h8 => (up2_row h8).trans ((up2_row h9).trans (hfa k9 h9 h8))) _ _ hw ls (lv_sub hl [4, 1, 0, 3] rfl)
          have hno : ¬ xHit Z nb (ds i) (ts i) wk tm := fun h9 => by first | exact absurd c_7 h9.1 | exact absurd h9.2.1 c_7 | exact absurd ((xMJ_congr hfa).mpr h9.2.2) c_7
          have hne : ¬ 60 * wk + tm = 60 * ws i + tms i := fun h9 => by
            obtain ⟨rfl, rfl⟩ : wk = ws i ∧ tm = tms i := by omega
            exact hno hst.2.2.2.2.1
          refine lv_iinc (v := nI (tm + 1)) (lv' := [(5, .int (nI (tm + 1))), (0, .ref (ad 0)), (1, .int (nI (ds i))), (2, .int (nI (ts i))), (3, .int (nI i)), (4, .int (nI wk))]) hx hb dX0_goesPlan_56 hl (k := 5) rfl (n_inc tm 1) (by decide) rfl (fun ls hl => ?_)
          refine lv_iload hx hb dX0_goesPlan_59 (lv_at hl 5 rfl) ?_
          refine lv_iload hx hb dX0_goesPlan_61 (lv_at hl 0 rfl) ?_
          refine lv_bipush (v := nI 60) hx hb dX0_goesPlan_63 (by decide) ?_
          refine n_icmp_ne (tgt := 72) hx hb dX0_goesPlan_65 (by decide) (by omega) (by decide) (fun c_8 => ?_) (fun c_8 => ?_)
          · refine lv_iconst (v := nI 0) hx hb dX0_goesPlan_72 (by decide) ?_
            refine n_iadd hx hb dX0_goesPlan_73 ?_
            refine lv_istore (lv' := [(4, .int (nI wk)), (5, .int (nI (tm + 1))), (0, .ref (ad 0)), (1, .int (nI (ds i))), (2, .int (nI (ts i))), (3, .int (nI i))]) hx hb dX0_goesPlan_74 hl (by decide) rfl (fun ls hl => ?_)
            refine lv_iload hx hb dX0_goesPlan_76 (lv_at hl 1 rfl) ?_
            refine lv_bipush (v := nI 60) hx hb dX0_goesPlan_78 (by decide) ?_
            refine n_irem hx hb (by omega) (by decide) (by decide) dX0_goesPlan_80 ?_
            refine lv_istore (lv' := [(5, .int (nI ((tm + 1) % 60))), (4, .int (nI wk)), (0, .ref (ad 0)), (1, .int (nI (ds i))), (2, .int (nI (ts i))), (3, .int (nI i))]) hx hb dX0_goesPlan_81 hl (by decide) rfl (fun ls hl => ?_)
            refine lv_goto (tgt := 23) hx hb dX0_goesPlan_83 (by decide) ?_
            exact ih23 wk ((tm + 1) % 60) (by omega) (by omega) (by omega) _ _ hw ls (lv_sub hl [2, 3, 4, 5, 1, 0] rfl)
          refine lv_iconst (v := nI 1) hx hb dX0_goesPlan_68 (by decide) ?_
          refine lv_goto (tgt := 73) hx hb dX0_goesPlan_69 (by decide) ?_
          refine n_iadd hx hb dX0_goesPlan_73 ?_
          refine lv_istore (lv' := [(4, .int (nI (wk + 1))), (5, .int (nI (tm + 1))), (0, .ref (ad 0)), (1, .int (nI (ds i))), (2, .int (nI (ts i))), (3, .int (nI i))]) hx hb dX0_goesPlan_74 hl (by decide) rfl (fun ls hl => ?_)
          refine lv_iload hx hb dX0_goesPlan_76 (lv_at hl 1 rfl) ?_
          refine lv_bipush (v := nI 60) hx hb dX0_goesPlan_78 (by decide) ?_
          refine n_irem hx hb (by omega) (by decide) (by decide) dX0_goesPlan_80 ?_
          refine lv_istore (lv' := [(5, .int (nI ((tm + 1) % 60))), (4, .int (nI (wk + 1))), (0, .ref (ad 0)), (1, .int (nI (ds i))), (2, .int (nI (ts i))), (3, .int (nI i))]) hx hb dX0_goesPlan_81 hl (by decide) rfl (fun ls hl => ?_)
          refine lv_goto (tgt := 23) hx hb dX0_goesPlan_83 (by decide) ?_
          exact ih23 (wk + 1) ((tm + 1) % 60) (by omega) (by omega) (by omega) _ _ hw ls (lv_sub hl [2, 3, 4, 5, 1, 0] rfl)
      exact L23_2 _ 0 0 (Nat.lt_succ_self _) (by omega) (by omega) _ _ hw ls (lv_sub hl [2, 3, 4, 5, 1, 0] rfl)
  replace hl : lv_has ls 7 [(3, .int (nI 0)), (2, .int (nI (ts 0))), (1, .int (nI (ds 0))), (0, .ref (ad 0))] := by rw [hch.1, hch.2.1]; exact hl
  exact L_6 _ 0 Z (Nat.lt_succ_self _) (Nat.zero_le _) (fun _ h9 => absurd h9 (Nat.not_lt_zero _)) (fun _ _ _ => rfl) _ _ hw ls (lv_sub hl [3, 2, 1, 0] rfl)
