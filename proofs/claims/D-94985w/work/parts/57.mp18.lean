theorem kCl_row {M : Nat → Nat → Int32} {t : Nat} : ∀ {cs : List kC} {k0 e : Nat}, kCl M t cs k0 → k0 ≤ e → e < k0 + cs.length → ∃ so, so < 7 ∧ M 2 (680 * t + 1 + 3 * e) = nI so
  | [], k0, e, _, h1, h2 => absurd h2 (by simp; omega)
  | c :: cs, k0, e, h, h1, h2 => by
    by_cases h3 : e = k0
    · subst h3
      exact ⟨c.1, h.1.1, h.1.2.1⟩
    · exact kCl_row h.2 (by omega) (by simp at h2; omega)
/-- the lines of a text, played from one on: the first that fails (or -1), what they leave -/
noncomputable def plL (tx : kT) (b : Nat) : Nat → Nat → (Nat → Nat → Int32) → Int32 × (Nat → Nat → Int32)
  | 0, _, M => (-1, M)
  | n + 1, e, M => pif (¬ mPlayR tx M (cl (M 0 0)) (cl (M 0 1)) (cl (M 0 2)) (cl (M 0 3)) (cl (M 0 9)) (cl (M 2 (b + 1 + 3 * e))) (M 2 (b + 1 + 3 * e + 1)) (M 2 (b + 1 + 3 * e + 2)) < 0) (plL tx b n (e + 1) (mPlayM tx M (cl (M 0 0)) (cl (M 0 1)) (cl (M 0 2)) (cl (M 0 3)) (cl (M 0 9)) (cl (M 2 (b + 1 + 3 * e))) (M 2 (b + 1 + 3 * e + 1)) (M 2 (b + 1 + 3 * e + 2)))) (nI e, mPlayM tx M (cl (M 0 0)) (cl (M 0 1)) (cl (M 0 2)) (cl (M 0 3)) (cl (M 0 9)) (cl (M 2 (b + 1 + 3 * e))) (M 2 (b + 1 + 3 * e + 1)) (M 2 (b + 1 + 3 * e + 2)))
theorem plL_s {tx : kT} {b n e nb nk np h ns nu so : Nat} {M : Nat → Nat → Int32} (hS : mSt tx M nb nk np h ns nu) (hso : M 2 (b + 1 + 3 * e) = nI so) (hs7 : so < 7) : plL tx b (n + 1) e M = pif (¬ mPlayR tx M nb nk np h nu so (M 2 (b + 1 + 3 * e + 1)) (M 2 (b + 1 + 3 * e + 2)) < 0) (plL tx b n (e + 1) (mPlayM tx M nb nk np h nu so (M 2 (b + 1 + 3 * e + 1)) (M 2 (b + 1 + 3 * e + 2)))) (nI e, mPlayM tx M nb nk np h nu so (M 2 (b + 1 + 3 * e + 1)) (M 2 (b + 1 + 3 * e + 2))) := by
  have a0 := hS.1.2
  have a1 := hS.2.1.2
  have a2 := hS.2.2.1.2
  have a3 := hS.2.2.2.1.2
  have a9 := hS.2.2.2.2.2.1.2
  have hc : ∀ a, a < 2 ^ 31 → cl (nI a) = a := fun a h => nI_clamp h
  show pif _ _ _ = _
  rw [hS.1.1, hS.2.1.1, hS.2.2.1.1, hS.2.2.2.1.1, hS.2.2.2.2.2.1.1, hso, hc nb (by omega), hc nk (by omega), hc np (by omega), hc h (by omega), hc nu (by omega), hc so (by omega)]
set_option maxHeartbeats 4000000 in
set_option maxRecDepth 100000 in
theorem met_X2_played (l : Launch) (G : gG) (ad : Nat → Nat) (M Z : Nat → Nat → Int32) (V : Nat → Nat → Int64) (tx : kT) (nb nk np h ns nu nt : Nat) (hS : mSt tx M nb nk np h ns nu) (tl : Nat → List kC) (htl : ∀ i, i < nt → kText M i (tl i)) (ha : M 0 4 = nI nt) (hnt : nt ≤ 4) (x : Int32) : Met l yX2_played (ws_ yX2_played cX2_played 3 (some .int)) ({ frames := 7, cells := 0, slots := 0, locals := 168 } : Room) (cP G [.ref (ad 0), .int x] (mH G ad M Z V)) (cQ (some (.int (pif (vp_in x nt) (plL tx (680 * cl x) (cl (M 2 (680 * cl x))) 0 M).1 (-2)))) (fun H => ∃ Z9 V9, mH G ad (pif (vp_in x nt) (plL tx (680 * cl x) (cl (M 2 (680 * cl x))) 0 M).2 M) Z9 V9 H) (mA ad)) 0 0 (mA ad) := by
  refine c_start (by decide) (Nat.le_of_ble_eq_true rfl) ?_
  intro p e s m below meth c hx hb hr hlocks hml hown hts hB hK ls hl
  have hw := MS.of hB
  have hl : lv_has ls 3 [(0, .ref (ad 0)), (1, .int x)] := hl
  refine lv_iload_n hx hb dX2_played_0 rfl (lv_at hl 1 rfl) ?_
  refine lv_iconst (v := nI 0) hx hb dX2_played_1 (by decide) ?_
  refine lv_aload_n hx hb dX2_played_2 rfl (lv_at hl 0 rfl) ?_
  refine m_g_a hx hb hts hown hK hw dX2_played_3 ?_
  refine lv_iconst (v := nI 4) hx hb dX2_played_6 (by decide) ?_
  refine m_l_a (j := 4) (v := nI nt) hx hb hK hw ha (by decide) dX2_played_7 ?_
  refine lv_iconst (v := nI 1) hx hb dX2_played_8 (by decide) ?_
  refine lv_isub hx hb dX2_played_9 ?_
  refine c_read (va_runS (As := [.int x, .int (nI 0), .int ((nI nt) - (nI 1))]) (rest := []) ⟨hx, hb, hml, hown, hts⟩ (met_X2_isIn l G x (nI 0) ((nI nt) - (nI 1))) (cs_X2_X2_isIn hts ⟨Nat.le_of_ble_eq_true rfl, Nat.le_of_ble_eq_true rfl⟩) (cP.pre hK trivial) rfl rfl hl.1 rfl (lv_room (Nat.le_of_ble_eq_true rfl)) dX2_played_10 ⟨by first | exact Nat.zero_le _ | omega | decide, by first | exact Nat.zero_le _ | omega | decide⟩) ?_
  refine b_if_ne (tgt := 19) hx hb dX2_played_13 (by decide) (fun c_1 => ?_) (fun c_1 => ?_)
  · obtain ⟨jx, hjx, rfl⟩ := vp_in_of ((in_vp (by omega)).mp c_1) (by omega)
    have hin := (in_vp (b := nI jx) (n := nt) (by omega)).mp c_1
    obtain ⟨hcnt, hc24, hcl⟩ := htl jx hjx
    have hRP : (plL tx (680 * cl (nI jx)) (cl (M 2 (680 * cl (nI jx)))) 0 M) = (plL tx (680 * jx) (tl jx).length 0 M) := by rw [show cl (nI jx) = jx from nI_clamp (by omega), hcnt, show cl (nI (tl jx).length) = (tl jx).length from nI_clamp (by omega)]
    refine lv_iconst (v := nI 0) hx hb dX2_played_19 (by decide) ?_
    refine lv_istore_n (lv' := [(2, .int (nI 0)), (0, .ref (ad 0)), (1, .int (nI jx))]) hx hb dX2_played_20 rfl hl (by decide) rfl (fun ls hl => ?_)
    have L21_2 : ∀ (fuel : Nat) (e1 : Nat) (np1 : Nat) (h1 : Nat) (ns1 : Nat) (nu1 : Nat) (M1 : Nat → Nat → Int32) (Za : Nat → Nat → Int32) (Va : Nat → Nat → Int64), (tl jx).length - e1 < fuel → (e1 ≤ (tl jx).length) → (plL tx (680 * jx) ((tl jx).length - e1) e1 M1 = (plL tx (680 * jx) (tl jx).length 0 M)) → (mSt tx M1 nb nk np1 h1 ns1 nu1) → (∀ k j, k ≠ 0 → M1 k j = M k j) → ∀ (H : Heap) (locs : List Loc), MS G ad s.heap M1 Za Va H locs → ∀ (ls : Array Slot), lv_has ls 3 [(0, .ref (ad 0)), (1, .int (nI jx)), (2, .int (nI e1))] → W p l e ({ frames := 7, cells := 0, slots := 0, locals := 168 } : Room) s m ([.ref (ad 0), .int (nI jx)] : List Value).toArray below meth c H locs 0 0 (MQ below (cQ (some (.int (pif (vp_in (nI jx) nt) (plL tx (680 * cl (nI jx)) (cl (M 2 (680 * cl (nI jx)))) 0 M).1 (-2)))) (fun H => ∃ Z9 V9, mH G ad (pif (vp_in (nI jx) nt) (plL tx (680 * cl (nI jx)) (cl (M 2 (680 * cl (nI jx)))) 0 M).2 M) Z9 V9 H) (mA ad)) ([.ref (ad 0), .int (nI jx)] : List Value).toArray s 0 0 (mA ad)) (F0 m 21 ls []) := by
      intro fuel
      induction fuel with
      | zero => intro e1 np1 h1 ns1 nu1 M1 Za Va hf; exact absurd hf (Nat.not_lt_zero _)
      | succ fuel ih =>
        intro e1 np1 h1 ns1 nu1 M1 Za Va hf he hM1 hS1 hk1 H locs hw ls hl
        have ih21 := ih
        refine lv_iload_n hx hb dX2_played_21 rfl (lv_at hl 2 rfl) ?_
        refine lv_aload_n hx hb dX2_played_22 rfl (lv_at hl 0 rfl) ?_
        refine m_g_texts hx hb hts hown hK hw dX2_played_23 ?_
        refine lv_sipush (v := nI 680) hx hb dX2_played_26 (by decide) ?_
        refine lv_iload_n hx hb dX2_played_29 rfl (lv_at hl 1 rfl) ?_
        refine n_imul hx hb dX2_played_30 ?_
        refine m_l_texts (j := 680 * jx) (v := nI ((tl jx).length)) hx hb hK hw ((hk1 2 _ (by decide)).trans hcnt) (by omega) dX2_played_31 ?_
        refine n_icmp_ge (tgt := 61) hx hb dX2_played_32 (by decide) (by omega) (by omega) (fun c_3 => ?_) (fun c_3 => ?_)
        · refine lv_iconst (v := (-1)) hx hb dX2_played_61 (by decide) ?_
          have eR : (plL tx (680 * jx) (tl jx).length 0 M) = (-1, M1) := hM1.symm.trans (by rw [show (tl jx).length - e1 = 0 by omega]; rfl)
          exact c_iret (v := (-1)) (by rw [pif_t hin, hRP, eR]) hx hb hr rfl hlocks ⟨_, _, mH.to (by rw [pif_t hin, hRP, eR]) rfl rfl hw.1⟩ hw.2 dX2_played_62
        obtain ⟨so, hs7, hso0⟩ := kCl_row hcl (Nat.zero_le e1) (by omega)
        have hso : M1 2 (680 * jx + 1 + 3 * e1) = nI so := (hk1 2 _ (by decide)).trans hso0
        refine lv_aload_n hx hb dX2_played_35 rfl (lv_at hl 0 rfl) ?_
        refine lv_sipush (v := nI 680) hx hb dX2_played_36 (by decide) ?_
        refine lv_iload_n hx hb dX2_played_39 rfl (lv_at hl 1 rfl) ?_
        refine n_imul hx hb dX2_played_40 ?_
        refine lv_iconst (v := nI 1) hx hb dX2_played_41 (by decide) ?_
        refine n_iadd hx hb dX2_played_42 ?_
        refine lv_iconst (v := nI 3) hx hb dX2_played_43 (by decide) ?_
        refine lv_iload_n hx hb dX2_played_44 rfl (lv_at hl 2 rfl) ?_
        refine n_imul hx hb dX2_played_45 ?_
        refine n_iadd hx hb dX2_played_46 ?_
        refine c_call (va_runV (As := [.int (nI (680 * jx + 1 + 3 * e1))]) (rest := []) ⟨hx, hb, hml, hown, hts⟩ (met_X2_isPlayed l G ad M1 Za Va tx hS1.2.2.2.2.2.2.2 nb nk np1 h1 ns1 nu1 hS1.1.1 hS1.1.2 hS1.2.1.1 hS1.2.1.2 hS1.2.2.1.1 hS1.2.2.1.2 hS1.2.2.2.1.1 hS1.2.2.2.1.2 hS1.2.2.2.2.1.1 hS1.2.2.2.2.1.2 hS1.2.2.2.2.2.1.1 hS1.2.2.2.2.2.1.2 hS1.2.2.2.2.2.2.1 (680 * jx + 1 + 3 * e1) so (by omega) hso hs7) (cv_X2_X2_isPlayed hts ⟨Nat.le_of_ble_eq_true rfl, Nat.le_of_ble_eq_true rfl⟩) (cP.preV hK hw.1 (hw.1.recv hK)) rfl rfl hl.1 rfl (lv_room (Nat.le_of_ble_eq_true rfl)) dX2_played_47 ⟨by first | exact Nat.zero_le _ | omega | decide, by first | exact Nat.zero_le _ | omega | decide⟩) hw.2 (fun q _ h => h) (fun q h => h) (fun H locs hw _ _ hS => ?_)
        obtain ⟨Z1, V1, hw⟩ := hw
        replace hw := MS.mk hw hS
        refine b_if_ne (tgt := 55) hx hb dX2_played_50 (by decide) (fun c_4 => ?_) (fun c_4 => ?_)
        · refine lv_iinc (v := nI (e1 + 1)) (lv' := [(2, .int (nI (e1 + 1))), (0, .ref (ad 0)), (1, .int (nI jx))]) hx hb dX2_played_55 hl (k := 2) rfl (n_inc e1 1) (by decide) rfl (fun ls hl => ?_)
          refine lv_goto (tgt := 21) hx hb dX2_played_58 (by decide) ?_
          obtain ⟨np2, h2, ns2, nu2, g1, g2, g3⟩ := mSt_play (so := so) (x1 := M1 2 (680 * jx + 1 + 3 * e1 + 1)) (x2 := M1 2 (680 * jx + 1 + 3 * e1 + 2)) hS1
          have ee := plL_s (n := (tl jx).length - (e1 + 1)) hS1 hso hs7
          rw [pif_t c_4] at ee
          exact ih21 (e1 + 1) np2 h2 ns2 nu2 (mPlayM tx M1 nb nk np1 h1 nu1 so (M1 2 (680 * jx + 1 + 3 * e1 + 1)) (M1 2 (680 * jx + 1 + 3 * e1 + 2))) Z1 V1 (by omega) (by omega) (ee.symm.trans ((congrArg (fun n9 => plL tx (680 * jx) n9 e1 M1) (by omega)).trans hM1)) g1 (fun k j hk => (g2 k j hk).trans (hk1 k j hk)) _ _ hw ls (lv_sub hl [1, 2, 0] rfl)
        refine lv_iload_n hx hb dX2_played_53 rfl (lv_at hl 2 rfl) ?_
        have ee := plL_s (n := (tl jx).length - (e1 + 1)) hS1 hso hs7
        rw [pif_f c_4] at ee
        have eR : (plL tx (680 * jx) (tl jx).length 0 M) = _ := hM1.symm.trans ((congrArg (fun n9 => plL tx (680 * jx) n9 e1 M1) (by omega)).trans ee)
        exact c_iret (v := nI e1) (by rw [pif_t hin, hRP, eR]) hx hb hr rfl hlocks ⟨_, _, mH.to (by rw [pif_t hin, hRP, eR]) rfl rfl hw.1⟩ hw.2 dX2_played_54
    exact L21_2 _ 0 np h ns nu M Z V (Nat.lt_succ_self _) (Nat.zero_le _) rfl hS (fun _ _ _ => rfl) _ _ hw ls (lv_sub hl [1, 2, 0] rfl)
  refine lv_bipush (v := (-2)) hx hb dX2_played_16 (by decide) ?_
  exact c_iret (v := (-2)) (pif_f (fun h9 => c_1 ((in_vp (by omega)).mpr h9))).symm hx hb hr rfl hlocks ⟨_, _, mH.to (pif_f (fun h9 => c_1 ((in_vp (by omega)).mpr h9))).symm rfl rfl hw.1⟩ hw.2 dX2_played_18
