set_option maxHeartbeats 4000000 in
set_option maxRecDepth 100000 in
theorem met_X7_of (l : Launch) (G : gG) (O : Nat → Prop) (n : Nat) (hch : chOK l G O n) (r na : Nat) (nm : Nat → Int32) (L : Cd) (v : Int64) (hv : ev nm L v) : Met l yX7_of (ws_ yX7_of cX7_of 10 (some .long)) (rmE n) (cP G [.ref r, .ref na] (fun H => dChain G O H (fun b x l => aS G O H n b x l) r L ∧ nmA G H na nm)) (cR (some (.long v))) 0 0 (fun _ => False) := by
  refine c_start (by decide) (Nat.le_of_ble_eq_true rfl) ?_
  intro p e s m below meth c hx hb hr hlocks hml hown hts hB hK ls hl
  obtain ⟨hD, hN⟩ := hB
  obtain ⟨x, lm, lsg, q, L0, xs, ss, Ls, os, h1, h2, h3, h4, h5, h6, h7, rfl⟩ := hD
  obtain ⟨a0, ha0, -⟩ := (aS_val nm _ _ _).1 h2
  have hl : lv_has ls 10 [(0, .ref r), (1, .ref na)] := hl
  refine lv_aload_n hx hb dX7_of_0 rfl (lv_at hl 0 rfl) ?_
  refine a_get (own := RX7) (C := RX7) (T := TX7) (N := 3) (ci := 7) hx hb hts in_X7 hown hK h1 rfl 0 (by decide) (hts _ q754) (fun _ h9 => h9) rfl dX7_of_1 ?_
  refine lv_aload_n hx hb dX7_of_4 rfl (lv_at hl 1 rfl) ?_
  refine fSum_X7 ⟨hx, hb, hml, hown, hts⟩ hts hK hch (by dsimp only [rmE]; omega) (by dsimp only [rmE]; omega) ⟨Nat.le_refl _, Nat.le_refl _⟩ h2 hN ha0 hl.1 (Nat.le_of_ble_eq_true rfl) dX7_of_5 ?_
  refine lv_lstore_n (lv' := [(2, .long a0), (0, .ref r), (1, .ref na)]) hx hb dX7_of_10 rfl hl (by decide) rfl (fun ls hl => ?_)
  refine lv_iconst (v := nI 0) hx hb dX7_of_11 (by decide) ?_
  refine lv_istore (lv' := [(4, .int (nI 0)), (2, .long a0), (0, .ref r), (1, .ref na)]) hx hb dX7_of_12 hl (by decide) rfl (fun ls hl => ?_)
  have L_14 : ∀ (fuel : Nat) (i : Nat) (a : Int64), q - i < fuel → (i ≤ q) → (ev nm (L0 ++ tlS Ls os i) a) → ∀ (ls : Array Slot), lv_has ls 10 [(0, .ref r), (1, .ref na), (2, .long a), (4, .int (nI i))] → W p l e (rmE n) s m ([.ref r, .ref na] : List Value).toArray below meth c s.heap [] 0 0 (MQ below (cR (some (.long v))) ([.ref r, .ref na] : List Value).toArray s 0 0 (fun _ => False)) (F0 m 14 ls []) := by
    intro fuel
    induction fuel with
    | zero => intro i a hf; exact absurd hf (Nat.not_lt_zero _)
    | succ fuel ih =>
      intro i a hf hi hA ls hl
      have ih14 := ih
      refine lv_iload hx hb dX7_of_14 (lv_at hl 3 rfl) ?_
      refine lv_aload_n hx hb dX7_of_16 rfl (lv_at hl 0 rfl) ?_
      refine a_get (own := RX7) (C := RX7) (T := TX7) (N := 3) (ci := 7) hx hb hts in_X7 hown hK h1 rfl 1 (by decide) (hts _ q755) (fun _ h9 => h9) rfl dX7_of_17 ?_
      refine c_read (va_runV (As := []) (rest := [.int (nI i)]) ⟨hx, hb, hml, hown, hts⟩ (met_J2_size l G O lm q xs) (cv_X7_J2_size hts ⟨by dsimp only [rmE]; omega, by dsimp only [rmE]; omega⟩) (cP.preV hK h5 ((fun h9 => by obtain ⟨_, _, _, _, _, _, _, h8, -⟩ := h5; exact a_recv (ci := 15) h9 h8 rfl) hK)) rfl rfl hl.1 rfl (lv_room (Nat.le_of_ble_eq_true rfl)) dX7_of_20 ⟨by first | exact Nat.zero_le _ | omega | decide, by first | exact Nat.zero_le _ | omega | decide⟩) ?_
      refine n_icmp_ge (tgt := 143) hx hb dX7_of_23 (by decide) (by omega) (by omega) (fun c_1 => ?_) (fun c_1 => ?_)
      · refine lv_lload_n hx hb dX7_of_143 rfl (lv_at hl 2 rfl) ?_
        exact c_rlret (v := a) (ev_uni (by rw [show q = i by omega]; exact hA) hv) hx hb hr hlocks dX7_of_144 rfl rfl
      obtain ⟨hxI, hoI, hOI, hsI⟩ := h7 i (by omega)
      obtain ⟨bI9, hbI, -⟩ := (aS_val nm _ _ _).1 hxI
      refine lv_aload_n hx hb dX7_of_26 rfl (lv_at hl 0 rfl) ?_
      refine a_get (own := RX7) (C := RX7) (T := TX7) (N := 3) (ci := 7) hx hb hts in_X7 hown hK h1 rfl 1 (by decide) (hts _ q755) (fun _ h9 => h9) rfl dX7_of_27 ?_
      refine lv_iload hx hb dX7_of_30 (lv_at hl 3 rfl) ?_
      refine c_read (va_runV (As := [.int (nI i)]) (rest := []) ⟨hx, hb, hml, hown, hts⟩ (met_J2_get l G O lm q xs i (by omega)) (cv_X7_J2_get hts ⟨by dsimp only [rmE]; omega, by dsimp only [rmE]; omega⟩) (cP.preV hK h5 ((fun h9 => by obtain ⟨_, _, _, _, _, _, _, h8, -⟩ := h5; exact a_recv (ci := 15) h9 h8 rfl) hK)) rfl rfl hl.1 rfl (lv_room (Nat.le_of_ble_eq_true rfl)) dX7_of_32 ⟨by first | exact Nat.zero_le _ | omega | decide, by first | exact Nat.zero_le _ | omega | decide⟩) ?_
      obtain ⟨C9, hr9, hc9, -⟩ := aS_castSum hK hxI
      refine va_castY (C := C9) hx hb hown (hts _ q894) hc9 hr9 dX7_of_35 ?_
      refine lv_aload_n hx hb dX7_of_38 rfl (lv_at hl 1 rfl) ?_
      refine fSum_X7 ⟨hx, hb, hml, hown, hts⟩ hts hK hch (by dsimp only [rmE]; omega) (by dsimp only [rmE]; omega) ⟨Nat.le_refl _, Nat.le_refl _⟩ hxI hN hbI hl.1 (Nat.le_of_ble_eq_true rfl) dX7_of_39 ?_
      refine lv_lstore (lv' := [(5, .long bI9), (0, .ref r), (1, .ref na), (2, .long a), (4, .int (nI i))]) hx hb dX7_of_44 hl (by decide) rfl (fun ls hl => ?_)
      refine lv_aload_n hx hb dX7_of_46 rfl (lv_at hl 1 rfl) ?_
      refine a_get (own := RX7) (C := RX7) (T := TX7) (N := 3) (ci := 7) hx hb hts in_X7 hown hK h1 rfl 2 (by decide) (hts _ q756) (fun _ h9 => h9) rfl dX7_of_47 ?_
      refine lv_iload hx hb dX7_of_50 (lv_at hl 4 rfl) ?_
      refine c_read (va_runV (As := [.int (nI i)]) (rest := []) ⟨hx, hb, hml, hown, hts⟩ (met_J2_get l G O lsg q ss i (by omega)) (cv_X7_J2_get hts ⟨by dsimp only [rmE]; omega, by dsimp only [rmE]; omega⟩) (cP.preV hK h6 ((fun h9 => by obtain ⟨_, _, _, _, _, _, _, h8, -⟩ := h6; exact a_recv (ci := 15) h9 h8 rfl) hK)) rfl rfl hl.1 rfl (lv_room (Nat.le_of_ble_eq_true rfl)) dX7_of_52 ⟨by first | exact Nat.zero_le _ | omega | decide, by first | exact Nat.zero_le _ | omega | decide⟩) ?_
      refine va_castS hx hb hown (hts _ q895) ((hK.1.1 16 _ rfl).2) (hsI.recv hK) dX7_of_55 ?_
      refine c_read (va_runV (As := []) (rest := []) ⟨hx, hb, hml, hown, hts⟩ (met_J15_intValue l G (ss i) (sgc (os i))) (cv_X7_J15_intValue hts ⟨by dsimp only [rmE]; omega, by dsimp only [rmE]; omega⟩) (cP.preV hK hsI ((fun h9 => hsI.recv h9) hK)) rfl rfl hl.1 rfl (lv_room (Nat.le_of_ble_eq_true rfl)) dX7_of_58 ⟨by first | exact Nat.zero_le _ | omega | decide, by first | exact Nat.zero_le _ | omega | decide⟩) ?_
      have e4 : os i = 3 ∨ os i = 4 ∨ os i = 5 ∨ os i = 6 := by omega
      obtain e9 | e9 | e9 | e9 := e4
      · rw [show sgc (os i) = nI 43 by rw [e9]; rfl]
        refine lv_istore (lv' := [(7, .int (nI 43)), (5, .long bI9), (0, .ref r), (1, .ref na), (2, .long a), (4, .int (nI i))]) hx hb dX7_of_61 hl (by decide) rfl (fun ls hl => ?_)
        refine lv_iload hx hb dX7_of_63 (lv_at hl 0 rfl) ?_
        refine lv_bipush (v := nI 43) hx hb dX7_of_65 (by decide) ?_
        refine n_icmp_ne (tgt := 77) hx hb dX7_of_67 (by decide) (by decide) (by decide) (fun h9 => absurd h9 (by decide)) (fun _ => ?_)
        refine lv_lload_n hx hb dX7_of_70 rfl (lv_at hl 4 rfl) ?_
        refine lv_lload hx hb dX7_of_71 (lv_at hl 1 rfl) ?_
        refine lv_ladd hx hb dX7_of_73 ?_
        refine lv_goto (tgt := 120) hx hb dX7_of_74 (by decide) ?_
        refine lv_lstore (lv' := [(8, .long (a + bI9)), (7, .int (nI 43)), (5, .long bI9), (0, .ref r), (1, .ref na), (2, .long a), (4, .int (nI i))]) hx hb dX7_of_120 hl (by decide) rfl (fun ls hl => ?_)
        refine lv_ldc2 (v := (-1000000)) hx hb hown (hts _ q900) dX7_of_122 ?_
        refine lv_ldc2 (v := (1000000)) hx hb hown (hts _ q901) dX7_of_125 ?_
        refine lv_lload hx hb dX7_of_128 (lv_at hl 0 rfl) ?_
        refine c_mmin_2 (x := (1000000)) (y := (a + bI9)) hx hb (hml.trans hl.1.symm) hown (hts _ q902) (hts _ q903) (hts _ q109) (hts _ q904) (by dsimp only [rmE]; omega) (Nat.le_trans (Nat.add_le_add_right (show (([.long (-1000000)] : List Value).map fun v => v.category).sum ≤ 20 from Nat.le_of_ble_eq_true rfl) 15) (by dsimp only [rmE]; omega)) (Nat.le_refl _) (Nat.le_refl _) dX7_of_130 ?_
        refine c_mmax_2 (x := (-1000000)) (y := (pif ((a + bI9) < (1000000)) (a + bI9) (1000000))) hx hb (hml.trans hl.1.symm) hown (hts _ q905) (hts _ q906) (hts _ q109) (hts _ q907) (by dsimp only [rmE]; omega) (Nat.le_trans (Nat.add_le_add_right (show (([] : List Value).map fun v => v.category).sum ≤ 20 from Nat.le_of_ble_eq_true rfl) 15) (by dsimp only [rmE]; omega)) (Nat.le_refl _) (Nat.le_refl _) dX7_of_133 ?_
        refine lv_lstore_n (lv' := [(2, .long (pif ((pif ((a + bI9) < (1000000)) (a + bI9) (1000000)) < (-1000000)) (-1000000) (pif ((a + bI9) < (1000000)) (a + bI9) (1000000)))), (8, .long (a + bI9)), (7, .int (nI 43)), (5, .long bI9), (0, .ref r), (1, .ref na), (4, .int (nI i))]) hx hb dX7_of_136 rfl hl (by decide) rfl (fun ls hl => ?_)
        refine lv_iinc (v := nI (i + 1)) (lv' := [(4, .int (nI (i + 1))), (2, .long (pif ((pif ((a + bI9) < (1000000)) (a + bI9) (1000000)) < (-1000000)) (-1000000) (pif ((a + bI9) < (1000000)) (a + bI9) (1000000)))), (8, .long (a + bI9)), (7, .int (nI 43)), (5, .long bI9), (0, .ref r), (1, .ref na)]) hx hb dX7_of_137 hl (k := 6) rfl (n_inc i 1) (by decide) rfl (fun ls hl => ?_)
        refine lv_goto (tgt := 14) hx hb dX7_of_140 (by decide) ?_
        exact ih14 (i + 1) (pif ((pif ((a + bI9) < (1000000)) (a + bI9) (1000000)) < (-1000000)) (-1000000) (pif ((a + bI9) < (1000000)) (a + bI9) (1000000))) (by omega) (by omega) (by have e8 : (pif ((pif ((a + bI9) < (1000000)) (a + bI9) (1000000)) < (-1000000)) (-1000000) (pif ((a + bI9) < (1000000)) (a + bI9) (1000000))) = mTwo (os i) a bI9 := (by rw [e9, mTwo_3]; exact clip_mm _); rw [e8]; exact ev_tl hA hbI hoI) ls (lv_sub hl [5, 6, 1, 0] rfl)
      · rw [show sgc (os i) = nI 45 by rw [e9]; rfl]
        refine lv_istore (lv' := [(7, .int (nI 45)), (5, .long bI9), (0, .ref r), (1, .ref na), (2, .long a), (4, .int (nI i))]) hx hb dX7_of_61 hl (by decide) rfl (fun ls hl => ?_)
        refine lv_iload hx hb dX7_of_63 (lv_at hl 0 rfl) ?_
        refine lv_bipush (v := nI 43) hx hb dX7_of_65 (by decide) ?_
        refine n_icmp_ne (tgt := 77) hx hb dX7_of_67 (by decide) (by decide) (by decide) (fun _ => ?_) (fun h9 => absurd h9 (by decide))
        refine lv_iload hx hb dX7_of_77 (lv_at hl 0 rfl) ?_
        refine lv_bipush (v := nI 45) hx hb dX7_of_79 (by decide) ?_
        refine n_icmp_ne (tgt := 91) hx hb dX7_of_81 (by decide) (by decide) (by decide) (fun h9 => absurd h9 (by decide)) (fun _ => ?_)
        refine lv_lload_n hx hb dX7_of_84 rfl (lv_at hl 4 rfl) ?_
        refine lv_lload hx hb dX7_of_85 (lv_at hl 1 rfl) ?_
        refine lv_lsub hx hb dX7_of_87 ?_
        refine lv_goto (tgt := 120) hx hb dX7_of_88 (by decide) ?_
        refine lv_lstore (lv' := [(8, .long (a - bI9)), (7, .int (nI 45)), (5, .long bI9), (0, .ref r), (1, .ref na), (2, .long a), (4, .int (nI i))]) hx hb dX7_of_120 hl (by decide) rfl (fun ls hl => ?_)
        refine lv_ldc2 (v := (-1000000)) hx hb hown (hts _ q900) dX7_of_122 ?_
        refine lv_ldc2 (v := (1000000)) hx hb hown (hts _ q901) dX7_of_125 ?_
        refine lv_lload hx hb dX7_of_128 (lv_at hl 0 rfl) ?_
        refine c_mmin_2 (x := (1000000)) (y := (a - bI9)) hx hb (hml.trans hl.1.symm) hown (hts _ q902) (hts _ q903) (hts _ q109) (hts _ q904) (by dsimp only [rmE]; omega) (Nat.le_trans (Nat.add_le_add_right (show (([.long (-1000000)] : List Value).map fun v => v.category).sum ≤ 20 from Nat.le_of_ble_eq_true rfl) 15) (by dsimp only [rmE]; omega)) (Nat.le_refl _) (Nat.le_refl _) dX7_of_130 ?_
        refine c_mmax_2 (x := (-1000000)) (y := (pif ((a - bI9) < (1000000)) (a - bI9) (1000000))) hx hb (hml.trans hl.1.symm) hown (hts _ q905) (hts _ q906) (hts _ q109) (hts _ q907) (by dsimp only [rmE]; omega) (Nat.le_trans (Nat.add_le_add_right (show (([] : List Value).map fun v => v.category).sum ≤ 20 from Nat.le_of_ble_eq_true rfl) 15) (by dsimp only [rmE]; omega)) (Nat.le_refl _) (Nat.le_refl _) dX7_of_133 ?_
        refine lv_lstore_n (lv' := [(2, .long (pif ((pif ((a - bI9) < (1000000)) (a - bI9) (1000000)) < (-1000000)) (-1000000) (pif ((a - bI9) < (1000000)) (a - bI9) (1000000)))), (8, .long (a - bI9)), (7, .int (nI 45)), (5, .long bI9), (0, .ref r), (1, .ref na), (4, .int (nI i))]) hx hb dX7_of_136 rfl hl (by decide) rfl (fun ls hl => ?_)
        refine lv_iinc (v := nI (i + 1)) (lv' := [(4, .int (nI (i + 1))), (2, .long (pif ((pif ((a - bI9) < (1000000)) (a - bI9) (1000000)) < (-1000000)) (-1000000) (pif ((a - bI9) < (1000000)) (a - bI9) (1000000)))), (8, .long (a - bI9)), (7, .int (nI 45)), (5, .long bI9), (0, .ref r), (1, .ref na)]) hx hb dX7_of_137 hl (k := 6) rfl (n_inc i 1) (by decide) rfl (fun ls hl => ?_)
        refine lv_goto (tgt := 14) hx hb dX7_of_140 (by decide) ?_
        exact ih14 (i + 1) (pif ((pif ((a - bI9) < (1000000)) (a - bI9) (1000000)) < (-1000000)) (-1000000) (pif ((a - bI9) < (1000000)) (a - bI9) (1000000))) (by omega) (by omega) (by have e8 : (pif ((pif ((a - bI9) < (1000000)) (a - bI9) (1000000)) < (-1000000)) (-1000000) (pif ((a - bI9) < (1000000)) (a - bI9) (1000000))) = mTwo (os i) a bI9 := (by rw [e9, mTwo_4]; exact clip_mm _); rw [e8]; exact ev_tl hA hbI hoI) ls (lv_sub hl [5, 6, 1, 0] rfl)
      · rw [show sgc (os i) = nI 42 by rw [e9]; rfl]
        refine lv_istore (lv' := [(7, .int (nI 42)), (5, .long bI9), (0, .ref r), (1, .ref na), (2, .long a), (4, .int (nI i))]) hx hb dX7_of_61 hl (by decide) rfl (fun ls hl => ?_)
        refine lv_iload hx hb dX7_of_63 (lv_at hl 0 rfl) ?_
        refine lv_bipush (v := nI 43) hx hb dX7_of_65 (by decide) ?_
        refine n_icmp_ne (tgt := 77) hx hb dX7_of_67 (by decide) (by decide) (by decide) (fun _ => ?_) (fun h9 => absurd h9 (by decide))
        refine lv_iload hx hb dX7_of_77 (lv_at hl 0 rfl) ?_
        refine lv_bipush (v := nI 45) hx hb dX7_of_79 (by decide) ?_
        refine n_icmp_ne (tgt := 91) hx hb dX7_of_81 (by decide) (by decide) (by decide) (fun _ => ?_) (fun h9 => absurd h9 (by decide))
        refine lv_iload hx hb dX7_of_91 (lv_at hl 0 rfl) ?_
        refine lv_bipush (v := nI 42) hx hb dX7_of_93 (by decide) ?_
        refine n_icmp_ne (tgt := 105) hx hb dX7_of_95 (by decide) (by decide) (by decide) (fun h9 => absurd h9 (by decide)) (fun _ => ?_)
        refine lv_lload_n hx hb dX7_of_98 rfl (lv_at hl 4 rfl) ?_
        refine lv_lload hx hb dX7_of_99 (lv_at hl 1 rfl) ?_
        refine lv_lmul hx hb dX7_of_101 ?_
        refine lv_goto (tgt := 120) hx hb dX7_of_102 (by decide) ?_
        refine lv_lstore (lv' := [(8, .long (a * bI9)), (7, .int (nI 42)), (5, .long bI9), (0, .ref r), (1, .ref na), (2, .long a), (4, .int (nI i))]) hx hb dX7_of_120 hl (by decide) rfl (fun ls hl => ?_)
        refine lv_ldc2 (v := (-1000000)) hx hb hown (hts _ q900) dX7_of_122 ?_
        refine lv_ldc2 (v := (1000000)) hx hb hown (hts _ q901) dX7_of_125 ?_
        refine lv_lload hx hb dX7_of_128 (lv_at hl 0 rfl) ?_
        refine c_mmin_2 (x := (1000000)) (y := (a * bI9)) hx hb (hml.trans hl.1.symm) hown (hts _ q902) (hts _ q903) (hts _ q109) (hts _ q904) (by dsimp only [rmE]; omega) (Nat.le_trans (Nat.add_le_add_right (show (([.long (-1000000)] : List Value).map fun v => v.category).sum ≤ 20 from Nat.le_of_ble_eq_true rfl) 15) (by dsimp only [rmE]; omega)) (Nat.le_refl _) (Nat.le_refl _) dX7_of_130 ?_
        refine c_mmax_2 (x := (-1000000)) (y := (pif ((a * bI9) < (1000000)) (a * bI9) (1000000))) hx hb (hml.trans hl.1.symm) hown (hts _ q905) (hts _ q906) (hts _ q109) (hts _ q907) (by dsimp only [rmE]; omega) (Nat.le_trans (Nat.add_le_add_right (show (([] : List Value).map fun v => v.category).sum ≤ 20 from Nat.le_of_ble_eq_true rfl) 15) (by dsimp only [rmE]; omega)) (Nat.le_refl _) (Nat.le_refl _) dX7_of_133 ?_
        refine lv_lstore_n (lv' := [(2, .long (pif ((pif ((a * bI9) < (1000000)) (a * bI9) (1000000)) < (-1000000)) (-1000000) (pif ((a * bI9) < (1000000)) (a * bI9) (1000000)))), (8, .long (a * bI9)), (7, .int (nI 42)), (5, .long bI9), (0, .ref r), (1, .ref na), (4, .int (nI i))]) hx hb dX7_of_136 rfl hl (by decide) rfl (fun ls hl => ?_)
        refine lv_iinc (v := nI (i + 1)) (lv' := [(4, .int (nI (i + 1))), (2, .long (pif ((pif ((a * bI9) < (1000000)) (a * bI9) (1000000)) < (-1000000)) (-1000000) (pif ((a * bI9) < (1000000)) (a * bI9) (1000000)))), (8, .long (a * bI9)), (7, .int (nI 42)), (5, .long bI9), (0, .ref r), (1, .ref na)]) hx hb dX7_of_137 hl (k := 6) rfl (n_inc i 1) (by decide) rfl (fun ls hl => ?_)
        refine lv_goto (tgt := 14) hx hb dX7_of_140 (by decide) ?_
        exact ih14 (i + 1) (pif ((pif ((a * bI9) < (1000000)) (a * bI9) (1000000)) < (-1000000)) (-1000000) (pif ((a * bI9) < (1000000)) (a * bI9) (1000000))) (by omega) (by omega) (by have e8 : (pif ((pif ((a * bI9) < (1000000)) (a * bI9) (1000000)) < (-1000000)) (-1000000) (pif ((a * bI9) < (1000000)) (a * bI9) (1000000))) = mTwo (os i) a bI9 := (by rw [e9, mTwo_5]; exact clip_mm _); rw [e8]; exact ev_tl hA hbI hoI) ls (lv_sub hl [5, 6, 1, 0] rfl)
      · rw [show sgc (os i) = nI 47 by rw [e9]; rfl]
        refine lv_istore (lv' := [(7, .int (nI 47)), (5, .long bI9), (0, .ref r), (1, .ref na), (2, .long a), (4, .int (nI i))]) hx hb dX7_of_61 hl (by decide) rfl (fun ls hl => ?_)
        refine lv_iload hx hb dX7_of_63 (lv_at hl 0 rfl) ?_
        refine lv_bipush (v := nI 43) hx hb dX7_of_65 (by decide) ?_
        refine n_icmp_ne (tgt := 77) hx hb dX7_of_67 (by decide) (by decide) (by decide) (fun _ => ?_) (fun h9 => absurd h9 (by decide))
        refine lv_iload hx hb dX7_of_77 (lv_at hl 0 rfl) ?_
        refine lv_bipush (v := nI 45) hx hb dX7_of_79 (by decide) ?_
        refine n_icmp_ne (tgt := 91) hx hb dX7_of_81 (by decide) (by decide) (by decide) (fun _ => ?_) (fun h9 => absurd h9 (by decide))
        refine lv_iload hx hb dX7_of_91 (lv_at hl 0 rfl) ?_
        refine lv_bipush (v := nI 42) hx hb dX7_of_93 (by decide) ?_
        refine n_icmp_ne (tgt := 105) hx hb dX7_of_95 (by decide) (by decide) (by decide) (fun _ => ?_) (fun h9 => absurd h9 (by decide))
        refine lv_lload hx hb dX7_of_105 (lv_at hl 1 rfl) ?_
        refine lv_lconst (v := lN 0) hx hb dX7_of_107 (by decide) ?_
        refine l_cmp_ne (tgt := 116) hx hb dX7_of_108 dX7_of_109 (by decide) (fun c_2 => ?_) (fun c_2 => ?_)
        · refine lv_lload_n hx hb dX7_of_116 rfl (lv_at hl 4 rfl) ?_
          refine lv_lload hx hb dX7_of_117 (lv_at hl 1 rfl) ?_
          refine lv_ldiv hx hb dX7_of_119 (by rw [← lN0]; assumption) ?_
          refine lv_lstore (lv' := [(8, .long (a / bI9)), (7, .int (nI 47)), (5, .long bI9), (0, .ref r), (1, .ref na), (2, .long a), (4, .int (nI i))]) hx hb dX7_of_120 hl (by decide) rfl (fun ls hl => ?_)
          refine lv_ldc2 (v := (-1000000)) hx hb hown (hts _ q900) dX7_of_122 ?_
          refine lv_ldc2 (v := (1000000)) hx hb hown (hts _ q901) dX7_of_125 ?_
          refine lv_lload hx hb dX7_of_128 (lv_at hl 0 rfl) ?_
          refine c_mmin_2 (x := (1000000)) (y := (a / bI9)) hx hb (hml.trans hl.1.symm) hown (hts _ q902) (hts _ q903) (hts _ q109) (hts _ q904) (by dsimp only [rmE]; omega) (Nat.le_trans (Nat.add_le_add_right (show (([.long (-1000000)] : List Value).map fun v => v.category).sum ≤ 20 from Nat.le_of_ble_eq_true rfl) 15) (by dsimp only [rmE]; omega)) (Nat.le_refl _) (Nat.le_refl _) dX7_of_130 ?_
          refine c_mmax_2 (x := (-1000000)) (y := (pif ((a / bI9) < (1000000)) (a / bI9) (1000000))) hx hb (hml.trans hl.1.symm) hown (hts _ q905) (hts _ q906) (hts _ q109) (hts _ q907) (by dsimp only [rmE]; omega) (Nat.le_trans (Nat.add_le_add_right (show (([] : List Value).map fun v => v.category).sum ≤ 20 from Nat.le_of_ble_eq_true rfl) 15) (by dsimp only [rmE]; omega)) (Nat.le_refl _) (Nat.le_refl _) dX7_of_133 ?_
          refine lv_lstore_n (lv' := [(2, .long (pif ((pif ((a / bI9) < (1000000)) (a / bI9) (1000000)) < (-1000000)) (-1000000) (pif ((a / bI9) < (1000000)) (a / bI9) (1000000)))), (8, .long (a / bI9)), (7, .int (nI 47)), (5, .long bI9), (0, .ref r), (1, .ref na), (4, .int (nI i))]) hx hb dX7_of_136 rfl hl (by decide) rfl (fun ls hl => ?_)
          refine lv_iinc (v := nI (i + 1)) (lv' := [(4, .int (nI (i + 1))), (2, .long (pif ((pif ((a / bI9) < (1000000)) (a / bI9) (1000000)) < (-1000000)) (-1000000) (pif ((a / bI9) < (1000000)) (a / bI9) (1000000)))), (8, .long (a / bI9)), (7, .int (nI 47)), (5, .long bI9), (0, .ref r), (1, .ref na)]) hx hb dX7_of_137 hl (k := 6) rfl (n_inc i 1) (by decide) rfl (fun ls hl => ?_)
          refine lv_goto (tgt := 14) hx hb dX7_of_140 (by decide) ?_
          exact ih14 (i + 1) (pif ((pif ((a / bI9) < (1000000)) (a / bI9) (1000000)) < (-1000000)) (-1000000) (pif ((a / bI9) < (1000000)) (a / bI9) (1000000))) (by omega) (by omega) (by have e8 : (pif ((pif ((a / bI9) < (1000000)) (a / bI9) (1000000)) < (-1000000)) (-1000000) (pif ((a / bI9) < (1000000)) (a / bI9) (1000000))) = mTwo (os i) a bI9 := (by rw [e9, mTwo_6 c_2]; exact clip_mm _); rw [e8]; exact ev_tl hA hbI hoI) ls (lv_sub hl [5, 6, 1, 0] rfl)
        refine lv_lconst (v := lN 0) hx hb dX7_of_112 (by decide) ?_
        refine lv_goto (tgt := 120) hx hb dX7_of_113 (by decide) ?_
        refine lv_lstore (lv' := [(8, .long (lN 0)), (7, .int (nI 47)), (5, .long bI9), (0, .ref r), (1, .ref na), (2, .long a), (4, .int (nI i))]) hx hb dX7_of_120 hl (by decide) rfl (fun ls hl => ?_)
        refine lv_ldc2 (v := (-1000000)) hx hb hown (hts _ q900) dX7_of_122 ?_
        refine lv_ldc2 (v := (1000000)) hx hb hown (hts _ q901) dX7_of_125 ?_
        refine lv_lload hx hb dX7_of_128 (lv_at hl 0 rfl) ?_
        refine c_mmin_2 (x := (1000000)) (y := (lN 0)) hx hb (hml.trans hl.1.symm) hown (hts _ q902) (hts _ q903) (hts _ q109) (hts _ q904) (by dsimp only [rmE]; omega) (Nat.le_trans (Nat.add_le_add_right (show (([.long (-1000000)] : List Value).map fun v => v.category).sum ≤ 20 from Nat.le_of_ble_eq_true rfl) 15) (by dsimp only [rmE]; omega)) (Nat.le_refl _) (Nat.le_refl _) dX7_of_130 ?_
        refine c_mmax_2 (x := (-1000000)) (y := (pif ((lN 0) < (1000000)) (lN 0) (1000000))) hx hb (hml.trans hl.1.symm) hown (hts _ q905) (hts _ q906) (hts _ q109) (hts _ q907) (by dsimp only [rmE]; omega) (Nat.le_trans (Nat.add_le_add_right (show (([] : List Value).map fun v => v.category).sum ≤ 20 from Nat.le_of_ble_eq_true rfl) 15) (by dsimp only [rmE]; omega)) (Nat.le_refl _) (Nat.le_refl _) dX7_of_133 ?_
        refine lv_lstore_n (lv' := [(2, .long (pif ((pif ((lN 0) < (1000000)) (lN 0) (1000000)) < (-1000000)) (-1000000) (pif ((lN 0) < (1000000)) (lN 0) (1000000)))), (8, .long (lN 0)), (7, .int (nI 47)), (5, .long bI9), (0, .ref r), (1, .ref na), (4, .int (nI i))]) hx hb dX7_of_136 rfl hl (by decide) rfl (fun ls hl => ?_)
        refine lv_iinc (v := nI (i + 1)) (lv' := [(4, .int (nI (i + 1))), (2, .long (pif ((pif ((lN 0) < (1000000)) (lN 0) (1000000)) < (-1000000)) (-1000000) (pif ((lN 0) < (1000000)) (lN 0) (1000000)))), (8, .long (lN 0)), (7, .int (nI 47)), (5, .long bI9), (0, .ref r), (1, .ref na)]) hx hb dX7_of_137 hl (k := 6) rfl (n_inc i 1) (by decide) rfl (fun ls hl => ?_)
        refine lv_goto (tgt := 14) hx hb dX7_of_140 (by decide) ?_
        exact ih14 (i + 1) (pif ((pif ((lN 0) < (1000000)) (lN 0) (1000000)) < (-1000000)) (-1000000) (pif ((lN 0) < (1000000)) (lN 0) (1000000))) (by omega) (by omega) (by have e8 : (pif ((pif ((lN 0) < (1000000)) (lN 0) (1000000)) < (-1000000)) (-1000000) (pif ((lN 0) < (1000000)) (lN 0) (1000000))) = mTwo (os i) a bI9 := (by rw [e9, mTwo_6z c_2]; exact clip_mm _); rw [e8]; exact ev_tl hA hbI hoI) ls (lv_sub hl [5, 6, 1, 0] rfl)
  exact L_14 _ 0 a0 (Nat.lt_succ_self _) (by omega) (by show ev nm (L0 ++ []) a0; rw [List.append_nil]; exact ha0) ls (lv_sub hl [2, 3, 1, 0] rfl)
