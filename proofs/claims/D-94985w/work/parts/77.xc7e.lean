set_option maxHeartbeats 4000000 in
set_option maxRecDepth 100000 in
theorem met_X12_is (l : Launch) (G : gG) (O : Nat → Prop) (n : Nat) (hch : chOK l G O n) (r na : Nat) (nm : Nat → Int32) (L : Cd) (v : Bool) (hv : eb nm L v) : Met l yX12_is (ws_ yX12_is cX12_is 4 (some .boolean)) (rmE n) (cP G [.ref r, .ref na] (fun H => dAll G O H (fun b x l => aS G O H n b x l) r L ∧ nmA G H na nm)) (cR (some (.int (bI (v = true))))) 0 0 (fun _ => False) := by
  refine c_start (by decide) (Nat.le_of_ble_eq_true rfl) ?_
  intro p e s m below meth c hx hb hr hlocks hml hown hts hB hK ls hl
  obtain ⟨hD, hN⟩ := hB
  obtain ⟨g, lx, q, xs, Ls, hg, h1, h3, h4, h5, rfl⟩ := hD
  have hb5 : ∀ i, i < q + 1 → eb nm (Ls i) (bVal nm (Ls i)) := fun i hi => by
    obtain ⟨b, hb⟩ := (aS_val nm _ _ _).2 (h5 i hi)
    rw [bVal_eb hb]; exact hb
  have hle := cntB_le (fun i => bVal nm (Ls i))
  have hl : lv_has ls 4 [(0, .ref r), (1, .ref na)] := hl
  refine lv_iconst (v := nI 0) hx hb dX12_is_0 (by decide) ?_
  refine lv_istore_n (lv' := [(2, .int (nI 0)), (0, .ref r), (1, .ref na)]) hx hb dX12_is_1 rfl hl (by decide) rfl (fun ls hl => ?_)
  refine lv_iconst (v := nI 0) hx hb dX12_is_2 (by decide) ?_
  refine lv_istore_n (lv' := [(3, .int (nI 0)), (2, .int (nI 0)), (0, .ref r), (1, .ref na)]) hx hb dX12_is_3 rfl hl (by decide) rfl (fun ls hl => ?_)
  have L_4 : ∀ (fuel : Nat) (i : Nat) (so : Nat), q + 1 - i < fuel → (i ≤ q + 1) → (so = cntB (fun i => bVal nm (Ls i)) i) → ∀ (ls : Array Slot), lv_has ls 4 [(0, .ref r), (1, .ref na), (2, .int (nI so)), (3, .int (nI i))] → W p l e (rmE n) s m ([.ref r, .ref na] : List Value).toArray below meth c s.heap [] 0 0 (MQ below (cR (some (.int (bI (v = true))))) ([.ref r, .ref na] : List Value).toArray s 0 0 (fun _ => False)) (F0 m 4 ls []) := by
    intro fuel
    induction fuel with
    | zero => intro i so hf; exact absurd hf (Nat.not_lt_zero _)
    | succ fuel ih =>
      intro i so hf hi hS ls hl
      have ih4 := ih
      have hle9 := hle i; rw [← hS] at hle9
      refine lv_iload_n hx hb dX12_is_4 rfl (lv_at hl 3 rfl) ?_
      refine lv_aload_n hx hb dX12_is_5 rfl (lv_at hl 0 rfl) ?_
      refine a_get (own := RX12) (C := RX12) (T := TX12) (N := 2) (ci := 12) hx hb hts in_X12 hown hK h1 rfl 1 (by decide) (hts _ q716) (fun _ h9 => h9) rfl dX12_is_6 ?_
      refine c_read (va_runV (As := []) (rest := [.int (nI i)]) ⟨hx, hb, hml, hown, hts⟩ (met_J2_size l G O lx (q + 1) xs) (cv_X12_J2_size hts ⟨by dsimp only [rmE]; omega, by dsimp only [rmE]; omega⟩) (cP.preV hK h4 ((fun h9 => by obtain ⟨_, _, _, _, _, _, _, h8, -⟩ := h4; exact a_recv (ci := 15) h9 h8 rfl) hK)) rfl rfl hl.1 rfl (lv_room (Nat.le_of_ble_eq_true rfl)) dX12_is_9 ⟨by first | exact Nat.zero_le _ | omega | decide, by first | exact Nat.zero_le _ | omega | decide⟩) ?_
      refine n_icmp_ge (tgt := 49) hx hb dX12_is_12 (by decide) (by omega) (by omega) (fun c_1 => ?_) (fun c_1 => ?_)
      · have hS9 : so = cntB (fun i => bVal nm (Ls i)) (q + 1) := by rw [hS, show i = q + 1 by omega]
        obtain rfl | rfl : g = 0 ∨ g = 1 := by omega
        · refine lv_aload_n hx hb dX12_is_49 rfl (lv_at hl 0 rfl) ?_
          refine a_get (own := RX12) (C := RX12) (T := TX12) (N := 2) (ci := 12) hx hb hts in_X12 hown hK h1 rfl 0 (by decide) (hts _ q715) (fun _ h9 => h9) rfl dX12_is_50 ?_
          refine n_if_eq (tgt := 75) hx hb dX12_is_53 (by decide) (by decide) (fun _ => ?_) (fun h9 => absurd h9 (by decide))
          refine lv_iload_n hx hb dX12_is_75 rfl (lv_at hl 2 rfl) ?_
          refine n_if_le (tgt := 83) hx hb dX12_is_76 (by decide) (by omega) (fun c_2 => ?_) (fun c_2 => ?_)
          · refine lv_iconst (v := nI 0) hx hb dX12_is_83 (by decide) ?_
            exact c_rret (v := nI 0) (by rw [← eb_uni (eb_tlO q hb5) hv]; exact (bI_f (by rw [decide_eq_true_eq]; rw [← hS9]; omega)).symm) hx hb hr rfl hlocks dX12_is_84 rfl rfl
          refine lv_iconst (v := nI 1) hx hb dX12_is_79 (by decide) ?_
          refine lv_goto (tgt := 84) hx hb dX12_is_80 (by decide) ?_
          exact c_rret (v := nI 1) (by rw [← eb_uni (eb_tlO q hb5) hv]; exact (bI_t (by rw [decide_eq_true_eq]; rw [← hS9]; omega)).symm) hx hb hr rfl hlocks dX12_is_84 rfl rfl
        · refine lv_aload_n hx hb dX12_is_49 rfl (lv_at hl 0 rfl) ?_
          refine a_get (own := RX12) (C := RX12) (T := TX12) (N := 2) (ci := 12) hx hb hts in_X12 hown hK h1 rfl 0 (by decide) (hts _ q715) (fun _ h9 => h9) rfl dX12_is_50 ?_
          refine n_if_eq (tgt := 75) hx hb dX12_is_53 (by decide) (by decide) (fun h9 => absurd h9 (by decide)) (fun _ => ?_)
          refine lv_iload_n hx hb dX12_is_56 rfl (lv_at hl 2 rfl) ?_
          refine lv_aload_n hx hb dX12_is_57 rfl (lv_at hl 0 rfl) ?_
          refine a_get (own := RX12) (C := RX12) (T := TX12) (N := 2) (ci := 12) hx hb hts in_X12 hown hK h1 rfl 1 (by decide) (hts _ q716) (fun _ h9 => h9) rfl dX12_is_58 ?_
          refine c_read (va_runV (As := []) (rest := [.int (nI so)]) ⟨hx, hb, hml, hown, hts⟩ (met_J2_size l G O lx (q + 1) xs) (cv_X12_J2_size hts ⟨by dsimp only [rmE]; omega, by dsimp only [rmE]; omega⟩) (cP.preV hK h4 ((fun h9 => by obtain ⟨_, _, _, _, _, _, _, h8, -⟩ := h4; exact a_recv (ci := 15) h9 h8 rfl) hK)) rfl rfl hl.1 rfl (lv_room (Nat.le_of_ble_eq_true rfl)) dX12_is_61 ⟨by first | exact Nat.zero_le _ | omega | decide, by first | exact Nat.zero_le _ | omega | decide⟩) ?_
          refine n_icmp_ne (tgt := 71) hx hb dX12_is_64 (by decide) (by omega) (by omega) (fun c_3 => ?_) (fun c_3 => ?_)
          · refine lv_iconst (v := nI 0) hx hb dX12_is_71 (by decide) ?_
            refine lv_goto (tgt := 84) hx hb dX12_is_72 (by decide) ?_
            exact c_rret (v := nI 0) (by rw [← eb_uni (eb_tlA q hb5) hv]; exact (bI_f (by rw [decide_eq_true_eq]; rw [← hS9]; omega)).symm) hx hb hr rfl hlocks dX12_is_84 rfl rfl
          refine lv_iconst (v := nI 1) hx hb dX12_is_67 (by decide) ?_
          refine lv_goto (tgt := 84) hx hb dX12_is_68 (by decide) ?_
          exact c_rret (v := nI 1) (by rw [← eb_uni (eb_tlA q hb5) hv]; exact (bI_t (by rw [decide_eq_true_eq]; rw [← hS9]; omega)).symm) hx hb hr rfl hlocks dX12_is_84 rfl rfl
      have hxI := h5 i (by omega)
      have hbI := hb5 i (by omega)
      refine lv_iload_n hx hb dX12_is_15 rfl (lv_at hl 2 rfl) ?_
      refine lv_aload_n hx hb dX12_is_16 rfl (lv_at hl 0 rfl) ?_
      refine a_get (own := RX12) (C := RX12) (T := TX12) (N := 2) (ci := 12) hx hb hts in_X12 hown hK h1 rfl 1 (by decide) (hts _ q716) (fun _ h9 => h9) rfl dX12_is_17 ?_
      refine lv_iload_n hx hb dX12_is_20 rfl (lv_at hl 3 rfl) ?_
      refine c_read (va_runV (As := [.int (nI i)]) (rest := [.int (nI so)]) ⟨hx, hb, hml, hown, hts⟩ (met_J2_get l G O lx (q + 1) xs i (by omega)) (cv_X12_J2_get hts ⟨by dsimp only [rmE]; omega, by dsimp only [rmE]; omega⟩) (cP.preV hK h4 ((fun h9 => by obtain ⟨_, _, _, _, _, _, _, h8, -⟩ := h4; exact a_recv (ci := 15) h9 h8 rfl) hK)) rfl rfl hl.1 rfl (lv_room (Nat.le_of_ble_eq_true rfl)) dX12_is_21 ⟨by first | exact Nat.zero_le _ | omega | decide, by first | exact Nat.zero_le _ | omega | decide⟩) ?_
      obtain ⟨C9, hr9, hc9, -⟩ := aS_castAsked hK hxI
      refine va_castY (C := C9) hx hb hown (hts _ q851) hc9 hr9 dX12_is_24 ?_
      refine lv_aload_n hx hb dX12_is_27 rfl (lv_at hl 1 rfl) ?_
      refine fAsked_X12 ⟨hx, hb, hml, hown, hts⟩ hts hK hch (by dsimp only [rmE]; omega) (by dsimp only [rmE]; omega) ⟨Nat.le_refl _, Nat.le_refl _⟩ hxI hN hbI hl.1 (Nat.le_of_ble_eq_true rfl) dX12_is_28 ?_
      refine b_if_eq (tgt := 40) hx hb dX12_is_33 (by decide) (fun c_4 => ?_) (fun c_4 => ?_)
      · refine lv_iconst (v := nI 0) hx hb dX12_is_40 (by decide) ?_
        refine n_iadd hx hb dX12_is_41 ?_
        refine lv_istore_n (lv' := [(2, .int (nI so)), (0, .ref r), (1, .ref na), (3, .int (nI i))]) hx hb dX12_is_42 rfl hl (by decide) rfl (fun ls hl => ?_)
        refine lv_iinc (v := nI (i + 1)) (lv' := [(3, .int (nI (i + 1))), (2, .int (nI so)), (0, .ref r), (1, .ref na)]) hx hb dX12_is_43 hl (k := 3) rfl (n_inc i 1) (by decide) rfl (fun ls hl => ?_)
        refine lv_goto (tgt := 4) hx hb dX12_is_46 (by decide) ?_
        exact ih4 (i + 1) so (by omega) (by omega) (by rw [show cntB (fun i => bVal nm (Ls i)) (i + 1) = cntB (fun i => bVal nm (Ls i)) i + (if bVal nm (Ls i) then 1 else 0) from rfl, ← hS]; first | rw [if_pos c_4] | rw [if_neg c_4, Nat.add_zero]) ls (lv_sub hl [2, 3, 1, 0] rfl)
      refine lv_iconst (v := nI 1) hx hb dX12_is_36 (by decide) ?_
      refine lv_goto (tgt := 41) hx hb dX12_is_37 (by decide) ?_
      refine n_iadd hx hb dX12_is_41 ?_
      refine lv_istore_n (lv' := [(2, .int (nI (so + 1))), (0, .ref r), (1, .ref na), (3, .int (nI i))]) hx hb dX12_is_42 rfl hl (by decide) rfl (fun ls hl => ?_)
      refine lv_iinc (v := nI (i + 1)) (lv' := [(3, .int (nI (i + 1))), (2, .int (nI (so + 1))), (0, .ref r), (1, .ref na)]) hx hb dX12_is_43 hl (k := 3) rfl (n_inc i 1) (by decide) rfl (fun ls hl => ?_)
      refine lv_goto (tgt := 4) hx hb dX12_is_46 (by decide) ?_
      exact ih4 (i + 1) (so + 1) (by omega) (by omega) (by rw [show cntB (fun i => bVal nm (Ls i)) (i + 1) = cntB (fun i => bVal nm (Ls i)) i + (if bVal nm (Ls i) then 1 else 0) from rfl, ← hS]; first | rw [if_pos c_4] | rw [if_neg c_4, Nat.add_zero]) ls (lv_sub hl [2, 3, 1, 0] rfl)
  exact L_4 _ 0 0 (Nat.lt_succ_self _) (by omega) rfl ls (lv_sub hl [2, 3, 1, 0] rfl)
theorem ev_step (l : Launch) (G : gG) (O : Nat → Prop) (n : Nat) (hch : chOK l G O n) : evOK l G O n :=
  ⟨met_X8_of l G O n hch, met_X9_of l G O n hch, met_X14_of l G O n hch, met_X7_of l G O n hch, met_X13_of l G O n hch, met_X11_is l G O n hch, met_X10_is l G O n hch, met_X12_is l G O n hch⟩
theorem ev_all (l : Launch) (G : gG) (O : Nat → Prop) : ∀ n, evOK l G O n
  | 0 => ev_step l G O 0 (fun k h => by omega)
  | n + 1 => ev_step l G O (n + 1) (fun k h => by
    obtain rfl : k = n := by omega
    exact ev_all l G O k)

