theorem bD_t {P : Prop} (h : P) : bD P = true := by unfold bD; exact @decide_eq_true P (Classical.propDecidable P) h
theorem bD_f {P : Prop} (h : ¬ P) : ¬ bD P = true := by
  unfold bD
  intro h2
  exact h (@of_decide_eq_true P (Classical.propDecidable P) h2)
theorem lN0 : lN 0 = (0 : Int64) := by decide
theorem mTwo_3 {a b : Int64} : mTwo 3 a b = mClip (a + b) := pif_t rfl
theorem mTwo_4 {a b : Int64} : mTwo 4 a b = mClip (a - b) := (pif_f (by decide)).trans (pif_t rfl)
theorem mTwo_5 {a b : Int64} : mTwo 5 a b = mClip (a * b) := (pif_f (by decide)).trans ((pif_f (by decide)).trans (pif_t rfl))
theorem mTwo_6 {a b : Int64} (h : ¬ b = lN 0) : mTwo 6 a b = mClip (a / b) := (pif_f (by decide)).trans ((pif_f (by decide)).trans ((pif_f (by decide)).trans (pif_f (by rwa [lN0] at h))))
theorem mTwo_6z {a b : Int64} (h : b = lN 0) : mTwo 6 a b = mClip (lN 0) := (pif_f (by decide)).trans ((pif_f (by decide)).trans ((pif_f (by decide)).trans ((pif_t (by rwa [lN0] at h)).trans (by unfold mClip; rw [pif_f (by decide), pif_f (by decide)]; exact lN0.symm))))
theorem ask_10 {a b : Int64} (va : vb a) (vc : vb b) : mAsk 10 a b ↔ a - b < lN 0 := by
  have h8 := vb_lt va vc
  rw [lN0]
  unfold mAsk
  simp [h8.1, h8.2.1, h8.2.2, -Int64.not_lt]
theorem ask_11 {a b : Int64} (va : vb a) (vc : vb b) : mAsk 11 a b ↔ ¬ lN 0 < a - b := by
  have h8 := vb_lt va vc
  rw [lN0]
  unfold mAsk
  simp [h8.1, h8.2.1, h8.2.2, -Int64.not_lt]
theorem ask_12 {a b : Int64} (va : vb a) (vc : vb b) : mAsk 12 a b ↔ lN 0 < a - b := by
  have h8 := vb_lt va vc
  rw [lN0]
  unfold mAsk
  simp [h8.1, h8.2.1, h8.2.2, -Int64.not_lt]
theorem ask_13 {a b : Int64} (va : vb a) (vc : vb b) : mAsk 13 a b ↔ ¬ a - b < lN 0 := by
  have h8 := vb_lt va vc
  rw [lN0]
  unfold mAsk
  simp [h8.1, h8.2.1, h8.2.2, -Int64.not_lt]
theorem ask_14 {a b : Int64} (va : vb a) (vc : vb b) : mAsk 14 a b ↔ a - b = lN 0 := by
  have h8 := vb_lt va vc
  rw [lN0]
  unfold mAsk
  simp [h8.1, h8.2.1, h8.2.2, -Int64.not_lt]
theorem ask_15 {a b : Int64} (va : vb a) (vc : vb b) : mAsk 15 a b ↔ ¬ a - b = lN 0 := by
  have h8 := vb_lt va vc
  rw [lN0]
  unfold mAsk
  simp [h8.1, h8.2.1, h8.2.2, -Int64.not_lt]
set_option maxHeartbeats 4000000 in
set_option maxRecDepth 100000 in
theorem met_X11_is (l : Launch) (G : gG) (O : Nat → Prop) (n : Nat) (hch : chOK l G O n) (r na : Nat) (nm : Nat → Int32) (L : Cd) (v : Bool) (hv : eb nm L v) : Met l yX11_is (ws_ yX11_is cX11_is 4 (some .boolean)) (rmE n) (cP G [.ref r, .ref na] (fun H => dComp G H (fun b x l => aS G O H n b x l) r L ∧ nmA G H na nm)) (cR (some (.int (bI (v = true))))) 0 0 (fun _ => False) := by
  refine c_start (by decide) (Nat.le_of_ble_eq_true rfl) ?_
  intro p e s m below meth c hx hb hr hlocks hml hown hts hB hK ls hl
  obtain ⟨hD, hN⟩ := hB
  obtain ⟨o, x, y, L1, L2, ho, h1, h2, h3, rfl⟩ := hD
  obtain ⟨a, ha, va⟩ := (aS_val nm _ _ _).1 h2
  obtain ⟨b, hbb, vb2⟩ := (aS_val nm _ _ _).1 h3
  have hl : lv_has ls 4 [(0, .ref r), (1, .ref na)] := hl
  refine lv_aload_n hx hb dX11_is_0 rfl (lv_at hl 0 rfl) ?_
  refine a_get (own := RX11) (C := RX11) (T := TX11) (N := 3) (ci := 11) hx hb hts in_X11 hown hK h1 rfl 1 (by decide) (hts _ q683) (fun _ h9 => h9) rfl dX11_is_1 ?_
  refine lv_aload_n hx hb dX11_is_4 rfl (lv_at hl 1 rfl) ?_
  refine fSum_X11 ⟨hx, hb, hml, hown, hts⟩ hts hK hch (by dsimp only [rmE]; omega) (by dsimp only [rmE]; omega) ⟨Nat.le_refl _, Nat.le_refl _⟩ h2 hN ha hl.1 (Nat.le_of_ble_eq_true rfl) dX11_is_5 ?_
  refine lv_aload_n hx hb dX11_is_10 rfl (lv_at hl 0 rfl) ?_
  refine a_get (own := RX11) (C := RX11) (T := TX11) (N := 3) (ci := 11) hx hb hts in_X11 hown hK h1 rfl 2 (by decide) (hts _ q684) (fun _ h9 => h9) rfl dX11_is_11 ?_
  refine lv_aload_n hx hb dX11_is_14 rfl (lv_at hl 1 rfl) ?_
  refine fSum_X11 ⟨hx, hb, hml, hown, hts⟩ hts hK hch (by dsimp only [rmE]; omega) (by dsimp only [rmE]; omega) ⟨Nat.le_refl _, Nat.le_refl _⟩ h3 hN hbb hl.1 (Nat.le_of_ble_eq_true rfl) dX11_is_15 ?_
  refine lv_lsub hx hb dX11_is_20 ?_
  refine lv_lstore_n (lv' := [(2, .long (a - b)), (0, .ref r), (1, .ref na)]) hx hb dX11_is_21 rfl hl (by decide) rfl (fun ls hl => ?_)
  refine lv_aload_n hx hb dX11_is_22 rfl (lv_at hl 1 rfl) ?_
  refine a_get (own := RX11) (C := RX11) (T := TX11) (N := 3) (ci := 11) hx hb hts in_X11 hown hK h1 rfl 0 (by decide) (hts _ q682) (fun _ h9 => h9) rfl dX11_is_23 ?_
  obtain rfl | rfl | rfl | rfl | rfl | rfl : o = 10 ∨ o = 11 ∨ o = 12 ∨ o = 13 ∨ o = 14 ∨ o = 15 := by omega
  · refine lv_lookup (x := nI 60) (off := 50) (tgt := 76) hx hb dX11_is_26 (by decide) (by decide) (by decide) ?_
    refine lv_lload_n hx hb dX11_is_76 rfl (lv_at hl 0 rfl) ?_
    refine lv_lconst (v := lN 0) hx hb dX11_is_77 (by decide) ?_
    refine l_cmp_ge (tgt := 86) hx hb dX11_is_78 dX11_is_79 (by decide) (fun c_1 => ?_) (fun c_1 => ?_)
    · refine lv_iconst (v := nI 0) hx hb dX11_is_86 (by decide) ?_
      exact c_rret (v := nI 0) (by rw [← eb_uni (eb_ask ho ha hbb) hv]; exact (bI_f (bD_f (fun h9 => by first | exact c_1 ((ask_10 va vb2).mp h9) | exact ((ask_10 va vb2).mp h9) c_1))).symm) hx hb hr rfl hlocks dX11_is_87 rfl rfl
    refine lv_iconst (v := nI 1) hx hb dX11_is_82 (by decide) ?_
    refine lv_goto (tgt := 87) hx hb dX11_is_83 (by decide) ?_
    exact c_rret (v := nI 1) (by rw [← eb_uni (eb_ask ho ha hbb) hv]; exact (bI_t (bD_t ((ask_10 va vb2).mpr c_1))).symm) hx hb hr rfl hlocks dX11_is_87 rfl rfl
  · refine lv_lookup (x := nI 303) (off := 98) (tgt := 124) hx hb dX11_is_26 (by decide) (by decide) (by decide) ?_
    refine lv_lload_n hx hb dX11_is_124 rfl (lv_at hl 0 rfl) ?_
    refine lv_lconst (v := lN 0) hx hb dX11_is_125 (by decide) ?_
    refine l_cmp_gt (tgt := 134) hx hb dX11_is_126 dX11_is_127 (by decide) (fun c_2 => ?_) (fun c_2 => ?_)
    · refine lv_iconst (v := nI 0) hx hb dX11_is_134 (by decide) ?_
      exact c_rret (v := nI 0) (by rw [← eb_uni (eb_ask ho ha hbb) hv]; exact (bI_f (bD_f (fun h9 => by first | exact c_2 ((ask_11 va vb2).mp h9) | exact ((ask_11 va vb2).mp h9) c_2))).symm) hx hb hr rfl hlocks dX11_is_135 rfl rfl
    refine lv_iconst (v := nI 1) hx hb dX11_is_130 (by decide) ?_
    refine lv_goto (tgt := 135) hx hb dX11_is_131 (by decide) ?_
    exact c_rret (v := nI 1) (by rw [← eb_uni (eb_ask ho ha hbb) hv]; exact (bI_t (bD_t ((ask_11 va vb2).mpr c_2))).symm) hx hb hr rfl hlocks dX11_is_135 rfl rfl
  · refine lv_lookup (x := nI 62) (off := 62) (tgt := 88) hx hb dX11_is_26 (by decide) (by decide) (by decide) ?_
    refine lv_lload_n hx hb dX11_is_88 rfl (lv_at hl 0 rfl) ?_
    refine lv_lconst (v := lN 0) hx hb dX11_is_89 (by decide) ?_
    refine l_cmp_le (tgt := 98) hx hb dX11_is_90 dX11_is_91 (by decide) (fun c_3 => ?_) (fun c_3 => ?_)
    · refine lv_iconst (v := nI 0) hx hb dX11_is_98 (by decide) ?_
      exact c_rret (v := nI 0) (by rw [← eb_uni (eb_ask ho ha hbb) hv]; exact (bI_f (bD_f (fun h9 => by first | exact c_3 ((ask_12 va vb2).mp h9) | exact ((ask_12 va vb2).mp h9) c_3))).symm) hx hb hr rfl hlocks dX11_is_99 rfl rfl
    refine lv_iconst (v := nI 1) hx hb dX11_is_94 (by decide) ?_
    refine lv_goto (tgt := 99) hx hb dX11_is_95 (by decide) ?_
    exact c_rret (v := nI 1) (by rw [← eb_uni (eb_ask ho ha hbb) hv]; exact (bI_t (bD_t ((ask_12 va vb2).mpr c_3))).symm) hx hb hr rfl hlocks dX11_is_99 rfl rfl
  · refine lv_lookup (x := nI 304) (off := 110) (tgt := 136) hx hb dX11_is_26 (by decide) (by decide) (by decide) ?_
    refine lv_lload_n hx hb dX11_is_136 rfl (lv_at hl 0 rfl) ?_
    refine lv_lconst (v := lN 0) hx hb dX11_is_137 (by decide) ?_
    refine l_cmp_lt (tgt := 146) hx hb dX11_is_138 dX11_is_139 (by decide) (fun c_4 => ?_) (fun c_4 => ?_)
    · refine lv_iconst (v := nI 0) hx hb dX11_is_146 (by decide) ?_
      exact c_rret (v := nI 0) (by rw [← eb_uni (eb_ask ho ha hbb) hv]; exact (bI_f (bD_f (fun h9 => by first | exact c_4 ((ask_13 va vb2).mp h9) | exact ((ask_13 va vb2).mp h9) c_4))).symm) hx hb hr rfl hlocks dX11_is_147 rfl rfl
    refine lv_iconst (v := nI 1) hx hb dX11_is_142 (by decide) ?_
    refine lv_goto (tgt := 147) hx hb dX11_is_143 (by decide) ?_
    exact c_rret (v := nI 1) (by rw [← eb_uni (eb_ask ho ha hbb) hv]; exact (bI_t (bD_t ((ask_13 va vb2).mpr c_4))).symm) hx hb hr rfl hlocks dX11_is_147 rfl rfl
  · refine lv_lookup (x := nI 61) (off := 74) (tgt := 100) hx hb dX11_is_26 (by decide) (by decide) (by decide) ?_
    refine lv_lload_n hx hb dX11_is_100 rfl (lv_at hl 0 rfl) ?_
    refine lv_lconst (v := lN 0) hx hb dX11_is_101 (by decide) ?_
    refine l_cmp_ne (tgt := 110) hx hb dX11_is_102 dX11_is_103 (by decide) (fun c_5 => ?_) (fun c_5 => ?_)
    · refine lv_iconst (v := nI 0) hx hb dX11_is_110 (by decide) ?_
      exact c_rret (v := nI 0) (by rw [← eb_uni (eb_ask ho ha hbb) hv]; exact (bI_f (bD_f (fun h9 => by first | exact c_5 ((ask_14 va vb2).mp h9) | exact ((ask_14 va vb2).mp h9) c_5))).symm) hx hb hr rfl hlocks dX11_is_111 rfl rfl
    refine lv_iconst (v := nI 1) hx hb dX11_is_106 (by decide) ?_
    refine lv_goto (tgt := 111) hx hb dX11_is_107 (by decide) ?_
    exact c_rret (v := nI 1) (by rw [← eb_uni (eb_ask ho ha hbb) hv]; exact (bI_t (bD_t ((ask_14 va vb2).mpr c_5))).symm) hx hb hr rfl hlocks dX11_is_111 rfl rfl
  · refine lv_lookup (x := nI 35) (off := 86) (tgt := 112) hx hb dX11_is_26 (by decide) (by decide) (by decide) ?_
    refine lv_lload_n hx hb dX11_is_112 rfl (lv_at hl 0 rfl) ?_
    refine lv_lconst (v := lN 0) hx hb dX11_is_113 (by decide) ?_
    refine l_cmp_eq (tgt := 122) hx hb dX11_is_114 dX11_is_115 (by decide) (fun c_6 => ?_) (fun c_6 => ?_)
    · refine lv_iconst (v := nI 0) hx hb dX11_is_122 (by decide) ?_
      exact c_rret (v := nI 0) (by rw [← eb_uni (eb_ask ho ha hbb) hv]; exact (bI_f (bD_f (fun h9 => by first | exact c_6 ((ask_15 va vb2).mp h9) | exact ((ask_15 va vb2).mp h9) c_6))).symm) hx hb hr rfl hlocks dX11_is_123 rfl rfl
    refine lv_iconst (v := nI 1) hx hb dX11_is_118 (by decide) ?_
    refine lv_goto (tgt := 123) hx hb dX11_is_119 (by decide) ?_
    exact c_rret (v := nI 1) (by rw [← eb_uni (eb_ask ho ha hbb) hv]; exact (bI_t (bD_t ((ask_15 va vb2).mpr c_6))).symm) hx hb hr rfl hlocks dX11_is_123 rfl rfl
