/-- what was blown so, of a telling at x -/
noncomputable def xBln (M : Nat → Nat → Int32) (x nu : Nat) : Int32 := it (fun e t => t + pif (M 0 (250 + 4 * e + 1) = M 0 x ∧ M 0 (250 + 4 * e) = M 0 (x + 1) ∧ M 0 (250 + 4 * e + 3) = M 0 (x + 3)) (M 0 (250 + 4 * e + 2)) (nI 0)) (nu - 0) 0 (nI 0)
theorem sum_nat {f : Nat → Int32} {P : Nat → Prop} {B : Nat} (hB : B ≤ 9) : ∀ (n i : Nat) (a : Nat), (∀ j, i ≤ j → j < i + n → ∃ v, v ≤ 9 ∧ f j = nI v) → ∃ r, r ≤ a + 9 * n ∧ it (fun e t => t + pif (P e) (f e) (nI 0)) n i (nI a) = nI r
  | 0, i, a, _ => ⟨a, by omega, it_0⟩
  | n + 1, i, a, h => by
    rw [it_succ]
    obtain ⟨v, hv, e⟩ := h i (Nat.le_refl _) (by omega)
    by_cases c : P i
    · rw [pif_t c, e, nI_add]
      obtain ⟨r, h1, h2⟩ := sum_nat hB n (i + 1) (a + v) (fun j h3 h4 => h j (by omega) (by omega))
      exact ⟨r, by omega, h2⟩
    · rw [pif_f c, nI_add]
      obtain ⟨r, h1, h2⟩ := sum_nat hB n (i + 1) (a + 0) (fun j h3 h4 => h j (by omega) (by omega))
      exact ⟨r, by omega, h2⟩
theorem sub_sum {f : Nat → Int32} {P : Nat → Prop} : ∀ (n i : Nat) (t0 s0 : Int32), it (fun e t => t - pif (P e) (f e) (nI 0)) n i (t0 - s0) = t0 - it (fun e t => t + pif (P e) (f e) (nI 0)) n i s0
  | 0, i, t0, s0 => by rw [it_0, it_0]
  | n + 1, i, t0, s0 => by
    rw [it_succ, it_succ, ← sub_sum n (i + 1) t0 (s0 + pif (P i) (f i) (nI 0))]
    congr 1
    rw [Int32.sub_eq_add_neg, Int32.sub_eq_add_neg, Int32.sub_eq_add_neg, Int32.neg_add, Int32.sub_eq_add_neg, Int32.add_assoc]
/-- more was told than blown -/
theorem false_iff {M : Nat → Nat → Int32} {x nt nu : Nat} (hnt : nt ≤ 20) (hnu : nu ≤ 40) (ht : ∀ k, k < nt → ∃ v, v ≤ 9 ∧ M 0 (70 + 4 * k + 2) = nI v) (hu : ∀ i, i < nu → ∃ v, v ≤ 9 ∧ M 0 (250 + 4 * i + 2) = nI v) : (xBln M x nu < mTold M x nt) ↔ ¬ mBlown M x nu (mTold M x nt) ≤ 0 := by
  obtain ⟨a, ha, ea⟩ := sum_nat (f := fun e => M 0 (70 + 4 * e + 2)) (P := fun e => M 0 (70 + 4 * e) = M 0 x ∧ M 0 (70 + 4 * e + 1) = M 0 (x + 1) ∧ M 0 (70 + 4 * e + 3) = M 0 (x + 3)) (B := 0) (by decide) (nt - 0) 0 0 (fun j _ h => ht j (by omega))
  obtain ⟨b, hb, eb'⟩ := sum_nat (f := fun e => M 0 (250 + 4 * e + 2)) (P := fun e => M 0 (250 + 4 * e + 1) = M 0 x ∧ M 0 (250 + 4 * e) = M 0 (x + 1) ∧ M 0 (250 + 4 * e + 3) = M 0 (x + 3)) (B := 0) (by decide) (nu - 0) 0 0 (fun j _ h => hu j (by omega))
  have e1 : mTold M x nt = nI a := ea
  have e2 : xBln M x nu = nI b := eb'
  have e3 : mBlown M x nu (mTold M x nt) = nI a - nI b := by
    rw [← e2, ← e1]
    have := sub_sum (f := fun e => M 0 (250 + 4 * e + 2)) (P := fun e => M 0 (250 + 4 * e + 1) = M 0 x ∧ M 0 (250 + 4 * e) = M 0 (x + 1) ∧ M 0 (250 + 4 * e + 3) = M 0 (x + 3)) (nu - 0) 0 (mTold M x nt) (nI 0)
    rw [show mTold M x nt - nI 0 = mTold M x nt by rw [nI_0, Int32.sub_zero]] at this
    exact this
  rw [e3, e1, e2, nI_ltI (by omega) (by omega)]
  by_cases c : b < a
  · rw [pk_sub (by omega)]
    have : ¬ nI (a - b) ≤ 0 := nI_nle (by omega) (by omega)
    exact ⟨fun _ => this, fun _ => c⟩
  · have : nI a - nI b ≤ 0 := by
      rw [Int32.le_iff_toInt_le, pk_sub_toInt (by omega) (by omega)]
      have : (0 : Int32).toInt = 0 := by decide
      omega
    exact ⟨fun h => absurd h c, fun h => absurd this h⟩
set_option maxHeartbeats 4000000 in
set_option maxRecDepth 100000 in
theorem met_X0_isFalse (l : Launch) (G : gG) (ad : Nat → Nat) (sz : Nat) (X Z : Nat → Nat → Int32) (T : Nat → Nat → Option Nat) (M : Nat → Nat → Int32) (nb nk nx np h nu ns ne nt : Nat) (hR : RS X 51 (M 0) nb nk nx np h nu ns ne nt) (k : Nat) (hk : k < nt) : Met l yX0_isFalse (ws_ yX0_isFalse cX0_isFalse 6 (some .boolean)) ({ frames := 0, cells := 0, slots := 0, locals := 0 } : Room) (cP G [.ref (ad 0), .ref (ad (73 + k))] (xH G ad X Z T sz)) (cR (some (.int (bI (¬ mBlown M (70 + 4 * k) nu (mTold M (70 + 4 * k) nt) ≤ 0))))) 0 0 (fun _ => False) := by
  refine c_start (by decide) (Nat.le_of_ble_eq_true rfl) ?_
  intro p e s m below meth c hx hb hr hlocks hml hown hts hB hK ls hl
  have hz := hB.2.2
  have hw := XS.of hB
  have hl : lv_has ls 6 [(0, .ref (ad 0)), (1, .ref (ad (73 + k)))] := hl
  have hR0 := hR
  obtain ⟨⟨rnb, mnb, hnb⟩, ⟨rnk, mnk, hnk⟩, ⟨rnx, mnx, hnx⟩, rtx, ⟨rns, mns, hns⟩, ⟨rne, mne, hne⟩, ⟨rnt, mnt, hnt⟩, ⟨rnp, mnp, hnp⟩, ⟨rh, mh, hh⟩, ⟨rnu, mnu, hnu⟩, rbl, rbe, rgi, rki, rse, rto, rpi, rbu, rkd, rva, rst⟩ := hR
  change X 52 0 = _ at rnb; change X 52 1 = _ at rnk; change X 52 2 = _ at rnx; change X 52 3 = _ at rtx; change X 52 4 = _ at rns; change X 52 5 = _ at rne; change X 52 6 = _ at rnt; change X 53 112 = _ at rnp; change X 53 113 = _ at rh; change X 53 114 = _ at rnu
  refine lv_iconst (v := nI 0) hx hb dX0_isFalse_0 (by decide) ?_
  refine lv_istore_n (lv' := [(2, .int (nI 0)), (0, .ref (ad 0)), (1, .ref (ad (73 + k)))]) hx hb dX0_isFalse_1 rfl hl (by decide) rfl (fun ls hl => ?_)
  refine lv_iconst (v := nI 0) hx hb dX0_isFalse_2 (by decide) ?_
  refine lv_istore_n (lv' := [(3, .int (nI 0)), (2, .int (nI 0)), (0, .ref (ad 0)), (1, .ref (ad (73 + k)))]) hx hb dX0_isFalse_3 rfl hl (by decide) rfl (fun ls hl => ?_)
  refine lv_iconst (v := nI 0) hx hb dX0_isFalse_4 (by decide) ?_
  refine lv_istore (lv' := [(4, .int (nI 0)), (3, .int (nI 0)), (2, .int (nI 0)), (0, .ref (ad 0)), (1, .ref (ad (73 + k)))]) hx hb dX0_isFalse_5 hl (by decide) rfl (fun ls hl => ?_)
  have L_7 : ∀ (fuel : Nat) (e1 : Nat) (t1 : Int32), nt - e1 < fuel → (e1 ≤ nt) → (it (fun e t => t + pif (M 0 (70 + 4 * e) = M 0 (70 + 4 * k) ∧ M 0 (70 + 4 * e + 1) = M 0 (70 + 4 * k + 1) ∧ M 0 (70 + 4 * e + 3) = M 0 (70 + 4 * k + 3)) (M 0 (70 + 4 * e + 2)) (nI 0)) (nt - e1) e1 t1 = mTold M (70 + 4 * k) nt) → ∀ (ls : Array Slot), lv_has ls 6 [(0, .ref (ad 0)), (1, .ref (ad (73 + k))), (2, .int t1), (3, .int (nI 0)), (4, .int (nI e1))] → W p l e ({ frames := 0, cells := 0, slots := 0, locals := 0 } : Room) s m ([.ref (ad 0), .ref (ad (73 + k))] : List Value).toArray below meth c s.heap [] 0 0 (MQ below (cR (some (.int (bI (¬ mBlown M (70 + 4 * k) nu (mTold M (70 + 4 * k) nt) ≤ 0))))) ([.ref (ad 0), .ref (ad (73 + k))] : List Value).toArray s 0 0 (fun _ => False)) (F0 m 7 ls []) := by
    intro fuel
    induction fuel with
    | zero => intro e1 t1 hf; exact absurd hf (Nat.not_lt_zero _)
    | succ fuel ih =>
      intro e1 t1 hf hi_e1 hq_t1 ls hl
      have ih7 := ih
      refine lv_iload hx hb dX0_isFalse_7 (lv_at hl 4 rfl) ?_
      refine lv_aload_n hx hb dX0_isFalse_9 rfl (lv_at hl 0 rfl) ?_
      refine x_g_now hx hb hts hown hK hw dX0_isFalse_10 ?_
      refine x_sX0_51_n hx hb hts hown hK hw dX0_isFalse_13 ?_
      refine lv_bipush (v := nI 6) hx hb dX0_isFalse_16 (by decide) ?_
      refine x_l (k := 52) (j := 6) (n := 7) (v := nI nt) hx hb hK hw rnt (by decide) (by decide) dX0_isFalse_18 ?_
      refine n_icmp_ge (tgt := 81) hx hb dX0_isFalse_19 (by decide) (by omega) (by omega) (fun c_1 => ?_) (fun c_1 => ?_)
      · obtain rfl : t1 = mTold M (70 + 4 * k) nt := (it_z (by omega)).symm.trans hq_t1
        refine lv_iconst (v := nI 0) hx hb dX0_isFalse_81 (by decide) ?_
        refine lv_istore (lv' := [(4, .int (nI 0)), (0, .ref (ad 0)), (1, .ref (ad (73 + k))), (2, .int (mTold M (70 + 4 * k) nt)), (3, .int (nI 0))]) hx hb dX0_isFalse_82 hl (by decide) rfl (fun ls hl => ?_)
        have L84_2 : ∀ (fuel : Nat) (e2 : Nat) (t2 : Int32), nu - e2 < fuel → (e2 ≤ nu) → (it (fun e t => t + pif (M 0 (250 + 4 * e + 1) = M 0 (70 + 4 * k) ∧ M 0 (250 + 4 * e) = M 0 (70 + 4 * k + 1) ∧ M 0 (250 + 4 * e + 3) = M 0 (70 + 4 * k + 3)) (M 0 (250 + 4 * e + 2)) (nI 0)) (nu - e2) e2 t2 = xBln M (70 + 4 * k) nu) → ∀ (ls : Array Slot), lv_has ls 6 [(0, .ref (ad 0)), (1, .ref (ad (73 + k))), (2, .int (mTold M (70 + 4 * k) nt)), (3, .int t2), (4, .int (nI e2))] → W p l e ({ frames := 0, cells := 0, slots := 0, locals := 0 } : Room) s m ([.ref (ad 0), .ref (ad (73 + k))] : List Value).toArray below meth c s.heap [] 0 0 (MQ below (cR (some (.int (bI (¬ mBlown M (70 + 4 * k) nu (mTold M (70 + 4 * k) nt) ≤ 0))))) ([.ref (ad 0), .ref (ad (73 + k))] : List Value).toArray s 0 0 (fun _ => False)) (F0 m 84 ls []) := by
          intro fuel
          induction fuel with
          | zero => intro e2 t2 hf; exact absurd hf (Nat.not_lt_zero _)
          | succ fuel ih =>
            intro e2 t2 hf hi_e2 hq_t2 ls hl
            have ih84 := ih
            refine lv_iload hx hb dX0_isFalse_84 (lv_at hl 4 rfl) ?_
            refine lv_aload_n hx hb dX0_isFalse_86 rfl (lv_at hl 0 rfl) ?_
            refine x_g_now hx hb hts hown hK hw dX0_isFalse_87 ?_
            refine x_sX0_51_row hx hb hts hown hK hw dX0_isFalse_90 ?_
            refine lv_bipush (v := nI 114) hx hb dX0_isFalse_93 (by decide) ?_
            refine x_l (k := 53) (j := 114) (n := 275) (v := nI nu) hx hb hK hw rnu (by decide) (by decide) dX0_isFalse_95 ?_
            refine n_icmp_ge (tgt := 185) hx hb dX0_isFalse_96 (by decide) (by omega) (by omega) (fun c_3 => ?_) (fun c_3 => ?_)
            · obtain rfl : t2 = xBln M (70 + 4 * k) nu := (it_z (by omega)).symm.trans hq_t2
              refine lv_iload_n hx hb dX0_isFalse_185 rfl (lv_at hl 2 rfl) ?_
              refine lv_iload_n hx hb dX0_isFalse_186 rfl (lv_at hl 3 rfl) ?_
              refine lv_icmp_le (tgt := 194) hx hb dX0_isFalse_187 (by decide) (fun c_4 => ?_) (fun c_4 => ?_)
              · refine lv_iconst (v := nI 0) hx hb dX0_isFalse_194 (by decide) ?_
                exact c_rret (v := nI 0) ((bI_f (fun h9 => absurd ((false_iff hnt hnu rva.2.2.1 rva.2.2.2.1).mpr h9) (by first | with_reducible assumption | exact Int32.not_le.mp (by with_reducible assumption) | exact Int32.not_lt.mp (by with_reducible assumption) | exact Int32.not_lt.mpr (by with_reducible assumption) | exact Int32.not_le.mpr (by with_reducible assumption)))).symm) hx hb hr rfl hlocks dX0_isFalse_195 rfl rfl
              refine lv_iconst (v := nI 1) hx hb dX0_isFalse_190 (by decide) ?_
              refine lv_goto (tgt := 195) hx hb dX0_isFalse_191 (by decide) ?_
              exact c_rret (v := nI 1) ((bI_t ((false_iff hnt hnu rva.2.2.1 rva.2.2.2.1).mp (by first | with_reducible assumption | exact Int32.not_le.mp (by with_reducible assumption) | exact Int32.not_lt.mp (by with_reducible assumption) | exact Int32.not_lt.mpr (by with_reducible assumption) | exact Int32.not_le.mpr (by with_reducible assumption)))).symm) hx hb hr rfl hlocks dX0_isFalse_195 rfl rfl
            refine lv_bipush (v := nI 115) hx hb dX0_isFalse_99 (by decide) ?_
            refine lv_iconst (v := nI 4) hx hb dX0_isFalse_101 (by decide) ?_
            refine lv_iload hx hb dX0_isFalse_102 (lv_at hl 4 rfl) ?_
            refine n_imul hx hb dX0_isFalse_104 ?_
            refine n_iadd hx hb dX0_isFalse_105 ?_
            refine lv_istore (lv' := [(5, .int (nI (115 + 4 * e2))), (0, .ref (ad 0)), (1, .ref (ad (73 + k))), (2, .int (mTold M (70 + 4 * k) nt)), (3, .int t2), (4, .int (nI e2))]) hx hb dX0_isFalse_106 hl (by decide) rfl (fun ls hl => ?_)
            refine lv_iload_n hx hb dX0_isFalse_108 rfl (lv_at hl 4 rfl) ?_
            refine lv_aload_n hx hb dX0_isFalse_109 rfl (lv_at hl 1 rfl) ?_
            refine x_g_now hx hb hts hown hK hw dX0_isFalse_110 ?_
            refine x_sX0_51_row hx hb hts hown hK hw dX0_isFalse_113 ?_
            refine lv_iload hx hb dX0_isFalse_116 (lv_at hl 0 rfl) ?_
            refine x_l (k := 53) (j := 115 + 4 * e2) (n := 275) (v := M 0 (250 + 4 * e2)) hx hb hK hw (bu_at rbu (i := 4 * e2) (by omega) (by omega) (by omega)) (by decide) (by omega) dX0_isFalse_118 ?_
            refine lv_aload_n hx hb dX0_isFalse_119 rfl (lv_at hl 2 rfl) ?_
            refine lv_iconst (v := nI 0) hx hb dX0_isFalse_120 (by decide) ?_
            refine x_l (k := 73 + k) (j := 0) (n := 4) (v := M 0 (70 + 4 * k + 1)) hx hb hK hw ((rto k (by omega)).1) (xL_73 (by omega)) (by decide) dX0_isFalse_121 ?_
            refine lv_icmp_ne (tgt := 176) hx hb dX0_isFalse_122 (by decide) (fun c_5 => ?_) (fun c_5 => ?_)
            · refine lv_iconst (v := nI 0) hx hb dX0_isFalse_176 (by decide) ?_
              refine lv_iadd hx hb dX0_isFalse_177 ?_
              refine lv_istore_n (lv' := [(3, .int (t2 + (nI 0))), (5, .int (nI (115 + 4 * e2))), (0, .ref (ad 0)), (1, .ref (ad (73 + k))), (2, .int (mTold M (70 + 4 * k) nt)), (4, .int (nI e2))]) hx hb dX0_isFalse_178 rfl hl (by decide) rfl (fun ls hl => ?_)
              refine lv_iinc (v := nI (e2 + 1)) (lv' := [(4, .int (nI (e2 + 1))), (3, .int (t2 + (nI 0))), (5, .int (nI (115 + 4 * e2))), (0, .ref (ad 0)), (1, .ref (ad (73 + k))), (2, .int (mTold M (70 + 4 * k) nt))]) hx hb dX0_isFalse_179 hl (k := 5) rfl (n_inc e2 1) (by decide) rfl (fun ls hl => ?_)
              refine lv_goto (tgt := 84) hx hb dX0_isFalse_182 (by decide) ?_
              exact ih84 (e2 + 1) (t2 + (nI 0)) (by omega) (by omega) (by refine Eq.trans ?_ ((it_s (by omega)).symm.trans hq_t2); congr 1; show _ = _; first | rw [pif_t ⟨by with_reducible assumption, by with_reducible assumption, by with_reducible assumption⟩] | rw [pif_f (fun h9 => by first | exact absurd h9.1 (by with_reducible assumption) | exact absurd h9.2.1 (by with_reducible assumption) | exact absurd h9.2.2 (by with_reducible assumption))]) ls (lv_sub hl [3, 4, 5, 1, 0] rfl)
            refine lv_aload_n hx hb dX0_isFalse_125 rfl (lv_at hl 1 rfl) ?_
            refine x_g_now hx hb hts hown hK hw dX0_isFalse_126 ?_
            refine x_sX0_51_row hx hb hts hown hK hw dX0_isFalse_129 ?_
            refine lv_iload hx hb dX0_isFalse_132 (lv_at hl 0 rfl) ?_
            refine lv_iconst (v := nI 1) hx hb dX0_isFalse_134 (by decide) ?_
            refine n_iadd hx hb dX0_isFalse_135 ?_
            refine x_l (k := 53) (j := 115 + 4 * e2 + 1) (n := 275) (v := M 0 (250 + 4 * e2 + 1)) hx hb hK hw (bu_at rbu (i := 4 * e2 + 1) (by omega) (by omega) (by omega)) (by decide) (by omega) dX0_isFalse_136 ?_
            refine lv_aload_n hx hb dX0_isFalse_137 rfl (lv_at hl 2 rfl) ?_
            refine lv_iconst (v := nI 1) hx hb dX0_isFalse_138 (by decide) ?_
            refine x_l (k := 73 + k) (j := 1) (n := 4) (v := M 0 (70 + 4 * k)) hx hb hK hw ((rto k (by omega)).2.1) (xL_73 (by omega)) (by decide) dX0_isFalse_139 ?_
            refine lv_icmp_ne (tgt := 176) hx hb dX0_isFalse_140 (by decide) (fun c_6 => ?_) (fun c_6 => ?_)
            · refine lv_iconst (v := nI 0) hx hb dX0_isFalse_176 (by decide) ?_
              refine lv_iadd hx hb dX0_isFalse_177 ?_
              refine lv_istore_n (lv' := [(3, .int (t2 + (nI 0))), (5, .int (nI (115 + 4 * e2))), (0, .ref (ad 0)), (1, .ref (ad (73 + k))), (2, .int (mTold M (70 + 4 * k) nt)), (4, .int (nI e2))]) hx hb dX0_isFalse_178 rfl hl (by decide) rfl (fun ls hl => ?_)
              refine lv_iinc (v := nI (e2 + 1)) (lv' := [(4, .int (nI (e2 + 1))), (3, .int (t2 + (nI 0))), (5, .int (nI (115 + 4 * e2))), (0, .ref (ad 0)), (1, .ref (ad (73 + k))), (2, .int (mTold M (70 + 4 * k) nt))]) hx hb dX0_isFalse_179 hl (k := 5) rfl (n_inc e2 1) (by decide) rfl (fun ls hl => ?_)
              refine lv_goto (tgt := 84) hx hb dX0_isFalse_182 (by decide) ?_
              exact ih84 (e2 + 1) (t2 + (nI 0)) (by omega) (by omega) (by refine Eq.trans ?_ ((it_s (by omega)).symm.trans hq_t2); congr 1; show _ = _; first | rw [pif_t ⟨by with_reducible assumption, by with_reducible assumption, by with_reducible assumption⟩] | rw [pif_f (fun h9 => by first | exact absurd h9.1 (by with_reducible assumption) | exact absurd h9.2.1 (by with_reducible assumption) | exact absurd h9.2.2 (by with_reducible assumption))]) ls (lv_sub hl [3, 4, 5, 1, 0] rfl)
            refine lv_aload_n hx hb dX0_isFalse_143 rfl (lv_at hl 1 rfl) ?_
            refine x_g_now hx hb hts hown hK hw dX0_isFalse_144 ?_
            refine x_sX0_51_row hx hb hts hown hK hw dX0_isFalse_147 ?_
            refine lv_iload hx hb dX0_isFalse_150 (lv_at hl 0 rfl) ?_
            refine lv_iconst (v := nI 3) hx hb dX0_isFalse_152 (by decide) ?_
            refine n_iadd hx hb dX0_isFalse_153 ?_
            refine x_l (k := 53) (j := 115 + 4 * e2 + 3) (n := 275) (v := M 0 (250 + 4 * e2 + 3)) hx hb hK hw (bu_at rbu (i := 4 * e2 + 3) (by omega) (by omega) (by omega)) (by decide) (by omega) dX0_isFalse_154 ?_
            refine lv_aload_n hx hb dX0_isFalse_155 rfl (lv_at hl 2 rfl) ?_
            refine lv_iconst (v := nI 3) hx hb dX0_isFalse_156 (by decide) ?_
            refine x_l (k := 73 + k) (j := 3) (n := 4) (v := M 0 (70 + 4 * k + 3)) hx hb hK hw ((rto k (by omega)).2.2.2) (xL_73 (by omega)) (by decide) dX0_isFalse_157 ?_
            refine lv_icmp_ne (tgt := 176) hx hb dX0_isFalse_158 (by decide) (fun c_7 => ?_) (fun c_7 => ?_)
            · refine lv_iconst (v := nI 0) hx hb dX0_isFalse_176 (by decide) ?_
              refine lv_iadd hx hb dX0_isFalse_177 ?_
              refine lv_istore_n (lv' := [(3, .int (t2 + (nI 0))), (5, .int (nI (115 + 4 * e2))), (0, .ref (ad 0)), (1, .ref (ad (73 + k))), (2, .int (mTold M (70 + 4 * k) nt)), (4, .int (nI e2))]) hx hb dX0_isFalse_178 rfl hl (by decide) rfl (fun ls hl => ?_)
              refine lv_iinc (v := nI (e2 + 1)) (lv' := [(4, .int (nI (e2 + 1))), (3, .int (t2 + (nI 0))), (5, .int (nI (115 + 4 * e2))), (0, .ref (ad 0)), (1, .ref (ad (73 + k))), (2, .int (mTold M (70 + 4 * k) nt))]) hx hb dX0_isFalse_179 hl (k := 5) rfl (n_inc e2 1) (by decide) rfl (fun ls hl => ?_)
              refine lv_goto (tgt := 84) hx hb dX0_isFalse_182 (by decide) ?_
              exact ih84 (e2 + 1) (t2 + (nI 0)) (by omega) (by omega) (by refine Eq.trans ?_ ((it_s (by omega)).symm.trans hq_t2); congr 1; show _ = _; first | rw [pif_t ⟨by with_reducible assumption, by with_reducible assumption, by with_reducible assumption⟩] | rw [pif_f (fun h9 => by first | exact absurd h9.1 (by with_reducible assumption) | exact absurd h9.2.1 (by with_reducible assumption) | exact absurd h9.2.2 (by with_reducible assumption))]) ls (lv_sub hl [3, 4, 5, 1, 0] rfl)
            refine lv_aload_n hx hb dX0_isFalse_161 rfl (lv_at hl 1 rfl) ?_
            refine x_g_now hx hb hts hown hK hw dX0_isFalse_162 ?_
            refine x_sX0_51_row hx hb hts hown hK hw dX0_isFalse_165 ?_
            refine lv_iload hx hb dX0_isFalse_168 (lv_at hl 0 rfl) ?_
            refine lv_iconst (v := nI 2) hx hb dX0_isFalse_170 (by decide) ?_
            refine n_iadd hx hb dX0_isFalse_171 ?_
            refine x_l (k := 53) (j := 115 + 4 * e2 + 2) (n := 275) (v := M 0 (250 + 4 * e2 + 2)) hx hb hK hw (bu_at rbu (i := 4 * e2 + 2) (by omega) (by omega) (by omega)) (by decide) (by omega) dX0_isFalse_172 ?_
            refine lv_goto (tgt := 177) hx hb dX0_isFalse_173 (by decide) ?_
            refine lv_iadd hx hb dX0_isFalse_177 ?_
            refine lv_istore_n (lv' := [(3, .int (t2 + (M 0 (250 + 4 * e2 + 2)))), (5, .int (nI (115 + 4 * e2))), (0, .ref (ad 0)), (1, .ref (ad (73 + k))), (2, .int (mTold M (70 + 4 * k) nt)), (4, .int (nI e2))]) hx hb dX0_isFalse_178 rfl hl (by decide) rfl (fun ls hl => ?_)
            refine lv_iinc (v := nI (e2 + 1)) (lv' := [(4, .int (nI (e2 + 1))), (3, .int (t2 + (M 0 (250 + 4 * e2 + 2)))), (5, .int (nI (115 + 4 * e2))), (0, .ref (ad 0)), (1, .ref (ad (73 + k))), (2, .int (mTold M (70 + 4 * k) nt))]) hx hb dX0_isFalse_179 hl (k := 5) rfl (n_inc e2 1) (by decide) rfl (fun ls hl => ?_)
            refine lv_goto (tgt := 84) hx hb dX0_isFalse_182 (by decide) ?_
            exact ih84 (e2 + 1) (t2 + (M 0 (250 + 4 * e2 + 2))) (by omega) (by omega) (by refine Eq.trans ?_ ((it_s (by omega)).symm.trans hq_t2); congr 1; show _ = _; first | rw [pif_t ⟨by with_reducible assumption, by with_reducible assumption, by with_reducible assumption⟩] | rw [pif_f (fun h9 => by first | exact absurd h9.1 (by with_reducible assumption) | exact absurd h9.2.1 (by with_reducible assumption) | exact absurd h9.2.2 (by with_reducible assumption))]) ls (lv_sub hl [3, 4, 5, 1, 0] rfl)
        exact L84_2 _ 0 (nI 0) (Nat.lt_succ_self _) (by first | assumption | omega | rfl) rfl ls (lv_sub hl [1, 2, 3, 4, 0] rfl)
      refine lv_aload_n hx hb dX0_isFalse_22 rfl (lv_at hl 0 rfl) ?_
      refine x_g_now hx hb hts hown hK hw dX0_isFalse_23 ?_
      refine x_sX0_51_told hx hb hts hown hK hw dX0_isFalse_26 ?_
      refine lv_iload hx hb dX0_isFalse_29 (lv_at hl 4 rfl) ?_
      refine x_a (r := 73 + e1) hx hb hK hw xO_57 rfl (by decide) (by omega) rfl dX0_isFalse_31 ?_
      refine lv_astore (lv' := [(5, .ref (ad (73 + e1))), (0, .ref (ad 0)), (1, .ref (ad (73 + k))), (2, .int t1), (3, .int (nI 0)), (4, .int (nI e1))]) hx hb dX0_isFalse_32 hl (by decide) rfl (fun ls hl => ?_)
      refine lv_iload_n hx hb dX0_isFalse_34 rfl (lv_at hl 3 rfl) ?_
      refine lv_aload hx hb dX0_isFalse_35 (lv_at hl 0 rfl) ?_
      refine lv_iconst (v := nI 0) hx hb dX0_isFalse_37 (by decide) ?_
      refine x_l (k := 73 + e1) (j := 0) (n := 4) (v := M 0 (70 + 4 * e1 + 1)) hx hb hK hw ((rto e1 (by omega)).1) (xL_73 (by omega)) (by decide) dX0_isFalse_38 ?_
      refine lv_aload_n hx hb dX0_isFalse_39 rfl (lv_at hl 2 rfl) ?_
      refine lv_iconst (v := nI 0) hx hb dX0_isFalse_40 (by decide) ?_
      refine x_l (k := 73 + k) (j := 0) (n := 4) (v := M 0 (70 + 4 * k + 1)) hx hb hK hw ((rto k (by omega)).1) (xL_73 (by omega)) (by decide) dX0_isFalse_41 ?_
      refine lv_icmp_ne (tgt := 72) hx hb dX0_isFalse_42 (by decide) (fun c_8 => ?_) (fun c_8 => ?_)
      · refine lv_iconst (v := nI 0) hx hb dX0_isFalse_72 (by decide) ?_
        refine lv_iadd hx hb dX0_isFalse_73 ?_
        refine lv_istore_n (lv' := [(2, .int (t1 + (nI 0))), (5, .ref (ad (73 + e1))), (0, .ref (ad 0)), (1, .ref (ad (73 + k))), (3, .int (nI 0)), (4, .int (nI e1))]) hx hb dX0_isFalse_74 rfl hl (by decide) rfl (fun ls hl => ?_)
        refine lv_iinc (v := nI (e1 + 1)) (lv' := [(4, .int (nI (e1 + 1))), (2, .int (t1 + (nI 0))), (5, .ref (ad (73 + e1))), (0, .ref (ad 0)), (1, .ref (ad (73 + k))), (3, .int (nI 0))]) hx hb dX0_isFalse_75 hl (k := 5) rfl (n_inc e1 1) (by decide) rfl (fun ls hl => ?_)
        refine lv_goto (tgt := 7) hx hb dX0_isFalse_78 (by decide) ?_
        exact ih7 (e1 + 1) (t1 + (nI 0)) (by omega) (by omega) (by refine Eq.trans ?_ ((it_s (by omega)).symm.trans hq_t1); congr 1; show _ = _; first | rw [pif_t ⟨by with_reducible assumption, by with_reducible assumption, by with_reducible assumption⟩] | rw [pif_f (fun h9 => by first | exact absurd h9.1 (by with_reducible assumption) | exact absurd h9.2.1 (by with_reducible assumption) | exact absurd h9.2.2 (by with_reducible assumption))]) ls (lv_sub hl [3, 4, 1, 5, 0] rfl)
      refine lv_aload hx hb dX0_isFalse_45 (lv_at hl 0 rfl) ?_
      refine lv_iconst (v := nI 1) hx hb dX0_isFalse_47 (by decide) ?_
      refine x_l (k := 73 + e1) (j := 1) (n := 4) (v := M 0 (70 + 4 * e1)) hx hb hK hw ((rto e1 (by omega)).2.1) (xL_73 (by omega)) (by decide) dX0_isFalse_48 ?_
      refine lv_aload_n hx hb dX0_isFalse_49 rfl (lv_at hl 2 rfl) ?_
      refine lv_iconst (v := nI 1) hx hb dX0_isFalse_50 (by decide) ?_
      refine x_l (k := 73 + k) (j := 1) (n := 4) (v := M 0 (70 + 4 * k)) hx hb hK hw ((rto k (by omega)).2.1) (xL_73 (by omega)) (by decide) dX0_isFalse_51 ?_
      refine lv_icmp_ne (tgt := 72) hx hb dX0_isFalse_52 (by decide) (fun c_9 => ?_) (fun c_9 => ?_)
      · refine lv_iconst (v := nI 0) hx hb dX0_isFalse_72 (by decide) ?_
        refine lv_iadd hx hb dX0_isFalse_73 ?_
        refine lv_istore_n (lv' := [(2, .int (t1 + (nI 0))), (5, .ref (ad (73 + e1))), (0, .ref (ad 0)), (1, .ref (ad (73 + k))), (3, .int (nI 0)), (4, .int (nI e1))]) hx hb dX0_isFalse_74 rfl hl (by decide) rfl (fun ls hl => ?_)
        refine lv_iinc (v := nI (e1 + 1)) (lv' := [(4, .int (nI (e1 + 1))), (2, .int (t1 + (nI 0))), (5, .ref (ad (73 + e1))), (0, .ref (ad 0)), (1, .ref (ad (73 + k))), (3, .int (nI 0))]) hx hb dX0_isFalse_75 hl (k := 5) rfl (n_inc e1 1) (by decide) rfl (fun ls hl => ?_)
        refine lv_goto (tgt := 7) hx hb dX0_isFalse_78 (by decide) ?_
        exact ih7 (e1 + 1) (t1 + (nI 0)) (by omega) (by omega) (by refine Eq.trans ?_ ((it_s (by omega)).symm.trans hq_t1); congr 1; show _ = _; first | rw [pif_t ⟨by with_reducible assumption, by with_reducible assumption, by with_reducible assumption⟩] | rw [pif_f (fun h9 => by first | exact absurd h9.1 (by with_reducible assumption) | exact absurd h9.2.1 (by with_reducible assumption) | exact absurd h9.2.2 (by with_reducible assumption))]) ls (lv_sub hl [3, 4, 1, 5, 0] rfl)
      refine lv_aload hx hb dX0_isFalse_55 (lv_at hl 0 rfl) ?_
      refine lv_iconst (v := nI 3) hx hb dX0_isFalse_57 (by decide) ?_
      refine x_l (k := 73 + e1) (j := 3) (n := 4) (v := M 0 (70 + 4 * e1 + 3)) hx hb hK hw ((rto e1 (by omega)).2.2.2) (xL_73 (by omega)) (by decide) dX0_isFalse_58 ?_
      refine lv_aload_n hx hb dX0_isFalse_59 rfl (lv_at hl 2 rfl) ?_
      refine lv_iconst (v := nI 3) hx hb dX0_isFalse_60 (by decide) ?_
      refine x_l (k := 73 + k) (j := 3) (n := 4) (v := M 0 (70 + 4 * k + 3)) hx hb hK hw ((rto k (by omega)).2.2.2) (xL_73 (by omega)) (by decide) dX0_isFalse_61 ?_
      refine lv_icmp_ne (tgt := 72) hx hb dX0_isFalse_62 (by decide) (fun c_10 => ?_) (fun c_10 => ?_)
      · refine lv_iconst (v := nI 0) hx hb dX0_isFalse_72 (by decide) ?_
        refine lv_iadd hx hb dX0_isFalse_73 ?_
        refine lv_istore_n (lv' := [(2, .int (t1 + (nI 0))), (5, .ref (ad (73 + e1))), (0, .ref (ad 0)), (1, .ref (ad (73 + k))), (3, .int (nI 0)), (4, .int (nI e1))]) hx hb dX0_isFalse_74 rfl hl (by decide) rfl (fun ls hl => ?_)
        refine lv_iinc (v := nI (e1 + 1)) (lv' := [(4, .int (nI (e1 + 1))), (2, .int (t1 + (nI 0))), (5, .ref (ad (73 + e1))), (0, .ref (ad 0)), (1, .ref (ad (73 + k))), (3, .int (nI 0))]) hx hb dX0_isFalse_75 hl (k := 5) rfl (n_inc e1 1) (by decide) rfl (fun ls hl => ?_)
        refine lv_goto (tgt := 7) hx hb dX0_isFalse_78 (by decide) ?_
        exact ih7 (e1 + 1) (t1 + (nI 0)) (by omega) (by omega) (by refine Eq.trans ?_ ((it_s (by omega)).symm.trans hq_t1); congr 1; show _ = _; first | rw [pif_t ⟨by with_reducible assumption, by with_reducible assumption, by with_reducible assumption⟩] | rw [pif_f (fun h9 => by first | exact absurd h9.1 (by with_reducible assumption) | exact absurd h9.2.1 (by with_reducible assumption) | exact absurd h9.2.2 (by with_reducible assumption))]) ls (lv_sub hl [3, 4, 1, 5, 0] rfl)
      refine lv_aload hx hb dX0_isFalse_65 (lv_at hl 0 rfl) ?_
      refine lv_iconst (v := nI 2) hx hb dX0_isFalse_67 (by decide) ?_
      refine x_l (k := 73 + e1) (j := 2) (n := 4) (v := M 0 (70 + 4 * e1 + 2)) hx hb hK hw ((rto e1 (by omega)).2.2.1) (xL_73 (by omega)) (by decide) dX0_isFalse_68 ?_
      refine lv_goto (tgt := 73) hx hb dX0_isFalse_69 (by decide) ?_
      refine lv_iadd hx hb dX0_isFalse_73 ?_
      refine lv_istore_n (lv' := [(2, .int (t1 + (M 0 (70 + 4 * e1 + 2)))), (5, .ref (ad (73 + e1))), (0, .ref (ad 0)), (1, .ref (ad (73 + k))), (3, .int (nI 0)), (4, .int (nI e1))]) hx hb dX0_isFalse_74 rfl hl (by decide) rfl (fun ls hl => ?_)
      refine lv_iinc (v := nI (e1 + 1)) (lv' := [(4, .int (nI (e1 + 1))), (2, .int (t1 + (M 0 (70 + 4 * e1 + 2)))), (5, .ref (ad (73 + e1))), (0, .ref (ad 0)), (1, .ref (ad (73 + k))), (3, .int (nI 0))]) hx hb dX0_isFalse_75 hl (k := 5) rfl (n_inc e1 1) (by decide) rfl (fun ls hl => ?_)
      refine lv_goto (tgt := 7) hx hb dX0_isFalse_78 (by decide) ?_
      exact ih7 (e1 + 1) (t1 + (M 0 (70 + 4 * e1 + 2))) (by omega) (by omega) (by refine Eq.trans ?_ ((it_s (by omega)).symm.trans hq_t1); congr 1; show _ = _; first | rw [pif_t ⟨by with_reducible assumption, by with_reducible assumption, by with_reducible assumption⟩] | rw [pif_f (fun h9 => by first | exact absurd h9.1 (by with_reducible assumption) | exact absurd h9.2.1 (by with_reducible assumption) | exact absurd h9.2.2 (by with_reducible assumption))]) ls (lv_sub hl [3, 4, 1, 5, 0] rfl)
  exact L_7 _ 0 (nI 0) (Nat.lt_succ_self _) (by first | assumption | omega | rfl) rfl ls (lv_sub hl [3, 4, 2, 1, 0] rfl)
set_option maxHeartbeats 4000000 in
set_option maxRecDepth 100000 in
theorem met_X0_liars (l : Launch) (G : gG) (ad : Nat → Nat) (sz : Nat) (X Z : Nat → Nat → Int32) (T : Nat → Nat → Option Nat) (M : Nat → Nat → Int32) (nb nk nx np h nu ns ne nt : Nat) (hR : RS X 51 (M 0) nb nk nx np h nu ns ne nt) : Met l yX0_liars (ws_ yX0_liars cX0_liars 3 (some .int)) ({ frames := 1, cells := 0, slots := 0, locals := 25 } : Room) (cP G [.ref (ad 0)] (xH G ad X Z T sz)) (cR (some (.int (mLiars M nt nu)))) 0 0 (fun _ => False) := by
  refine c_start (by decide) (Nat.le_of_ble_eq_true rfl) ?_
  intro p e s m below meth c hx hb hr hlocks hml hown hts hB hK ls hl
  have hz := hB.2.2
  have hw := XS.of hB
  have hl : lv_has ls 3 [(0, .ref (ad 0))] := hl
  have hR0 := hR
  obtain ⟨⟨rnb, mnb, hnb⟩, ⟨rnk, mnk, hnk⟩, ⟨rnx, mnx, hnx⟩, rtx, ⟨rns, mns, hns⟩, ⟨rne, mne, hne⟩, ⟨rnt, mnt, hnt⟩, ⟨rnp, mnp, hnp⟩, ⟨rh, mh, hh⟩, ⟨rnu, mnu, hnu⟩, rbl, rbe, rgi, rki, rse, rto, rpi, rbu, rkd, rva, rst⟩ := hR
  change X 52 0 = _ at rnb; change X 52 1 = _ at rnk; change X 52 2 = _ at rnx; change X 52 3 = _ at rtx; change X 52 4 = _ at rns; change X 52 5 = _ at rne; change X 52 6 = _ at rnt; change X 53 112 = _ at rnp; change X 53 113 = _ at rh; change X 53 114 = _ at rnu
  refine lv_iconst (v := nI 0) hx hb dX0_liars_0 (by decide) ?_
  refine lv_istore_n (lv' := [(1, .int (nI 0)), (0, .ref (ad 0))]) hx hb dX0_liars_1 rfl hl (by decide) rfl (fun ls hl => ?_)
  refine lv_iconst (v := nI 0) hx hb dX0_liars_2 (by decide) ?_
  refine lv_istore_n (lv' := [(2, .int (nI 0)), (1, .int (nI 0)), (0, .ref (ad 0))]) hx hb dX0_liars_3 rfl hl (by decide) rfl (fun ls hl => ?_)
  have L_4 : ∀ (fuel : Nat) (k : Nat) (g : Int32), nt - k < fuel → (k ≤ nt) → (it (fun k g => g ||| pif (mBlown M (70 + 4 * k) nu (mTold M (70 + 4 * k) nt) ≤ 0) (nI 0) (nI 1 <<< (M 0 (70 + 4 * k) &&& 31))) (nt - k) k g = mLiars M nt nu) → ∀ (ls : Array Slot), lv_has ls 3 [(0, .ref (ad 0)), (1, .int g), (2, .int (nI k))] → W p l e ({ frames := 1, cells := 0, slots := 0, locals := 25 } : Room) s m ([.ref (ad 0)] : List Value).toArray below meth c s.heap [] 0 0 (MQ below (cR (some (.int (mLiars M nt nu)))) ([.ref (ad 0)] : List Value).toArray s 0 0 (fun _ => False)) (F0 m 4 ls []) := by
    intro fuel
    induction fuel with
    | zero => intro k g hf; exact absurd hf (Nat.not_lt_zero _)
    | succ fuel ih =>
      intro k g hf hi_k hq_g ls hl
      have ih4 := ih
      refine lv_iload_n hx hb dX0_liars_4 rfl (lv_at hl 2 rfl) ?_
      refine lv_aload_n hx hb dX0_liars_5 rfl (lv_at hl 0 rfl) ?_
      refine x_g_now hx hb hts hown hK hw dX0_liars_6 ?_
      refine x_sX0_51_n hx hb hts hown hK hw dX0_liars_9 ?_
      refine lv_bipush (v := nI 6) hx hb dX0_liars_12 (by decide) ?_
      refine x_l (k := 52) (j := 6) (n := 7) (v := nI nt) hx hb hK hw rnt (by decide) (by decide) dX0_liars_14 ?_
      refine n_icmp_ge (tgt := 60) hx hb dX0_liars_15 (by decide) (by omega) (by omega) (fun c_1 => ?_) (fun c_1 => ?_)
      · refine lv_iload_n hx hb dX0_liars_60 rfl (lv_at hl 1 rfl) ?_
        exact c_rret (v := g) ((it_z (by omega)).symm.trans hq_g) hx hb hr rfl hlocks dX0_liars_61 rfl rfl
      refine lv_iload_n hx hb dX0_liars_18 rfl (lv_at hl 1 rfl) ?_
      refine lv_aload_n hx hb dX0_liars_19 rfl (lv_at hl 0 rfl) ?_
      refine lv_aload_n hx hb dX0_liars_20 rfl (lv_at hl 0 rfl) ?_
      refine x_g_now hx hb hts hown hK hw dX0_liars_21 ?_
      refine x_sX0_51_told hx hb hts hown hK hw dX0_liars_24 ?_
      refine lv_iload_n hx hb dX0_liars_27 rfl (lv_at hl 2 rfl) ?_
      refine x_a (r := 73 + k) hx hb hK hw xO_57 rfl (by decide) (by omega) rfl dX0_liars_28 ?_
      refine c_read (va_runV (As := [.ref (ad (73 + k))]) (rest := [.int g]) ⟨hx, hb, hml, hown, hts⟩ (met_X0_isFalse l G ad sz X Z T M nb nk nx np h nu ns ne nt hR0 k (by omega)) (cv_X0_X0_isFalse hts ⟨Nat.le_of_ble_eq_true rfl, Nat.le_of_ble_eq_true rfl⟩) (cP.preV hK hw.1 (hw.1.recv hK)) rfl rfl hl.1 rfl (lv_room (Nat.le_of_ble_eq_true rfl)) dX0_liars_29 ⟨by first | exact Nat.zero_le _ | omega | decide, by first | exact Nat.zero_le _ | omega | decide⟩) ?_
      refine b_if_eq (tgt := 51) hx hb dX0_liars_32 (by decide) (fun c_2 => ?_) (fun c_2 => ?_)
      · refine lv_iconst (v := nI 0) hx hb dX0_liars_51 (by decide) ?_
        refine lv_ior hx hb dX0_liars_52 ?_
        refine lv_istore_n (lv' := [(1, .int (g ||| (nI 0))), (0, .ref (ad 0)), (2, .int (nI k))]) hx hb dX0_liars_53 rfl hl (by decide) rfl (fun ls hl => ?_)
        refine lv_iinc (v := nI (k + 1)) (lv' := [(2, .int (nI (k + 1))), (1, .int (g ||| (nI 0))), (0, .ref (ad 0))]) hx hb dX0_liars_54 hl (k := 2) rfl (n_inc k 1) (by decide) rfl (fun ls hl => ?_)
        refine lv_goto (tgt := 4) hx hb dX0_liars_57 (by decide) ?_
        exact ih4 (k + 1) (g ||| (nI 0)) (by omega) (by omega) (by refine Eq.trans ?_ ((it_s (by omega)).symm.trans hq_g); congr 1; show _ = _; first | rw [pif_f (by with_reducible assumption)] | rw [pif_t (Classical.not_not.mp (by with_reducible assumption))]) ls (lv_sub hl [2, 1, 0] rfl)
      refine lv_iconst (v := nI 1) hx hb dX0_liars_35 (by decide) ?_
      refine lv_aload_n hx hb dX0_liars_36 rfl (lv_at hl 0 rfl) ?_
      refine x_g_now hx hb hts hown hK hw dX0_liars_37 ?_
      refine x_sX0_51_told hx hb hts hown hK hw dX0_liars_40 ?_
      refine lv_iload_n hx hb dX0_liars_43 rfl (lv_at hl 2 rfl) ?_
      refine x_a (r := 73 + k) hx hb hK hw xO_57 rfl (by decide) (by omega) rfl dX0_liars_44 ?_
      refine lv_iconst (v := nI 1) hx hb dX0_liars_45 (by decide) ?_
      refine x_l (k := 73 + k) (j := 1) (n := 4) (v := M 0 (70 + 4 * k)) hx hb hK hw ((rto k (by omega)).2.1) (xL_73 (by omega)) (by decide) dX0_liars_46 ?_
      refine lv_ishl hx hb dX0_liars_47 ?_
      refine lv_goto (tgt := 52) hx hb dX0_liars_48 (by decide) ?_
      refine lv_ior hx hb dX0_liars_52 ?_
      refine lv_istore_n (lv' := [(1, .int (g ||| ((nI 1) <<< ((M 0 (70 + 4 * k)) &&& 31)))), (0, .ref (ad 0)), (2, .int (nI k))]) hx hb dX0_liars_53 rfl hl (by decide) rfl (fun ls hl => ?_)
      refine lv_iinc (v := nI (k + 1)) (lv' := [(2, .int (nI (k + 1))), (1, .int (g ||| ((nI 1) <<< ((M 0 (70 + 4 * k)) &&& 31)))), (0, .ref (ad 0))]) hx hb dX0_liars_54 hl (k := 2) rfl (n_inc k 1) (by decide) rfl (fun ls hl => ?_)
      refine lv_goto (tgt := 4) hx hb dX0_liars_57 (by decide) ?_
      exact ih4 (k + 1) (g ||| ((nI 1) <<< ((M 0 (70 + 4 * k)) &&& 31))) (by omega) (by omega) (by refine Eq.trans ?_ ((it_s (by omega)).symm.trans hq_g); congr 1; show _ = _; first | rw [pif_f (by with_reducible assumption)] | rw [pif_t (Classical.not_not.mp (by with_reducible assumption))]) ls (lv_sub hl [2, 1, 0] rfl)
  exact L_4 _ 0 (nI 0) (Nat.lt_succ_self _) (by first | assumption | omega | rfl) rfl ls (lv_sub hl [2, 1, 0] rfl)
