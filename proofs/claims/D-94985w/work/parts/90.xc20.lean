def xTab (tx : kT) (M : Nat → Nat → Int32) (h e1 : Nat) (kw : Nat → Nat) (Z : Nat → Nat → Int32) (i tm t : Nat) : Prop :=
  Z (435 + 60 * i + tm) t = xLE (xLayR tx M h (kw i) tm t e1) (M 0 (40 + 3 * kw i + 1)) ∧ ∀ q, xLayR tx M h (kw i) tm t e1 = some q → Z (195 + 60 * i + tm) t = M 0 (40 + 3 * kw i + 2) - q.2.2
theorem xTab.keep {tx : kT} {M : Nat → Nat → Int32} {h e1 : Nat} {kw : Nat → Nat} {Z Z' : Nat → Nat → Int32} {i tm t : Nat} (h1 : Z' (435 + 60 * i + tm) t = Z (435 + 60 * i + tm) t) (h2 : Z' (195 + 60 * i + tm) t = Z (195 + 60 * i + tm) t) (h0 : xTab tx M h e1 kw Z i tm t) : xTab tx M h e1 kw Z' i tm t :=
  ⟨h1.trans h0.1, fun q hq => h2.trans (h0.2 q hq)⟩
theorem xTab.mk {tx : kT} {M : Nat → Nat → Int32} {h e1 : Nat} {kw : Nat → Nat} {Z : Nat → Nat → Int32} {i tm t : Nat} {old : Int32} (h1 : Z (435 + 60 * i + tm) t = xLE (xLayR tx M h (kw i) tm t e1) (M 0 (40 + 3 * kw i + 1))) (h2 : Z (195 + 60 * i + tm) t = xLG (xLayR tx M h (kw i) tm t e1) (M 0 (40 + 3 * kw i + 2)) old) : xTab tx M h e1 kw Z i tm t :=
  ⟨h1, fun q hq => by rw [h2, hq]; rfl⟩
theorem xLay_lt {tx : kT} {M : Nat → Nat → Int32} {h a b : Nat} : ∀ (n t : Nat) (rest vo co : Int32) (q : Nat × Int32 × Int32), xLay tx M h a b n t rest vo co = some q → t ≤ q.1 ∧ q.1 < t + n
  | 0, t, rest, vo, co, q, hq => by cases hq
  | n + 1, t, rest, vo, co, q, hq => by
    unfold xLay at hq
    by_cases c : xR1 tx M h a b t rest ≤ 0
    · rw [pif_t c] at hq
      cases hq
      exact ⟨Nat.le_refl _, by show t < t + (n + 1); omega⟩
    · rw [pif_f c] at hq
      have := xLay_lt n (t + 1) _ _ _ q hq
      omega
theorem xLE_ok {tx : kT} {M : Nat → Nat → Int32} {h k tm f e1 : Nat} {asks : Int32} (hf : f < e1) (he : e1 ≤ 24) : xEOk (xLE (xLayR tx M h k tm f e1) asks) := by
  cases hr : xLayR tx M h k tm f e1 with
  | none => exact Or.inl rfl
  | some q =>
    have := xLay_lt _ _ _ _ _ _ hr
    show xEOk (pif _ _ _)
    by_cases c : asks &&& (q.2.1 ^^^ (-1)) = 0
    · rw [pif_t c]; exact Or.inr ⟨q.1, by omega, rfl⟩
    · rw [pif_f c]; exact Or.inl rfl
noncomputable def xP1 (nb d t wk : Nat) (tm : Nat) (Z : Nat → Nat → Int32) : Nat → Nat → Int32 := pif (xTeam nb tm ∧ xMB Z d t wk tm) (up2 (up2 Z (19 + d) t (xLf Z d t wk tm)) (35 + d) t (xNf Z d t wk tm)) Z
noncomputable def xP2 (nb d t : Nat) (wk : Nat) (Z : Nat → Nat → Int32) : Nat → Nat → Int32 := pif (mHas (nI d) wk) Z (it (xP1 nb d t wk) (60 - 0) 0 Z)
def xP0 (d t : Nat) (Z : Nat → Nat → Int32) : Nat → Nat → Int32 := up2 (up2 Z (19 + d) t (nI 0)) (35 + d) t (nI 0)
noncomputable def xP3 (nb nw e1 t d : Nat) (Z : Nat → Nat → Int32) : Nat → Nat → Int32 := pif (t < e1) (it (xP2 nb d t) (nw - 0) 0 (xP0 d t Z)) (xP0 d t Z)
noncomputable def xPd (nb nw e1 t : Nat) : Nat → (Nat → Nat → Int32) → (Nat → Nat → Int32)
  | 0, Z => Z
  | d + 1, Z => xPd nb nw e1 t d (xP3 nb nw e1 t d Z)
noncomputable def xPt (nb nw e1 : Nat) : Nat → (Nat → Nat → Int32) → (Nat → Nat → Int32)
  | 0, Z => Z
  | t + 1, Z => xPt nb nw e1 t (xPd nb nw e1 t (2 ^ nw) Z)
set_option maxHeartbeats 4000000 in
set_option maxRecDepth 100000 in
theorem met_X0_laysPlan (l : Launch) (G : gG) (ad : Nat → Nat) (sz : Nat) (X Z : Nat → Nat → Int32) (T : Nat → Nat → Option Nat) (M : Nat → Nat → Int32) (nb nk nx np h nu ns ne nt : Nat) (hR : RS X 51 (M 0) nb nk nx np h nu ns ne nt) (tx : kT) (htx : mTx M tx) (nw e1 : Nat) (kw : Nat → Nat) (hnw : nw ≤ 4) (he : e1 ≤ 24) (hkw : ∀ i, i < nw → Z 6 i = nI (kw i) ∧ kw i < nk) (hz15 : Z 0 15 = nI nw) (hz16 : Z 0 16 = nI e1) : Met l yX0_laysPlan (ws_ yX0_laysPlan cX0_laysPlan 6 none) ({ frames := 108, cells := 0, slots := 0, locals := 6479 } : Room) (cP G [.ref (ad 0)] (fun H => xH G ad X Z T sz H ∧ aTx G (xOld ad sz) X T tx H)) (cQ none (fun H => ∃ Z9, (∃ Z1, (∀ i tm9 t9, i < nw → tm9 < 60 → xTeam nb tm9 → t9 < e1 → xTab tx M h e1 kw Z1 i tm9 t9) ∧ (∀ k9, k9 ≠ 2 → k9 < 195 → Z1 k9 = Z k9) ∧ (∀ k9, (k9 < 19 ∨ 51 ≤ k9) → Z9 k9 = Z1 k9) ∧ Z9 = xPt nb nw e1 (e1 + 1) Z1) ∧ xH G ad X Z9 T sz H) (xA ad sz)) 0 0 (xA ad sz) := by
  refine c_start (by decide) (Nat.le_of_ble_eq_true rfl) ?_
  intro p e s m below meth c hx hb hr hlocks hml hown hts hB hK ls hl
  obtain ⟨hB, hE⟩ := hB
  have hz := hB.2.2
  have hw := XS.of hB
  have hl : lv_has ls 6 [(0, .ref (ad 0))] := hl
  have hR0 := hR
  obtain ⟨⟨rnb, mnb, hnb⟩, ⟨rnk, mnk, hnk⟩, ⟨rnx, mnx, hnx⟩, rtx, ⟨rns, mns, hns⟩, ⟨rne, mne, hne⟩, ⟨rnt, mnt, hnt⟩, ⟨rnp, mnp, hnp⟩, ⟨rh, mh, hh⟩, ⟨rnu, mnu, hnu⟩, rbl, rbe, rgi, rki, rse, rto, rpi, rbu, rkd, rva, rst⟩ := hR
  change X 52 0 = _ at rnb; change X 52 1 = _ at rnk; change X 52 2 = _ at rnx; change X 52 3 = _ at rtx; change X 52 4 = _ at rns; change X 52 5 = _ at rne; change X 52 6 = _ at rnt; change X 53 112 = _ at rnp; change X 53 113 = _ at rh; change X 53 114 = _ at rnu
  have h2nw : 2 ^ nw ≤ 16 := Nat.pow_le_pow_right (n := 2) (by decide) hnw
  have h1nw : 1 ≤ 2 ^ nw := Nat.one_le_two_pow
  refine lv_iconst (v := nI 0) hx hb dX0_laysPlan_0 (by decide) ?_
  refine lv_istore_n (lv' := [(1, .int (nI 0)), (0, .ref (ad 0))]) hx hb dX0_laysPlan_1 rfl hl (by decide) rfl (fun ls hl => ?_)
  have L_2 : ∀ (fuel : Nat) (wk : Nat) (Za : Nat → Nat → Int32), nw - wk < fuel → (wk ≤ nw) → (∀ i tm9 t9, i < wk → tm9 < 60 → xTeam nb tm9 → t9 < e1 → xTab tx M h e1 kw Za i tm9 t9) → (∀ k9, k9 ≠ 2 → k9 < 195 → Za k9 = Z k9) → ∀ (H : Heap) (locs : List Loc), XS G ad sz s.heap X Za T H locs → ∀ (ls : Array Slot), lv_has ls 6 [(0, .ref (ad 0)), (1, .int (nI wk))] → W p l e ({ frames := 108, cells := 0, slots := 0, locals := 6479 } : Room) s m ([.ref (ad 0)] : List Value).toArray below meth c H locs 0 0 (MQ below (cQ none (fun H => ∃ Z9, (∃ Z1, (∀ i tm9 t9, i < nw → tm9 < 60 → xTeam nb tm9 → t9 < e1 → xTab tx M h e1 kw Z1 i tm9 t9) ∧ (∀ k9, k9 ≠ 2 → k9 < 195 → Z1 k9 = Z k9) ∧ (∀ k9, (k9 < 19 ∨ 51 ≤ k9) → Z9 k9 = Z1 k9) ∧ Z9 = xPt nb nw e1 (e1 + 1) Z1) ∧ xH G ad X Z9 T sz H) (xA ad sz)) ([.ref (ad 0)] : List Value).toArray s 0 0 (xA ad sz)) (F0 m 2 ls []) := by
    intro fuel
    induction fuel with
    | zero => intro wk Za hf; exact absurd hf (Nat.not_lt_zero _)
    | succ fuel ih =>
      intro wk Za hf hwk hta hfa H locs hw ls hl
      have ih2 := ih
      refine lv_iload_n hx hb dX0_laysPlan_2 rfl (lv_at hl 1 rfl) ?_
      refine lv_aload_n hx hb dX0_laysPlan_3 rfl (lv_at hl 0 rfl) ?_
      refine x_g_works hx hb hts hown hK hw dX0_laysPlan_4 ?_
      rw [show Za 0 15 = nI nw from (congrFun (hfa _ (by decide) (by decide)) 15).trans hz15]
      refine n_icmp_ge (tgt := 61) hx hb dX0_laysPlan_7 (by decide) (by omega) (by omega) (fun c_1 => ?_) (fun c_1 => ?_)
      · obtain rfl : nw = wk := by omega
        refine lv_aload_n hx hb dX0_laysPlan_61 rfl (lv_at hl 0 rfl) ?_
        refine x_g_hours hx hb hts hown hK hw dX0_laysPlan_62 ?_
        rw [show Za 0 16 = nI e1 from (congrFun (hfa _ (by decide) (by decide)) 16).trans hz16]
        refine lv_istore_n (lv' := [(1, .int (nI e1)), (0, .ref (ad 0))]) hx hb dX0_laysPlan_65 rfl hl (by decide) rfl (fun ls hl => ?_)
        have L66_2 : ∀ (fuel : Nat) (n1 : Nat) (xt : Int32) (Zd : Nat → Nat → Int32), n1 < fuel → (n1 ≤ e1 + 1) → (xt = nI n1 + (-1)) → (xPt nb nw e1 n1 Zd = xPt nb nw e1 (e1 + 1) Za) → (∀ k9, (k9 < 19 ∨ 51 ≤ k9) → Zd k9 = Za k9) → ∀ (H : Heap) (locs : List Loc), XS G ad sz s.heap X Zd T H locs → ∀ (ls : Array Slot), lv_has ls 6 [(0, .ref (ad 0)), (1, .int xt)] → W p l e ({ frames := 108, cells := 0, slots := 0, locals := 6479 } : Room) s m ([.ref (ad 0)] : List Value).toArray below meth c H locs 0 0 (MQ below (cQ none (fun H => ∃ Z9, (∃ Z1, (∀ i tm9 t9, i < nw → tm9 < 60 → xTeam nb tm9 → t9 < e1 → xTab tx M h e1 kw Z1 i tm9 t9) ∧ (∀ k9, k9 ≠ 2 → k9 < 195 → Z1 k9 = Z k9) ∧ (∀ k9, (k9 < 19 ∨ 51 ≤ k9) → Z9 k9 = Z1 k9) ∧ Z9 = xPt nb nw e1 (e1 + 1) Z1) ∧ xH G ad X Z9 T sz H) (xA ad sz)) ([.ref (ad 0)] : List Value).toArray s 0 0 (xA ad sz)) (F0 m 66 ls []) := by
          intro fuel
          induction fuel with
          | zero => intro n1 xt Zd hf; exact absurd hf (Nat.not_lt_zero _)
          | succ fuel ih =>
            intro n1 xt Zd hf hn1 hxt hqd hfd H locs hw ls hl
            have ih66 := ih
            cases n1 with
            | zero =>
              obtain rfl : xt = (-1) := by rw [hxt]; decide
              refine lv_iload_n hx hb dX0_laysPlan_66 rfl (lv_at hl 1 rfl) ?_
              refine lv_if_lt (tgt := 263) hx hb dX0_laysPlan_67 (by decide) (fun _ => ?_) (fun h9 => absurd (by decide) h9)
              exact c_vret hx hb hr hlocks ⟨_, ⟨Za, hta, hfa, hfd, hqd⟩, xH.to rfl rfl rfl hw.1⟩ hw.2.1 dX0_laysPlan_263
            | succ t =>
              obtain rfl : xt = nI t := by rw [hxt]; exact pk_m1 t
              refine lv_iload_n hx hb dX0_laysPlan_66 rfl (lv_at hl 1 rfl) ?_
              refine n_if_lt (tgt := 263) hx hb dX0_laysPlan_67 (by decide) (by omega) ?_
              refine lv_iconst (v := nI 1) hx hb dX0_laysPlan_70 (by decide) ?_
              refine lv_aload_n hx hb dX0_laysPlan_71 rfl (lv_at hl 0 rfl) ?_
              refine x_g_works hx hb hts hown hK hw dX0_laysPlan_72 ?_
              rw [show Zd 0 15 = nI nw from (congrFun (hfd _ (by decide)) 15).trans ((congrFun (hfa _ (by decide) (by decide)) 15).trans hz15)]
              refine lv_ishl hx hb dX0_laysPlan_75 ?_
              rw [shl1 nw (by omega)]
              refine lv_iconst (v := nI 1) hx hb dX0_laysPlan_76 (by decide) ?_
              refine n_isub hx hb (by omega) dX0_laysPlan_77 ?_
              refine lv_istore_n (lv' := [(2, .int (nI ((2 ^ nw) - 1))), (0, .ref (ad 0)), (1, .int (nI t))]) hx hb dX0_laysPlan_78 rfl hl (by decide) rfl (fun ls hl => ?_)
              have L79_4 : ∀ (fuel : Nat) (n2 : Nat) (xd : Int32) (Ze : Nat → Nat → Int32), n2 < fuel → (n2 ≤ 2 ^ nw) → (xd = nI n2 + (-1)) → (xPd nb nw e1 t n2 Ze = xPd nb nw e1 t (2 ^ nw) Zd) → (∀ k9, (k9 < 19 ∨ 51 ≤ k9) → Ze k9 = Za k9) → ∀ (H : Heap) (locs : List Loc), XS G ad sz s.heap X Ze T H locs → ∀ (ls : Array Slot), lv_has ls 6 [(0, .ref (ad 0)), (1, .int (nI t)), (2, .int xd)] → W p l e ({ frames := 108, cells := 0, slots := 0, locals := 6479 } : Room) s m ([.ref (ad 0)] : List Value).toArray below meth c H locs 0 0 (MQ below (cQ none (fun H => ∃ Z9, (∃ Z1, (∀ i tm9 t9, i < nw → tm9 < 60 → xTeam nb tm9 → t9 < e1 → xTab tx M h e1 kw Z1 i tm9 t9) ∧ (∀ k9, k9 ≠ 2 → k9 < 195 → Z1 k9 = Z k9) ∧ (∀ k9, (k9 < 19 ∨ 51 ≤ k9) → Z9 k9 = Z1 k9) ∧ Z9 = xPt nb nw e1 (e1 + 1) Z1) ∧ xH G ad X Z9 T sz H) (xA ad sz)) ([.ref (ad 0)] : List Value).toArray s 0 0 (xA ad sz)) (F0 m 79 ls []) := by
                intro fuel
                induction fuel with
                | zero => intro n2 xd Ze hf; exact absurd hf (Nat.not_lt_zero _)
                | succ fuel ih =>
                  intro n2 xd Ze hf hn2 hxd hqe hfe H locs hw ls hl
                  have ih79 := ih
                  cases n2 with
                  | zero =>
                    obtain rfl : xd = (-1) := by rw [hxd]; decide
                    refine lv_iload_n hx hb dX0_laysPlan_79 rfl (lv_at hl 2 rfl) ?_
                    refine lv_if_lt (tgt := 257) hx hb dX0_laysPlan_80 (by decide) (fun _ => ?_) (fun h9 => absurd (by decide) h9)
                    refine lv_iinc (v := nI t + Int32.ofInt (-1)) (lv' := [(1, .int (nI t + Int32.ofInt (-1))), (0, .ref (ad 0)), (2, .int (-1))]) hx hb dX0_laysPlan_257 hl (k := 1) rfl rfl (by decide) rfl (fun ls hl => ?_)
                    refine lv_goto (tgt := 66) hx hb dX0_laysPlan_260 (by decide) ?_
                    exact ih66 t (nI t + Int32.ofInt (-1)) Ze (by omega) (by omega) rfl (by rw [show Ze = xPd nb nw e1 t (2 ^ nw) Zd from hqe]; exact hqd) hfe _ _ hw ls (lv_sub hl [1, 0] rfl)
                  | succ d =>
                    obtain rfl : xd = nI d := by rw [hxd]; exact pk_m1 d
                    refine lv_iload_n hx hb dX0_laysPlan_79 rfl (lv_at hl 2 rfl) ?_
                    refine n_if_lt (tgt := 257) hx hb dX0_laysPlan_80 (by decide) (by omega) ?_
                    refine lv_aload_n hx hb dX0_laysPlan_83 rfl (lv_at hl 0 rfl) ?_
                    refine x_g_most hx hb hts hown hK hw dX0_laysPlan_84 ?_
                    refine lv_iload_n hx hb dX0_laysPlan_87 rfl (lv_at hl 2 rfl) ?_
                    refine x_a (r := 19 + d) hx hb hK hw xO_9 rfl (by decide) (by omega) rfl dX0_laysPlan_88 ?_
                    refine lv_iload_n hx hb dX0_laysPlan_89 rfl (lv_at hl 1 rfl) ?_
                    refine lv_iconst (v := nI 0) hx hb dX0_laysPlan_90 (by decide) ?_
                    refine z_s (k := 19 + d) (j := t) (n := 25) hx hb hK hw (zL_19 (by omega)) (by omega) dX0_laysPlan_91 (fun H locs hw => ?_)
                    refine lv_aload_n hx hb dX0_laysPlan_92 rfl (lv_at hl 0 rfl) ?_
                    refine x_g_fewest hx hb hts hown hK hw dX0_laysPlan_93 ?_
                    refine lv_iload_n hx hb dX0_laysPlan_96 rfl (lv_at hl 2 rfl) ?_
                    refine x_a (r := 35 + d) hx hb hK hw xO_10 rfl (by decide) (by omega) rfl dX0_laysPlan_97 ?_
                    refine lv_iload_n hx hb dX0_laysPlan_98 rfl (lv_at hl 1 rfl) ?_
                    refine lv_iconst (v := nI 0) hx hb dX0_laysPlan_99 (by decide) ?_
                    refine z_s (k := 35 + d) (j := t) (n := 25) hx hb hK hw (zL_35 (by omega)) (by omega) dX0_laysPlan_100 (fun H locs hw => ?_)
                    refine lv_iconst (v := nI 0) hx hb dX0_laysPlan_101 (by decide) ?_
                    refine lv_istore_n (lv' := [(3, .int (nI 0)), (0, .ref (ad 0)), (1, .int (nI t)), (2, .int (nI d))]) hx hb dX0_laysPlan_102 rfl hl (by decide) rfl (fun ls hl => ?_)
                    have L103_6 : ∀ (fuel : Nat) (wk2 : Nat) (Zf : Nat → Nat → Int32), nw - wk2 < fuel → (wk2 ≤ nw) → (pif (t < e1) (it (xP2 nb d t) (nw - wk2) wk2 Zf) Zf = xP3 nb nw e1 t d Ze) → (∀ k9, (k9 < 19 ∨ 51 ≤ k9) → Zf k9 = Za k9) → ∀ (H : Heap) (locs : List Loc), XS G ad sz s.heap X Zf T H locs → ∀ (ls : Array Slot), lv_has ls 6 [(0, .ref (ad 0)), (1, .int (nI t)), (2, .int (nI d)), (3, .int (nI wk2))] → W p l e ({ frames := 108, cells := 0, slots := 0, locals := 6479 } : Room) s m ([.ref (ad 0)] : List Value).toArray below meth c H locs 0 0 (MQ below (cQ none (fun H => ∃ Z9, (∃ Z1, (∀ i tm9 t9, i < nw → tm9 < 60 → xTeam nb tm9 → t9 < e1 → xTab tx M h e1 kw Z1 i tm9 t9) ∧ (∀ k9, k9 ≠ 2 → k9 < 195 → Z1 k9 = Z k9) ∧ (∀ k9, (k9 < 19 ∨ 51 ≤ k9) → Z9 k9 = Z1 k9) ∧ Z9 = xPt nb nw e1 (e1 + 1) Z1) ∧ xH G ad X Z9 T sz H) (xA ad sz)) ([.ref (ad 0)] : List Value).toArray s 0 0 (xA ad sz)) (F0 m 103 ls []) := by
                      intro fuel
                      induction fuel with
                      | zero => intro wk2 Zf hf; exact absurd hf (Nat.not_lt_zero _)
                      | succ fuel ih =>
                        intro wk2 Zf hf hwk2 hqf hff H locs hw ls hl
                        have ih103 := ih
                        refine lv_iload_n hx hb dX0_laysPlan_103 rfl (lv_at hl 3 rfl) ?_
                        refine lv_aload_n hx hb dX0_laysPlan_104 rfl (lv_at hl 0 rfl) ?_
                        refine x_g_works hx hb hts hown hK hw dX0_laysPlan_105 ?_
                        rw [show Zf 0 15 = nI nw from (congrFun (hff _ (by decide)) 15).trans ((congrFun (hfa _ (by decide) (by decide)) 15).trans hz15)]
                        refine n_icmp_ge (tgt := 251) hx hb dX0_laysPlan_108 (by decide) (by omega) (by omega) (fun c_7 => ?_) (fun c_7 => ?_)
                        · have hR3_ : Zf = xP3 nb nw e1 t d Ze := by
                            rw [← hqf]
                            by_cases h9 : t < e1
                            · rw [pif_t h9, it_z (by omega)]
                            · rw [pif_f h9]
                          refine lv_iinc (v := nI d + Int32.ofInt (-1)) (lv' := [(2, .int (nI d + Int32.ofInt (-1))), (0, .ref (ad 0)), (1, .int (nI t)), (3, .int (nI wk2))]) hx hb dX0_laysPlan_251 hl (k := 2) rfl rfl (by decide) rfl (fun ls hl => ?_)
                          refine lv_goto (tgt := 79) hx hb dX0_laysPlan_254 (by decide) ?_
                          exact ih79 d (nI d + Int32.ofInt (-1)) Zf (by omega) (by omega) rfl (by rw [show Zf = xP3 nb nw e1 t d Ze from hR3_]; exact hqe) hff _ _ hw ls (lv_sub hl [1, 2, 0] rfl)
                        refine lv_iload_n hx hb dX0_laysPlan_111 rfl (lv_at hl 1 rfl) ?_
                        refine lv_aload_n hx hb dX0_laysPlan_112 rfl (lv_at hl 0 rfl) ?_
                        refine x_g_hours hx hb hts hown hK hw dX0_laysPlan_113 ?_
                        rw [show Zf 0 16 = nI e1 from (congrFun (hff _ (by decide)) 16).trans ((congrFun (hfa _ (by decide) (by decide)) 16).trans hz16)]
                        refine n_icmp_ge (tgt := 251) hx hb dX0_laysPlan_116 (by decide) (by omega) (by omega) (fun c_8 => ?_) (fun c_8 => ?_)
                        · have hR3_ : Zf = xP3 nb nw e1 t d Ze := by
                            rw [← hqf]
                            by_cases h9 : t < e1
                            · rw [pif_t h9, it_z (by omega)]
                            · rw [pif_f h9]
                          refine lv_iinc (v := nI d + Int32.ofInt (-1)) (lv' := [(2, .int (nI d + Int32.ofInt (-1))), (0, .ref (ad 0)), (1, .int (nI t)), (3, .int (nI wk2))]) hx hb dX0_laysPlan_251 hl (k := 2) rfl rfl (by decide) rfl (fun ls hl => ?_)
                          refine lv_goto (tgt := 79) hx hb dX0_laysPlan_254 (by decide) ?_
                          exact ih79 d (nI d + Int32.ofInt (-1)) Zf (by omega) (by omega) rfl (by rw [show Zf = xP3 nb nw e1 t d Ze from hR3_]; exact hqe) hff _ _ hw ls (lv_sub hl [1, 2, 0] rfl)
                        have hte : t < e1 := by omega
                        refine lv_iload_n hx hb dX0_laysPlan_119 rfl (lv_at hl 2 rfl) ?_
                        refine lv_iload_n hx hb dX0_laysPlan_120 rfl (lv_at hl 3 rfl) ?_
                        refine lv_ishr hx hb dX0_laysPlan_121 ?_
                        refine lv_iconst (v := nI 1) hx hb dX0_laysPlan_122 (by decide) ?_
                        refine lv_iand hx hb dX0_laysPlan_123 ?_
                        refine lv_iconst (v := nI 1) hx hb dX0_laysPlan_124 (by decide) ?_
                        refine lv_icmp_ne (tgt := 131) hx hb dX0_laysPlan_125 (by decide) (fun c_9 => ?_) (fun c_9 => ?_)
                        · have hnh : ¬ mHas (nI d) wk2 := c_9
                          refine lv_iconst (v := nI 0) hx hb dX0_laysPlan_131 (by decide) ?_
                          refine lv_istore (lv' := [(4, .int (nI 0)), (0, .ref (ad 0)), (1, .int (nI t)), (2, .int (nI d)), (3, .int (nI wk2))]) hx hb dX0_laysPlan_132 hl (by decide) rfl (fun ls hl => ?_)
                          have L134_10 : ∀ (fuel : Nat) (tm : Nat) (Zg : Nat → Nat → Int32), 60 - tm < fuel → (tm ≤ 60) → (it (xP1 nb d t wk2) (60 - tm) tm Zg = it (xP1 nb d t wk2) (60 - 0) 0 Zf) → (∀ k9, (k9 < 19 ∨ 51 ≤ k9) → Zg k9 = Za k9) → ∀ (H : Heap) (locs : List Loc), XS G ad sz s.heap X Zg T H locs → ∀ (ls : Array Slot), lv_has ls 6 [(0, .ref (ad 0)), (1, .int (nI t)), (2, .int (nI d)), (3, .int (nI wk2)), (4, .int (nI tm))] → W p l e ({ frames := 108, cells := 0, slots := 0, locals := 6479 } : Room) s m ([.ref (ad 0)] : List Value).toArray below meth c H locs 0 0 (MQ below (cQ none (fun H => ∃ Z9, (∃ Z1, (∀ i tm9 t9, i < nw → tm9 < 60 → xTeam nb tm9 → t9 < e1 → xTab tx M h e1 kw Z1 i tm9 t9) ∧ (∀ k9, k9 ≠ 2 → k9 < 195 → Z1 k9 = Z k9) ∧ (∀ k9, (k9 < 19 ∨ 51 ≤ k9) → Z9 k9 = Z1 k9) ∧ Z9 = xPt nb nw e1 (e1 + 1) Z1) ∧ xH G ad X Z9 T sz H) (xA ad sz)) ([.ref (ad 0)] : List Value).toArray s 0 0 (xA ad sz)) (F0 m 134 ls []) := by
                            intro fuel
                            induction fuel with
                            | zero => intro tm Zg hf; exact absurd hf (Nat.not_lt_zero _)
                            | succ fuel ih =>
                              intro tm Zg hf htm hqg hfg H locs hw ls hl
                              have ih134 := ih
                              refine lv_iload hx hb dX0_laysPlan_134 (lv_at hl 4 rfl) ?_
                              refine lv_bipush (v := nI 60) hx hb dX0_laysPlan_136 (by decide) ?_
                              refine n_icmp_ge (tgt := 245) hx hb dX0_laysPlan_138 (by decide) (by omega) (by decide) (fun c_11 => ?_) (fun c_11 => ?_)
                              · refine lv_iinc (v := nI (wk2 + 1)) (lv' := [(3, .int (nI (wk2 + 1))), (0, .ref (ad 0)), (1, .int (nI t)), (2, .int (nI d)), (4, .int (nI tm))]) hx hb dX0_laysPlan_245 hl (k := 3) rfl (n_inc wk2 1) (by decide) rfl (fun ls hl => ?_)
                                refine lv_goto (tgt := 103) hx hb dX0_laysPlan_248 (by decide) ?_
                                exact ih103 (wk2 + 1) Zg (by omega) (by omega) (by rw [pif_t hte] at hqf ⊢; rw [it_s (by omega), show xP2 nb d t wk2 Zf = Zg from (pif_f hnh).trans (hqg.symm.trans (it_z (by omega)))] at hqf; exact hqf) hfg _ _ hw ls (lv_sub hl [1, 2, 3, 0] rfl)
                              refine lv_aload_n hx hb dX0_laysPlan_141 rfl (lv_at hl 0 rfl) ?_
                              refine lv_iload hx hb dX0_laysPlan_142 (lv_at hl 4 rfl) ?_
                              refine c_read (va_runV (As := [.int (nI tm)]) (rest := []) ⟨hx, hb, hml, hown, hts⟩ (met_X0_isTeam l G ad sz X Zg T M nb nk nx np h nu ns ne nt hR0 tm (by omega)) (cv_X0_X0_isTeam hts ⟨Nat.le_of_ble_eq_true rfl, Nat.le_of_ble_eq_true rfl⟩) (cP.preV hK hw.1 (hw.1.recv hK)) rfl rfl hl.1 rfl (lv_room (Nat.le_of_ble_eq_true rfl)) dX0_laysPlan_144 ⟨by first | exact Nat.zero_le _ | omega | decide, by first | exact Nat.zero_le _ | omega | decide⟩) ?_
                              refine b_if_eq (tgt := 239) hx hb dX0_laysPlan_147 (by decide) (fun c_12 => ?_) (fun c_12 => ?_)
                              · refine lv_iinc (v := nI (tm + 1)) (lv' := [(4, .int (nI (tm + 1))), (0, .ref (ad 0)), (1, .int (nI t)), (2, .int (nI d)), (3, .int (nI wk2))]) hx hb dX0_laysPlan_239 hl (k := 4) rfl (n_inc tm 1) (by decide) rfl (fun ls hl => ?_)
                                refine lv_goto (tgt := 134) hx hb dX0_laysPlan_242 (by decide) ?_
                                exact ih134 (tm + 1) Zg (by omega) (by omega) (by rw [it_s (by omega), show xP1 nb d t wk2 tm Zg = Zg from pif_f (fun h9 => by first | exact absurd h9.1 c_12 | exact absurd h9.2 c_12)] at hqg; exact hqg) hfg _ _ hw ls (lv_sub hl [1, 2, 3, 4, 0] rfl)
                              have hteam : xTeam nb tm := c_12
                              have heok : xEOk (Zg (435 + 60 * wk2 + tm) t) := by rw [hfg _ (by omega), (hta wk2 tm t (by omega) (by omega) hteam (by omega)).1]; exact xLE_ok (by omega) (by omega)
                              refine lv_aload_n hx hb dX0_laysPlan_150 rfl (lv_at hl 0 rfl) ?_
                              refine lv_iload_n hx hb dX0_laysPlan_151 rfl (lv_at hl 2 rfl) ?_
                              refine lv_iload_n hx hb dX0_laysPlan_152 rfl (lv_at hl 1 rfl) ?_
                              refine lv_iload_n hx hb dX0_laysPlan_153 rfl (lv_at hl 3 rfl) ?_
                              refine lv_iload hx hb dX0_laysPlan_154 (lv_at hl 4 rfl) ?_
                              refine lv_iconst (v := nI 0) hx hb dX0_laysPlan_156 (by decide) ?_
                              refine c_read (va_runV (As := [.int (nI d), .int (nI t), .int (nI wk2), .int (nI tm), .int (nI 0)]) (rest := []) ⟨hx, hb, hml, hown, hts⟩ (met_X0_isMore_m l G ad sz X Zg T d t wk2 tm (by omega) (by omega) (by omega) (by omega) heok) (cv_X0_X0_isMore hts ⟨Nat.le_of_ble_eq_true rfl, Nat.le_of_ble_eq_true rfl⟩) (cP.preV hK hw.1 (hw.1.recv hK)) rfl rfl hl.1 rfl (lv_room (Nat.le_of_ble_eq_true rfl)) dX0_laysPlan_157 ⟨by first | exact Nat.zero_le _ | omega | decide, by first | exact Nat.zero_le _ | omega | decide⟩) ?_
                              refine b_if_ne (tgt := 166) hx hb dX0_laysPlan_160 (by decide) (fun c_13 => ?_) (fun c_13 => ?_)
                              · have hmore : xMB Zg d t wk2 tm := c_13
                                obtain ⟨en, hen, een⟩ := heok.resolve_left hmore.1
                                have hkcl : xEn Zg wk2 tm t = en := by unfold xEn; rw [een]; exact nI_clamp (by omega)
                                have hor := or16 (d := d) (k := wk2) (by omega) (by omega)
                                have hxl : xLf Zg d t wk2 tm = Zg (195 + 60 * wk2 + tm) t + Zg (19 + (d ||| 2 ^ wk2)) (en + 1) := by unfold xLf; rw [hkcl]
                                have hxn : xNf Zg d t wk2 tm = nI 1 + Zg (35 + (d ||| 2 ^ wk2)) (en + 1) := by unfold xNf; rw [hkcl]
                                refine lv_aload_n hx hb dX0_laysPlan_166 rfl (lv_at hl 0 rfl) ?_
                                refine x_g_endIn hx hb hts hown hK hw dX0_laysPlan_167 ?_
                                refine lv_iload_n hx hb dX0_laysPlan_170 rfl (lv_at hl 3 rfl) ?_
                                refine x_a (r := 15 + wk2) hx hb hK hw xO_5 rfl (by decide) (by omega) rfl dX0_laysPlan_171 ?_
                                refine lv_iload hx hb dX0_laysPlan_172 (lv_at hl 4 rfl) ?_
                                refine x_a (r := 435 + 60 * wk2 + tm) hx hb hK hw (xO_15 (by omega)) rfl (by decide) (by omega) rfl dX0_laysPlan_174 ?_
                                refine lv_iload_n hx hb dX0_laysPlan_175 rfl (lv_at hl 1 rfl) ?_
                                refine z_l (k := 435 + 60 * wk2 + tm) (j := t) (n := 24) (v := nI en) hx hb hK hw een (zM_435 (by omega) (by omega)) (by omega) dX0_laysPlan_176 ?_
                                refine lv_istore (lv' := [(5, .int (nI en)), (0, .ref (ad 0)), (1, .int (nI t)), (2, .int (nI d)), (3, .int (nI wk2)), (4, .int (nI tm))]) hx hb dX0_laysPlan_177 hl (by decide) rfl (fun ls hl => ?_)
                                refine lv_aload_n hx hb dX0_laysPlan_179 rfl (lv_at hl 1 rfl) ?_
                                refine x_g_most hx hb hts hown hK hw dX0_laysPlan_180 ?_
                                refine lv_iload_n hx hb dX0_laysPlan_183 rfl (lv_at hl 3 rfl) ?_
                                refine x_a (r := 19 + d) hx hb hK hw xO_9 rfl (by decide) (by omega) rfl dX0_laysPlan_184 ?_
                                refine lv_iload_n hx hb dX0_laysPlan_185 rfl (lv_at hl 2 rfl) ?_
                                refine lv_aload_n hx hb dX0_laysPlan_186 rfl (lv_at hl 1 rfl) ?_
                                refine x_g_gain hx hb hts hown hK hw dX0_laysPlan_187 ?_
                                refine lv_iload_n hx hb dX0_laysPlan_190 rfl (lv_at hl 4 rfl) ?_
                                refine x_a (r := 11 + wk2) hx hb hK hw xO_4 rfl (by decide) (by omega) rfl dX0_laysPlan_191 ?_
                                refine lv_iload hx hb dX0_laysPlan_192 (lv_at hl 5 rfl) ?_
                                refine x_a (r := 195 + 60 * wk2 + tm) hx hb hK hw (xO_11 (by omega)) rfl (by decide) (by omega) rfl dX0_laysPlan_194 ?_
                                refine lv_iload_n hx hb dX0_laysPlan_195 rfl (lv_at hl 2 rfl) ?_
                                refine z_l (k := 195 + 60 * wk2 + tm) (j := t) (n := 24) (v := Zg (195 + 60 * wk2 + tm) t) hx hb hK hw rfl (zM_195 (by omega) (by omega)) (by omega) dX0_laysPlan_196 ?_
                                refine lv_aload_n hx hb dX0_laysPlan_197 rfl (lv_at hl 1 rfl) ?_
                                refine x_g_most hx hb hts hown hK hw dX0_laysPlan_198 ?_
                                refine lv_iload_n hx hb dX0_laysPlan_201 rfl (lv_at hl 3 rfl) ?_
                                refine lv_iconst (v := nI 1) hx hb dX0_laysPlan_202 (by decide) ?_
                                refine lv_iload_n hx hb dX0_laysPlan_203 rfl (lv_at hl 4 rfl) ?_
                                refine lv_ishl hx hb dX0_laysPlan_204 ?_
                                rw [shl1 wk2 (by omega)]
                                refine lv_ior hx hb dX0_laysPlan_205 ?_
                                rw [or_small d (by omega) _ (Nat.pow_lt_pow_right (m := wk2) (n := 6) (by decide) (by omega))]
                                refine x_a (r := 19 + (d ||| 2 ^ wk2)) hx hb hK hw xO_9 rfl (by decide) (by omega) rfl dX0_laysPlan_206 ?_
                                refine lv_iload hx hb dX0_laysPlan_207 (lv_at hl 0 rfl) ?_
                                refine lv_iconst (v := nI 1) hx hb dX0_laysPlan_209 (by decide) ?_
                                refine n_iadd hx hb dX0_laysPlan_210 ?_
                                refine z_l (k := 19 + (d ||| 2 ^ wk2)) (j := en + 1) (n := 25) (v := Zg (19 + (d ||| 2 ^ wk2)) (en + 1)) hx hb hK hw rfl (zL_19 (by omega)) (by omega) dX0_laysPlan_211 ?_
                                refine lv_iadd hx hb dX0_laysPlan_212 ?_
                                refine z_s (k := 19 + d) (j := t) (n := 25) hx hb hK hw (zL_19 (by omega)) (by omega) dX0_laysPlan_213 (fun H locs hw => ?_)
                                refine lv_aload_n hx hb dX0_laysPlan_214 rfl (lv_at hl 1 rfl) ?_
                                refine x_g_fewest hx hb hts hown hK hw dX0_laysPlan_215 ?_
                                refine lv_iload_n hx hb dX0_laysPlan_218 rfl (lv_at hl 3 rfl) ?_
                                refine x_a (r := 35 + d) hx hb hK hw xO_10 rfl (by decide) (by omega) rfl dX0_laysPlan_219 ?_
                                refine lv_iload_n hx hb dX0_laysPlan_220 rfl (lv_at hl 2 rfl) ?_
                                refine lv_iconst (v := nI 1) hx hb dX0_laysPlan_221 (by decide) ?_
                                refine lv_aload_n hx hb dX0_laysPlan_222 rfl (lv_at hl 1 rfl) ?_
                                refine x_g_fewest hx hb hts hown hK hw dX0_laysPlan_223 ?_
                                refine lv_iload_n hx hb dX0_laysPlan_226 rfl (lv_at hl 3 rfl) ?_
                                refine lv_iconst (v := nI 1) hx hb dX0_laysPlan_227 (by decide) ?_
                                refine lv_iload_n hx hb dX0_laysPlan_228 rfl (lv_at hl 4 rfl) ?_
                                refine lv_ishl hx hb dX0_laysPlan_229 ?_
                                rw [shl1 wk2 (by omega)]
                                refine lv_ior hx hb dX0_laysPlan_230 ?_
                                rw [or_small d (by omega) _ (Nat.pow_lt_pow_right (m := wk2) (n := 6) (by decide) (by omega))]
                                refine x_a (r := 35 + (d ||| 2 ^ wk2)) hx hb hK hw xO_10 rfl (by decide) (by omega) rfl dX0_laysPlan_231 ?_
                                refine lv_iload hx hb dX0_laysPlan_232 (lv_at hl 0 rfl) ?_
                                refine lv_iconst (v := nI 1) hx hb dX0_laysPlan_234 (by decide) ?_
                                refine n_iadd hx hb dX0_laysPlan_235 ?_
                                refine z_l (k := 35 + (d ||| 2 ^ wk2)) (j := en + 1) (n := 25) (v := Zg (35 + (d ||| 2 ^ wk2)) (en + 1)) hx hb hK hw ((up2_ne (Or.inl (by omega))).trans rfl) (zL_35 (by omega)) (by omega) dX0_laysPlan_236 ?_
                                refine lv_iadd hx hb dX0_laysPlan_237 ?_
                                refine z_s (k := 35 + d) (j := t) (n := 25) hx hb hK hw (zL_35 (by omega)) (by omega) dX0_laysPlan_238 (fun H locs hw => ?_)
                                refine lv_iinc (v := nI (tm + 1)) (lv' := [(4, .int (nI (tm + 1))), (5, .int (nI en)), (0, .ref (ad 0)), (1, .int (nI t)), (2, .int (nI d)), (3, .int (nI wk2))]) hx hb dX0_laysPlan_239 hl (k := 5) rfl (n_inc tm 1) (by decide) rfl (fun ls hl => ?_)
                                refine lv_goto (tgt := 134) hx hb dX0_laysPlan_242 (by decide) ?_
                                exact ih134 (tm + 1) (up2 (up2 Zg (19 + d) t ((Zg (195 + 60 * wk2 + tm) t) + (Zg (19 + (d ||| 2 ^ wk2)) (en + 1)))) (35 + d) t ((nI 1) + (Zg (35 + (d ||| 2 ^ wk2)) (en + 1)))) (by omega) (by omega) (by rw [it_s (by omega), show xP1 nb d t wk2 tm Zg = _ from pif_t ⟨hteam, hmore⟩, hxl, hxn] at hqg; exact hqg) (fun k9 h9 => (up2_row (by omega)).trans ((up2_row (by omega)).trans (hfg k9 h9))) _ _ hw ls (lv_sub hl [2, 3, 4, 5, 0] rfl)
                              refine lv_goto (tgt := 239) hx hb dX0_laysPlan_163 (by decide) ?_
                              refine lv_iinc (v := nI (tm + 1)) (lv' := [(4, .int (nI (tm + 1))), (0, .ref (ad 0)), (1, .int (nI t)), (2, .int (nI d)), (3, .int (nI wk2))]) hx hb dX0_laysPlan_239 hl (k := 4) rfl (n_inc tm 1) (by decide) rfl (fun ls hl => ?_)
                              refine lv_goto (tgt := 134) hx hb dX0_laysPlan_242 (by decide) ?_
                              exact ih134 (tm + 1) Zg (by omega) (by omega) (by rw [it_s (by omega), show xP1 nb d t wk2 tm Zg = Zg from pif_f (fun h9 => by first | exact absurd h9.1 c_13 | exact absurd h9.2 c_13)] at hqg; exact hqg) hfg _ _ hw ls (lv_sub hl [1, 2, 3, 4, 0] rfl)
                          exact L134_10 _ 0 Zf (Nat.lt_succ_self _) (Nat.zero_le _) rfl hff _ _ hw ls (lv_sub hl [1, 2, 3, 4, 0] rfl)
                        refine lv_goto (tgt := 245) hx hb dX0_laysPlan_128 (by decide) ?_
                        refine lv_iinc (v := nI (wk2 + 1)) (lv' := [(3, .int (nI (wk2 + 1))), (0, .ref (ad 0)), (1, .int (nI t)), (2, .int (nI d))]) hx hb dX0_laysPlan_245 hl (k := 3) rfl (n_inc wk2 1) (by decide) rfl (fun ls hl => ?_)
                        refine lv_goto (tgt := 103) hx hb dX0_laysPlan_248 (by decide) ?_
                        exact ih103 (wk2 + 1) Zf (by omega) (by omega) (by rw [pif_t hte] at hqf ⊢; rw [it_s (by omega), show xP2 nb d t wk2 Zf = Zf from pif_t c_9] at hqf; exact hqf) hff _ _ hw ls (lv_sub hl [1, 2, 3, 0] rfl)
                    exact L103_6 _ 0 (up2 (up2 Ze (19 + d) t (nI 0)) (35 + d) t (nI 0)) (Nat.lt_succ_self _) (Nat.zero_le _) rfl (fun k9 h9 => (up2_row (by omega)).trans ((up2_row (by omega)).trans (hfe k9 h9))) _ _ hw ls (lv_sub hl [1, 2, 3, 0] rfl)
              exact L79_4 _ (2 ^ nw) (nI (2 ^ nw - 1)) Zd (Nat.lt_succ_self _) (Nat.le_refl _) (by have h9 := pk_m1 (2 ^ nw - 1); rw [show 2 ^ nw - 1 + 1 = 2 ^ nw by omega] at h9; exact h9.symm) rfl hfd _ _ hw ls (lv_sub hl [1, 2, 0] rfl)
        exact L66_2 _ (e1 + 1) (nI e1) Za (Nat.lt_succ_self _) (Nat.le_refl _) (pk_m1 e1).symm rfl (fun _ _ => rfl) _ _ hw ls (lv_sub hl [1, 0] rfl)
      refine lv_iconst (v := nI 0) hx hb dX0_laysPlan_10 (by decide) ?_
      refine lv_istore_n (lv' := [(2, .int (nI 0)), (0, .ref (ad 0)), (1, .int (nI wk))]) hx hb dX0_laysPlan_11 rfl hl (by decide) rfl (fun ls hl => ?_)
      have L12_14 : ∀ (fuel : Nat) (tm : Nat) (Zb : Nat → Nat → Int32), 60 - tm < fuel → (tm ≤ 60) → (∀ i tm9 t9, (i < wk ∨ i = wk ∧ tm9 < tm) → tm9 < 60 → xTeam nb tm9 → t9 < e1 → xTab tx M h e1 kw Zb i tm9 t9) → (∀ k9, k9 ≠ 2 → k9 < 195 → Zb k9 = Z k9) → ∀ (H : Heap) (locs : List Loc), XS G ad sz s.heap X Zb T H locs → ∀ (ls : Array Slot), lv_has ls 6 [(0, .ref (ad 0)), (1, .int (nI wk)), (2, .int (nI tm))] → W p l e ({ frames := 108, cells := 0, slots := 0, locals := 6479 } : Room) s m ([.ref (ad 0)] : List Value).toArray below meth c H locs 0 0 (MQ below (cQ none (fun H => ∃ Z9, (∃ Z1, (∀ i tm9 t9, i < nw → tm9 < 60 → xTeam nb tm9 → t9 < e1 → xTab tx M h e1 kw Z1 i tm9 t9) ∧ (∀ k9, k9 ≠ 2 → k9 < 195 → Z1 k9 = Z k9) ∧ (∀ k9, (k9 < 19 ∨ 51 ≤ k9) → Z9 k9 = Z1 k9) ∧ Z9 = xPt nb nw e1 (e1 + 1) Z1) ∧ xH G ad X Z9 T sz H) (xA ad sz)) ([.ref (ad 0)] : List Value).toArray s 0 0 (xA ad sz)) (F0 m 12 ls []) := by
        intro fuel
        induction fuel with
        | zero => intro tm Zb hf; exact absurd hf (Nat.not_lt_zero _)
        | succ fuel ih =>
          intro tm Zb hf htm htb hfb H locs hw ls hl
          have ih12 := ih
          refine lv_iload_n hx hb dX0_laysPlan_12 rfl (lv_at hl 2 rfl) ?_
          refine lv_bipush (v := nI 60) hx hb dX0_laysPlan_13 (by decide) ?_
          refine n_icmp_ge (tgt := 55) hx hb dX0_laysPlan_15 (by decide) (by omega) (by decide) (fun c_15 => ?_) (fun c_15 => ?_)
          · refine lv_iinc (v := nI (wk + 1)) (lv' := [(1, .int (nI (wk + 1))), (0, .ref (ad 0)), (2, .int (nI tm))]) hx hb dX0_laysPlan_55 hl (k := 1) rfl (n_inc wk 1) (by decide) rfl (fun ls hl => ?_)
            refine lv_goto (tgt := 2) hx hb dX0_laysPlan_58 (by decide) ?_
            exact ih2 (wk + 1) Zb (by omega) (by omega) (fun i tm9 t9 h9 h8 h7 h6 => htb i tm9 t9 (by omega) h8 h7 h6) hfb _ _ hw ls (lv_sub hl [1, 0] rfl)
          refine lv_iconst (v := nI 0) hx hb dX0_laysPlan_18 (by decide) ?_
          refine lv_istore_n (lv' := [(3, .int (nI 0)), (0, .ref (ad 0)), (1, .int (nI wk)), (2, .int (nI tm))]) hx hb dX0_laysPlan_19 rfl hl (by decide) rfl (fun ls hl => ?_)
          have L20_16 : ∀ (fuel : Nat) (f : Nat) (Zc : Nat → Nat → Int32), e1 - f < fuel → (f ≤ e1) → (∀ i tm9 t9, (i < wk ∨ i = wk ∧ (tm9 < tm ∨ tm9 = tm ∧ t9 < f)) → tm9 < 60 → xTeam nb tm9 → t9 < e1 → xTab tx M h e1 kw Zc i tm9 t9) → (∀ k9, k9 ≠ 2 → k9 < 195 → Zc k9 = Z k9) → ∀ (H : Heap) (locs : List Loc), XS G ad sz s.heap X Zc T H locs → ∀ (ls : Array Slot), lv_has ls 6 [(0, .ref (ad 0)), (1, .int (nI wk)), (2, .int (nI tm)), (3, .int (nI f))] → W p l e ({ frames := 108, cells := 0, slots := 0, locals := 6479 } : Room) s m ([.ref (ad 0)] : List Value).toArray below meth c H locs 0 0 (MQ below (cQ none (fun H => ∃ Z9, (∃ Z1, (∀ i tm9 t9, i < nw → tm9 < 60 → xTeam nb tm9 → t9 < e1 → xTab tx M h e1 kw Z1 i tm9 t9) ∧ (∀ k9, k9 ≠ 2 → k9 < 195 → Z1 k9 = Z k9) ∧ (∀ k9, (k9 < 19 ∨ 51 ≤ k9) → Z9 k9 = Z1 k9) ∧ Z9 = xPt nb nw e1 (e1 + 1) Z1) ∧ xH G ad X Z9 T sz H) (xA ad sz)) ([.ref (ad 0)] : List Value).toArray s 0 0 (xA ad sz)) (F0 m 20 ls []) := by
            intro fuel
            induction fuel with
            | zero => intro f Zc hf; exact absurd hf (Nat.not_lt_zero _)
            | succ fuel ih =>
              intro f Zc hf hf_ htc hfc H locs hw ls hl
              have ih20 := ih
              refine lv_iload_n hx hb dX0_laysPlan_20 rfl (lv_at hl 3 rfl) ?_
              refine lv_aload_n hx hb dX0_laysPlan_21 rfl (lv_at hl 0 rfl) ?_
              refine x_g_hours hx hb hts hown hK hw dX0_laysPlan_22 ?_
              rw [show Zc 0 16 = nI e1 from (congrFun (hfc _ (by decide) (by decide)) 16).trans hz16]
              refine n_icmp_ge (tgt := 49) hx hb dX0_laysPlan_25 (by decide) (by omega) (by omega) (fun c_17 => ?_) (fun c_17 => ?_)
              · refine lv_iinc (v := nI (tm + 1)) (lv' := [(2, .int (nI (tm + 1))), (0, .ref (ad 0)), (1, .int (nI wk)), (3, .int (nI f))]) hx hb dX0_laysPlan_49 hl (k := 2) rfl (n_inc tm 1) (by decide) rfl (fun ls hl => ?_)
                refine lv_goto (tgt := 12) hx hb dX0_laysPlan_52 (by decide) ?_
                exact ih12 (tm + 1) Zc (by omega) (by omega) (fun i tm9 t9 h9 h8 h7 h6 => htc i tm9 t9 (by first | omega | (rcases h9 with h9 | ⟨h9, h5⟩; (exact Or.inl h9); (refine Or.inr ⟨h9, ?_⟩; rcases Nat.lt_succ_iff_lt_or_eq.mp h5 with h4 | h4; (exact Or.inl h4); (subst h4; exact absurd h7 (by with_reducible assumption))))) h8 h7 h6) hfc _ _ hw ls (lv_sub hl [1, 2, 0] rfl)
              refine lv_aload_n hx hb dX0_laysPlan_28 rfl (lv_at hl 0 rfl) ?_
              refine lv_iload_n hx hb dX0_laysPlan_29 rfl (lv_at hl 2 rfl) ?_
              refine c_read (va_runV (As := [.int (nI tm)]) (rest := []) ⟨hx, hb, hml, hown, hts⟩ (met_X0_isTeam l G ad sz X Zc T M nb nk nx np h nu ns ne nt hR0 tm (by omega)) (cv_X0_X0_isTeam hts ⟨Nat.le_of_ble_eq_true rfl, Nat.le_of_ble_eq_true rfl⟩) (cP.preV hK hw.1 (hw.1.recv hK)) rfl rfl hl.1 rfl (lv_room (Nat.le_of_ble_eq_true rfl)) dX0_laysPlan_30 ⟨by first | exact Nat.zero_le _ | omega | decide, by first | exact Nat.zero_le _ | omega | decide⟩) ?_
              refine b_if_eq (tgt := 49) hx hb dX0_laysPlan_33 (by decide) (fun c_18 => ?_) (fun c_18 => ?_)
              · refine lv_iinc (v := nI (tm + 1)) (lv' := [(2, .int (nI (tm + 1))), (0, .ref (ad 0)), (1, .int (nI wk)), (3, .int (nI f))]) hx hb dX0_laysPlan_49 hl (k := 2) rfl (n_inc tm 1) (by decide) rfl (fun ls hl => ?_)
                refine lv_goto (tgt := 12) hx hb dX0_laysPlan_52 (by decide) ?_
                exact ih12 (tm + 1) Zc (by omega) (by omega) (fun i tm9 t9 h9 h8 h7 h6 => htc i tm9 t9 (by first | omega | (rcases h9 with h9 | ⟨h9, h5⟩; (exact Or.inl h9); (refine Or.inr ⟨h9, ?_⟩; rcases Nat.lt_succ_iff_lt_or_eq.mp h5 with h4 | h4; (exact Or.inl h4); (subst h4; exact absurd h7 (by with_reducible assumption))))) h8 h7 h6) hfc _ _ hw ls (lv_sub hl [1, 2, 0] rfl)
              refine lv_aload_n hx hb dX0_laysPlan_36 rfl (lv_at hl 0 rfl) ?_
              refine lv_iload_n hx hb dX0_laysPlan_37 rfl (lv_at hl 1 rfl) ?_
              refine lv_iload_n hx hb dX0_laysPlan_38 rfl (lv_at hl 2 rfl) ?_
              refine lv_iload_n hx hb dX0_laysPlan_39 rfl (lv_at hl 3 rfl) ?_
              refine c_call (va_runV (As := [.int (nI wk), .int (nI tm), .int (nI f)]) (rest := []) ⟨hx, hb, hml, hown, hts⟩ (met_X0_laysWork l G ad sz X Zc T M nb nk nx np h nu ns ne nt hR0 tx htx wk tm f (kw wk) e1 (by omega) c_18 (by omega) (hkw wk (by omega)).2 (by omega) (by omega) ((congrFun (hfc _ (by decide) (by decide)) wk).trans ((hkw wk (by omega)).1)) ((congrFun (hfc _ (by decide) (by decide)) 16).trans hz16)) (cv_X0_X0_laysWork hts ⟨Nat.le_of_ble_eq_true rfl, Nat.le_of_ble_eq_true rfl⟩) (cP.preV hK ⟨hw.1, (aTx.kept rfl (fun q h9 => h9.keep hw.2.1 hz) (fun q h9 => h9) hE)⟩ (hw.1.recv hK)) rfl rfl hl.1 rfl (lv_room (Nat.le_of_ble_eq_true rfl)) dX0_laysPlan_40 ⟨by first | exact Nat.zero_le _ | omega | decide, by first | exact Nat.zero_le _ | omega | decide⟩) hw.2.1 (fun q _ h => h) (fun q h => h) (fun H locs hw _ _ hS => ?_)
              obtain ⟨Z1, ⟨hE1, hG1, hF1⟩, hw⟩ := hw
              replace hw := XS.mk hw hS hz
              refine lv_iinc (v := nI (f + 1)) (lv' := [(3, .int (nI (f + 1))), (0, .ref (ad 0)), (1, .int (nI wk)), (2, .int (nI tm))]) hx hb dX0_laysPlan_43 hl (k := 3) rfl (n_inc f 1) (by decide) rfl (fun ls hl => ?_)
              refine lv_goto (tgt := 20) hx hb dX0_laysPlan_46 (by decide) ?_
              exact ih20 (f + 1) Z1 (by omega) (by omega) (fun i tm9 t9 h9 h8 h7 h6 => by by_cases e9 : i = wk ∧ tm9 = tm ∧ t9 = f; (obtain ⟨rfl, rfl, rfl⟩ := e9; exact xTab.mk hE1 hG1); (exact (htc i tm9 t9 (by omega) h8 h7 h6).keep (hF1 _ _ (by omega) (by omega) (by omega)) (hF1 _ _ (by omega) (by omega) (by omega)))) (fun k9 h9 h8 => by funext j9; rw [hF1 k9 j9 h9 (by omega) (by omega)]; exact congrFun (hfc k9 h9 h8) j9) _ _ hw ls (lv_sub hl [1, 2, 3, 0] rfl)
          exact L20_16 _ 0 Zb (Nat.lt_succ_self _) (Nat.zero_le _) (fun i tm9 t9 h9 h8 h7 h6 => htb i tm9 t9 (by omega) h8 h7 h6) hfb _ _ hw ls (lv_sub hl [1, 2, 3, 0] rfl)
      exact L12_14 _ 0 Za (Nat.lt_succ_self _) (Nat.zero_le _) (fun i tm9 t9 h9 h8 h7 h6 => hta i tm9 t9 (by omega) h8 h7 h6) hfa _ _ hw ls (lv_sub hl [1, 2, 0] rfl)
  exact L_2 _ 0 Z (Nat.lt_succ_self _) (Nat.zero_le _) (fun _ _ _ h9 => absurd h9 (Nat.not_lt_zero _)) (fun _ _ _ => rfl) _ _ hw ls (lv_sub hl [1, 0] rfl)
