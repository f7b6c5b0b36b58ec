theorem gv_s {f : Nat → Int32} {i nb : Nat} {x acc : Int32} (ha : acc = sm f (min i nb)) (h1 : i < nb → x = f i) (h2 : nb ≤ i → x = nI 0) : acc + x = sm f (min (i + 1) nb) := by
  by_cases h : i < nb
  · rw [h1 h, ha, show min i nb = i by omega, show min (i + 1) nb = i + 1 by omega]; rfl
  · rw [h2 (by omega), ha, show min i nb = nb by omega, show min (i + 1) nb = nb by omega, nI_0, Int32.add_zero]
noncomputable def xVoices (X : Nat → Nat → Int32) (q : Nat) : Nat → Int32
  | 0 => nI 0
  | b + 1 => xVoices X q b ||| pif (X 53 (12 + 10 * q + (4 + b)) ≤ 0) (nI 0) (nI 1 <<< (X (61 + b) 1 &&& 31))
noncomputable def xState (X : Nat → Nat → Int32) (nb q k : Nat) : Int32 := pif (X 53 (12 + 10 * q + 2) < X (67 + k) 0) (nI 0) (pif (X 53 (12 + 10 * q + 2) = X (67 + k) 0 ∧ (X (67 + k) 1 &&& (xVoices X q nb ^^^ (-1))) = 0) (nI 1) (nI 2))
/-- a step of blowing: who, what it costs -/
def xBlow1 (X : Nat → Nat → Int32) (ns jx jy : Nat) (z co : Int32) : Nat → Nat → Int32 := up2 (up2 (up2 (up2 (xKeep X ns) 53 jy (X 53 jy - co)) 53 (6 + jy) (X 53 (6 + jy) + z)) 53 (12 + 10 * jx + 2) (X 53 (12 + 10 * jx + 2) + z)) 53 (12 + 10 * jx + (4 + jy)) (X 53 (12 + 10 * jx + (4 + jy)) + z)
def xBlow2 (X : Nat → Nat → Int32) (nu jx jy : Nat) (z hh st : Int32) : Nat → Nat → Int32 := up2 (upr (up2 X 53 (12 + 10 * jx + 1) st) 53 (va_cpy (upd (upd (upd (upd (fun _ => 0) 0 (nI jx)) 1 (nI jy)) 2 z) 3 hh) ((up2 X 53 (12 + 10 * jx + 1) st) 53) 0 (115 + 4 * nu) 4)) 53 114 (nI (nu + 1))
section XK
variable {p : Program} {l : Launch} {e : Env} {R : Room} {s : State} {m : MethodId} {args : Array Value} {below : List Frame} {meth : Method} {c : Code} {H : Heap} {locs : List Loc} {cells slots : Nat} {Q : State → Prop}
variable {cc : ByteArray} {pc : Nat} {ls : Array Slot} {rest : List Value} {G : gG} {ad : Nat → Nat} {sz : Nat} {X Z : Nat → Nat → Int32} {T : Nat → Nat → Option Nat} {H0 : Heap}
/-- a new array is laid onto a piece of the world's -/
theorem xn_copy (hx : p.tables.exec = Jvm.exec) (hb : c.code = cc) (hml : c.maxLocals = ls.size) (hts : ∀ w ∈ lw_all, w.before args s = true) (hown : s.vm.findClass RX0 = some m.cls) (hK : KK G s) (hw : XS G ad sz H0 X Z T H locs) {q n k N dp : Nat} {f : Nat → Int32} (hq : xN G ad sz H q n f) (hL : xLen k = N) (hn : 0 < n) (hd : dp + n ≤ N) (hfr : 1 ≤ R.frames) (hlo : 40 ≤ R.locals) (hdg : decode cc pc = .ok (.invokestatic 198, 3)) (kk : ∀ (H1 : Heap) (locs1 : List Loc), XS G ad sz H0 (upr X k (va_cpy f (X k) 0 dp n)) Z T H1 locs1 → W p l e R s m args below meth c H1 locs1 cells slots Q (F0 m (pc + 3) ls [])) : W p l e R s m args below meth c H locs cells slots Q (F0 m pc ls [.int (nI n), .int (nI dp), .ref (ad k), .int (nI 0), .ref q]) := by
  have hN : N ≤ 275 := by rw [← hL]; exact xLen_le k
  have hk := xLen_R (k := k) (by omega)
  have c0 : (nI 0).toNatClampNeg = 0 := nI_clamp (by decide)
  have cn : (nI n).toNatClampNeg = n := nI_clamp (by omega)
  have cd : (nI dp).toNatClampNeg = dp := nI_clamp (by omega)
  have hlen : (xW G ad X Z T).length = 673 := xW_len
  have hlo2 : ∀ (ws : va_W), ws.length = 673 → ∀ (y : Nat × va_E) (i : Nat), i < 673 → (ws ++ [y])[i]? = ws[i]? := fun ws hl y i hi => List.getElem?_append_left (by rw [hl]; exact hi)
  have hhi : ∀ (ws : va_W), ws.length = 673 → ∀ (y : Nat × va_E), (ws ++ [y])[673]? = some y := fun ws hl y => by rw [List.getElem?_append_right (by omega), hl]; rfl
  have hcase : ∀ (y : Nat × va_E) (i : Nat) (x : Nat × va_E), (xW G ad X Z T ++ [y])[i]? = some x → (∃ k, (k < 675 ∧ k ≠ 60 ∧ k ≠ 132) ∧ xPo k = i ∧ x = (ad k, xC G ad X Z T k)) ∨ (i = 673 ∧ x = y) := fun y i x h => by
    by_cases hi : i < 673
    · rw [hlo2 _ hlen y i hi] at h
      exact Or.inl (xW_inv h)
    · have h2 := (List.getElem?_eq_some_iff.mp h).1
      rw [List.length_append, hlen] at h2
      have e : i = 673 := by simp at h2; omega
      subst e
      rw [hhi _ hlen y] at h
      exact Or.inr ⟨rfl, (Option.some.inj h).symm⟩
  have hP : va_P (gD G) g_cl (xW G ad X Z T ++ [(q, (.inl (G.2.2 0, n, .inl f) : va_E))]) H := fun i x h => by
    rcases hcase _ i x h with ⟨k1, hi, -, rfl⟩ | ⟨-, rfl⟩
    · exact hw.1.at hi
    · exact hq.1
  have hD : va_D (xA ad sz) (xW G ad X Z T ++ [(q, (.inl (G.2.2 0, n, .inl f) : va_E))]) := by
    refine ⟨fun i j x y hi hj e => ?_, fun i x h => ?_⟩
    · rcases hcase _ i x hi with ⟨k1, hi2, rfl, rfl⟩ | ⟨rfl, rfl⟩ <;> rcases hcase _ j y hj with ⟨k2, hj2, rfl, rfl⟩ | ⟨rfl, rfl⟩
      · rw [hw.1.2.1 k1 k2 hi2 hj2 e]
      · exact absurd e (hq.2.1 k1 hi2)
      · exact absurd e.symm (hq.2.1 k2 hj2)
      · rfl
    · rcases hcase _ i x h with ⟨k1, hi, -, rfl⟩ | ⟨-, rfl⟩
      · exact Or.inl ⟨k1, hi, rfl⟩
      · exact Or.inr hq.2.2
  refine va_copyi (D := gD G) (f := f) (g := X k) hx hb hml hown (hts _ q975) (hts _ q193) (hts _ q192) (hts _ q98) hK.1 hP hD hw.2.1 673 (xPo k) 0 0 (hhi _ hlen _) ((hlo2 _ hlen _ (xPo k) (xPo_R hk).1).trans ((xW_at hk).trans (by rw [xC_x hL (by omega)]))) rfl rfl rfl (nI_pos (by decide)) (nI_pos (by omega)) (nI_pos (by omega)) (by rw [c0, cn]; omega) (by rw [cd, cn]; exact hd) (fun i _ => rfl) hfr (Nat.le_trans (by decide) hlo) hdg (fun H1 locs1 hP1 hD1 hS1 => ?_)
  rw [c0, cd, cn] at hP1
  refine kk H1 locs1 (XS.upd hw.1.2.1 (k := k) (v := .inl (G.2.2 0, N, .inl (va_cpy f (X k) 0 dp n))) (by rw [xC_x hL (by omega), upr_at]) (fun k' h => xC_row (upr_ne h) rfl (fun _ => rfl) (fun _ => rfl)) (fun i x h => ?_) hS1 hw.2.2 rfl hk)
  refine hP1 i x ?_
  have hi : i < 673 := by
    have := (List.getElem?_eq_some_iff.mp h).1
    rw [List.length_set, hlen] at this
    exact this
  rw [List.set_append_left _ _ (by rw [hlen]; exact (xPo_R hk).1), List.getElem?_append_left (by rw [List.length_set, hlen]; exact hi)]
  exact h
end XK
set_option maxHeartbeats 4000000 in
set_option maxRecDepth 100000 in
theorem met_X0_givenNow (l : Launch) (G : gG) (ad : Nat → Nat) (sz : Nat) (X Z : Nat → Nat → Int32) (T : Nat → Nat → Option Nat) (M : Nat → Nat → Int32) (nb nk nx np h nu ns ne nt : Nat) (hR : RS X 51 (M 0) nb nk nx np h nu ns ne nt) : Met l yX0_givenNow (ws_ yX0_givenNow cX0_givenNow 3 (some .int)) ({ frames := 0, cells := 0, slots := 0, locals := 0 } : Room) (cP G [.ref (ad 0)] (xH G ad X Z T sz)) (cR (some (.int (mGiven M nb)))) 0 0 (fun _ => False) := by
  refine c_start (by decide) (Nat.le_of_ble_eq_true rfl) ?_
  intro p e s m below meth c hx hb hr hlocks hml hown hts hB hK ls hl
  have hz := hB.2.2
  have hw := XS.of hB
  have hl : lv_has ls 3 [(0, .ref (ad 0))] := hl
  have hR0 := hR
  obtain ⟨⟨rnb, mnb, hnb⟩, ⟨rnk, mnk, hnk⟩, ⟨rnx, mnx, hnx⟩, rtx, ⟨rns, mns, hns⟩, ⟨rne, mne, hne⟩, ⟨rnt, mnt, hnt⟩, ⟨rnp, mnp, hnp⟩, ⟨rh, mh, hh⟩, ⟨rnu, mnu, hnu⟩, rbl, rbe, rgi, rki, rse, rto, rpi, rbu, rkd, rva, rst⟩ := hR
  change X 52 0 = _ at rnb; change X 52 1 = _ at rnk; change X 52 2 = _ at rnx; change X 52 3 = _ at rtx; change X 52 4 = _ at rns; change X 52 5 = _ at rne; change X 52 6 = _ at rnt; change X 53 112 = _ at rnp; change X 53 113 = _ at rh; change X 53 114 = _ at rnu
  refine lv_iconst (v := nI 0) hx hb dX0_givenNow_0 (by decide) ?_
  refine lv_istore_n (lv' := [(1, .int (nI 0)), (0, .ref (ad 0))]) hx hb dX0_givenNow_1 rfl hl (by decide) rfl (fun ls hl => ?_)
  refine lv_iconst (v := nI 0) hx hb dX0_givenNow_2 (by decide) ?_
  refine lv_istore_n (lv' := [(2, .int (nI 0)), (1, .int (nI 0)), (0, .ref (ad 0))]) hx hb dX0_givenNow_3 rfl hl (by decide) rfl (fun ls hl => ?_)
  have L_4 : ∀ (fuel : Nat) (i : Nat) (acc : Int32), 6 - i < fuel → (i ≤ 6) → (acc = sm (fun b => M 0 (10 + 5 * b + 3)) (min i nb)) → ∀ (ls : Array Slot), lv_has ls 3 [(0, .ref (ad 0)), (1, .int acc), (2, .int (nI i))] → W p l e ({ frames := 0, cells := 0, slots := 0, locals := 0 } : Room) s m ([.ref (ad 0)] : List Value).toArray below meth c s.heap [] 0 0 (MQ below (cR (some (.int (mGiven M nb)))) ([.ref (ad 0)] : List Value).toArray s 0 0 (fun _ => False)) (F0 m 4 ls []) := by
    intro fuel
    induction fuel with
    | zero => intro i acc hf; exact absurd hf (Nat.not_lt_zero _)
    | succ fuel ih =>
      intro i acc hf hi ha ls hl
      have ih4 := ih
      refine lv_iload_n hx hb dX0_givenNow_4 rfl (lv_at hl 2 rfl) ?_
      refine lv_bipush (v := nI 6) hx hb dX0_givenNow_5 (by decide) ?_
      refine n_icmp_ge (tgt := 31) hx hb dX0_givenNow_7 (by decide) (by omega) (by decide) (fun c_1 => ?_) (fun c_1 => ?_)
      · refine lv_iload_n hx hb dX0_givenNow_31 rfl (lv_at hl 1 rfl) ?_
        exact c_rret (v := acc) (by rw [ha, show min i nb = nb by omega]; rfl) hx hb hr rfl hlocks dX0_givenNow_32 rfl rfl
      refine lv_iload_n hx hb dX0_givenNow_10 rfl (lv_at hl 1 rfl) ?_
      refine lv_aload_n hx hb dX0_givenNow_11 rfl (lv_at hl 0 rfl) ?_
      refine x_g_now hx hb hts hown hK hw dX0_givenNow_12 ?_
      refine x_sX0_51_row hx hb hts hown hK hw dX0_givenNow_15 ?_
      refine lv_bipush (v := nI 6) hx hb dX0_givenNow_18 (by decide) ?_
      refine lv_iload_n hx hb dX0_givenNow_20 rfl (lv_at hl 2 rfl) ?_
      refine n_iadd hx hb dX0_givenNow_21 ?_
      refine x_l (k := 53) (j := 6 + i) (n := 275) (v := X 53 (6 + i)) hx hb hK hw rfl (by decide) (by omega) dX0_givenNow_22 ?_
      refine lv_iadd hx hb dX0_givenNow_23 ?_
      refine lv_istore_n (lv' := [(1, .int (acc + (X 53 (6 + i)))), (0, .ref (ad 0)), (2, .int (nI i))]) hx hb dX0_givenNow_24 rfl hl (by decide) rfl (fun ls hl => ?_)
      refine lv_iinc (v := nI (i + 1)) (lv' := [(2, .int (nI (i + 1))), (1, .int (acc + (X 53 (6 + i)))), (0, .ref (ad 0))]) hx hb dX0_givenNow_25 hl (k := 2) rfl (n_inc i 1) (by decide) rfl (fun ls hl => ?_)
      refine lv_goto (tgt := 4) hx hb dX0_givenNow_28 (by decide) ?_
      exact ih4 (i + 1) (acc + (X 53 (6 + i))) (by omega) (by omega) (gv_s ha (fun h9 => (rbe i h9).2) (fun h9 => rgi i h9 (by omega))) ls (lv_sub hl [2, 1, 0] rfl)
  exact L_4 _ 0 (nI 0) (Nat.lt_succ_self _) (by omega) (by rw [Nat.zero_min]; rfl) ls (lv_sub hl [2, 1, 0] rfl)
set_option maxHeartbeats 4000000 in
set_option maxRecDepth 100000 in
theorem met_X0_voicesOf (l : Launch) (G : gG) (ad : Nat → Nat) (sz : Nat) (X Z : Nat → Nat → Int32) (T : Nat → Nat → Option Nat) (q : Nat) (hq : q < 10) (nb : Nat) (en : X 52 0 = nI nb) (hn : nb ≤ 6) : Met l yX0_voicesOf (ws_ yX0_voicesOf cX0_voicesOf 4 (some .int)) ({ frames := 2, cells := 0, slots := 0, locals := 43 } : Room) (cP G [.ref (ad 0), .int (nI q)] (xH G ad X Z T sz)) (cR (some (.int (xVoices X q nb)))) 0 0 (fun _ => False) := by
  refine c_start (by decide) (Nat.le_of_ble_eq_true rfl) ?_
  intro p e s m below meth c hx hb hr hlocks hml hown hts hB hK ls hl
  have hz := hB.2.2
  have hw := XS.of hB
  have hl : lv_has ls 4 [(0, .ref (ad 0)), (1, .int (nI q))] := hl
  refine lv_iconst (v := nI 0) hx hb dX0_voicesOf_0 (by decide) ?_
  refine lv_istore_n (lv' := [(2, .int (nI 0)), (0, .ref (ad 0)), (1, .int (nI q))]) hx hb dX0_voicesOf_1 rfl hl (by decide) rfl (fun ls hl => ?_)
  refine lv_iconst (v := nI 0) hx hb dX0_voicesOf_2 (by decide) ?_
  refine lv_istore_n (lv' := [(3, .int (nI 0)), (2, .int (nI 0)), (0, .ref (ad 0)), (1, .int (nI q))]) hx hb dX0_voicesOf_3 rfl hl (by decide) rfl (fun ls hl => ?_)
  have L_4 : ∀ (fuel : Nat) (i : Nat) (acc : Int32), nb - i < fuel → (i ≤ nb) → (acc = xVoices X q i) → ∀ (ls : Array Slot), lv_has ls 4 [(0, .ref (ad 0)), (1, .int (nI q)), (2, .int acc), (3, .int (nI i))] → W p l e ({ frames := 2, cells := 0, slots := 0, locals := 43 } : Room) s m ([.ref (ad 0), .int (nI q)] : List Value).toArray below meth c s.heap [] 0 0 (MQ below (cR (some (.int (xVoices X q nb)))) ([.ref (ad 0), .int (nI q)] : List Value).toArray s 0 0 (fun _ => False)) (F0 m 4 ls []) := by
    intro fuel
    induction fuel with
    | zero => intro i acc hf; exact absurd hf (Nat.not_lt_zero _)
    | succ fuel ih =>
      intro i acc hf hi ha ls hl
      have ih4 := ih
      refine lv_iload_n hx hb dX0_voicesOf_4 rfl (lv_at hl 3 rfl) ?_
      refine lv_aload_n hx hb dX0_voicesOf_5 rfl (lv_at hl 0 rfl) ?_
      refine x_g_now hx hb hts hown hK hw dX0_voicesOf_6 ?_
      refine x_sX0_51_n hx hb hts hown hK hw dX0_voicesOf_9 ?_
      refine lv_iconst (v := nI 0) hx hb dX0_voicesOf_12 (by decide) ?_
      refine x_l (k := 52) (j := 0) (n := 7) (v := nI nb) hx hb hK hw en (by decide) (by decide) dX0_voicesOf_13 ?_
      refine n_icmp_ge (tgt := 54) hx hb dX0_voicesOf_14 (by decide) (by omega) (by omega) (fun c_1 => ?_) (fun c_1 => ?_)
      · refine lv_iload_n hx hb dX0_voicesOf_54 rfl (lv_at hl 2 rfl) ?_
        exact c_rret (v := acc) (by rw [ha, show i = nb by omega]) hx hb hr rfl hlocks dX0_voicesOf_55 rfl rfl
      refine lv_iload_n hx hb dX0_voicesOf_17 rfl (lv_at hl 2 rfl) ?_
      refine lv_aload_n hx hb dX0_voicesOf_18 rfl (lv_at hl 0 rfl) ?_
      refine lv_iload_n hx hb dX0_voicesOf_19 rfl (lv_at hl 1 rfl) ?_
      refine lv_iconst (v := nI 4) hx hb dX0_voicesOf_20 (by decide) ?_
      refine lv_iload_n hx hb dX0_voicesOf_21 rfl (lv_at hl 3 rfl) ?_
      refine n_iadd hx hb dX0_voicesOf_22 ?_
      refine c_read (va_runV (As := [.int (nI q), .int (nI (4 + i))]) (rest := [.int acc]) ⟨hx, hb, hml, hown, hts⟩ (met_X0_ofPiece l G ad sz X Z T q (4 + i) (X 53 (12 + 10 * q + (4 + i))) (by omega) rfl) (cv_X0_X0_ofPiece hts ⟨Nat.le_of_ble_eq_true rfl, Nat.le_of_ble_eq_true rfl⟩) (cP.preV hK hw.1 (hw.1.recv hK)) rfl rfl hl.1 rfl (lv_room (Nat.le_of_ble_eq_true rfl)) dX0_voicesOf_23 ⟨by first | exact Nat.zero_le _ | omega | decide, by first | exact Nat.zero_le _ | omega | decide⟩) ?_
      refine lv_if_le (tgt := 45) hx hb dX0_voicesOf_26 (by decide) (fun c_2 => ?_) (fun c_2 => ?_)
      · refine lv_iconst (v := nI 0) hx hb dX0_voicesOf_45 (by decide) ?_
        refine lv_ior hx hb dX0_voicesOf_46 ?_
        refine lv_istore_n (lv' := [(2, .int (acc ||| (nI 0))), (0, .ref (ad 0)), (1, .int (nI q)), (3, .int (nI i))]) hx hb dX0_voicesOf_47 rfl hl (by decide) rfl (fun ls hl => ?_)
        refine lv_iinc (v := nI (i + 1)) (lv' := [(3, .int (nI (i + 1))), (2, .int (acc ||| (nI 0))), (0, .ref (ad 0)), (1, .int (nI q))]) hx hb dX0_voicesOf_48 hl (k := 3) rfl (n_inc i 1) (by decide) rfl (fun ls hl => ?_)
        refine lv_goto (tgt := 4) hx hb dX0_voicesOf_51 (by decide) ?_
        exact ih4 (i + 1) (acc ||| (nI 0)) (by omega) (by omega) (by rw [ha, xVoices]; first | rw [pif_t (by with_reducible assumption)] | rw [pif_f (by with_reducible assumption)] | rw [pif_t (Int32.not_lt.mp (by with_reducible assumption))] | rw [pif_f (Int32.not_le.mpr (by with_reducible assumption))]) ls (lv_sub hl [2, 3, 1, 0] rfl)
      refine lv_iconst (v := nI 1) hx hb dX0_voicesOf_29 (by decide) ?_
      refine lv_aload_n hx hb dX0_voicesOf_30 rfl (lv_at hl 0 rfl) ?_
      refine x_g_now hx hb hts hown hK hw dX0_voicesOf_31 ?_
      refine x_sX0_51_blower hx hb hts hown hK hw dX0_voicesOf_34 ?_
      refine lv_iload_n hx hb dX0_voicesOf_37 rfl (lv_at hl 3 rfl) ?_
      refine x_a (r := 61 + i) hx hb hK hw xO_55 rfl (by decide) (by omega) rfl dX0_voicesOf_38 ?_
      refine lv_iconst (v := nI 1) hx hb dX0_voicesOf_39 (by decide) ?_
      refine x_l (k := 61 + i) (j := 1) (n := 3) (v := X (61 + i) 1) hx hb hK hw rfl (xL_61 (by omega)) (by decide) dX0_voicesOf_40 ?_
      refine lv_ishl hx hb dX0_voicesOf_41 ?_
      refine lv_goto (tgt := 46) hx hb dX0_voicesOf_42 (by decide) ?_
      refine lv_ior hx hb dX0_voicesOf_46 ?_
      refine lv_istore_n (lv' := [(2, .int (acc ||| ((nI 1) <<< ((X (61 + i) 1) &&& 31)))), (0, .ref (ad 0)), (1, .int (nI q)), (3, .int (nI i))]) hx hb dX0_voicesOf_47 rfl hl (by decide) rfl (fun ls hl => ?_)
      refine lv_iinc (v := nI (i + 1)) (lv' := [(3, .int (nI (i + 1))), (2, .int (acc ||| ((nI 1) <<< ((X (61 + i) 1) &&& 31)))), (0, .ref (ad 0)), (1, .int (nI q))]) hx hb dX0_voicesOf_48 hl (k := 3) rfl (n_inc i 1) (by decide) rfl (fun ls hl => ?_)
      refine lv_goto (tgt := 4) hx hb dX0_voicesOf_51 (by decide) ?_
      exact ih4 (i + 1) (acc ||| ((nI 1) <<< ((X (61 + i) 1) &&& 31))) (by omega) (by omega) (by rw [ha, xVoices]; first | rw [pif_t (by with_reducible assumption)] | rw [pif_f (by with_reducible assumption)] | rw [pif_t (Int32.not_lt.mp (by with_reducible assumption))] | rw [pif_f (Int32.not_le.mpr (by with_reducible assumption))]) ls (lv_sub hl [2, 3, 1, 0] rfl)
  exact L_4 _ 0 (nI 0) (Nat.lt_succ_self _) (by omega) rfl ls (lv_sub hl [2, 3, 1, 0] rfl)
set_option maxHeartbeats 4000000 in
set_option maxRecDepth 100000 in
theorem met_X0_stateOf (l : Launch) (G : gG) (ad : Nat → Nat) (sz : Nat) (X Z : Nat → Nat → Int32) (T : Nat → Nat → Option Nat) (q k : Nat) (hq : q < 10) (hk : k < 6) (ek : X 53 (12 + 10 * q) = nI k) (nb : Nat) (en : X 52 0 = nI nb) (hn : nb ≤ 6) : Met l yX0_stateOf (ws_ yX0_stateOf cX0_stateOf 4 (some .int)) ({ frames := 3, cells := 0, slots := 0, locals := 66 } : Room) (cP G [.ref (ad 0), .int (nI q)] (xH G ad X Z T sz)) (cR (some (.int (xState X nb q k)))) 0 0 (fun _ => False) := by
  refine c_start (by decide) (Nat.le_of_ble_eq_true rfl) ?_
  intro p e s m below meth c hx hb hr hlocks hml hown hts hB hK ls hl
  have hz := hB.2.2
  have hw := XS.of hB
  have hl : lv_has ls 4 [(0, .ref (ad 0)), (1, .int (nI q))] := hl
  refine lv_aload_n hx hb dX0_stateOf_0 rfl (lv_at hl 0 rfl) ?_
  refine x_g_now hx hb hts hown hK hw dX0_stateOf_1 ?_
  refine x_sX0_51_kind hx hb hts hown hK hw dX0_stateOf_4 ?_
  refine lv_aload_n hx hb dX0_stateOf_7 rfl (lv_at hl 0 rfl) ?_
  refine lv_iload_n hx hb dX0_stateOf_8 rfl (lv_at hl 1 rfl) ?_
  refine lv_iconst (v := nI 0) hx hb dX0_stateOf_9 (by decide) ?_
  refine c_read (va_runV (As := [.int (nI q), .int (nI 0)]) (rest := [.ref (ad 56)]) ⟨hx, hb, hml, hown, hts⟩ (met_X0_ofPiece l G ad sz X Z T q 0 (nI k) (by omega) ek) (cv_X0_X0_ofPiece hts ⟨Nat.le_of_ble_eq_true rfl, Nat.le_of_ble_eq_true rfl⟩) (cP.preV hK hw.1 (hw.1.recv hK)) rfl rfl hl.1 rfl (lv_room (Nat.le_of_ble_eq_true rfl)) dX0_stateOf_10 ⟨by first | exact Nat.zero_le _ | omega | decide, by first | exact Nat.zero_le _ | omega | decide⟩) ?_
  refine x_a (r := 67 + k) hx hb hK hw xO_56 rfl (by decide) (by omega) rfl dX0_stateOf_13 ?_
  refine lv_astore_n (lv' := [(2, .ref (ad (67 + k))), (0, .ref (ad 0)), (1, .int (nI q))]) hx hb dX0_stateOf_14 rfl hl (by decide) rfl (fun ls hl => ?_)
  refine lv_aload_n hx hb dX0_stateOf_15 rfl (lv_at hl 1 rfl) ?_
  refine lv_iload_n hx hb dX0_stateOf_16 rfl (lv_at hl 2 rfl) ?_
  refine lv_iconst (v := nI 2) hx hb dX0_stateOf_17 (by decide) ?_
  refine c_read (va_runV (As := [.int (nI q), .int (nI 2)]) (rest := []) ⟨hx, hb, hml, hown, hts⟩ (met_X0_ofPiece l G ad sz X Z T q 2 (X 53 (12 + 10 * q + 2)) (by omega) rfl) (cv_X0_X0_ofPiece hts ⟨Nat.le_of_ble_eq_true rfl, Nat.le_of_ble_eq_true rfl⟩) (cP.preV hK hw.1 (hw.1.recv hK)) rfl rfl hl.1 rfl (lv_room (Nat.le_of_ble_eq_true rfl)) dX0_stateOf_18 ⟨by first | exact Nat.zero_le _ | omega | decide, by first | exact Nat.zero_le _ | omega | decide⟩) ?_
  refine lv_istore_n (lv' := [(3, .int (X 53 (12 + 10 * q + 2))), (2, .ref (ad (67 + k))), (0, .ref (ad 0)), (1, .int (nI q))]) hx hb dX0_stateOf_21 rfl hl (by decide) rfl (fun ls hl => ?_)
  refine lv_iload_n hx hb dX0_stateOf_22 rfl (lv_at hl 0 rfl) ?_
  refine lv_aload_n hx hb dX0_stateOf_23 rfl (lv_at hl 1 rfl) ?_
  refine lv_iconst (v := nI 0) hx hb dX0_stateOf_24 (by decide) ?_
  refine x_l (k := 67 + k) (j := 0) (n := 3) (v := X (67 + k) 0) hx hb hK hw rfl (xL_67 (by omega)) (by decide) dX0_stateOf_25 ?_
  refine lv_icmp_ge (tgt := 33) hx hb dX0_stateOf_26 (by decide) (fun c_1 => ?_) (fun c_1 => ?_)
  · refine lv_iload_n hx hb dX0_stateOf_33 rfl (lv_at hl 0 rfl) ?_
    refine lv_aload_n hx hb dX0_stateOf_34 rfl (lv_at hl 1 rfl) ?_
    refine lv_iconst (v := nI 0) hx hb dX0_stateOf_35 (by decide) ?_
    refine x_l (k := 67 + k) (j := 0) (n := 3) (v := X (67 + k) 0) hx hb hK hw rfl (xL_67 (by omega)) (by decide) dX0_stateOf_36 ?_
    refine lv_icmp_ne (tgt := 58) hx hb dX0_stateOf_37 (by decide) (fun c_2 => ?_) (fun c_2 => ?_)
    · refine lv_iconst (v := nI 2) hx hb dX0_stateOf_58 (by decide) ?_
      exact c_rret (v := nI 2) (by unfold xState; first | rw [pif_t (by first | with_reducible assumption | exact Int32.not_le.mp (by with_reducible assumption) | exact Int32.not_lt.mp (by with_reducible assumption) | exact Int32.not_lt.mpr (by with_reducible assumption) | exact Int32.not_le.mpr (by with_reducible assumption))] | (rw [pif_f (by first | with_reducible assumption | exact Int32.not_le.mp (by with_reducible assumption) | exact Int32.not_lt.mp (by with_reducible assumption) | exact Int32.not_lt.mpr (by with_reducible assumption) | exact Int32.not_le.mpr (by with_reducible assumption)), pif_t ⟨by with_reducible assumption, by with_reducible assumption⟩]) | (rw [pif_f (by first | with_reducible assumption | exact Int32.not_le.mp (by with_reducible assumption) | exact Int32.not_lt.mp (by with_reducible assumption) | exact Int32.not_lt.mpr (by with_reducible assumption) | exact Int32.not_le.mpr (by with_reducible assumption)), pif_f (fun h9 => by first | exact absurd h9.1 (by with_reducible assumption) | exact absurd h9.2 (by with_reducible assumption))])) hx hb hr rfl hlocks dX0_stateOf_59 rfl rfl
    refine lv_aload_n hx hb dX0_stateOf_40 rfl (lv_at hl 1 rfl) ?_
    refine lv_iconst (v := nI 1) hx hb dX0_stateOf_41 (by decide) ?_
    refine x_l (k := 67 + k) (j := 1) (n := 3) (v := X (67 + k) 1) hx hb hK hw rfl (xL_67 (by omega)) (by decide) dX0_stateOf_42 ?_
    refine lv_aload_n hx hb dX0_stateOf_43 rfl (lv_at hl 2 rfl) ?_
    refine lv_iload_n hx hb dX0_stateOf_44 rfl (lv_at hl 3 rfl) ?_
    refine c_read (va_runV (As := [.int (nI q)]) (rest := [.int (X (67 + k) 1)]) ⟨hx, hb, hml, hown, hts⟩ (met_X0_voicesOf l G ad sz X Z T q (by omega) nb en (by omega)) (cv_X0_X0_voicesOf hts ⟨Nat.le_of_ble_eq_true rfl, Nat.le_of_ble_eq_true rfl⟩) (cP.preV hK hw.1 (hw.1.recv hK)) rfl rfl hl.1 rfl (lv_room (Nat.le_of_ble_eq_true rfl)) dX0_stateOf_45 ⟨by first | exact Nat.zero_le _ | omega | decide, by first | exact Nat.zero_le _ | omega | decide⟩) ?_
    refine lv_iconst (v := (-1)) hx hb dX0_stateOf_48 (by decide) ?_
    refine lv_ixor hx hb dX0_stateOf_49 ?_
    refine lv_iand hx hb dX0_stateOf_50 ?_
    refine lv_if_ne (tgt := 58) hx hb dX0_stateOf_51 (by decide) (fun c_3 => ?_) (fun c_3 => ?_)
    · refine lv_iconst (v := nI 2) hx hb dX0_stateOf_58 (by decide) ?_
      exact c_rret (v := nI 2) (by unfold xState; first | rw [pif_t (by first | with_reducible assumption | exact Int32.not_le.mp (by with_reducible assumption) | exact Int32.not_lt.mp (by with_reducible assumption) | exact Int32.not_lt.mpr (by with_reducible assumption) | exact Int32.not_le.mpr (by with_reducible assumption))] | (rw [pif_f (by first | with_reducible assumption | exact Int32.not_le.mp (by with_reducible assumption) | exact Int32.not_lt.mp (by with_reducible assumption) | exact Int32.not_lt.mpr (by with_reducible assumption) | exact Int32.not_le.mpr (by with_reducible assumption)), pif_t ⟨by with_reducible assumption, by with_reducible assumption⟩]) | (rw [pif_f (by first | with_reducible assumption | exact Int32.not_le.mp (by with_reducible assumption) | exact Int32.not_lt.mp (by with_reducible assumption) | exact Int32.not_lt.mpr (by with_reducible assumption) | exact Int32.not_le.mpr (by with_reducible assumption)), pif_f (fun h9 => by first | exact absurd h9.1 (by with_reducible assumption) | exact absurd h9.2 (by with_reducible assumption))])) hx hb hr rfl hlocks dX0_stateOf_59 rfl rfl
    refine lv_iconst (v := nI 1) hx hb dX0_stateOf_54 (by decide) ?_
    refine lv_goto (tgt := 59) hx hb dX0_stateOf_55 (by decide) ?_
    exact c_rret (v := nI 1) (by unfold xState; first | rw [pif_t (by first | with_reducible assumption | exact Int32.not_le.mp (by with_reducible assumption) | exact Int32.not_lt.mp (by with_reducible assumption) | exact Int32.not_lt.mpr (by with_reducible assumption) | exact Int32.not_le.mpr (by with_reducible assumption))] | (rw [pif_f (by first | with_reducible assumption | exact Int32.not_le.mp (by with_reducible assumption) | exact Int32.not_lt.mp (by with_reducible assumption) | exact Int32.not_lt.mpr (by with_reducible assumption) | exact Int32.not_le.mpr (by with_reducible assumption)), pif_t ⟨by with_reducible assumption, by with_reducible assumption⟩]) | (rw [pif_f (by first | with_reducible assumption | exact Int32.not_le.mp (by with_reducible assumption) | exact Int32.not_lt.mp (by with_reducible assumption) | exact Int32.not_lt.mpr (by with_reducible assumption) | exact Int32.not_le.mpr (by with_reducible assumption)), pif_f (fun h9 => by first | exact absurd h9.1 (by with_reducible assumption) | exact absurd h9.2 (by with_reducible assumption))])) hx hb hr rfl hlocks dX0_stateOf_59 rfl rfl
  refine lv_iconst (v := nI 0) hx hb dX0_stateOf_29 (by decide) ?_
  refine lv_goto (tgt := 59) hx hb dX0_stateOf_30 (by decide) ?_
  exact c_rret (v := nI 0) (by unfold xState; first | rw [pif_t (by first | with_reducible assumption | exact Int32.not_le.mp (by with_reducible assumption) | exact Int32.not_lt.mp (by with_reducible assumption) | exact Int32.not_lt.mpr (by with_reducible assumption) | exact Int32.not_le.mpr (by with_reducible assumption))] | (rw [pif_f (by first | with_reducible assumption | exact Int32.not_le.mp (by with_reducible assumption) | exact Int32.not_lt.mp (by with_reducible assumption) | exact Int32.not_lt.mpr (by with_reducible assumption) | exact Int32.not_le.mpr (by with_reducible assumption)), pif_t ⟨by with_reducible assumption, by with_reducible assumption⟩]) | (rw [pif_f (by first | with_reducible assumption | exact Int32.not_le.mp (by with_reducible assumption) | exact Int32.not_lt.mp (by with_reducible assumption) | exact Int32.not_lt.mpr (by with_reducible assumption) | exact Int32.not_le.mpr (by with_reducible assumption)), pif_f (fun h9 => by first | exact absurd h9.1 (by with_reducible assumption) | exact absurd h9.2 (by with_reducible assumption))])) hx hb hr rfl hlocks dX0_stateOf_59 rfl rfl
set_option maxHeartbeats 4000000 in
set_option maxRecDepth 100000 in
theorem met_X0_canBlow (l : Launch) (G : gG) (ad : Nat → Nat) (sz : Nat) (X Z : Nat → Nat → Int32) (T : Nat → Nat → Option Nat) (M : Nat → Nat → Int32) (nb nk nx np h nu ns ne nt : Nat) (hR : RS X 51 (M 0) nb nk nx np h nu ns ne nt) (tx : kT) (htx : mTx M tx) (x y z : Int32) : Met l yX0_canBlow (ws_ yX0_canBlow cX0_canBlow 4 (some .boolean)) ({ frames := 107, cells := 0, slots := 0, locals := 6446 } : Room) (cP G [.ref (ad 0), .int x, .int y, .int z] (fun H => xH G ad X Z T sz H ∧ aTx G (xOld ad sz) X T tx H)) (cQ (some (.int (bI (mBlowOk tx M np nb nu x y z)))) (fun H => ∃ Z9, (∀ k9, k9 ≠ 2 → Z9 k9 = Z k9) ∧ xH G ad X Z9 T sz H) (xA ad sz)) 0 0 (xA ad sz) := by
  refine c_start (by decide) (Nat.le_of_ble_eq_true rfl) ?_
  intro p e s m below meth c hx hb hr hlocks hml hown hts hB hK ls hl
  obtain ⟨hB, hE⟩ := hB
  have hz := hB.2.2
  have hw := XS.of hB
  have hl : lv_has ls 4 [(0, .ref (ad 0)), (1, .int x), (2, .int y), (3, .int z)] := hl
  have hR0 := hR
  obtain ⟨⟨rnb, mnb, hnb⟩, ⟨rnk, mnk, hnk⟩, ⟨rnx, mnx, hnx⟩, rtx, ⟨rns, mns, hns⟩, ⟨rne, mne, hne⟩, ⟨rnt, mnt, hnt⟩, ⟨rnp, mnp, hnp⟩, ⟨rh, mh, hh⟩, ⟨rnu, mnu, hnu⟩, rbl, rbe, rgi, rki, rse, rto, rpi, rbu, rkd, rva, rst⟩ := hR
  change X 52 0 = _ at rnb; change X 52 1 = _ at rnk; change X 52 2 = _ at rnx; change X 52 3 = _ at rtx; change X 52 4 = _ at rns; change X 52 5 = _ at rne; change X 52 6 = _ at rnt; change X 53 112 = _ at rnp; change X 53 113 = _ at rh; change X 53 114 = _ at rnu
  refine lv_aload_n hx hb dX0_canBlow_0 rfl (lv_at hl 0 rfl) ?_
  refine lv_iload_n hx hb dX0_canBlow_1 rfl (lv_at hl 1 rfl) ?_
  refine c_read (va_runV (As := [.int x]) (rest := []) ⟨hx, hb, hml, hown, hts⟩ (met_X0_isPiece l G ad sz X Z T x np rnp (by omega)) (cv_X0_X0_isPiece hts ⟨Nat.le_of_ble_eq_true rfl, Nat.le_of_ble_eq_true rfl⟩) (cP.preV hK hw.1 (hw.1.recv hK)) rfl rfl hl.1 rfl (lv_room (Nat.le_of_ble_eq_true rfl)) dX0_canBlow_2 ⟨by first | exact Nat.zero_le _ | omega | decide, by first | exact Nat.zero_le _ | omega | decide⟩) ?_
  refine b_if_eq (tgt := 50) hx hb dX0_canBlow_5 (by decide) (fun c_1 => ?_) (fun c_1 => ?_)
  · refine lv_iconst (v := nI 0) hx hb dX0_canBlow_50 (by decide) ?_
    exact c_iret (v := nI 0) ((bI_f (fun h9 => by first | exact absurd h9.1 (by with_reducible assumption) | exact absurd h9.2.1 (by with_reducible assumption) | exact absurd h9.2.2.1 (by with_reducible assumption) | (have h8 := h9.2.2.2.1; simp only [cl, k_jx] at h8; exact absurd h8 (by with_reducible assumption)) | exact absurd (by with_reducible assumption) h9.2.2.2.2.1 | (have h8 := h9.2.2.2.2.2.1; simp only [cl, k_jy] at h8; exact h8 (by first | with_reducible assumption | exact Int32.not_le.mp (by with_reducible assumption) | exact Int32.not_lt.mp (by with_reducible assumption) | exact Int32.not_lt.mpr (by with_reducible assumption) | exact Int32.not_le.mpr (by with_reducible assumption))) | (have h8 := h9.2.2.2.2.2.2.1; rw [mh] at h8; exact absurd h8 (by first | with_reducible assumption | exact Int32.not_le.mp (by with_reducible assumption) | exact Int32.not_lt.mp (by with_reducible assumption) | exact Int32.not_lt.mpr (by with_reducible assumption) | exact Int32.not_le.mpr (by with_reducible assumption))) | (have h8 := h9.2.2.2.2.2.2.2; simp only [cl, k_jy] at h8; rw [Int32.mul_comm, mh] at h8; exact absurd h8 (by first | with_reducible assumption | exact Int32.not_le.mp (by with_reducible assumption) | exact Int32.not_lt.mp (by with_reducible assumption) | exact Int32.not_lt.mpr (by with_reducible assumption) | exact Int32.not_le.mpr (by with_reducible assumption))))).symm) hx hb hr rfl hlocks ⟨_, fun k9 h9 => rfl, xH.to rfl rfl rfl hw.1⟩ hw.2.1 dX0_canBlow_51
  obtain ⟨jx, h_jx, rfl⟩ := vp_in_of c_1 (by omega)
  have k_jx : (nI jx).toNatClampNeg = jx := nI_clamp (by omega)
  refine lv_aload_n hx hb dX0_canBlow_8 rfl (lv_at hl 0 rfl) ?_
  refine lv_iload_n hx hb dX0_canBlow_9 rfl (lv_at hl 2 rfl) ?_
  refine c_read (va_runV (As := [.int y]) (rest := []) ⟨hx, hb, hml, hown, hts⟩ (met_X0_isBlower l G ad sz X Z T y nb rnb (by omega)) (cv_X0_X0_isBlower hts ⟨Nat.le_of_ble_eq_true rfl, Nat.le_of_ble_eq_true rfl⟩) (cP.preV hK hw.1 (hw.1.recv hK)) rfl rfl hl.1 rfl (lv_room (Nat.le_of_ble_eq_true rfl)) dX0_canBlow_10 ⟨by first | exact Nat.zero_le _ | omega | decide, by first | exact Nat.zero_le _ | omega | decide⟩) ?_
  refine b_if_eq (tgt := 50) hx hb dX0_canBlow_13 (by decide) (fun c_2 => ?_) (fun c_2 => ?_)
  · refine lv_iconst (v := nI 0) hx hb dX0_canBlow_50 (by decide) ?_
    exact c_iret (v := nI 0) ((bI_f (fun h9 => by first | exact absurd h9.1 (by with_reducible assumption) | exact absurd h9.2.1 (by with_reducible assumption) | exact absurd h9.2.2.1 (by with_reducible assumption) | (have h8 := h9.2.2.2.1; simp only [cl, k_jx] at h8; exact absurd h8 (by with_reducible assumption)) | exact absurd (by with_reducible assumption) h9.2.2.2.2.1 | (have h8 := h9.2.2.2.2.2.1; simp only [cl, k_jy] at h8; exact h8 (by first | with_reducible assumption | exact Int32.not_le.mp (by with_reducible assumption) | exact Int32.not_lt.mp (by with_reducible assumption) | exact Int32.not_lt.mpr (by with_reducible assumption) | exact Int32.not_le.mpr (by with_reducible assumption))) | (have h8 := h9.2.2.2.2.2.2.1; rw [mh] at h8; exact absurd h8 (by first | with_reducible assumption | exact Int32.not_le.mp (by with_reducible assumption) | exact Int32.not_lt.mp (by with_reducible assumption) | exact Int32.not_lt.mpr (by with_reducible assumption) | exact Int32.not_le.mpr (by with_reducible assumption))) | (have h8 := h9.2.2.2.2.2.2.2; simp only [cl, k_jy] at h8; rw [Int32.mul_comm, mh] at h8; exact absurd h8 (by first | with_reducible assumption | exact Int32.not_le.mp (by with_reducible assumption) | exact Int32.not_lt.mp (by with_reducible assumption) | exact Int32.not_lt.mpr (by with_reducible assumption) | exact Int32.not_le.mpr (by with_reducible assumption))))).symm) hx hb hr rfl hlocks ⟨_, fun k9 h9 => rfl, xH.to rfl rfl rfl hw.1⟩ hw.2.1 dX0_canBlow_51
  obtain ⟨jy, h_jy, rfl⟩ := vp_in_of c_2 (by omega)
  have k_jy : (nI jy).toNatClampNeg = jy := nI_clamp (by omega)
  refine lv_iload_n hx hb dX0_canBlow_16 rfl (lv_at hl 3 rfl) ?_
  refine lv_iconst (v := nI 1) hx hb dX0_canBlow_17 (by decide) ?_
  refine lv_bipush (v := nI 9) hx hb dX0_canBlow_18 (by decide) ?_
  refine c_read (va_runS (As := [.int z, .int (nI 1), .int (nI 9)]) (rest := []) ⟨hx, hb, hml, hown, hts⟩ (met_X0_in l G z (nI 1) (nI 9)) (cs_X0_X0_in hts ⟨Nat.le_of_ble_eq_true rfl, Nat.le_of_ble_eq_true rfl⟩) (cP.pre hK trivial) rfl rfl hl.1 rfl (lv_room (Nat.le_of_ble_eq_true rfl)) dX0_canBlow_20 ⟨by first | exact Nat.zero_le _ | omega | decide, by first | exact Nat.zero_le _ | omega | decide⟩) ?_
  refine b_if_eq (tgt := 50) hx hb dX0_canBlow_23 (by decide) (fun c_3 => ?_) (fun c_3 => ?_)
  · refine lv_iconst (v := nI 0) hx hb dX0_canBlow_50 (by decide) ?_
    exact c_iret (v := nI 0) ((bI_f (fun h9 => by first | exact absurd h9.1 (by with_reducible assumption) | exact absurd h9.2.1 (by with_reducible assumption) | exact absurd h9.2.2.1 (by with_reducible assumption) | (have h8 := h9.2.2.2.1; simp only [cl, k_jx] at h8; exact absurd h8 (by with_reducible assumption)) | exact absurd (by with_reducible assumption) h9.2.2.2.2.1 | (have h8 := h9.2.2.2.2.2.1; simp only [cl, k_jy] at h8; exact h8 (by first | with_reducible assumption | exact Int32.not_le.mp (by with_reducible assumption) | exact Int32.not_lt.mp (by with_reducible assumption) | exact Int32.not_lt.mpr (by with_reducible assumption) | exact Int32.not_le.mpr (by with_reducible assumption))) | (have h8 := h9.2.2.2.2.2.2.1; rw [mh] at h8; exact absurd h8 (by first | with_reducible assumption | exact Int32.not_le.mp (by with_reducible assumption) | exact Int32.not_lt.mp (by with_reducible assumption) | exact Int32.not_lt.mpr (by with_reducible assumption) | exact Int32.not_le.mpr (by with_reducible assumption))) | (have h8 := h9.2.2.2.2.2.2.2; simp only [cl, k_jy] at h8; rw [Int32.mul_comm, mh] at h8; exact absurd h8 (by first | with_reducible assumption | exact Int32.not_le.mp (by with_reducible assumption) | exact Int32.not_lt.mp (by with_reducible assumption) | exact Int32.not_lt.mpr (by with_reducible assumption) | exact Int32.not_le.mpr (by with_reducible assumption))))).symm) hx hb hr rfl hlocks ⟨_, fun k9 h9 => rfl, xH.to rfl rfl rfl hw.1⟩ hw.2.1 dX0_canBlow_51
  refine lv_aload_n hx hb dX0_canBlow_26 rfl (lv_at hl 0 rfl) ?_
  refine lv_iload_n hx hb dX0_canBlow_27 rfl (lv_at hl 1 rfl) ?_
  refine lv_iconst (v := nI 1) hx hb dX0_canBlow_28 (by decide) ?_
  refine c_read (va_runV (As := [.int (nI jx), .int (nI 1)]) (rest := []) ⟨hx, hb, hml, hown, hts⟩ (met_X0_ofPiece l G ad sz X Z T jx 1 (M 0 (150 + 10 * jx + 1)) (by omega) (pc_at rpi (i := 10 * jx + 1) (by omega) (by omega) (by omega))) (cv_X0_X0_ofPiece hts ⟨Nat.le_of_ble_eq_true rfl, Nat.le_of_ble_eq_true rfl⟩) (cP.preV hK hw.1 (hw.1.recv hK)) rfl rfl hl.1 rfl (lv_room (Nat.le_of_ble_eq_true rfl)) dX0_canBlow_29 ⟨by first | exact Nat.zero_le _ | omega | decide, by first | exact Nat.zero_le _ | omega | decide⟩) ?_
  refine lv_if_ne (tgt := 50) hx hb dX0_canBlow_32 (by decide) (fun c_4 => ?_) (fun c_4 => ?_)
  · refine lv_iconst (v := nI 0) hx hb dX0_canBlow_50 (by decide) ?_
    exact c_iret (v := nI 0) ((bI_f (fun h9 => by first | exact absurd h9.1 (by with_reducible assumption) | exact absurd h9.2.1 (by with_reducible assumption) | exact absurd h9.2.2.1 (by with_reducible assumption) | (have h8 := h9.2.2.2.1; simp only [cl, k_jx] at h8; exact absurd h8 (by with_reducible assumption)) | exact absurd (by with_reducible assumption) h9.2.2.2.2.1 | (have h8 := h9.2.2.2.2.2.1; simp only [cl, k_jy] at h8; exact h8 (by first | with_reducible assumption | exact Int32.not_le.mp (by with_reducible assumption) | exact Int32.not_lt.mp (by with_reducible assumption) | exact Int32.not_lt.mpr (by with_reducible assumption) | exact Int32.not_le.mpr (by with_reducible assumption))) | (have h8 := h9.2.2.2.2.2.2.1; rw [mh] at h8; exact absurd h8 (by first | with_reducible assumption | exact Int32.not_le.mp (by with_reducible assumption) | exact Int32.not_lt.mp (by with_reducible assumption) | exact Int32.not_lt.mpr (by with_reducible assumption) | exact Int32.not_le.mpr (by with_reducible assumption))) | (have h8 := h9.2.2.2.2.2.2.2; simp only [cl, k_jy] at h8; rw [Int32.mul_comm, mh] at h8; exact absurd h8 (by first | with_reducible assumption | exact Int32.not_le.mp (by with_reducible assumption) | exact Int32.not_lt.mp (by with_reducible assumption) | exact Int32.not_lt.mpr (by with_reducible assumption) | exact Int32.not_le.mpr (by with_reducible assumption))))).symm) hx hb hr rfl hlocks ⟨_, fun k9 h9 => rfl, xH.to rfl rfl rfl hw.1⟩ hw.2.1 dX0_canBlow_51
  refine lv_aload_n hx hb dX0_canBlow_35 rfl (lv_at hl 0 rfl) ?_
  refine x_g_now hx hb hts hown hK hw dX0_canBlow_36 ?_
  refine x_sX0_51_row hx hb hts hown hK hw dX0_canBlow_39 ?_
  refine lv_bipush (v := nI 114) hx hb dX0_canBlow_42 (by decide) ?_
  refine x_l (k := 53) (j := 114) (n := 275) (v := nI nu) hx hb hK hw rnu (by decide) (by decide) dX0_canBlow_44 ?_
  refine lv_bipush (v := nI 40) hx hb dX0_canBlow_45 (by decide) ?_
  refine n_icmp_ne (tgt := 52) hx hb dX0_canBlow_47 (by decide) (by omega) (by decide) (fun c_5 => ?_) (fun c_5 => ?_)
  · refine lv_aload_n hx hb dX0_canBlow_52 rfl (lv_at hl 0 rfl) ?_
    refine x_g_now hx hb hts hown hK hw dX0_canBlow_53 ?_
    refine x_sX0_51_row hx hb hts hown hK hw dX0_canBlow_56 ?_
    refine lv_bipush (v := nI 6) hx hb dX0_canBlow_59 (by decide) ?_
    refine lv_iload_n hx hb dX0_canBlow_61 rfl (lv_at hl 2 rfl) ?_
    refine n_iadd hx hb dX0_canBlow_62 ?_
    refine x_l (k := 53) (j := 6 + jy) (n := 275) (v := M 0 (10 + 5 * jy + 3)) hx hb hK hw ((rbe jy (by omega)).2) (by decide) (by omega) dX0_canBlow_63 ?_
    refine lv_iload_n hx hb dX0_canBlow_64 rfl (lv_at hl 3 rfl) ?_
    refine lv_iadd hx hb dX0_canBlow_65 ?_
    refine lv_aload_n hx hb dX0_canBlow_66 rfl (lv_at hl 0 rfl) ?_
    refine x_g_now hx hb hts hown hK hw dX0_canBlow_67 ?_
    refine x_sX0_51_blower hx hb hts hown hK hw dX0_canBlow_70 ?_
    refine lv_iload_n hx hb dX0_canBlow_73 rfl (lv_at hl 2 rfl) ?_
    refine x_a (r := 61 + jy) hx hb hK hw xO_55 rfl (by decide) (by omega) rfl dX0_canBlow_74 ?_
    refine lv_iconst (v := nI 0) hx hb dX0_canBlow_75 (by decide) ?_
    refine x_l (k := 61 + jy) (j := 0) (n := 3) (v := M 0 (10 + 5 * jy)) hx hb hK hw ((rbl jy (by omega)).1) (xL_61 (by omega)) (by decide) dX0_canBlow_76 ?_
    refine lv_icmp_gt (tgt := 126) hx hb dX0_canBlow_77 (by decide) (fun c_6 => ?_) (fun c_6 => ?_)
    · refine lv_iconst (v := nI 0) hx hb dX0_canBlow_126 (by decide) ?_
      exact c_iret (v := nI 0) ((bI_f (fun h9 => by first | exact absurd h9.1 (by with_reducible assumption) | exact absurd h9.2.1 (by with_reducible assumption) | exact absurd h9.2.2.1 (by with_reducible assumption) | (have h8 := h9.2.2.2.1; simp only [cl, k_jx] at h8; exact absurd h8 (by with_reducible assumption)) | exact absurd (by with_reducible assumption) h9.2.2.2.2.1 | (have h8 := h9.2.2.2.2.2.1; simp only [cl, k_jy] at h8; exact h8 (by first | with_reducible assumption | exact Int32.not_le.mp (by with_reducible assumption) | exact Int32.not_lt.mp (by with_reducible assumption) | exact Int32.not_lt.mpr (by with_reducible assumption) | exact Int32.not_le.mpr (by with_reducible assumption))) | (have h8 := h9.2.2.2.2.2.2.1; rw [mh] at h8; exact absurd h8 (by first | with_reducible assumption | exact Int32.not_le.mp (by with_reducible assumption) | exact Int32.not_lt.mp (by with_reducible assumption) | exact Int32.not_lt.mpr (by with_reducible assumption) | exact Int32.not_le.mpr (by with_reducible assumption))) | (have h8 := h9.2.2.2.2.2.2.2; simp only [cl, k_jy] at h8; rw [Int32.mul_comm, mh] at h8; exact absurd h8 (by first | with_reducible assumption | exact Int32.not_le.mp (by with_reducible assumption) | exact Int32.not_lt.mp (by with_reducible assumption) | exact Int32.not_lt.mpr (by with_reducible assumption) | exact Int32.not_le.mpr (by with_reducible assumption))))).symm) hx hb hr rfl hlocks ⟨_, fun k9 h9 => rfl, xH.to rfl rfl rfl hw.1⟩ hw.2.1 dX0_canBlow_127
    refine lv_aload_n hx hb dX0_canBlow_80 rfl (lv_at hl 0 rfl) ?_
    refine c_read (va_runV (As := []) (rest := []) ⟨hx, hb, hml, hown, hts⟩ (met_X0_givenNow l G ad sz X Z T M nb nk nx np h nu ns ne nt hR0) (cv_X0_X0_givenNow hts ⟨Nat.le_of_ble_eq_true rfl, Nat.le_of_ble_eq_true rfl⟩) (cP.preV hK hw.1 (hw.1.recv hK)) rfl rfl hl.1 rfl (lv_room (Nat.le_of_ble_eq_true rfl)) dX0_canBlow_81 ⟨by first | exact Nat.zero_le _ | omega | decide, by first | exact Nat.zero_le _ | omega | decide⟩) ?_
    refine lv_iload_n hx hb dX0_canBlow_84 rfl (lv_at hl 3 rfl) ?_
    refine lv_iadd hx hb dX0_canBlow_85 ?_
    refine lv_aload_n hx hb dX0_canBlow_86 rfl (lv_at hl 0 rfl) ?_
    refine lv_aload_n hx hb dX0_canBlow_87 rfl (lv_at hl 0 rfl) ?_
    refine c_read (va_runV (As := []) (rest := [.ref (ad 0), .int ((mGiven M nb) + z)]) ⟨hx, hb, hml, hown, hts⟩ (met_X0_hour l G ad sz X Z T (nI h) rh) (cv_X0_X0_hour hts ⟨Nat.le_of_ble_eq_true rfl, Nat.le_of_ble_eq_true rfl⟩) (cP.preV hK hw.1 (hw.1.recv hK)) rfl rfl hl.1 rfl (lv_room (Nat.le_of_ble_eq_true rfl)) dX0_canBlow_88 ⟨by first | exact Nat.zero_le _ | omega | decide, by first | exact Nat.zero_le _ | omega | decide⟩) ?_
    refine c_call (va_runV (As := [.int (nI h)]) (rest := [.int ((mGiven M nb) + z)]) ⟨hx, hb, hml, hown, hts⟩ (met_X0_smokeIn l G ad sz X Z T M tx htx (nI h)) (cv_X0_X0_smokeIn hts ⟨Nat.le_of_ble_eq_true rfl, Nat.le_of_ble_eq_true rfl⟩) (cP.preV hK ⟨hw.1, (aTx.kept rfl (fun q h9 => h9.keep hw.2.1 hz) (fun q h9 => h9) hE)⟩ (hw.1.recv hK)) rfl rfl hl.1 rfl (lv_room (Nat.le_of_ble_eq_true rfl)) dX0_canBlow_91 ⟨by first | exact Nat.zero_le _ | omega | decide, by first | exact Nat.zero_le _ | omega | decide⟩) hw.2.1 (fun q _ h => h) (fun q h => h) (fun H locs hw _ _ hS => ?_)
    obtain ⟨Z1, hkz1, hw⟩ := hw
    replace hw := XS.mk hw hS hz
    refine lv_icmp_gt (tgt := 126) hx hb dX0_canBlow_94 (by decide) (fun c_7 => ?_) (fun c_7 => ?_)
    · refine lv_iconst (v := nI 0) hx hb dX0_canBlow_126 (by decide) ?_
      exact c_iret (v := nI 0) ((bI_f (fun h9 => by first | exact absurd h9.1 (by with_reducible assumption) | exact absurd h9.2.1 (by with_reducible assumption) | exact absurd h9.2.2.1 (by with_reducible assumption) | (have h8 := h9.2.2.2.1; simp only [cl, k_jx] at h8; exact absurd h8 (by with_reducible assumption)) | exact absurd (by with_reducible assumption) h9.2.2.2.2.1 | (have h8 := h9.2.2.2.2.2.1; simp only [cl, k_jy] at h8; exact h8 (by first | with_reducible assumption | exact Int32.not_le.mp (by with_reducible assumption) | exact Int32.not_lt.mp (by with_reducible assumption) | exact Int32.not_lt.mpr (by with_reducible assumption) | exact Int32.not_le.mpr (by with_reducible assumption))) | (have h8 := h9.2.2.2.2.2.2.1; rw [mh] at h8; exact absurd h8 (by first | with_reducible assumption | exact Int32.not_le.mp (by with_reducible assumption) | exact Int32.not_lt.mp (by with_reducible assumption) | exact Int32.not_lt.mpr (by with_reducible assumption) | exact Int32.not_le.mpr (by with_reducible assumption))) | (have h8 := h9.2.2.2.2.2.2.2; simp only [cl, k_jy] at h8; rw [Int32.mul_comm, mh] at h8; exact absurd h8 (by first | with_reducible assumption | exact Int32.not_le.mp (by with_reducible assumption) | exact Int32.not_lt.mp (by with_reducible assumption) | exact Int32.not_lt.mpr (by with_reducible assumption) | exact Int32.not_le.mpr (by with_reducible assumption))))).symm) hx hb hr rfl hlocks ⟨_, fun k9 h9 => ((hkz1 k9 h9).trans rfl), xH.to rfl rfl rfl hw.1⟩ hw.2.1 dX0_canBlow_127
    refine lv_aload_n hx hb dX0_canBlow_97 rfl (lv_at hl 0 rfl) ?_
    refine lv_iload_n hx hb dX0_canBlow_98 rfl (lv_at hl 2 rfl) ?_
    refine lv_aload_n hx hb dX0_canBlow_99 rfl (lv_at hl 0 rfl) ?_
    refine c_read (va_runV (As := []) (rest := [.int (nI jy), .ref (ad 0)]) ⟨hx, hb, hml, hown, hts⟩ (met_X0_hour l G ad sz X Z1 T (nI h) rh) (cv_X0_X0_hour hts ⟨Nat.le_of_ble_eq_true rfl, Nat.le_of_ble_eq_true rfl⟩) (cP.preV hK hw.1 (hw.1.recv hK)) rfl rfl hl.1 rfl (lv_room (Nat.le_of_ble_eq_true rfl)) dX0_canBlow_100 ⟨by first | exact Nat.zero_le _ | omega | decide, by first | exact Nat.zero_le _ | omega | decide⟩) ?_
    refine c_call (va_runV (As := [.int (nI jy), .int (nI h)]) (rest := []) ⟨hx, hb, hml, hown, hts⟩ (met_X0_costOf l G ad sz X Z1 T M tx htx jy (by omega) ((rbl jy (by omega)).1) ((rbl jy (by omega)).2.1) ((rbe jy (by omega)).1) (nI h)) (cv_X0_X0_costOf hts ⟨Nat.le_of_ble_eq_true rfl, Nat.le_of_ble_eq_true rfl⟩) (cP.preV hK ⟨hw.1, (aTx.kept rfl (fun q h9 => h9.keep hw.2.1 hz) (fun q h9 => h9) hE)⟩ (hw.1.recv hK)) rfl rfl hl.1 rfl (lv_room (Nat.le_of_ble_eq_true rfl)) dX0_canBlow_103 ⟨by first | exact Nat.zero_le _ | omega | decide, by first | exact Nat.zero_le _ | omega | decide⟩) hw.2.1 (fun q _ h => h) (fun q h => h) (fun H locs hw _ _ hS => ?_)
    obtain ⟨Z2, hkz2, hw⟩ := hw
    replace hw := XS.mk hw hS hz
    refine lv_iload_n hx hb dX0_canBlow_106 rfl (lv_at hl 3 rfl) ?_
    refine lv_imul hx hb dX0_canBlow_107 ?_
    refine lv_aload_n hx hb dX0_canBlow_108 rfl (lv_at hl 0 rfl) ?_
    refine x_g_now hx hb hts hown hK hw dX0_canBlow_109 ?_
    refine x_sX0_51_row hx hb hts hown hK hw dX0_canBlow_112 ?_
    refine lv_iconst (v := nI 0) hx hb dX0_canBlow_115 (by decide) ?_
    refine lv_iload_n hx hb dX0_canBlow_116 rfl (lv_at hl 2 rfl) ?_
    refine n_iadd0 hx hb dX0_canBlow_117 ?_
    refine x_l (k := 53) (j := jy) (n := 275) (v := M 0 (10 + 5 * jy + 2)) hx hb hK hw ((rbe jy (by omega)).1) (by decide) (by omega) dX0_canBlow_118 ?_
    refine lv_icmp_gt (tgt := 126) hx hb dX0_canBlow_119 (by decide) (fun c_8 => ?_) (fun c_8 => ?_)
    · refine lv_iconst (v := nI 0) hx hb dX0_canBlow_126 (by decide) ?_
      exact c_iret (v := nI 0) ((bI_f (fun h9 => by first | exact absurd h9.1 (by with_reducible assumption) | exact absurd h9.2.1 (by with_reducible assumption) | exact absurd h9.2.2.1 (by with_reducible assumption) | (have h8 := h9.2.2.2.1; simp only [cl, k_jx] at h8; exact absurd h8 (by with_reducible assumption)) | exact absurd (by with_reducible assumption) h9.2.2.2.2.1 | (have h8 := h9.2.2.2.2.2.1; simp only [cl, k_jy] at h8; exact h8 (by first | with_reducible assumption | exact Int32.not_le.mp (by with_reducible assumption) | exact Int32.not_lt.mp (by with_reducible assumption) | exact Int32.not_lt.mpr (by with_reducible assumption) | exact Int32.not_le.mpr (by with_reducible assumption))) | (have h8 := h9.2.2.2.2.2.2.1; rw [mh] at h8; exact absurd h8 (by first | with_reducible assumption | exact Int32.not_le.mp (by with_reducible assumption) | exact Int32.not_lt.mp (by with_reducible assumption) | exact Int32.not_lt.mpr (by with_reducible assumption) | exact Int32.not_le.mpr (by with_reducible assumption))) | (have h8 := h9.2.2.2.2.2.2.2; simp only [cl, k_jy] at h8; rw [Int32.mul_comm, mh] at h8; exact absurd h8 (by first | with_reducible assumption | exact Int32.not_le.mp (by with_reducible assumption) | exact Int32.not_lt.mp (by with_reducible assumption) | exact Int32.not_lt.mpr (by with_reducible assumption) | exact Int32.not_le.mpr (by with_reducible assumption))))).symm) hx hb hr rfl hlocks ⟨_, fun k9 h9 => ((hkz2 k9 h9).trans ((hkz1 k9 h9).trans rfl)), xH.to rfl rfl rfl hw.1⟩ hw.2.1 dX0_canBlow_127
    refine lv_iconst (v := nI 1) hx hb dX0_canBlow_122 (by decide) ?_
    refine lv_goto (tgt := 127) hx hb dX0_canBlow_123 (by decide) ?_
    exact c_iret (v := nI 1) ((bI_t ⟨vp_in_nI h_jx (by omega), vp_in_nI h_jy (by omega), by with_reducible assumption, by simp only [cl, k_jx]; first | with_reducible assumption | exact Classical.not_not.mp (by with_reducible assumption), by with_reducible assumption, by simp only [cl, k_jy]; first | with_reducible assumption | exact Int32.not_le.mp (by with_reducible assumption) | exact Int32.not_lt.mp (by with_reducible assumption) | exact Int32.not_lt.mpr (by with_reducible assumption) | exact Int32.not_le.mpr (by with_reducible assumption), by rw [mh]; first | with_reducible assumption | exact Int32.not_le.mp (by with_reducible assumption) | exact Int32.not_lt.mp (by with_reducible assumption) | exact Int32.not_lt.mpr (by with_reducible assumption) | exact Int32.not_le.mpr (by with_reducible assumption), by simp only [cl, k_jy]; rw [Int32.mul_comm, mh]; first | with_reducible assumption | exact Int32.not_le.mp (by with_reducible assumption) | exact Int32.not_lt.mp (by with_reducible assumption) | exact Int32.not_lt.mpr (by with_reducible assumption) | exact Int32.not_le.mpr (by with_reducible assumption)⟩).symm) hx hb hr rfl hlocks ⟨_, fun k9 h9 => ((hkz2 k9 h9).trans ((hkz1 k9 h9).trans rfl)), xH.to rfl rfl rfl hw.1⟩ hw.2.1 dX0_canBlow_127
  refine lv_iconst (v := nI 0) hx hb dX0_canBlow_50 (by decide) ?_
  exact c_iret (v := nI 0) ((bI_f (fun h9 => by first | exact absurd h9.1 (by with_reducible assumption) | exact absurd h9.2.1 (by with_reducible assumption) | exact absurd h9.2.2.1 (by with_reducible assumption) | (have h8 := h9.2.2.2.1; simp only [cl, k_jx] at h8; exact absurd h8 (by with_reducible assumption)) | exact absurd (by with_reducible assumption) h9.2.2.2.2.1 | (have h8 := h9.2.2.2.2.2.1; simp only [cl, k_jy] at h8; exact h8 (by first | with_reducible assumption | exact Int32.not_le.mp (by with_reducible assumption) | exact Int32.not_lt.mp (by with_reducible assumption) | exact Int32.not_lt.mpr (by with_reducible assumption) | exact Int32.not_le.mpr (by with_reducible assumption))) | (have h8 := h9.2.2.2.2.2.2.1; rw [mh] at h8; exact absurd h8 (by first | with_reducible assumption | exact Int32.not_le.mp (by with_reducible assumption) | exact Int32.not_lt.mp (by with_reducible assumption) | exact Int32.not_lt.mpr (by with_reducible assumption) | exact Int32.not_le.mpr (by with_reducible assumption))) | (have h8 := h9.2.2.2.2.2.2.2; simp only [cl, k_jy] at h8; rw [Int32.mul_comm, mh] at h8; exact absurd h8 (by first | with_reducible assumption | exact Int32.not_le.mp (by with_reducible assumption) | exact Int32.not_lt.mp (by with_reducible assumption) | exact Int32.not_lt.mpr (by with_reducible assumption) | exact Int32.not_le.mpr (by with_reducible assumption))))).symm) hx hb hr rfl hlocks ⟨_, fun k9 h9 => rfl, xH.to rfl rfl rfl hw.1⟩ hw.2.1 dX0_canBlow_51
