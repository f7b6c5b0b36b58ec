/-! both, either (printed by gen/xsb.py) -/
theorem yBl_andN {tp : Nat → Nat} {t so o p q q2 : Nat} {L L2 : Cd} (hr : yBl tp t so 2 2 o p (0, L, q)) (hw : cst tp t q = 212) (h2 : yBl tp t so 4 3 o (lxQ tp t q) (0, L2, q2)) : yBl tp t so 2 2 o p (0, L ++ (L2 ++ [(21, nI 0)]), q2) := yBl_and hr rfl (cst_and.mpr hw) h2
theorem yBl_andE {tp : Nat → Nat} {t so o p q q2 f : Nat} {L : Cd} (hf : f ≠ 0) (hr : yBl tp t so 2 2 o p (0, L, q)) (hw : cst tp t q = 212) (h2 : yBl tp t so 4 3 o (lxQ tp t q) (f, [], q2)) : yBl tp t so 2 2 o p (f, [], q2) := Eq.mp (congrArg (fun X => yBl tp t so 2 2 o p (f, X, q2)) (if_neg hf)) (yBl_and hr rfl (cst_and.mpr hw) h2)
theorem yBl_orN {tp : Nat → Nat} {t so o p q q2 : Nat} {L L2 : Cd} (hr : yBl tp t so 1 1 o p (0, L, q)) (hw : cst tp t q = 211) (h2 : yBl tp t so 2 2 o (lxQ tp t q) (0, L2, q2)) : yBl tp t so 1 1 o p (0, L ++ (L2 ++ [(22, nI 0)]), q2) := yBl_or hr rfl (cst_or.mpr hw) h2
theorem yBl_orE {tp : Nat → Nat} {t so o p q q2 f : Nat} {L : Cd} (hf : f ≠ 0) (hr : yBl tp t so 1 1 o p (0, L, q)) (hw : cst tp t q = 211) (h2 : yBl tp t so 2 2 o (lxQ tp t q) (f, [], q2)) : yBl tp t so 1 1 o p (f, [], q2) := Eq.mp (congrArg (fun X => yBl tp t so 1 1 o p (f, X, q2)) (if_neg hf)) (yBl_or hr rfl (cst_or.mpr hw) h2)
set_option maxHeartbeats 4000000 in
set_option maxRecDepth 100000 in
theorem met_X3_both (l : Launch) (G : gG) (κ : kK) (z : Nat) (tp : Nat → Nat) (Xb : Nat → Int32) (r ta t kd o d : Nat) (hXb : ∀ j, j < t → Xb j = sb (tp j) ∧ tp j < 256) (ht : t ≤ 300) (hra : r ≠ ta) (hz : z ≤ r) (hst : l.stackTraces = false) (hod : o + d = 8) (h1 : g_ask l G κ z tp Xb r ta t kd o d) : g_both l G κ z tp Xb r ta t kd o d := by
  intro p0 N0 n hn0 hzN
  have hp : p0 ≤ t := by omega
  show vq_Met l yX3_both (ws_ yX3_both cX3_both 2 (some (Jvm.ClassFile.FieldType.object "BreathOnLoan$Asked"))) (rmG d 24 520 (16 * n + 16) (160 * n + 128)) (cT G κ z [.ref r] (fun H => tkP G r ta t Xb tp p0 o kd H ∧ H.size = N0)) (tQ (gN G z r ta t Xb tp kd o p0 N0 false (6 * d + 5) 4 104 (fun v => yBl tp t kd 2 2 o p0 v ∧ (v.1 = 0 → cst tp t v.2.2 ≠ 212))) (fun q => q = r ∨ N0 ≤ q)) (tX (gX G t tp (fun v => yBl tp t kd 2 2 o p0 v ∧ (v.1 = 0 → cst tp t v.2.2 ≠ 212))) (fun q => q = r ∨ N0 ≤ q)) (16 * n + 16) (160 * n + 128) (fun q => q = r ∨ N0 ≤ q)
  refine t_start (by decide) (Nat.le_of_ble_eq_true rfl) ?_
  intro p e s m below meth c hx hb hr hlocks hml hown hts hB hK hZ htab ls hl
  have hl : lv_has ls 2 [(0, .ref r)] := hl
  obtain ⟨⟨num, hnum, hk, htp⟩, hN⟩ := hB
  have hAZ : ∀ q, (q = r ∨ N0 ≤ q) → aZ z q := fun q e => show z ≤ q by rcases e with e | e <;> omega
  have hS : va_S (fun q => q = r ∨ N0 ≤ q) s.heap s.heap [] := va_S.rf
  have hrN := at_lt hk
  have htN := at_lt htp
  have hcb := cst_b tp t p0
  have hrN0 : r < s.heap.size := hrN
  have htN0 : ta < s.heap.size := htN
  refine p_new (own := RX3) (C := RJ2) (T := TJ2) (N := 3) (ci := 15) (fs := [.int (nI 0), .null, .int (nI 0)]) hx hb hts in_J2 tyJ2 tyJ2_ok hown (hts _ q656) (hts _ q335) (hts _ q104) hK rfl (by decide +kernel) (by dsimp only [rmG]; omega) (by dsimp only [rmG]; omega) dX3_both_0 (fun q_1 H hq_1 eq_1 zq_1 oq_1 => ?_)
  have lr_q_1 : r < q_1 := by have := at_lt hk; omega
  have lta_q_1 : ta < q_1 := by have := at_lt htp; omega
  replace hk := va_at.kept hk (oq_1 _ (at_lt hk))
  replace htp := va_at.kept htp (oq_1 _ (at_lt htp))
  replace hS := xS_new hS (by omega) oq_1
  refine lv_dup hx hb dX3_both_3 rfl ?_
  refine t_callR (va_runI (As := []) (rest := [.ref q_1]) ⟨hx, hb, hml, hown, hts⟩ (met_J2_init l G κ z q_1 (by omega)) (ci_X3_J2_init hts ⟨by dsimp only [rmG]; omega, by dsimp only [rmG]; omega⟩) (cT.pre hK hZ (xS_mono hS hAZ) hq_1) rfl rfl hl.1 rfl (lv_room (Nat.le_of_ble_eq_true rfl)) dX3_both_4 ⟨by dsimp only [rmG]; omega, by dsimp only [rmG]; omega⟩) hS (fun q hq e => Or.inr (by have e : @Eq Nat q q_1 := e; omega)) (fun q e => Or.inr (by have e : @Eq Nat q q_1 := e; omega)) (fun v9 H locs hB9 hz9 hk9 hS => ?_)
  obtain ⟨rfl, hq_1, hsq_1, huq_1⟩ := hB9
  replace hk := va_at.kept hk (hk9 _ (at_lt hk) (by omega))
  replace htp := va_at.kept htp (hk9 _ (at_lt htp) (by omega))
  have hls : lsK G κ z N0 (6 * d + 4) 21 q_1 0 0 [] H := lsK.init hq_1 ⟨by omega, by omega⟩
  replace hls := hls.bnd
  clear hq_1
  refine lv_astore_n (lv' := [(1, .ref q_1), (0, .ref r)]) hx hb dX3_both_7 rfl hl (by decide) rfl (fun ls hl => ?_)
  refine lv_aload_n hx hb dX3_both_8 rfl (lv_at hl 0 rfl) ?_
  refine lv_aload_n hx hb dX3_both_9 rfl (lv_at hl 1 rfl) ?_
  refine W_own (fun zw1 zw2 => ?_)
  have hNN := hS.1
  refine t_call (vq_runV (As := []) (rest := [.ref q_1]) ⟨hx, hb, hml, hown, hts⟩ (h1 p0 _ n hn0 (Nat.le_trans hzN (Nat.le_trans (Nat.le_of_eq hN.symm) hS.1))) (cv_X3_X3_ask hts ⟨by dsimp only [rmG]; omega, by dsimp only [rmG]; omega⟩) (cT.preV hK hZ (xS_mono hS hAZ) ⟨⟨_, hnum, hk, htp⟩, rfl⟩ (a_recv (ci := 3) hK hk rfl)) rfl rfl hl.1 rfl (lv_room (Nat.le_of_ble_eq_true rfl)) dX3_both_10 ⟨by dsimp only [rmG]; omega, by dsimp only [rmG]; omega⟩) hS (fun q hq e => Or.inl (e.resolve_right (Nat.not_le.mpr hq))) (fun q e => e.elim Or.inl (fun e => Or.inr (Nat.le_trans (Nat.le_trans (Nat.le_of_eq hN.symm) hS.1) e))) (fun q9 ce9 H locs hX9 hz9 hk9 hS hc9 hv9 hl9 => ?_) (fun v9 H locs hB9 hz9 hk9 hS => ?_)
  · obtain ⟨f9, p9, hf0, hf6, hP9, hxw⟩ := hX9
    exact t_out htab hlocks hc9 hv9 hl9 ⟨f9, p9, hf0, hf6, ⟨yBl_up hP9 (by decide) (by decide), fun e => absurd e hf0⟩, hxw⟩ hS (by omega) (by omega)
  obtain ⟨xA, LA, qA, rfl, hPA, hqA, ⟨num9, hnum, hk, htp⟩, haA, hszA, husA⟩ := hB9
  replace hls := lsKb.kept hls ⟨hz, by omega⟩ hz9 (fun q h1 h2 => hk9 q h1 (by omega))
  have hcb := cst_b tp t qA
  obtain ⟨arr, cap, fl, xs, Ls, ⟨m9, hb1, hb2⟩, hlc, hla, hl9a, he, hL0, hpot0, hN1a, hN1b⟩ := hls
  have hcc : cap ≤ 12 * 0 := hlc.2.2
  have gbc := gC_b cap
  have hhl := at_lt hb1
  obtain ⟨cK, hcK, hdK⟩ : ∃ c9 : Nat, H.size ≤ s.heap.size + c9 ∧ c9 + 16 * p0 + 6 ≤ 16 * qA := ⟨16 * qA - 16 * p0 - 6, by omega, by omega⟩
  obtain ⟨sK, hsK, htK⟩ : ∃ s9 : Nat, hU H ≤ hU s.heap + s9 ∧ s9 + 160 * p0 + 154 ≤ 160 * qA := ⟨160 * qA - 160 * p0 - 154, by omega, by omega⟩
  refine W_tight (k := cK) (n := sK) hcK hsK ?_
  have hNN := hS.1
  have hN0H : N0 ≤ H.size := Nat.le_trans (Nat.le_of_eq hN.symm) hS.1
  refine t_callR (va_runV (As := [.ref xA]) (rest := []) ⟨hx, hb, hml, hown, hts⟩ (met_J2_add l G κ z q_1 0 arr cap _ xA m9 fl hl9a.2 (Nat.le_trans hzN hN0H) hlc.1 (by omega) hlc.2.1) (cv_X3_J2_add hts ⟨by dsimp only [rmG]; omega, by dsimp only [rmG]; omega⟩) (cT.preV hK hZ (xS_mono hS hAZ) ⟨⟨hb1, hb2⟩, rfl, fun i hi y hy => by rw [(he i hi).1] at hy; obtain rfl := Option.some.inj hy; exact (he i hi).2.aO, haA.aO⟩ (a_recv (ci := 15) hK hb1 rfl)) rfl rfl hl.1 rfl (lv_room (Nat.le_of_ble_eq_true rfl)) dX3_both_13 ⟨by dsimp only [rmG]; omega, by dsimp only [rmG]; omega⟩) hS (fun q hq e => Or.inr (lsInA hl9a.1 hla hN0H e)) (fun q e => Or.inr (lsInA hl9a.1 hla hN0H e)) (fun v9 H locs hB9 hz9 hk9 hS => ?_)
  obtain ⟨rfl, hp9⟩ := hB9
  replace hk := va_at.kept hk (hk9 _ (at_lt hk) (lsNotA hl9a.1 hla hN0H (hN ▸ hrN0)))
  replace htp := va_at.kept htp (hk9 _ (at_lt htp) (lsNotA hl9a.1 hla hN0H (hN ▸ htN0)))
  obtain ⟨pot9, hls, hsz3, hus3⟩ := lsK.add ⟨m9, hb1, hb2⟩ hla hl9a he hL0 haA ⟨hN1a, hN1b⟩ hp9 hz9 (fun q h1 h2 => hk9 q h1 h2)
  rw [if_pos rfl] at hls
  refine lv_pop hx hb dX3_both_16 rfl ?_
  have L17_2 : ∀ (fuel : Nat) (q : Nat) (k : Nat) (pot : Nat) (cN : Nat) (sN : Nat) (L : Cd) (num : Int32), t - q < fuel → (1 ≤ k ∧ p0 + 2 * k ≤ q + 1 ∧ q ≤ t) → (cN + 16 * p0 + 5 ≤ 16 * q) → (sN + 160 * p0 + 0 + 160 * k ≤ 160 * q + pot + 6) → (yBl tp t kd 2 2 o p0 (0, L, q)) → (lxT tp t q = 1 → num = nI (min 99999 (lxN tp t q))) → ∀ (H : Heap) (locs : List Loc), (va_at (gD G) g_cl (r, .inr (3, [.ref ta, .int (nI t), .int (nI (lxQ tp t q)), .int (nI (lxS tp t q)), .int (nI (cst tp t q)), .int num, .int (nI o), .int (nI kd)])) H ∧ va_at (gD G) g_cl (ta, .inl (G.2.2 1, 300, .inl Xb)) H ∧ va_S (fun q => q = r ∨ N0 ≤ q) s.heap H locs ∧ lsK G κ z N0 (6 * d + 4) 21 q_1 k pot L H) → ∀ (ls : Array Slot), lv_has ls 2 [(0, .ref r), (1, .ref q_1)] → W p l e (rmG d 24 520 (16 * n + 16) (160 * n + 128)) s m ([.ref r] : List Value).toArray below meth c H locs cN sN (vq_MQ below (tQ (gN G z r ta t Xb tp kd o p0 N0 false (6 * d + 5) 4 104 (fun v => yBl tp t kd 2 2 o p0 v ∧ (v.1 = 0 → cst tp t v.2.2 ≠ 212))) (fun q => q = r ∨ N0 ≤ q)) (tX (gX G t tp (fun v => yBl tp t kd 2 2 o p0 v ∧ (v.1 = 0 → cst tp t v.2.2 ≠ 212))) (fun q => q = r ∨ N0 ≤ q)) ([.ref r] : List Value).toArray s (16 * n + 16) (160 * n + 128) (fun q => q = r ∨ N0 ≤ q)) (F0 m 17 ls []) := by
    intro fuel
    induction fuel with
    | zero => intro q k pot cN sN L num hf; exact absurd hf (Nat.not_lt_zero _)
    | succ fuel ih =>
      intro q k pot cN sN L num hf hq hcN hsN hP hnum H locs hw ls hl
      have ih17 := ih
      obtain ⟨hk, htp, hS, hls⟩ := hw
      have hpot := hls.pot
      have hcb := cst_b tp t q
      have hrN := at_lt hk
      refine W_own (fun zo1 zo2 => ?_)
      have hNN := hS.1
      refine lv_aload_n hx hb dX3_both_17 rfl (lv_at hl 0 rfl) ?_
      refine a_get (own := RX3) (C := RX3) (T := TX3) (N := 8) (ci := 3) hx hb hts in_X3 hown hK hk rfl 4 (by decide) (hts _ q301) (fun _ h9 => h9) rfl dX3_both_18 ?_
      refine lv_sipush (v := nI 212) hx hb dX3_both_21 (by decide) ?_
      refine n_icmp_ne (tgt := 43) hx hb dX3_both_24 (by decide) (by omega) (by omega) (fun hne => ?_) (fun hne => ?_)
      · obtain ⟨k, rfl⟩ : ∃ k9, k = k9 + 1 := ⟨k - 1, by omega⟩
        obtain ⟨xs, Ls, hal, hxs, rfl⟩ := hls.lst (by omega)
        refine lv_aload_n hx hb dX3_both_43 rfl (lv_at hl 1 rfl) ?_
        refine c_read (va_runV (As := []) (rest := []) ⟨hx, hb, hml, hown, hts⟩ (met_J2_size l G (gO z N0 H.size) q_1 (k + 1) xs) (cv_X3_J2_size hts ⟨by dsimp only [rmG]; omega, by dsimp only [rmG]; omega⟩) (cP.preV hK hal (by obtain ⟨_, _, _, _, _, _, _, h8, -⟩ := hal; exact a_recv (ci := 15) hK h8 rfl)) rfl rfl hl.1 rfl (lv_room (Nat.le_of_ble_eq_true rfl)) dX3_both_44 ⟨by dsimp only [rmG]; omega, by dsimp only [rmG]; omega⟩) ?_
        refine lv_iconst (v := nI 1) hx hb dX3_both_47 (by decide) ?_
        refine n_icmp_ne (tgt := 62) hx hb dX3_both_48 (by decide) (by omega) (by omega) (fun hk1 => ?_) (fun hk1 => ?_)
        · obtain ⟨Hb, hHb⟩ : ∃ h : Heap, h = H := ⟨_, rfl⟩
          have hfr : Hb.size ≤ H.size ∧ ∀ q, q < Hb.size → H[q]? = Hb[q]? := ⟨by rw [hHb]; exact Nat.le_refl _, fun q _ => by rw [hHb]⟩
          rw [← hHb] at hal hxs
          have hba := hfr.1
          refine p_new (own := RX3) (C := RX12) (T := TX12) (N := 2) (ci := 12) (fs := [.int (nI 0), .null]) hx hb hts in_X12 tyX12 tyX12_ok hown (hts _ q709) (hts _ q710) (hts _ q123) hK rfl (by decide +kernel) (by dsimp only [rmG]; omega) (by dsimp only [rmG]; omega) dX3_both_62 (fun q_3 H hq_3 eq_3 zq_3 oq_3 => ?_)
          have lr_q_3 : r < q_3 := by have := at_lt hk; omega
          have lta_q_3 : ta < q_3 := by have := at_lt htp; omega
          replace hk := va_at.kept hk (oq_3 _ (at_lt hk))
          replace htp := va_at.kept htp (oq_3 _ (at_lt htp))
          replace hfr := show Hb.size ≤ H.size ∧ ∀ q, q < Hb.size → H[q]? = Hb[q]? from ⟨by omega, fun q h => Eq.trans (oq_3 _ (Nat.lt_of_lt_of_le h hba)) (hfr.2 q h)⟩
          replace hS := xS_new hS (by omega) oq_3
          refine lv_dup hx hb dX3_both_65 rfl ?_
          refine lv_iconst (v := nI 1) hx hb dX3_both_66 (by decide) ?_
          refine lv_aload_n hx hb dX3_both_67 rfl (lv_at hl 1 rfl) ?_
          refine W_own (fun zv1 zv2 => ?_)
          have hNN := hS.1
          have hba := hfr.1
          refine t_callR (va_runIN (As := [.int (nI 1), .ref q_1]) (rest := [.ref q_3]) ⟨hx, hb, hml, hown, hts⟩ (met_X12_init l G κ z q_3 1 q_1 (by omega) (by decide)) ⟨cn_X3_X12_init hts hK ⟨by dsimp only [rmG]; omega, by dsimp only [rmG]; omega⟩, rfl, hts _ q712⟩ (cT.pre hK hZ (xS_mono hS hAZ) hq_3) rfl rfl hl.1 rfl (lv_room (Nat.le_of_ble_eq_true rfl)) dX3_both_68 ⟨by dsimp only [rmG]; omega, by dsimp only [rmG]; omega⟩) hS (fun q hq e => Or.inr (by have e : @Eq Nat q q_3 := e; omega)) (fun q e => Or.inr (by have e : @Eq Nat q q_3 := e; omega)) (fun v9 H locs hB9 hz9 hk9 hS => ?_)
          obtain ⟨rfl, hq_3, hsv, huv⟩ := hB9
          replace hk := va_at.kept hk (hk9 _ (at_lt hk) (by omega))
          replace htp := va_at.kept htp (hk9 _ (at_lt htp) (by omega))
          replace hfr := show Hb.size ≤ H.size ∧ ∀ q, q < Hb.size → H[q]? = Hb[q]? from ⟨by omega, fun q h => Eq.trans (hk9 _ (Nat.lt_of_lt_of_le h hfr.1) (by omega)) (hfr.2 q h)⟩
          have haF : aS G (gO z N0 H.size) H ((6 * d + 4) + 1) false q_3 (tlB Ls 21 (k + 1)) := lsAll hal hxs hfr.1 hfr.2 (show 1 < 2 by decide) hq_3 (by omega) (by omega)
          refine W_own (fun z1 z2 => ?_)
          refine vq_ret ?_
          refine W.widen (k := 16 * n + 16) (n := 160 * n + 128) (by omega) (by omega) ?_
          exact t_aret hx hb hr (Or.inl ⟨_, rfl⟩) (Or.inr ⟨_, rfl⟩) hlocks ⟨_, _, q, rfl, ⟨hP, fun _ => hne⟩, ⟨by omega, hq.2.2⟩, ⟨_, hnum, hk, htp⟩, haF, by omega, by omega⟩ hS dX3_both_71
        refine lv_aload_n hx hb dX3_both_51 rfl (lv_at hl 1 rfl) ?_
        refine lv_iconst (v := nI 0) hx hb dX3_both_52 (by decide) ?_
        refine c_read (va_runV (As := [.int (nI 0)]) (rest := []) ⟨hx, hb, hml, hown, hts⟩ (met_J2_get l G (gO z N0 H.size) q_1 (k + 1) xs 0 (by omega)) (cv_X3_J2_get hts ⟨by dsimp only [rmG]; omega, by dsimp only [rmG]; omega⟩) (cP.preV hK hal (by obtain ⟨_, _, _, _, _, _, _, h8, -⟩ := hal; exact a_recv (ci := 15) hK h8 rfl)) rfl rfl hl.1 rfl (lv_room (Nat.le_of_ble_eq_true rfl)) dX3_both_53 ⟨by dsimp only [rmG]; omega, by dsimp only [rmG]; omega⟩) ?_
        have hx0 := hxs 0 (by omega)
        obtain ⟨C9, hr9, hc9, -⟩ := aS_castAsked hK hx0
        refine va_castY (C := C9) hx hb hown (hts _ q708) hc9 hr9 dX3_both_56 ?_
        refine lv_goto (tgt := 71) hx hb dX3_both_59 (by decide) ?_
        obtain rfl : k = 0 := by omega
        have haF := aS.up _ _ _ _ hx0
        refine W_own (fun z1 z2 => ?_)
        refine vq_ret ?_
        refine W.widen (k := 16 * n + 16) (n := 160 * n + 128) (by omega) (by omega) ?_
        exact t_aret hx hb hr (Or.inl ⟨_, rfl⟩) (Or.inr ⟨_, rfl⟩) hlocks ⟨_, _, q, rfl, ⟨hP, fun _ => hne⟩, ⟨by omega, hq.2.2⟩, ⟨_, hnum, hk, htp⟩, haF, by omega, by omega⟩ hS dX3_both_71
      have hw9 := hne
      have hlx := lxQ_gt (tp := tp) (t := t) (p0 := q) (fun e => by have := cst_0.mp e; omega)
      have hlq : lxQ tp t q ≤ t := lxQ_le hq.2.2
      refine lv_aload_n hx hb dX3_both_27 rfl (lv_at hl 0 rfl) ?_
      refine t_callR (va_runV (As := []) (rest := []) ⟨hx, hb, hml, hown, hts⟩ (met_X3_next l G κ z tp Xb r ta t (lxQ tp t q) (nI (lxS tp t q)) (nI (cst tp t q)) num (nI o) (nI kd) hXb ht (lxQ_le hq.2.2) hra hz) (cv_X3_X3_next hts ⟨by dsimp only [rmG]; omega, by dsimp only [rmG]; omega⟩) (cT.preV hK hZ (xS_mono hS hAZ) ⟨hk, htp⟩ (a_recv (ci := 3) hK hk rfl)) rfl rfl hl.1 rfl (lv_room (Nat.le_of_ble_eq_true rfl)) dX3_both_28 ⟨by dsimp only [rmG]; omega, by dsimp only [rmG]; omega⟩) hS (fun q hq e => Or.inl e) (fun q e => Or.inl e) (fun v9 H locs hB9 hz9 hk9 hS => ?_)
      obtain ⟨rfl, num9, hnum, hk, htp⟩ := hB9
      replace hls := lsK.kept hls ⟨hz, by omega⟩ hz9 (fun q h1 h2 => hk9 q h1 h2)
      refine lv_aload_n hx hb dX3_both_31 rfl (lv_at hl 1 rfl) ?_
      refine lv_aload_n hx hb dX3_both_32 rfl (lv_at hl 0 rfl) ?_
      replace hls := hls.bnd
      obtain ⟨nB, hnB⟩ := Nat.le.dest hlq
      refine W_own (fun zw1 zw2 => ?_)
      have hNN := hS.1
      refine t_call (vq_runV (As := []) (rest := [.ref q_1]) ⟨hx, hb, hml, hown, hts⟩ (h1 (lxQ tp t q) _ nB hnB (Nat.le_trans hzN (Nat.le_trans (Nat.le_of_eq hN.symm) hS.1))) (cv_X3_X3_ask hts ⟨by dsimp only [rmG]; omega, by dsimp only [rmG]; omega⟩) (cT.preV hK hZ (xS_mono hS hAZ) ⟨⟨_, hnum, hk, htp⟩, rfl⟩ (a_recv (ci := 3) hK hk rfl)) rfl rfl hl.1 rfl (lv_room (Nat.le_of_ble_eq_true rfl)) dX3_both_33 ⟨by dsimp only [rmG]; omega, by dsimp only [rmG]; omega⟩) hS (fun q hq e => Or.inl (e.resolve_right (Nat.not_le.mpr hq))) (fun q e => e.elim Or.inl (fun e => Or.inr (Nat.le_trans (Nat.le_trans (Nat.le_of_eq hN.symm) hS.1) e))) (fun q9 ce9 H locs hX9 hz9 hk9 hS hc9 hv9 hl9 => ?_) (fun v9 H locs hB9 hz9 hk9 hS => ?_)
      · obtain ⟨f9, p9, hf0, hf6, hP9, hxw⟩ := hX9
        exact t_out htab hlocks hc9 hv9 hl9 ⟨f9, p9, hf0, hf6, ⟨yBl_andE hf0 hP hw9 hP9, fun e => absurd e hf0⟩, hxw⟩ hS (by omega) (by omega)
      obtain ⟨xB, LB, qB, rfl, hPB, hqB, ⟨num9, hnum, hk, htp⟩, haB, hszB, husB⟩ := hB9
      replace hls := lsKb.kept hls ⟨hz, by omega⟩ hz9 (fun q h1 h2 => hk9 q h1 (by omega))
      have hcb := cst_b tp t qB
      obtain ⟨arr, cap, fl, xs, Ls, ⟨m9, hb1, hb2⟩, hlc, hla, hl9a, he, hL0, hpot0, hN1a, hN1b⟩ := hls
      have hcc : cap ≤ 12 * k := hlc.2.2
      have gbc := gC_b cap
      have hhl := at_lt hb1
      have hkq : p0 + 2 * (k + 1) ≤ qB + 1 := by omega
      obtain ⟨cK, hcK, hdK⟩ : ∃ c9 : Nat, H.size ≤ s.heap.size + c9 ∧ c9 + 16 * p0 + 6 ≤ 16 * qB := ⟨16 * qB - 16 * p0 - 6, by omega, by omega⟩
      obtain ⟨sK, hsK, htK⟩ : ∃ s9 : Nat, hU H ≤ hU s.heap + s9 ∧ s9 + 160 * p0 + 0 + 160 * (k + 1) ≤ 160 * qB + pot + 6 := ⟨160 * qB + pot + 6 - 160 * p0 - 0 - 160 * (k + 1), by omega, by omega⟩
      refine W_tight (k := cK) (n := sK) hcK hsK ?_
      have hNN := hS.1
      have hN0H : N0 ≤ H.size := Nat.le_trans (Nat.le_of_eq hN.symm) hS.1
      refine t_callR (va_runV (As := [.ref xB]) (rest := []) ⟨hx, hb, hml, hown, hts⟩ (met_J2_add l G κ z q_1 k arr cap _ xB m9 fl hl9a.2 (Nat.le_trans hzN hN0H) hlc.1 (by omega) hlc.2.1) (cv_X3_J2_add hts ⟨by dsimp only [rmG]; omega, by dsimp only [rmG]; omega⟩) (cT.preV hK hZ (xS_mono hS hAZ) ⟨⟨hb1, hb2⟩, rfl, fun i hi y hy => by rw [(he i hi).1] at hy; obtain rfl := Option.some.inj hy; exact (he i hi).2.aO, haB.aO⟩ (a_recv (ci := 15) hK hb1 rfl)) rfl rfl hl.1 rfl (lv_room (Nat.le_of_ble_eq_true rfl)) dX3_both_36 ⟨by dsimp only [rmG]; omega, by dsimp only [rmG]; omega⟩) hS (fun q hq e => Or.inr (lsInA hl9a.1 hla hN0H e)) (fun q e => Or.inr (lsInA hl9a.1 hla hN0H e)) (fun v9 H locs hB9 hz9 hk9 hS => ?_)
      obtain ⟨rfl, hp9⟩ := hB9
      replace hk := va_at.kept hk (hk9 _ (at_lt hk) (lsNotA hl9a.1 hla hN0H (hN ▸ hrN0)))
      replace htp := va_at.kept htp (hk9 _ (at_lt htp) (lsNotA hl9a.1 hla hN0H (hN ▸ htN0)))
      obtain ⟨pot9, hls, hsz3, hus3⟩ := lsK.add ⟨m9, hb1, hb2⟩ hla hl9a he hL0 haB ⟨hN1a, hN1b⟩ hp9 hz9 (fun q h1 h2 => hk9 q h1 h2)
      rw [if_neg (by omega)] at hls
      refine lv_pop hx hb dX3_both_39 rfl ?_
      refine lv_goto (tgt := 17) hx hb dX3_both_40 (by decide) ?_
      obtain ⟨cJ, hcJ, hdJ⟩ : ∃ c9 : Nat, H.size ≤ s.heap.size + c9 ∧ c9 + 16 * p0 + 5 ≤ 16 * qB := ⟨16 * qB - 16 * p0 - 5, by omega, by omega⟩
      obtain ⟨sJ, hsJ, htJ⟩ : ∃ s9 : Nat, hU H ≤ hU s.heap + s9 ∧ s9 + 160 * p0 + 0 + 160 * (k + 1) ≤ 160 * qB + pot9 + 6 := ⟨160 * qB + pot9 + 6 - 160 * p0 - 0 - 160 * (k + 1), by omega, by omega⟩
      refine W_tight (k := cJ) (n := sJ) hcJ hsJ ?_
      exact ih17 qB (k + 1) pot9 cJ sJ (L ++ (LB ++ [(21, nI 0)])) num9 (by omega) ⟨by omega, hkq, hqB.2⟩ hdJ htJ (yBl_andN hP hw9 hPB) hnum _ _ ⟨hk, htp, hS, hls⟩ ls (lv_sub hl [0, 1] rfl)
  obtain ⟨cI, hcI, hdI⟩ : ∃ c9 : Nat, H.size ≤ s.heap.size + c9 ∧ c9 + 16 * p0 + 5 ≤ 16 * qA := ⟨16 * qA - 16 * p0 - 5, by omega, by omega⟩
  obtain ⟨sI, hsI, htI⟩ : ∃ s9 : Nat, hU H ≤ hU s.heap + s9 ∧ s9 + 160 * p0 + 0 + 160 * 1 ≤ 160 * qA + pot9 + 6 := ⟨160 * qA + pot9 + 6 - 160 * p0 - 0 - 160 * 1, by omega, by omega⟩
  refine W_tight (k := cI) (n := sI) hcI hsI ?_
  exact L17_2 _ qA 1 pot9 cI sI LA num9 (Nat.lt_succ_self _) ⟨Nat.le_refl 1, by omega, hqA.2⟩ hdI htI (yBl_up hPA (by decide) (by decide)) hnum _ _ ⟨hk, htp, hS, hls⟩ ls (lv_sub hl [1, 0] rfl)
set_option maxHeartbeats 4000000 in
set_option maxRecDepth 100000 in
theorem met_X3_either (l : Launch) (G : gG) (κ : kK) (z : Nat) (tp : Nat → Nat) (Xb : Nat → Int32) (r ta t kd o d : Nat) (hXb : ∀ j, j < t → Xb j = sb (tp j) ∧ tp j < 256) (ht : t ≤ 300) (hra : r ≠ ta) (hz : z ≤ r) (hst : l.stackTraces = false) (hod : o + d = 8) (h1 : g_both l G κ z tp Xb r ta t kd o d) : g_either l G κ z tp Xb r ta t kd o d := by
  intro p0 N0 n hn0 hzN
  have hp : p0 ≤ t := by omega
  show vq_Met l yX3_either (ws_ yX3_either cX3_either 2 (some (Jvm.ClassFile.FieldType.object "BreathOnLoan$Asked"))) (rmG d 25 550 (16 * n + 18) (160 * n + 144)) (cT G κ z [.ref r] (fun H => tkP G r ta t Xb tp p0 o kd H ∧ H.size = N0)) (tQ (gN G z r ta t Xb tp kd o p0 N0 false (6 * d + 6) 1 51 (fun v => yBl tp t kd 1 1 o p0 v ∧ (v.1 = 0 → cst tp t v.2.2 ≠ 211 ∧ cst tp t v.2.2 ≠ 212))) (fun q => q = r ∨ N0 ≤ q)) (tX (gX G t tp (fun v => yBl tp t kd 1 1 o p0 v ∧ (v.1 = 0 → cst tp t v.2.2 ≠ 211 ∧ cst tp t v.2.2 ≠ 212))) (fun q => q = r ∨ N0 ≤ q)) (16 * n + 18) (160 * n + 144) (fun q => q = r ∨ N0 ≤ q)
  refine t_start (by decide) (Nat.le_of_ble_eq_true rfl) ?_
  intro p e s m below meth c hx hb hr hlocks hml hown hts hB hK hZ htab ls hl
  have hl : lv_has ls 2 [(0, .ref r)] := hl
  obtain ⟨⟨num, hnum, hk, htp⟩, hN⟩ := hB
  have hAZ : ∀ q, (q = r ∨ N0 ≤ q) → aZ z q := fun q e => show z ≤ q by rcases e with e | e <;> omega
  have hS : va_S (fun q => q = r ∨ N0 ≤ q) s.heap s.heap [] := va_S.rf
  have hrN := at_lt hk
  have htN := at_lt htp
  have hcb := cst_b tp t p0
  have hrN0 : r < s.heap.size := hrN
  have htN0 : ta < s.heap.size := htN
  refine p_new (own := RX3) (C := RJ2) (T := TJ2) (N := 3) (ci := 15) (fs := [.int (nI 0), .null, .int (nI 0)]) hx hb hts in_J2 tyJ2 tyJ2_ok hown (hts _ q656) (hts _ q335) (hts _ q104) hK rfl (by decide +kernel) (by dsimp only [rmG]; omega) (by dsimp only [rmG]; omega) dX3_either_0 (fun q_1 H hq_1 eq_1 zq_1 oq_1 => ?_)
  have lr_q_1 : r < q_1 := by have := at_lt hk; omega
  have lta_q_1 : ta < q_1 := by have := at_lt htp; omega
  replace hk := va_at.kept hk (oq_1 _ (at_lt hk))
  replace htp := va_at.kept htp (oq_1 _ (at_lt htp))
  replace hS := xS_new hS (by omega) oq_1
  refine lv_dup hx hb dX3_either_3 rfl ?_
  refine t_callR (va_runI (As := []) (rest := [.ref q_1]) ⟨hx, hb, hml, hown, hts⟩ (met_J2_init l G κ z q_1 (by omega)) (ci_X3_J2_init hts ⟨by dsimp only [rmG]; omega, by dsimp only [rmG]; omega⟩) (cT.pre hK hZ (xS_mono hS hAZ) hq_1) rfl rfl hl.1 rfl (lv_room (Nat.le_of_ble_eq_true rfl)) dX3_either_4 ⟨by dsimp only [rmG]; omega, by dsimp only [rmG]; omega⟩) hS (fun q hq e => Or.inr (by have e : @Eq Nat q q_1 := e; omega)) (fun q e => Or.inr (by have e : @Eq Nat q q_1 := e; omega)) (fun v9 H locs hB9 hz9 hk9 hS => ?_)
  obtain ⟨rfl, hq_1, hsq_1, huq_1⟩ := hB9
  replace hk := va_at.kept hk (hk9 _ (at_lt hk) (by omega))
  replace htp := va_at.kept htp (hk9 _ (at_lt htp) (by omega))
  have hls : lsK G κ z N0 (6 * d + 5) 22 q_1 0 0 [] H := lsK.init hq_1 ⟨by omega, by omega⟩
  replace hls := hls.bnd
  clear hq_1
  refine lv_astore_n (lv' := [(1, .ref q_1), (0, .ref r)]) hx hb dX3_either_7 rfl hl (by decide) rfl (fun ls hl => ?_)
  refine lv_aload_n hx hb dX3_either_8 rfl (lv_at hl 0 rfl) ?_
  refine lv_aload_n hx hb dX3_either_9 rfl (lv_at hl 1 rfl) ?_
  refine W_own (fun zw1 zw2 => ?_)
  have hNN := hS.1
  refine t_call (vq_runV (As := []) (rest := [.ref q_1]) ⟨hx, hb, hml, hown, hts⟩ (h1 p0 _ n hn0 (Nat.le_trans hzN (Nat.le_trans (Nat.le_of_eq hN.symm) hS.1))) (cv_X3_X3_both hts ⟨by dsimp only [rmG]; omega, by dsimp only [rmG]; omega⟩) (cT.preV hK hZ (xS_mono hS hAZ) ⟨⟨_, hnum, hk, htp⟩, rfl⟩ (a_recv (ci := 3) hK hk rfl)) rfl rfl hl.1 rfl (lv_room (Nat.le_of_ble_eq_true rfl)) dX3_either_10 ⟨by dsimp only [rmG]; omega, by dsimp only [rmG]; omega⟩) hS (fun q hq e => Or.inl (e.resolve_right (Nat.not_le.mpr hq))) (fun q e => e.elim Or.inl (fun e => Or.inr (Nat.le_trans (Nat.le_trans (Nat.le_of_eq hN.symm) hS.1) e))) (fun q9 ce9 H locs hX9 hz9 hk9 hS hc9 hv9 hl9 => ?_) (fun v9 H locs hB9 hz9 hk9 hS => ?_)
  · obtain ⟨f9, p9, hf0, hf6, hP9, hxw⟩ := hX9
    exact t_out htab hlocks hc9 hv9 hl9 ⟨f9, p9, hf0, hf6, ⟨yBl_up hP9.1 (by decide) (by decide), fun e => absurd e hf0⟩, hxw⟩ hS (by omega) (by omega)
  obtain ⟨xA, LA, qA, rfl, hPA, hqA, ⟨num9, hnum, hk, htp⟩, haA, hszA, husA⟩ := hB9
  replace hls := lsKb.kept hls ⟨hz, by omega⟩ hz9 (fun q h1 h2 => hk9 q h1 (by omega))
  have hcb := cst_b tp t qA
  obtain ⟨arr, cap, fl, xs, Ls, ⟨m9, hb1, hb2⟩, hlc, hla, hl9a, he, hL0, hpot0, hN1a, hN1b⟩ := hls
  have hcc : cap ≤ 12 * 0 := hlc.2.2
  have gbc := gC_b cap
  have hhl := at_lt hb1
  obtain ⟨cK, hcK, hdK⟩ : ∃ c9 : Nat, H.size ≤ s.heap.size + c9 ∧ c9 + 16 * p0 + 3 ≤ 16 * qA := ⟨16 * qA - 16 * p0 - 3, by omega, by omega⟩
  obtain ⟨sK, hsK, htK⟩ : ∃ s9 : Nat, hU H ≤ hU s.heap + s9 ∧ s9 + 160 * p0 + 101 ≤ 160 * qA := ⟨160 * qA - 160 * p0 - 101, by omega, by omega⟩
  refine W_tight (k := cK) (n := sK) hcK hsK ?_
  have hNN := hS.1
  have hN0H : N0 ≤ H.size := Nat.le_trans (Nat.le_of_eq hN.symm) hS.1
  refine t_callR (va_runV (As := [.ref xA]) (rest := []) ⟨hx, hb, hml, hown, hts⟩ (met_J2_add l G κ z q_1 0 arr cap _ xA m9 fl hl9a.2 (Nat.le_trans hzN hN0H) hlc.1 (by omega) hlc.2.1) (cv_X3_J2_add hts ⟨by dsimp only [rmG]; omega, by dsimp only [rmG]; omega⟩) (cT.preV hK hZ (xS_mono hS hAZ) ⟨⟨hb1, hb2⟩, rfl, fun i hi y hy => by rw [(he i hi).1] at hy; obtain rfl := Option.some.inj hy; exact (he i hi).2.aO, haA.aO⟩ (a_recv (ci := 15) hK hb1 rfl)) rfl rfl hl.1 rfl (lv_room (Nat.le_of_ble_eq_true rfl)) dX3_either_13 ⟨by dsimp only [rmG]; omega, by dsimp only [rmG]; omega⟩) hS (fun q hq e => Or.inr (lsInA hl9a.1 hla hN0H e)) (fun q e => Or.inr (lsInA hl9a.1 hla hN0H e)) (fun v9 H locs hB9 hz9 hk9 hS => ?_)
  obtain ⟨rfl, hp9⟩ := hB9
  replace hk := va_at.kept hk (hk9 _ (at_lt hk) (lsNotA hl9a.1 hla hN0H (hN ▸ hrN0)))
  replace htp := va_at.kept htp (hk9 _ (at_lt htp) (lsNotA hl9a.1 hla hN0H (hN ▸ htN0)))
  obtain ⟨pot9, hls, hsz3, hus3⟩ := lsK.add ⟨m9, hb1, hb2⟩ hla hl9a he hL0 haA ⟨hN1a, hN1b⟩ hp9 hz9 (fun q h1 h2 => hk9 q h1 h2)
  rw [if_pos rfl] at hls
  refine lv_pop hx hb dX3_either_16 rfl ?_
  have L17_2 : ∀ (fuel : Nat) (q : Nat) (k : Nat) (pot : Nat) (cN : Nat) (sN : Nat) (L : Cd) (num : Int32), t - q < fuel → (1 ≤ k ∧ p0 + 2 * k ≤ q + 1 ∧ q ≤ t) → (cN + 16 * p0 + 2 ≤ 16 * q) → (sN + 160 * p0 + 0 + 160 * k ≤ 160 * q + pot + 59) → (yBl tp t kd 1 1 o p0 (0, L, q)) → (lxT tp t q = 1 → num = nI (min 99999 (lxN tp t q))) → (cst tp t q ≠ 212) → ∀ (H : Heap) (locs : List Loc), (va_at (gD G) g_cl (r, .inr (3, [.ref ta, .int (nI t), .int (nI (lxQ tp t q)), .int (nI (lxS tp t q)), .int (nI (cst tp t q)), .int num, .int (nI o), .int (nI kd)])) H ∧ va_at (gD G) g_cl (ta, .inl (G.2.2 1, 300, .inl Xb)) H ∧ va_S (fun q => q = r ∨ N0 ≤ q) s.heap H locs ∧ lsK G κ z N0 (6 * d + 5) 22 q_1 k pot L H) → ∀ (ls : Array Slot), lv_has ls 2 [(0, .ref r), (1, .ref q_1)] → W p l e (rmG d 25 550 (16 * n + 18) (160 * n + 144)) s m ([.ref r] : List Value).toArray below meth c H locs cN sN (vq_MQ below (tQ (gN G z r ta t Xb tp kd o p0 N0 false (6 * d + 6) 1 51 (fun v => yBl tp t kd 1 1 o p0 v ∧ (v.1 = 0 → cst tp t v.2.2 ≠ 211 ∧ cst tp t v.2.2 ≠ 212))) (fun q => q = r ∨ N0 ≤ q)) (tX (gX G t tp (fun v => yBl tp t kd 1 1 o p0 v ∧ (v.1 = 0 → cst tp t v.2.2 ≠ 211 ∧ cst tp t v.2.2 ≠ 212))) (fun q => q = r ∨ N0 ≤ q)) ([.ref r] : List Value).toArray s (16 * n + 18) (160 * n + 144) (fun q => q = r ∨ N0 ≤ q)) (F0 m 17 ls []) := by
    intro fuel
    induction fuel with
    | zero => intro q k pot cN sN L num hf; exact absurd hf (Nat.not_lt_zero _)
    | succ fuel ih =>
      intro q k pot cN sN L num hf hq hcN hsN hP hnum hn2 H locs hw ls hl
      have ih17 := ih
      obtain ⟨hk, htp, hS, hls⟩ := hw
      have hpot := hls.pot
      have hcb := cst_b tp t q
      have hrN := at_lt hk
      refine W_own (fun zo1 zo2 => ?_)
      have hNN := hS.1
      refine lv_aload_n hx hb dX3_either_17 rfl (lv_at hl 0 rfl) ?_
      refine a_get (own := RX3) (C := RX3) (T := TX3) (N := 8) (ci := 3) hx hb hts in_X3 hown hK hk rfl 4 (by decide) (hts _ q301) (fun _ h9 => h9) rfl dX3_either_18 ?_
      refine lv_sipush (v := nI 211) hx hb dX3_either_21 (by decide) ?_
      refine n_icmp_ne (tgt := 43) hx hb dX3_either_24 (by decide) (by omega) (by omega) (fun hne => ?_) (fun hne => ?_)
      · obtain ⟨k, rfl⟩ : ∃ k9, k = k9 + 1 := ⟨k - 1, by omega⟩
        obtain ⟨xs, Ls, hal, hxs, rfl⟩ := hls.lst (by omega)
        refine lv_aload_n hx hb dX3_either_43 rfl (lv_at hl 1 rfl) ?_
        refine c_read (va_runV (As := []) (rest := []) ⟨hx, hb, hml, hown, hts⟩ (met_J2_size l G (gO z N0 H.size) q_1 (k + 1) xs) (cv_X3_J2_size hts ⟨by dsimp only [rmG]; omega, by dsimp only [rmG]; omega⟩) (cP.preV hK hal (by obtain ⟨_, _, _, _, _, _, _, h8, -⟩ := hal; exact a_recv (ci := 15) hK h8 rfl)) rfl rfl hl.1 rfl (lv_room (Nat.le_of_ble_eq_true rfl)) dX3_either_44 ⟨by dsimp only [rmG]; omega, by dsimp only [rmG]; omega⟩) ?_
        refine lv_iconst (v := nI 1) hx hb dX3_either_47 (by decide) ?_
        refine n_icmp_ne (tgt := 62) hx hb dX3_either_48 (by decide) (by omega) (by omega) (fun hk1 => ?_) (fun hk1 => ?_)
        · obtain ⟨Hb, hHb⟩ : ∃ h : Heap, h = H := ⟨_, rfl⟩
          have hfr : Hb.size ≤ H.size ∧ ∀ q, q < Hb.size → H[q]? = Hb[q]? := ⟨by rw [hHb]; exact Nat.le_refl _, fun q _ => by rw [hHb]⟩
          rw [← hHb] at hal hxs
          have hba := hfr.1
          refine p_new (own := RX3) (C := RX12) (T := TX12) (N := 2) (ci := 12) (fs := [.int (nI 0), .null]) hx hb hts in_X12 tyX12 tyX12_ok hown (hts _ q709) (hts _ q710) (hts _ q123) hK rfl (by decide +kernel) (by dsimp only [rmG]; omega) (by dsimp only [rmG]; omega) dX3_either_62 (fun q_3 H hq_3 eq_3 zq_3 oq_3 => ?_)
          have lr_q_3 : r < q_3 := by have := at_lt hk; omega
          have lta_q_3 : ta < q_3 := by have := at_lt htp; omega
          replace hk := va_at.kept hk (oq_3 _ (at_lt hk))
          replace htp := va_at.kept htp (oq_3 _ (at_lt htp))
          replace hfr := show Hb.size ≤ H.size ∧ ∀ q, q < Hb.size → H[q]? = Hb[q]? from ⟨by omega, fun q h => Eq.trans (oq_3 _ (Nat.lt_of_lt_of_le h hba)) (hfr.2 q h)⟩
          replace hS := xS_new hS (by omega) oq_3
          refine lv_dup hx hb dX3_either_65 rfl ?_
          refine lv_iconst (v := nI 0) hx hb dX3_either_66 (by decide) ?_
          refine lv_aload_n hx hb dX3_either_67 rfl (lv_at hl 1 rfl) ?_
          refine W_own (fun zv1 zv2 => ?_)
          have hNN := hS.1
          have hba := hfr.1
          refine t_callR (va_runIN (As := [.int (nI 0), .ref q_1]) (rest := [.ref q_3]) ⟨hx, hb, hml, hown, hts⟩ (met_X12_init l G κ z q_3 0 q_1 (by omega) (by decide)) ⟨cn_X3_X12_init hts hK ⟨by dsimp only [rmG]; omega, by dsimp only [rmG]; omega⟩, rfl, hts _ q712⟩ (cT.pre hK hZ (xS_mono hS hAZ) hq_3) rfl rfl hl.1 rfl (lv_room (Nat.le_of_ble_eq_true rfl)) dX3_either_68 ⟨by dsimp only [rmG]; omega, by dsimp only [rmG]; omega⟩) hS (fun q hq e => Or.inr (by have e : @Eq Nat q q_3 := e; omega)) (fun q e => Or.inr (by have e : @Eq Nat q q_3 := e; omega)) (fun v9 H locs hB9 hz9 hk9 hS => ?_)
          obtain ⟨rfl, hq_3, hsv, huv⟩ := hB9
          replace hk := va_at.kept hk (hk9 _ (at_lt hk) (by omega))
          replace htp := va_at.kept htp (hk9 _ (at_lt htp) (by omega))
          replace hfr := show Hb.size ≤ H.size ∧ ∀ q, q < Hb.size → H[q]? = Hb[q]? from ⟨by omega, fun q h => Eq.trans (hk9 _ (Nat.lt_of_lt_of_le h hfr.1) (by omega)) (hfr.2 q h)⟩
          have haF : aS G (gO z N0 H.size) H ((6 * d + 5) + 1) false q_3 (tlB Ls 22 (k + 1)) := lsAll hal hxs hfr.1 hfr.2 (show 0 < 2 by decide) hq_3 (by omega) (by omega)
          refine W_own (fun z1 z2 => ?_)
          refine vq_ret ?_
          refine W.widen (k := 16 * n + 18) (n := 160 * n + 144) (by omega) (by omega) ?_
          exact t_aret hx hb hr (Or.inl ⟨_, rfl⟩) (Or.inr ⟨_, rfl⟩) hlocks ⟨_, _, q, rfl, ⟨hP, fun _ => ⟨hne, hn2⟩⟩, ⟨by omega, hq.2.2⟩, ⟨_, hnum, hk, htp⟩, haF, by omega, by omega⟩ hS dX3_either_71
        refine lv_aload_n hx hb dX3_either_51 rfl (lv_at hl 1 rfl) ?_
        refine lv_iconst (v := nI 0) hx hb dX3_either_52 (by decide) ?_
        refine c_read (va_runV (As := [.int (nI 0)]) (rest := []) ⟨hx, hb, hml, hown, hts⟩ (met_J2_get l G (gO z N0 H.size) q_1 (k + 1) xs 0 (by omega)) (cv_X3_J2_get hts ⟨by dsimp only [rmG]; omega, by dsimp only [rmG]; omega⟩) (cP.preV hK hal (by obtain ⟨_, _, _, _, _, _, _, h8, -⟩ := hal; exact a_recv (ci := 15) hK h8 rfl)) rfl rfl hl.1 rfl (lv_room (Nat.le_of_ble_eq_true rfl)) dX3_either_53 ⟨by dsimp only [rmG]; omega, by dsimp only [rmG]; omega⟩) ?_
        have hx0 := hxs 0 (by omega)
        obtain ⟨C9, hr9, hc9, -⟩ := aS_castAsked hK hx0
        refine va_castY (C := C9) hx hb hown (hts _ q708) hc9 hr9 dX3_either_56 ?_
        refine lv_goto (tgt := 71) hx hb dX3_either_59 (by decide) ?_
        obtain rfl : k = 0 := by omega
        have haF := aS.up _ _ _ _ hx0
        refine W_own (fun z1 z2 => ?_)
        refine vq_ret ?_
        refine W.widen (k := 16 * n + 18) (n := 160 * n + 144) (by omega) (by omega) ?_
        exact t_aret hx hb hr (Or.inl ⟨_, rfl⟩) (Or.inr ⟨_, rfl⟩) hlocks ⟨_, _, q, rfl, ⟨hP, fun _ => ⟨hne, hn2⟩⟩, ⟨by omega, hq.2.2⟩, ⟨_, hnum, hk, htp⟩, haF, by omega, by omega⟩ hS dX3_either_71
      have hw9 := hne
      have hlx := lxQ_gt (tp := tp) (t := t) (p0 := q) (fun e => by have := cst_0.mp e; omega)
      have hlq : lxQ tp t q ≤ t := lxQ_le hq.2.2
      refine lv_aload_n hx hb dX3_either_27 rfl (lv_at hl 0 rfl) ?_
      refine t_callR (va_runV (As := []) (rest := []) ⟨hx, hb, hml, hown, hts⟩ (met_X3_next l G κ z tp Xb r ta t (lxQ tp t q) (nI (lxS tp t q)) (nI (cst tp t q)) num (nI o) (nI kd) hXb ht (lxQ_le hq.2.2) hra hz) (cv_X3_X3_next hts ⟨by dsimp only [rmG]; omega, by dsimp only [rmG]; omega⟩) (cT.preV hK hZ (xS_mono hS hAZ) ⟨hk, htp⟩ (a_recv (ci := 3) hK hk rfl)) rfl rfl hl.1 rfl (lv_room (Nat.le_of_ble_eq_true rfl)) dX3_either_28 ⟨by dsimp only [rmG]; omega, by dsimp only [rmG]; omega⟩) hS (fun q hq e => Or.inl e) (fun q e => Or.inl e) (fun v9 H locs hB9 hz9 hk9 hS => ?_)
      obtain ⟨rfl, num9, hnum, hk, htp⟩ := hB9
      replace hls := lsK.kept hls ⟨hz, by omega⟩ hz9 (fun q h1 h2 => hk9 q h1 h2)
      refine lv_aload_n hx hb dX3_either_31 rfl (lv_at hl 1 rfl) ?_
      refine lv_aload_n hx hb dX3_either_32 rfl (lv_at hl 0 rfl) ?_
      replace hls := hls.bnd
      obtain ⟨nB, hnB⟩ := Nat.le.dest hlq
      refine W_own (fun zw1 zw2 => ?_)
      have hNN := hS.1
      refine t_call (vq_runV (As := []) (rest := [.ref q_1]) ⟨hx, hb, hml, hown, hts⟩ (h1 (lxQ tp t q) _ nB hnB (Nat.le_trans hzN (Nat.le_trans (Nat.le_of_eq hN.symm) hS.1))) (cv_X3_X3_both hts ⟨by dsimp only [rmG]; omega, by dsimp only [rmG]; omega⟩) (cT.preV hK hZ (xS_mono hS hAZ) ⟨⟨_, hnum, hk, htp⟩, rfl⟩ (a_recv (ci := 3) hK hk rfl)) rfl rfl hl.1 rfl (lv_room (Nat.le_of_ble_eq_true rfl)) dX3_either_33 ⟨by dsimp only [rmG]; omega, by dsimp only [rmG]; omega⟩) hS (fun q hq e => Or.inl (e.resolve_right (Nat.not_le.mpr hq))) (fun q e => e.elim Or.inl (fun e => Or.inr (Nat.le_trans (Nat.le_trans (Nat.le_of_eq hN.symm) hS.1) e))) (fun q9 ce9 H locs hX9 hz9 hk9 hS hc9 hv9 hl9 => ?_) (fun v9 H locs hB9 hz9 hk9 hS => ?_)
      · obtain ⟨f9, p9, hf0, hf6, hP9, hxw⟩ := hX9
        exact t_out htab hlocks hc9 hv9 hl9 ⟨f9, p9, hf0, hf6, ⟨yBl_orE hf0 hP hw9 hP9.1, fun e => absurd e hf0⟩, hxw⟩ hS (by omega) (by omega)
      obtain ⟨xB, LB, qB, rfl, hPB, hqB, ⟨num9, hnum, hk, htp⟩, haB, hszB, husB⟩ := hB9
      replace hls := lsKb.kept hls ⟨hz, by omega⟩ hz9 (fun q h1 h2 => hk9 q h1 (by omega))
      have hcb := cst_b tp t qB
      obtain ⟨arr, cap, fl, xs, Ls, ⟨m9, hb1, hb2⟩, hlc, hla, hl9a, he, hL0, hpot0, hN1a, hN1b⟩ := hls
      have hcc : cap ≤ 12 * k := hlc.2.2
      have gbc := gC_b cap
      have hhl := at_lt hb1
      have hkq : p0 + 2 * (k + 1) ≤ qB + 1 := by omega
      obtain ⟨cK, hcK, hdK⟩ : ∃ c9 : Nat, H.size ≤ s.heap.size + c9 ∧ c9 + 16 * p0 + 3 ≤ 16 * qB := ⟨16 * qB - 16 * p0 - 3, by omega, by omega⟩
      obtain ⟨sK, hsK, htK⟩ : ∃ s9 : Nat, hU H ≤ hU s.heap + s9 ∧ s9 + 160 * p0 + 0 + 160 * (k + 1) ≤ 160 * qB + pot + 59 := ⟨160 * qB + pot + 59 - 160 * p0 - 0 - 160 * (k + 1), by omega, by omega⟩
      refine W_tight (k := cK) (n := sK) hcK hsK ?_
      have hNN := hS.1
      have hN0H : N0 ≤ H.size := Nat.le_trans (Nat.le_of_eq hN.symm) hS.1
      refine t_callR (va_runV (As := [.ref xB]) (rest := []) ⟨hx, hb, hml, hown, hts⟩ (met_J2_add l G κ z q_1 k arr cap _ xB m9 fl hl9a.2 (Nat.le_trans hzN hN0H) hlc.1 (by omega) hlc.2.1) (cv_X3_J2_add hts ⟨by dsimp only [rmG]; omega, by dsimp only [rmG]; omega⟩) (cT.preV hK hZ (xS_mono hS hAZ) ⟨⟨hb1, hb2⟩, rfl, fun i hi y hy => by rw [(he i hi).1] at hy; obtain rfl := Option.some.inj hy; exact (he i hi).2.aO, haB.aO⟩ (a_recv (ci := 15) hK hb1 rfl)) rfl rfl hl.1 rfl (lv_room (Nat.le_of_ble_eq_true rfl)) dX3_either_36 ⟨by dsimp only [rmG]; omega, by dsimp only [rmG]; omega⟩) hS (fun q hq e => Or.inr (lsInA hl9a.1 hla hN0H e)) (fun q e => Or.inr (lsInA hl9a.1 hla hN0H e)) (fun v9 H locs hB9 hz9 hk9 hS => ?_)
      obtain ⟨rfl, hp9⟩ := hB9
      replace hk := va_at.kept hk (hk9 _ (at_lt hk) (lsNotA hl9a.1 hla hN0H (hN ▸ hrN0)))
      replace htp := va_at.kept htp (hk9 _ (at_lt htp) (lsNotA hl9a.1 hla hN0H (hN ▸ htN0)))
      obtain ⟨pot9, hls, hsz3, hus3⟩ := lsK.add ⟨m9, hb1, hb2⟩ hla hl9a he hL0 haB ⟨hN1a, hN1b⟩ hp9 hz9 (fun q h1 h2 => hk9 q h1 h2)
      rw [if_neg (by omega)] at hls
      refine lv_pop hx hb dX3_either_39 rfl ?_
      refine lv_goto (tgt := 17) hx hb dX3_either_40 (by decide) ?_
      obtain ⟨cJ, hcJ, hdJ⟩ : ∃ c9 : Nat, H.size ≤ s.heap.size + c9 ∧ c9 + 16 * p0 + 2 ≤ 16 * qB := ⟨16 * qB - 16 * p0 - 2, by omega, by omega⟩
      obtain ⟨sJ, hsJ, htJ⟩ : ∃ s9 : Nat, hU H ≤ hU s.heap + s9 ∧ s9 + 160 * p0 + 0 + 160 * (k + 1) ≤ 160 * qB + pot9 + 59 := ⟨160 * qB + pot9 + 59 - 160 * p0 - 0 - 160 * (k + 1), by omega, by omega⟩
      refine W_tight (k := cJ) (n := sJ) hcJ hsJ ?_
      exact ih17 qB (k + 1) pot9 cJ sJ (L ++ (LB ++ [(22, nI 0)])) num9 (by omega) ⟨by omega, hkq, hqB.2⟩ hdJ htJ (yBl_orN hP hw9 hPB.1) hnum (hPB.2 rfl) _ _ ⟨hk, htp, hS, hls⟩ ls (lv_sub hl [0, 1] rfl)
  obtain ⟨cI, hcI, hdI⟩ : ∃ c9 : Nat, H.size ≤ s.heap.size + c9 ∧ c9 + 16 * p0 + 2 ≤ 16 * qA := ⟨16 * qA - 16 * p0 - 2, by omega, by omega⟩
  obtain ⟨sI, hsI, htI⟩ : ∃ s9 : Nat, hU H ≤ hU s.heap + s9 ∧ s9 + 160 * p0 + 0 + 160 * 1 ≤ 160 * qA + pot9 + 59 := ⟨160 * qA + pot9 + 59 - 160 * p0 - 0 - 160 * 1, by omega, by omega⟩
  refine W_tight (k := cI) (n := sI) hcI hsI ?_
  exact L17_2 _ qA 1 pot9 cI sI LA num9 (Nat.lt_succ_self _) ⟨Nat.le_refl 1, by omega, hqA.2⟩ hdI htI (yBl_up hPA.1 (by decide) (by decide)) hnum (hPA.2 rfl) _ _ ⟨hk, htp, hS, hls⟩ ls (lv_sub hl [1, 0] rfl)
