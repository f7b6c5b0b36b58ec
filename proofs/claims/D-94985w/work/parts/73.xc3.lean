/-- an old cell that is none of the world's -/
def xOld (ad : Nat → Nat) (sz y : Nat) : Prop := y < sz ∧ ∀ k, (k < 675 ∧ k ≠ 60 ∧ k ≠ 132) → y ≠ ad k
theorem xOld.keep {ad : Nat → Nat} {sz y : Nat} {H0 H : Heap} {locs : List Loc} (h : xOld ad sz y) (hS : va_S (xA ad sz) H0 H locs) (hz : sz ≤ H0.size) : H[y]? = H0[y]? :=
  hS.2.1 y (Nat.lt_of_lt_of_le h.1 hz) (fun q => q.elim (fun ⟨k, hk, e⟩ => h.2 k hk e) (fun q => absurd h.1 (Nat.not_lt.mpr q)))
theorem xOld.mono {ad : Nat → Nat} {sz sz' y : Nat} (h : xOld ad sz y) (hs : sz ≤ sz') : xOld ad sz' y := ⟨Nat.lt_of_lt_of_le h.1 hs, h.2⟩
/-- the texts of a state are texts -/
def xTxt (G : gG) (ad : Nat → Nat) (sz : Nat) (T : Nat → Nat → Option Nat) (u : Nat) (H : Heap) : Prop := ∀ i, i < 4 → ∀ y, T u i = some y → xOld ad sz y ∧ ∃ vs, va_at (gD G) g_cl (y, .inr (4, vs)) H
section XV
variable {p : Program} {l : Launch} {e : Env} {R : Room} {s : State} {m : MethodId} {args : Array Value} {below : List Frame} {meth : Method} {c : Code} {H : Heap} {locs : List Loc} {cells slots : Nat} {cc : ByteArray} {pc : Nat} {ls : Array Slot}
theorem c_rvret (hx : p.tables.exec = Jvm.exec) (hb : c.code = cc) (hr : meth.sig.returnType = none) (hlocks : meth.locks = false) (hdg : decode cc pc = .ok (.return_, 1)) (hH : H = s.heap) (hl : locs = []) : W p l e R s m args below meth c H locs cells slots (MQ below (cR none) args s cells slots (fun _ => False)) (F0 m pc ls []) :=
  W.vret hx hb hr (fun t ht _ => ⟨rfl, by rw [ht]; exact hH⟩) (by rw [hl]; intro q hq; cases hq) hdg hlocks
end XV
section XT
variable {p : Program} {l : Launch} {e : Env} {R : Room} {s : State} {m : MethodId} {args : Array Value} {below : List Frame} {meth : Method} {c : Code} {H : Heap} {locs : List Loc} {cells slots : Nat} {Q : State → Prop}
variable {cc : ByteArray} {pc : Nat} {ls : Array Slot} {rest : List Value} {G : gG} {ad : Nat → Nat} {sz : Nat} {X Z : Nat → Nat → Int32} {T : Nat → Nat → Option Nat} {H0 : Heap}
theorem x_ct01 (hx : p.tables.exec = Jvm.exec) (hb : c.code = cc) (hml : c.maxLocals = ls.size) (hts : ∀ w ∈ lw_all, w.before args s = true) (hown : s.vm.findClass RX1 = some m.cls) (hK : KK G s) (hw : XS G ad sz H0 X Z T H locs) (hE : xTxt G ad sz T 0 H0) (hfr : 1 ≤ R.frames) (hlo : 40 ≤ R.locals) (hdg : decode cc pc = .ok (.invokestatic 41, 3)) (kk : ∀ (H1 : Heap) (locs1 : List Loc), XS G ad sz H0 X Z (upr T 1 (va_cpy (T 0) (T 1) 0 0 4)) H1 locs1 → W p l e R s m args below meth c H1 locs1 cells slots Q (F0 m (pc + 3) ls [])) : W p l e R s m args below meth c H locs cells slots Q (F0 m pc ls [.int (nI 4), .int (nI 0), .ref (ad 131), .int (nI 0), .ref (ad 59)]) := by
  have c0 : (nI 0).toNatClampNeg = 0 := nI_clamp (by decide)
  have c1 : (nI 4).toNatClampNeg = 4 := nI_clamp (by decide)
  refine va_copyq (D := gD G) (ws := xW G ad X Z T) (f := T 0) (g := T 1) (C := RX4) hx hb hml hown (hts _ q191) (hts _ q193) (hts _ q192) (hts _ q98) hK.1 hw.1.1 hw.1.D hw.2.1 59 131 6 6 (xW_at (k := 59) (by decide)) (xW_at (k := 131) (by decide)) rfl rfl (nI_pos (by decide)) (nI_pos (by decide)) (nI_pos (by decide)) (by rw [c0, c1]; decide) (by rw [c0, c1]; decide) (fun i hi y hy => ?_) (fun comp c0 e1 e2 => ?_) hfr (Nat.le_trans (by decide) hlo) hdg (fun H1 locs1 hP1 hD1 hS1 => ?_)
  · rw [c0, Nat.zero_add] at hy
    rw [c1] at hi
    obtain ⟨h1, vs, h2⟩ := hE i hi y hy
    have h3 : va_at (gD G) g_cl (y, .inr (4, vs)) H := va_at.kept h2 (h1.keep hw.2.1 hw.2.2)
    exact va_recv (D := gD G) (ws := [(y, .inr (4, vs))]) (ci := 4) (q0 := 0) hK.1 (fun k q hq => by cases k with | zero => cases hq; exact h3 | succ k => simp at hq) rfl rfl
  · have h := (hK.1.1 4 _ rfl).2
    cases e1.symm.trans h.1
    cases e2.symm.trans h.1
    exact va_assign h
  · rw [c0, c1] at hP1
    refine kk H1 locs1 (XS.upd hw.1.2.1 ?_ (fun k' hk' => xC_row rfl rfl (fun e9 => ?_) (fun e9 => ?_)) hP1 hS1 hw.2.2)
    · rfl
    · exact upr_ne (by decide)
    · exact absurd e9 hk'
theorem x_ct10 (hx : p.tables.exec = Jvm.exec) (hb : c.code = cc) (hml : c.maxLocals = ls.size) (hts : ∀ w ∈ lw_all, w.before args s = true) (hown : s.vm.findClass RX1 = some m.cls) (hK : KK G s) (hw : XS G ad sz H0 X Z T H locs) (hE : xTxt G ad sz T 1 H0) (hfr : 1 ≤ R.frames) (hlo : 40 ≤ R.locals) (hdg : decode cc pc = .ok (.invokestatic 41, 3)) (kk : ∀ (H1 : Heap) (locs1 : List Loc), XS G ad sz H0 X Z (upr T 0 (va_cpy (T 1) (T 0) 0 0 4)) H1 locs1 → W p l e R s m args below meth c H1 locs1 cells slots Q (F0 m (pc + 3) ls [])) : W p l e R s m args below meth c H locs cells slots Q (F0 m pc ls [.int (nI 4), .int (nI 0), .ref (ad 59), .int (nI 0), .ref (ad 131)]) := by
  have c0 : (nI 0).toNatClampNeg = 0 := nI_clamp (by decide)
  have c1 : (nI 4).toNatClampNeg = 4 := nI_clamp (by decide)
  refine va_copyq (D := gD G) (ws := xW G ad X Z T) (f := T 1) (g := T 0) (C := RX4) hx hb hml hown (hts _ q191) (hts _ q193) (hts _ q192) (hts _ q98) hK.1 hw.1.1 hw.1.D hw.2.1 131 59 6 6 (xW_at (k := 131) (by decide)) (xW_at (k := 59) (by decide)) rfl rfl (nI_pos (by decide)) (nI_pos (by decide)) (nI_pos (by decide)) (by rw [c0, c1]; decide) (by rw [c0, c1]; decide) (fun i hi y hy => ?_) (fun comp c0 e1 e2 => ?_) hfr (Nat.le_trans (by decide) hlo) hdg (fun H1 locs1 hP1 hD1 hS1 => ?_)
  · rw [c0, Nat.zero_add] at hy
    rw [c1] at hi
    obtain ⟨h1, vs, h2⟩ := hE i hi y hy
    have h3 : va_at (gD G) g_cl (y, .inr (4, vs)) H := va_at.kept h2 (h1.keep hw.2.1 hw.2.2)
    exact va_recv (D := gD G) (ws := [(y, .inr (4, vs))]) (ci := 4) (q0 := 0) hK.1 (fun k q hq => by cases k with | zero => cases hq; exact h3 | succ k => simp at hq) rfl rfl
  · have h := (hK.1.1 4 _ rfl).2
    cases e1.symm.trans h.1
    cases e2.symm.trans h.1
    exact va_assign h
  · rw [c0, c1] at hP1
    refine kk H1 locs1 (XS.upd hw.1.2.1 ?_ (fun k' hk' => xC_row rfl rfl (fun e9 => ?_) (fun e9 => ?_)) hP1 hS1 hw.2.2)
    · rfl
    · exact absurd e9 hk'
    · exact upr_ne (by decide)
end XT
set_option maxHeartbeats 4000000 in
set_option maxRecDepth 100000 in
theorem met_J12_rangeCheck (l : Launch) (G : gG) (n a b : Nat) (h1 : a ≤ b) (h2 : b ≤ n) (h3 : n < 2 ^ 31) : Met l yJ12_rangeCheck (ws_ yJ12_rangeCheck cJ12_rangeCheck 3 none) ({ frames := 0, cells := 0, slots := 0, locals := 0 } : Room) (cP G [.int (nI n), .int (nI a), .int (nI b)] (fun _ => True)) (cR none) 0 0 (fun _ => False) := by
  refine c_start (by decide) (Nat.le_of_ble_eq_true rfl) ?_
  intro p e s m below meth c hx hb hr hlocks hml hown hts hB hK ls hl
  have hl : lv_has ls 3 [(0, .int (nI n)), (1, .int (nI a)), (2, .int (nI b))] := hl
  refine lv_iload_n hx hb dJ12_rangeCheck_0 rfl (lv_at hl 1 rfl) ?_
  refine lv_iload_n hx hb dJ12_rangeCheck_1 rfl (lv_at hl 2 rfl) ?_
  refine n_icmp_le (tgt := 46) hx hb dJ12_rangeCheck_2 (by decide) (by omega) (by omega) (fun c_1 => ?_) (fun c_1 => ?_)
  · refine lv_iload_n hx hb dJ12_rangeCheck_46 rfl (lv_at hl 1 rfl) ?_
    refine n_if_ge (tgt := 59) hx hb dJ12_rangeCheck_47 (by decide) (by omega) ?_
    refine lv_iload_n hx hb dJ12_rangeCheck_59 rfl (lv_at hl 2 rfl) ?_
    refine lv_iload_n hx hb dJ12_rangeCheck_60 rfl (lv_at hl 0 rfl) ?_
    refine n_icmp_le (tgt := 73) hx hb dJ12_rangeCheck_61 (by decide) (by omega) (by omega) (fun c_2 => ?_) (fun c_2 => ?_)
    · exact c_rvret hx hb hr hlocks dJ12_rangeCheck_73 rfl rfl
    exfalso; omega
  exfalso; omega
def xZero (X : Nat → Nat → Int32) (a b : Nat) : Nat → Nat → Int32 := it (fun i X => up2 X 53 i (nI 0)) (b - a) a X
theorem xZero_ne {X : Nat → Nat → Int32} {a b k : Nat} (h : k ≠ 53) : xZero X a b k = X k :=
  it_inv (f := fun i X => up2 X 53 i (nI 0)) (fun X1 => X1 k = X k) (fun i X1 ih => (up2_row h).trans ih) _ _ _ rfl
theorem xZero_out {X : Nat → Nat → Int32} {a b j : Nat} (h : j < a ∨ b ≤ j) : xZero X a b 53 j = X 53 j := by
  refine it_rng (f := fun i X => up2 X 53 i (nI 0)) (fun i X1 => a ≤ i → X1 53 j = X 53 j) (b - a) a X (fun i X1 h1 h2 ih _ => (up2_ne (Or.inr (by omega))).trans (ih h1)) (fun _ => rfl) (by omega)
theorem xZero_in {X : Nat → Nat → Int32} {a b j : Nat} (h : a ≤ j) (h2 : j < b) : xZero X a b 53 j = nI 0 := by
  have := it_rng (f := fun i X => up2 X 53 i (nI 0)) (fun i X1 => j < i → X1 53 j = nI 0) (b - a) a X (fun i X1 h1 h2 ih hi => by
    by_cases e : j = i
    · subst e; exact up2_at
    · exact (up2_ne (Or.inr e)).trans (ih (by omega))) (fun hh => by omega)
  exact this (by omega)
set_option maxHeartbeats 4000000 in
set_option maxRecDepth 100000 in
theorem met_J12_fill (l : Launch) (G : gG) (ad : Nat → Nat) (sz : Nat) (X Z : Nat → Nat → Int32) (T : Nat → Nat → Option Nat) (a b : Nat) (h1 : a ≤ b) (h2 : b ≤ 275) : Met l yJ12_fill (ws_ yJ12_fill cJ12_fill 5 none) ({ frames := 1, cells := 0, slots := 0, locals := 22 } : Room) (cP G [.ref (ad 53), .int (nI a), .int (nI b), .int (nI 0)] (xH G ad X Z T sz)) (cQ none (xH G ad (xZero X a b) Z T sz) (xA ad sz)) 0 0 (xA ad sz) := by
  refine c_start (by decide) (Nat.le_of_ble_eq_true rfl) ?_
  intro p e s m below meth c hx hb hr hlocks hml hown hts hB hK ls hl
  have hz := hB.2.2
  have hw := XS.of hB
  have hl : lv_has ls 5 [(0, .ref (ad 53)), (1, .int (nI a)), (2, .int (nI b)), (3, .int (nI 0))] := hl
  refine lv_aload_n hx hb dJ12_fill_0 rfl (lv_at hl 0 rfl) ?_
  refine x_lenx (n := 275) hx hb hK hw (by decide) (by decide) dJ12_fill_1 ?_
  refine lv_iload_n hx hb dJ12_fill_2 rfl (lv_at hl 1 rfl) ?_
  refine lv_iload_n hx hb dJ12_fill_3 rfl (lv_at hl 2 rfl) ?_
  refine c_read (va_runS (As := [.int (nI 275), .int (nI a), .int (nI b)]) (rest := []) ⟨hx, hb, hml, hown, hts⟩ (met_J12_rangeCheck l G 275 a b (by omega) (by omega) (by omega)) (cs_J12_J12_rangeCheck hts ⟨Nat.le_of_ble_eq_true rfl, Nat.le_of_ble_eq_true rfl⟩) (cP.pre hK trivial) rfl rfl hl.1 rfl (lv_room (Nat.le_of_ble_eq_true rfl)) dJ12_fill_4 ⟨by first | exact Nat.zero_le _ | omega | decide, by first | exact Nat.zero_le _ | omega | decide⟩) ?_
  refine lv_iload_n hx hb dJ12_fill_7 rfl (lv_at hl 1 rfl) ?_
  refine lv_istore (lv' := [(4, .int (nI a)), (0, .ref (ad 53)), (1, .int (nI a)), (2, .int (nI b)), (3, .int (nI 0))]) hx hb dJ12_fill_8 hl (by decide) rfl (fun ls hl => ?_)
  have L_10 : ∀ (fuel : Nat) (i : Nat) (X1 : Nat → Nat → Int32), b - i < fuel → (i ≤ b) → (a ≤ i) → (it (fun i9 X9 => (up2 X9 53 i9 (nI 0))) (b - i) i X1 = (it (fun i9 X9 => (up2 X9 53 i9 (nI 0))) (b - a) a X)) → ∀ (H : Heap) (locs : List Loc), XS G ad sz s.heap X1 Z T H locs → ∀ (ls : Array Slot), lv_has ls 5 [(0, .ref (ad 53)), (1, .int (nI a)), (2, .int (nI b)), (3, .int (nI 0)), (4, .int (nI i))] → W p l e ({ frames := 1, cells := 0, slots := 0, locals := 22 } : Room) s m ([.ref (ad 53), .int (nI a), .int (nI b), .int (nI 0)] : List Value).toArray below meth c H locs 0 0 (MQ below (cQ none (xH G ad (xZero X a b) Z T sz) (xA ad sz)) ([.ref (ad 53), .int (nI a), .int (nI b), .int (nI 0)] : List Value).toArray s 0 0 (xA ad sz)) (F0 m 10 ls []) := by
    intro fuel
    induction fuel with
    | zero => intro i X1 hf; exact absurd hf (Nat.not_lt_zero _)
    | succ fuel ih =>
      intro i X1 hf hi_X1 hj_X1 hM_X1 H locs hw ls hl
      have ih10 := ih
      refine lv_iload hx hb dJ12_fill_10 (lv_at hl 4 rfl) ?_
      refine lv_iload_n hx hb dJ12_fill_12 rfl (lv_at hl 2 rfl) ?_
      refine n_icmp_ge (tgt := 27) hx hb dJ12_fill_13 (by decide) (by omega) (by omega) (fun c_1 => ?_) (fun c_1 => ?_)
      · obtain rfl : X1 = (it (fun i9 X9 => (up2 X9 53 i9 (nI 0))) (b - a) a X) := (it_z (by omega)).symm.trans hM_X1
        exact c_vret hx hb hr hlocks (xH.to rfl rfl rfl hw.1) hw.2.1 dJ12_fill_27
      refine lv_aload_n hx hb dJ12_fill_16 rfl (lv_at hl 0 rfl) ?_
      refine lv_iload hx hb dJ12_fill_17 (lv_at hl 4 rfl) ?_
      refine lv_iload_n hx hb dJ12_fill_19 rfl (lv_at hl 3 rfl) ?_
      refine x_s (k := 53) (j := i) (n := 275) hx hb hK hw (by decide) (by omega) dJ12_fill_20 (fun H locs hw => ?_)
      refine lv_iinc (v := nI (i + 1)) (lv' := [(4, .int (nI (i + 1))), (0, .ref (ad 53)), (1, .int (nI a)), (2, .int (nI b)), (3, .int (nI 0))]) hx hb dJ12_fill_21 hl (k := 4) rfl (n_inc i 1) (by decide) rfl (fun ls hl => ?_)
      refine lv_goto (tgt := 10) hx hb dJ12_fill_24 (by decide) ?_
      exact ih10 (i + 1) (up2 X1 53 i (nI 0)) (by omega) (by omega) (by omega) ((it_s (by omega)).symm.trans hM_X1) _ _ hw ls (lv_sub hl [1, 2, 3, 4, 0] rfl)
  exact L_10 _ a X (Nat.lt_succ_self _) (by omega) (by omega) rfl _ _ hw ls (lv_sub hl [1, 2, 3, 4, 0] rfl)
def xBe (X : Nat → Nat → Int32) (o d : Nat) : Nat → Nat → Int32 := xCpR (xCpR (xCpR (xCpR (upr (upr (upr X (d + 1) (X (o + 1))) (d + 2) (X (o + 2))) (d + 3) (X (o + 3))) (o + 10) (d + 10) 6) (o + 16) (d + 16) 6) (o + 22) (d + 22) 20) (o + 42) (d + 42) 30
theorem xBe_out {X : Nat → Nat → Int32} {o d k : Nat} (h : k ≤ d ∨ d + 72 ≤ k) : xBe X o d k = X k := by
  unfold xBe
  rw [xCpR_out (by omega), xCpR_out (by omega), xCpR_out (by omega), xCpR_out (by omega), upr_ne (by omega), upr_ne (by omega), upr_ne (by omega)]
theorem xBe_in {X : Nat → Nat → Int32} {o d r : Nat} (hd : o + 72 ≤ d ∨ d + 72 ≤ o) (hr : (1 ≤ r ∧ r ≤ 3) ∨ (10 ≤ r ∧ r < 72)) : xBe X o d (d + r) = X (o + r) := by
  have in_ : ∀ {Y : Nat → Nat → Int32} {a n : Nat}, a ≤ r → r < a + n → xCpR Y (o + a) (d + a) n (d + r) = Y (o + r) := fun h1 h2 => by
    unfold xCpR
    rw [if_pos (by omega)]
    congr 1
    omega
  have out : ∀ {Y : Nat → Nat → Int32} {a n q : Nat}, (q = d + r ∨ q = o + r) → (r < a ∨ a + n ≤ r) → a + n ≤ 72 → xCpR Y (o + a) (d + a) n q = Y q := fun h0 h1 h2 => xCpR_out (by omega)
  unfold xBe
  by_cases c1 : 42 ≤ r
  · rw [in_ c1 (by omega), out (Or.inr rfl) (by omega) (by omega), out (Or.inr rfl) (by omega) (by omega), out (Or.inr rfl) (by omega) (by omega), upr_ne (by omega), upr_ne (by omega), upr_ne (by omega)]
  rw [out (Or.inl rfl) (by omega) (by omega)]
  by_cases c2 : 22 ≤ r
  · rw [in_ c2 (by omega), out (Or.inr rfl) (by omega) (by omega), out (Or.inr rfl) (by omega) (by omega), upr_ne (by omega), upr_ne (by omega), upr_ne (by omega)]
  rw [out (Or.inl rfl) (by omega) (by omega)]
  by_cases c3 : 16 ≤ r
  · rw [in_ c3 (by omega), out (Or.inr rfl) (by omega) (by omega), upr_ne (by omega), upr_ne (by omega), upr_ne (by omega)]
  rw [out (Or.inl rfl) (by omega) (by omega)]
  by_cases c4 : 10 ≤ r
  · rw [in_ c4 (by omega), upr_ne (by omega), upr_ne (by omega), upr_ne (by omega)]
  rw [out (Or.inl rfl) (by omega) (by omega)]
  obtain rfl | rfl | rfl : r = 1 ∨ r = 2 ∨ r = 3 := by omega
  · rw [upr_ne (by omega), upr_ne (by omega), upr_at]
  · rw [upr_ne (by omega), upr_at]
  · rw [upr_at]
set_option maxHeartbeats 4000000 in
set_option maxRecDepth 100000 in
theorem met_X1_be_image (l : Launch) (G : gG) (ad : Nat → Nat) (sz : Nat) (X Z : Nat → Nat → Int32) (T : Nat → Nat → Option Nat) : Met l yX1_be (ws_ yX1_be cX1_be 2 none) ({ frames := 3, cells := 0, slots := 0, locals := 83 } : Room) (cP G [.ref (ad 123), .ref (ad 51)] (fun H => xH G ad X Z T sz H ∧ xTxt G ad sz T 0 H)) (cQ none (xH G ad (xBe X 51 123) Z (upr T 1 (va_cpy (T 0) (T 1) 0 0 4)) sz) (xA ad sz)) 0 0 (xA ad sz) := by
  refine c_start (by decide) (Nat.le_of_ble_eq_true rfl) ?_
  intro p e s m below meth c hx hb hr hlocks hml hown hts hB hK ls hl
  obtain ⟨hB, hE⟩ := hB
  have hz := hB.2.2
  have hw := XS.of hB
  have hl : lv_has ls 2 [(0, .ref (ad 123)), (1, .ref (ad 51))] := hl
  refine lv_aload_n hx hb dX1_be_0 rfl (lv_at hl 1 rfl) ?_
  refine x_sX1_51_n hx hb hts hown hK hw dX1_be_1 ?_
  refine lv_aload_n hx hb dX1_be_4 rfl (lv_at hl 0 rfl) ?_
  refine x_sX1_123_n hx hb hts hown hK hw dX1_be_5 ?_
  refine c_call (va_runS (As := [.ref (ad 52), .ref (ad 124)]) (rest := []) ⟨hx, hb, hml, hown, hts⟩ (met_X1_copy l G (ad 52) (ad 124) 7 (X 52) (X 124) (fun e9 => absurd (hw.1.2.1 _ _ (xLen_R (k := 52) (by rw [show xLen 52 = 7 from by decide]; decide)) (xLen_R (k := 124) (by rw [show xLen 124 = 7 from by decide]; decide)) e9) (by omega)) (by decide)) (cs_X1_X1_copy hts ⟨Nat.le_of_ble_eq_true rfl, Nat.le_of_ble_eq_true rfl⟩) (cP.pre hK ⟨(hw.1.atx (by decide) (by decide)), (hw.1.atx (by decide) (by decide))⟩) rfl rfl hl.1 rfl (lv_room (Nat.le_of_ble_eq_true rfl)) dX1_be_8 ⟨by first | exact Nat.zero_le _ | omega | decide, by first | exact Nat.zero_le _ | omega | decide⟩) hw.2.1 (fun q _ e9 => Or.inl ⟨124, (xLen_R (k := 124) (by rw [show xLen 124 = 7 from by decide]; decide)), e9⟩) (fun q h9 => h9.elim (fun e9 => Or.inl ⟨52, (xLen_R (k := 52) (by rw [show xLen 52 = 7 from by decide]; decide)), e9⟩) (fun e9 => Or.inl ⟨124, (xLen_R (k := 124) (by rw [show xLen 124 = 7 from by decide]; decide)), e9⟩)) (fun H locs hB9 hz9 hk9 hS9 => ?_)
  replace hw := XS.row hw (by decide) (by decide) hB9 hz9 hk9 hS9
  clear hB9 hz9 hk9 hS9
  refine lv_aload_n hx hb dX1_be_11 rfl (lv_at hl 1 rfl) ?_
  refine x_sX1_51_row hx hb hts hown hK hw dX1_be_12 ?_
  refine lv_aload_n hx hb dX1_be_15 rfl (lv_at hl 0 rfl) ?_
  refine x_sX1_123_row hx hb hts hown hK hw dX1_be_16 ?_
  refine c_call (va_runS (As := [.ref (ad 53), .ref (ad 125)]) (rest := []) ⟨hx, hb, hml, hown, hts⟩ (met_X1_copy l G (ad 53) (ad 125) 275 ((upr X 124 (X 52)) 53) ((upr X 124 (X 52)) 125) (fun e9 => absurd (hw.1.2.1 _ _ (xLen_R (k := 53) (by rw [show xLen 53 = 275 from by decide]; decide)) (xLen_R (k := 125) (by rw [show xLen 125 = 275 from by decide]; decide)) e9) (by omega)) (by decide)) (cs_X1_X1_copy hts ⟨Nat.le_of_ble_eq_true rfl, Nat.le_of_ble_eq_true rfl⟩) (cP.pre hK ⟨(hw.1.atx (by decide) (by decide)), (hw.1.atx (by decide) (by decide))⟩) rfl rfl hl.1 rfl (lv_room (Nat.le_of_ble_eq_true rfl)) dX1_be_19 ⟨by first | exact Nat.zero_le _ | omega | decide, by first | exact Nat.zero_le _ | omega | decide⟩) hw.2.1 (fun q _ e9 => Or.inl ⟨125, (xLen_R (k := 125) (by rw [show xLen 125 = 275 from by decide]; decide)), e9⟩) (fun q h9 => h9.elim (fun e9 => Or.inl ⟨53, (xLen_R (k := 53) (by rw [show xLen 53 = 275 from by decide]; decide)), e9⟩) (fun e9 => Or.inl ⟨125, (xLen_R (k := 125) (by rw [show xLen 125 = 275 from by decide]; decide)), e9⟩)) (fun H locs hB9 hz9 hk9 hS9 => ?_)
  replace hw := XS.row hw (by decide) (by decide) hB9 hz9 hk9 hS9
  clear hB9 hz9 hk9 hS9
  refine lv_aload_n hx hb dX1_be_22 rfl (lv_at hl 1 rfl) ?_
  refine x_sX1_51_seen hx hb hts hown hK hw dX1_be_23 ?_
  refine lv_aload_n hx hb dX1_be_26 rfl (lv_at hl 0 rfl) ?_
  refine x_sX1_123_seen hx hb hts hown hK hw dX1_be_27 ?_
  refine c_call (va_runS (As := [.ref (ad 54), .ref (ad 126)]) (rest := []) ⟨hx, hb, hml, hown, hts⟩ (met_X1_copy l G (ad 54) (ad 126) 8 ((upr (upr X 124 (X 52)) 125 ((upr X 124 (X 52)) 53)) 54) ((upr (upr X 124 (X 52)) 125 ((upr X 124 (X 52)) 53)) 126) (fun e9 => absurd (hw.1.2.1 _ _ (xLen_R (k := 54) (by rw [show xLen 54 = 8 from by decide]; decide)) (xLen_R (k := 126) (by rw [show xLen 126 = 8 from by decide]; decide)) e9) (by omega)) (by decide)) (cs_X1_X1_copy hts ⟨Nat.le_of_ble_eq_true rfl, Nat.le_of_ble_eq_true rfl⟩) (cP.pre hK ⟨(hw.1.atx (by decide) (by decide)), (hw.1.atx (by decide) (by decide))⟩) rfl rfl hl.1 rfl (lv_room (Nat.le_of_ble_eq_true rfl)) dX1_be_30 ⟨by first | exact Nat.zero_le _ | omega | decide, by first | exact Nat.zero_le _ | omega | decide⟩) hw.2.1 (fun q _ e9 => Or.inl ⟨126, (xLen_R (k := 126) (by rw [show xLen 126 = 8 from by decide]; decide)), e9⟩) (fun q h9 => h9.elim (fun e9 => Or.inl ⟨54, (xLen_R (k := 54) (by rw [show xLen 54 = 8 from by decide]; decide)), e9⟩) (fun e9 => Or.inl ⟨126, (xLen_R (k := 126) (by rw [show xLen 126 = 8 from by decide]; decide)), e9⟩)) (fun H locs hB9 hz9 hk9 hS9 => ?_)
  replace hw := XS.row hw (by decide) (by decide) hB9 hz9 hk9 hS9
  clear hB9 hz9 hk9 hS9
  refine lv_aload_n hx hb dX1_be_33 rfl (lv_at hl 1 rfl) ?_
  refine x_sX1_51_blower hx hb hts hown hK hw dX1_be_34 ?_
  refine lv_aload_n hx hb dX1_be_37 rfl (lv_at hl 0 rfl) ?_
  refine x_sX1_123_blower hx hb hts hown hK hw dX1_be_38 ?_
  refine c_call (va_runS (As := [.ref (ad 55), .ref (ad 127)]) (rest := []) ⟨hx, hb, hml, hown, hts⟩ (met_X1_copy_2 l G ad sz (upr (upr (upr X 124 (X 52)) 125 ((upr X 124 (X 52)) 53)) 126 ((upr (upr X 124 (X 52)) 125 ((upr X 124 (X 52)) 53)) 54)) Z T 55 127 6 61 133 3 xO_55 xO_127 (fun _ h9 => xL_61 h9) (fun _ h9 => xL_133 h9) (by decide) (by decide) (by decide) (by decide)) (cs_X1_X1_copy_2 hts ⟨Nat.le_of_ble_eq_true rfl, Nat.le_of_ble_eq_true rfl⟩) (cP.pre hK hw.1) rfl rfl hl.1 rfl (lv_room (Nat.le_of_ble_eq_true rfl)) dX1_be_41 ⟨by first | exact Nat.zero_le _ | omega | decide, by first | exact Nat.zero_le _ | omega | decide⟩) hw.2.1 (fun q _ h => h) (fun q h => h) (fun H locs hw _ _ hS => ?_)
  replace hw := XS.mk hw hS hz
  refine lv_aload_n hx hb dX1_be_44 rfl (lv_at hl 1 rfl) ?_
  refine x_sX1_51_kind hx hb hts hown hK hw dX1_be_45 ?_
  refine lv_aload_n hx hb dX1_be_48 rfl (lv_at hl 0 rfl) ?_
  refine x_sX1_123_kind hx hb hts hown hK hw dX1_be_49 ?_
  refine c_call (va_runS (As := [.ref (ad 56), .ref (ad 128)]) (rest := []) ⟨hx, hb, hml, hown, hts⟩ (met_X1_copy_2 l G ad sz (xCpR (upr (upr (upr X 124 (X 52)) 125 ((upr X 124 (X 52)) 53)) 126 ((upr (upr X 124 (X 52)) 125 ((upr X 124 (X 52)) 53)) 54)) 61 133 6) Z T 56 128 6 67 139 3 xO_56 xO_128 (fun _ h9 => xL_67 h9) (fun _ h9 => xL_139 h9) (by decide) (by decide) (by decide) (by decide)) (cs_X1_X1_copy_2 hts ⟨Nat.le_of_ble_eq_true rfl, Nat.le_of_ble_eq_true rfl⟩) (cP.pre hK hw.1) rfl rfl hl.1 rfl (lv_room (Nat.le_of_ble_eq_true rfl)) dX1_be_52 ⟨by first | exact Nat.zero_le _ | omega | decide, by first | exact Nat.zero_le _ | omega | decide⟩) hw.2.1 (fun q _ h => h) (fun q h => h) (fun H locs hw _ _ hS => ?_)
  replace hw := XS.mk hw hS hz
  refine lv_aload_n hx hb dX1_be_55 rfl (lv_at hl 1 rfl) ?_
  refine x_sX1_51_told hx hb hts hown hK hw dX1_be_56 ?_
  refine lv_aload_n hx hb dX1_be_59 rfl (lv_at hl 0 rfl) ?_
  refine x_sX1_123_told hx hb hts hown hK hw dX1_be_60 ?_
  refine c_call (va_runS (As := [.ref (ad 57), .ref (ad 129)]) (rest := []) ⟨hx, hb, hml, hown, hts⟩ (met_X1_copy_2 l G ad sz (xCpR (xCpR (upr (upr (upr X 124 (X 52)) 125 ((upr X 124 (X 52)) 53)) 126 ((upr (upr X 124 (X 52)) 125 ((upr X 124 (X 52)) 53)) 54)) 61 133 6) 67 139 6) Z T 57 129 20 73 145 4 xO_57 xO_129 (fun _ h9 => xL_73 h9) (fun _ h9 => xL_145 h9) (by decide) (by decide) (by decide) (by decide)) (cs_X1_X1_copy_2 hts ⟨Nat.le_of_ble_eq_true rfl, Nat.le_of_ble_eq_true rfl⟩) (cP.pre hK hw.1) rfl rfl hl.1 rfl (lv_room (Nat.le_of_ble_eq_true rfl)) dX1_be_63 ⟨by first | exact Nat.zero_le _ | omega | decide, by first | exact Nat.zero_le _ | omega | decide⟩) hw.2.1 (fun q _ h => h) (fun q h => h) (fun H locs hw _ _ hS => ?_)
  replace hw := XS.mk hw hS hz
  refine lv_aload_n hx hb dX1_be_66 rfl (lv_at hl 1 rfl) ?_
  refine x_sX1_51_step hx hb hts hown hK hw dX1_be_67 ?_
  refine lv_aload_n hx hb dX1_be_70 rfl (lv_at hl 0 rfl) ?_
  refine x_sX1_123_step hx hb hts hown hK hw dX1_be_71 ?_
  refine c_call (va_runS (As := [.ref (ad 58), .ref (ad 130)]) (rest := []) ⟨hx, hb, hml, hown, hts⟩ (met_X1_copy_2 l G ad sz (xCpR (xCpR (xCpR (upr (upr (upr X 124 (X 52)) 125 ((upr X 124 (X 52)) 53)) 126 ((upr (upr X 124 (X 52)) 125 ((upr X 124 (X 52)) 53)) 54)) 61 133 6) 67 139 6) 73 145 20) Z T 58 130 30 93 165 275 xO_58 xO_130 (fun _ h9 => xL_93 h9) (fun _ h9 => xL_165 h9) (by decide) (by decide) (by decide) (by decide)) (cs_X1_X1_copy_2 hts ⟨Nat.le_of_ble_eq_true rfl, Nat.le_of_ble_eq_true rfl⟩) (cP.pre hK hw.1) rfl rfl hl.1 rfl (lv_room (Nat.le_of_ble_eq_true rfl)) dX1_be_74 ⟨by first | exact Nat.zero_le _ | omega | decide, by first | exact Nat.zero_le _ | omega | decide⟩) hw.2.1 (fun q _ h => h) (fun q h => h) (fun H locs hw _ _ hS => ?_)
  replace hw := XS.mk hw hS hz
  refine lv_aload_n hx hb dX1_be_77 rfl (lv_at hl 1 rfl) ?_
  refine x_sX1_51_text hx hb hts hown hK hw dX1_be_78 ?_
  refine lv_iconst (v := nI 0) hx hb dX1_be_81 (by decide) ?_
  refine lv_aload_n hx hb dX1_be_82 rfl (lv_at hl 0 rfl) ?_
  refine x_sX1_123_text hx hb hts hown hK hw dX1_be_83 ?_
  refine lv_iconst (v := nI 0) hx hb dX1_be_86 (by decide) ?_
  refine lv_iconst (v := nI 4) hx hb dX1_be_87 (by decide) ?_
  refine x_ct01 hx hb (hml.trans hl.1.symm) hts hown hK hw hE (Nat.le_of_ble_eq_true rfl) (Nat.le_of_ble_eq_true rfl) dX1_be_88 (fun H locs hw => ?_)
  exact c_vret hx hb hr hlocks (xH.to rfl rfl rfl hw.1) hw.2.1 dX1_be_91
set_option maxHeartbeats 4000000 in
set_option maxRecDepth 100000 in
theorem met_X0_image (l : Launch) (G : gG) (ad : Nat → Nat) (sz : Nat) (X Z : Nat → Nat → Int32) (T : Nat → Nat → Option Nat) : Met l yX0_image (ws_ yX0_image cX0_image 1 (some .int)) ({ frames := 4, cells := 0, slots := 0, locals := 104 } : Room) (cP G [.ref (ad 0)] (fun H => xH G ad X Z T sz H ∧ xTxt G ad sz T 0 H)) (cQ (some (.int (X 53 113))) (xH G ad (xBe X 51 123) Z (upr T 1 (va_cpy (T 0) (T 1) 0 0 4)) sz) (xA ad sz)) 0 0 (xA ad sz) := by
  refine c_start (by decide) (Nat.le_of_ble_eq_true rfl) ?_
  intro p e s m below meth c hx hb hr hlocks hml hown hts hB hK ls hl
  obtain ⟨hB, hE⟩ := hB
  have hz := hB.2.2
  have hw := XS.of hB
  have hl : lv_has ls 1 [(0, .ref (ad 0))] := hl
  refine lv_aload_n hx hb dX0_image_0 rfl (lv_at hl 0 rfl) ?_
  refine x_g_image hx hb hts hown hK hw dX0_image_1 ?_
  refine lv_aload_n hx hb dX0_image_4 rfl (lv_at hl 0 rfl) ?_
  refine x_g_now hx hb hts hown hK hw dX0_image_5 ?_
  refine c_call (va_runV (As := [.ref (ad 51)]) (rest := []) ⟨hx, hb, hml, hown, hts⟩ (met_X1_be_image l G ad sz X Z T) (cv_X0_X1_be hts ⟨Nat.le_of_ble_eq_true rfl, Nat.le_of_ble_eq_true rfl⟩) (cP.preV hK ⟨hw.1, hE⟩ (hw.1.recv1 hK)) rfl rfl hl.1 rfl (lv_room (Nat.le_of_ble_eq_true rfl)) dX0_image_8 ⟨by first | exact Nat.zero_le _ | omega | decide, by first | exact Nat.zero_le _ | omega | decide⟩) hw.2.1 (fun q _ h => h) (fun q h => h) (fun H locs hw _ _ hS => ?_)
  replace hw := XS.mk hw hS hz
  refine lv_aload_n hx hb dX0_image_11 rfl (lv_at hl 0 rfl) ?_
  refine c_read (va_runV (As := []) (rest := []) ⟨hx, hb, hml, hown, hts⟩ (met_X0_hour l G ad sz (xBe X 51 123) Z (upr T 1 (va_cpy (T 0) (T 1) 0 0 4)) (X 53 113) (congrFun (xBe_out (by decide)) 113)) (cv_X0_X0_hour hts ⟨Nat.le_of_ble_eq_true rfl, Nat.le_of_ble_eq_true rfl⟩) (cP.preV hK hw.1 (hw.1.recv hK)) rfl rfl hl.1 rfl (lv_room (Nat.le_of_ble_eq_true rfl)) dX0_image_12 ⟨by first | exact Nat.zero_le _ | omega | decide, by first | exact Nat.zero_le _ | omega | decide⟩) ?_
  exact c_iret (v := X 53 113) (by first | rfl | simp [pif_true, pif_false]) hx hb hr rfl hlocks (xH.to rfl rfl rfl hw.1) hw.2.1 dX0_image_15
set_option maxHeartbeats 4000000 in
set_option maxRecDepth 100000 in
theorem met_X1_be_back (l : Launch) (G : gG) (ad : Nat → Nat) (sz : Nat) (X Z : Nat → Nat → Int32) (T : Nat → Nat → Option Nat) : Met l yX1_be (ws_ yX1_be cX1_be 2 none) ({ frames := 3, cells := 0, slots := 0, locals := 83 } : Room) (cP G [.ref (ad 51), .ref (ad 123)] (fun H => xH G ad X Z T sz H ∧ xTxt G ad sz T 1 H)) (cQ none (xH G ad (xBe X 123 51) Z (upr T 0 (va_cpy (T 1) (T 0) 0 0 4)) sz) (xA ad sz)) 0 0 (xA ad sz) := by
  refine c_start (by decide) (Nat.le_of_ble_eq_true rfl) ?_
  intro p e s m below meth c hx hb hr hlocks hml hown hts hB hK ls hl
  obtain ⟨hB, hE⟩ := hB
  have hz := hB.2.2
  have hw := XS.of hB
  have hl : lv_has ls 2 [(0, .ref (ad 51)), (1, .ref (ad 123))] := hl
  refine lv_aload_n hx hb dX1_be_0 rfl (lv_at hl 1 rfl) ?_
  refine x_sX1_123_n hx hb hts hown hK hw dX1_be_1 ?_
  refine lv_aload_n hx hb dX1_be_4 rfl (lv_at hl 0 rfl) ?_
  refine x_sX1_51_n hx hb hts hown hK hw dX1_be_5 ?_
  refine c_call (va_runS (As := [.ref (ad 124), .ref (ad 52)]) (rest := []) ⟨hx, hb, hml, hown, hts⟩ (met_X1_copy l G (ad 124) (ad 52) 7 (X 124) (X 52) (fun e9 => absurd (hw.1.2.1 _ _ (xLen_R (k := 124) (by rw [show xLen 124 = 7 from by decide]; decide)) (xLen_R (k := 52) (by rw [show xLen 52 = 7 from by decide]; decide)) e9) (by omega)) (by decide)) (cs_X1_X1_copy hts ⟨Nat.le_of_ble_eq_true rfl, Nat.le_of_ble_eq_true rfl⟩) (cP.pre hK ⟨(hw.1.atx (by decide) (by decide)), (hw.1.atx (by decide) (by decide))⟩) rfl rfl hl.1 rfl (lv_room (Nat.le_of_ble_eq_true rfl)) dX1_be_8 ⟨by first | exact Nat.zero_le _ | omega | decide, by first | exact Nat.zero_le _ | omega | decide⟩) hw.2.1 (fun q _ e9 => Or.inl ⟨52, (xLen_R (k := 52) (by rw [show xLen 52 = 7 from by decide]; decide)), e9⟩) (fun q h9 => h9.elim (fun e9 => Or.inl ⟨124, (xLen_R (k := 124) (by rw [show xLen 124 = 7 from by decide]; decide)), e9⟩) (fun e9 => Or.inl ⟨52, (xLen_R (k := 52) (by rw [show xLen 52 = 7 from by decide]; decide)), e9⟩)) (fun H locs hB9 hz9 hk9 hS9 => ?_)
  replace hw := XS.row hw (by decide) (by decide) hB9 hz9 hk9 hS9
  clear hB9 hz9 hk9 hS9
  refine lv_aload_n hx hb dX1_be_11 rfl (lv_at hl 1 rfl) ?_
  refine x_sX1_123_row hx hb hts hown hK hw dX1_be_12 ?_
  refine lv_aload_n hx hb dX1_be_15 rfl (lv_at hl 0 rfl) ?_
  refine x_sX1_51_row hx hb hts hown hK hw dX1_be_16 ?_
  refine c_call (va_runS (As := [.ref (ad 125), .ref (ad 53)]) (rest := []) ⟨hx, hb, hml, hown, hts⟩ (met_X1_copy l G (ad 125) (ad 53) 275 ((upr X 52 (X 124)) 125) ((upr X 52 (X 124)) 53) (fun e9 => absurd (hw.1.2.1 _ _ (xLen_R (k := 125) (by rw [show xLen 125 = 275 from by decide]; decide)) (xLen_R (k := 53) (by rw [show xLen 53 = 275 from by decide]; decide)) e9) (by omega)) (by decide)) (cs_X1_X1_copy hts ⟨Nat.le_of_ble_eq_true rfl, Nat.le_of_ble_eq_true rfl⟩) (cP.pre hK ⟨(hw.1.atx (by decide) (by decide)), (hw.1.atx (by decide) (by decide))⟩) rfl rfl hl.1 rfl (lv_room (Nat.le_of_ble_eq_true rfl)) dX1_be_19 ⟨by first | exact Nat.zero_le _ | omega | decide, by first | exact Nat.zero_le _ | omega | decide⟩) hw.2.1 (fun q _ e9 => Or.inl ⟨53, (xLen_R (k := 53) (by rw [show xLen 53 = 275 from by decide]; decide)), e9⟩) (fun q h9 => h9.elim (fun e9 => Or.inl ⟨125, (xLen_R (k := 125) (by rw [show xLen 125 = 275 from by decide]; decide)), e9⟩) (fun e9 => Or.inl ⟨53, (xLen_R (k := 53) (by rw [show xLen 53 = 275 from by decide]; decide)), e9⟩)) (fun H locs hB9 hz9 hk9 hS9 => ?_)
  replace hw := XS.row hw (by decide) (by decide) hB9 hz9 hk9 hS9
  clear hB9 hz9 hk9 hS9
  refine lv_aload_n hx hb dX1_be_22 rfl (lv_at hl 1 rfl) ?_
  refine x_sX1_123_seen hx hb hts hown hK hw dX1_be_23 ?_
  refine lv_aload_n hx hb dX1_be_26 rfl (lv_at hl 0 rfl) ?_
  refine x_sX1_51_seen hx hb hts hown hK hw dX1_be_27 ?_
  refine c_call (va_runS (As := [.ref (ad 126), .ref (ad 54)]) (rest := []) ⟨hx, hb, hml, hown, hts⟩ (met_X1_copy l G (ad 126) (ad 54) 8 ((upr (upr X 52 (X 124)) 53 ((upr X 52 (X 124)) 125)) 126) ((upr (upr X 52 (X 124)) 53 ((upr X 52 (X 124)) 125)) 54) (fun e9 => absurd (hw.1.2.1 _ _ (xLen_R (k := 126) (by rw [show xLen 126 = 8 from by decide]; decide)) (xLen_R (k := 54) (by rw [show xLen 54 = 8 from by decide]; decide)) e9) (by omega)) (by decide)) (cs_X1_X1_copy hts ⟨Nat.le_of_ble_eq_true rfl, Nat.le_of_ble_eq_true rfl⟩) (cP.pre hK ⟨(hw.1.atx (by decide) (by decide)), (hw.1.atx (by decide) (by decide))⟩) rfl rfl hl.1 rfl (lv_room (Nat.le_of_ble_eq_true rfl)) dX1_be_30 ⟨by first | exact Nat.zero_le _ | omega | decide, by first | exact Nat.zero_le _ | omega | decide⟩) hw.2.1 (fun q _ e9 => Or.inl ⟨54, (xLen_R (k := 54) (by rw [show xLen 54 = 8 from by decide]; decide)), e9⟩) (fun q h9 => h9.elim (fun e9 => Or.inl ⟨126, (xLen_R (k := 126) (by rw [show xLen 126 = 8 from by decide]; decide)), e9⟩) (fun e9 => Or.inl ⟨54, (xLen_R (k := 54) (by rw [show xLen 54 = 8 from by decide]; decide)), e9⟩)) (fun H locs hB9 hz9 hk9 hS9 => ?_)
  replace hw := XS.row hw (by decide) (by decide) hB9 hz9 hk9 hS9
  clear hB9 hz9 hk9 hS9
  refine lv_aload_n hx hb dX1_be_33 rfl (lv_at hl 1 rfl) ?_
  refine x_sX1_123_blower hx hb hts hown hK hw dX1_be_34 ?_
  refine lv_aload_n hx hb dX1_be_37 rfl (lv_at hl 0 rfl) ?_
  refine x_sX1_51_blower hx hb hts hown hK hw dX1_be_38 ?_
  refine c_call (va_runS (As := [.ref (ad 127), .ref (ad 55)]) (rest := []) ⟨hx, hb, hml, hown, hts⟩ (met_X1_copy_2 l G ad sz (upr (upr (upr X 52 (X 124)) 53 ((upr X 52 (X 124)) 125)) 54 ((upr (upr X 52 (X 124)) 53 ((upr X 52 (X 124)) 125)) 126)) Z T 127 55 6 133 61 3 xO_127 xO_55 (fun _ h9 => xL_133 h9) (fun _ h9 => xL_61 h9) (by decide) (by decide) (by decide) (by decide)) (cs_X1_X1_copy_2 hts ⟨Nat.le_of_ble_eq_true rfl, Nat.le_of_ble_eq_true rfl⟩) (cP.pre hK hw.1) rfl rfl hl.1 rfl (lv_room (Nat.le_of_ble_eq_true rfl)) dX1_be_41 ⟨by first | exact Nat.zero_le _ | omega | decide, by first | exact Nat.zero_le _ | omega | decide⟩) hw.2.1 (fun q _ h => h) (fun q h => h) (fun H locs hw _ _ hS => ?_)
  replace hw := XS.mk hw hS hz
  refine lv_aload_n hx hb dX1_be_44 rfl (lv_at hl 1 rfl) ?_
  refine x_sX1_123_kind hx hb hts hown hK hw dX1_be_45 ?_
  refine lv_aload_n hx hb dX1_be_48 rfl (lv_at hl 0 rfl) ?_
  refine x_sX1_51_kind hx hb hts hown hK hw dX1_be_49 ?_
  refine c_call (va_runS (As := [.ref (ad 128), .ref (ad 56)]) (rest := []) ⟨hx, hb, hml, hown, hts⟩ (met_X1_copy_2 l G ad sz (xCpR (upr (upr (upr X 52 (X 124)) 53 ((upr X 52 (X 124)) 125)) 54 ((upr (upr X 52 (X 124)) 53 ((upr X 52 (X 124)) 125)) 126)) 133 61 6) Z T 128 56 6 139 67 3 xO_128 xO_56 (fun _ h9 => xL_139 h9) (fun _ h9 => xL_67 h9) (by decide) (by decide) (by decide) (by decide)) (cs_X1_X1_copy_2 hts ⟨Nat.le_of_ble_eq_true rfl, Nat.le_of_ble_eq_true rfl⟩) (cP.pre hK hw.1) rfl rfl hl.1 rfl (lv_room (Nat.le_of_ble_eq_true rfl)) dX1_be_52 ⟨by first | exact Nat.zero_le _ | omega | decide, by first | exact Nat.zero_le _ | omega | decide⟩) hw.2.1 (fun q _ h => h) (fun q h => h) (fun H locs hw _ _ hS => ?_)
  replace hw := XS.mk hw hS hz
  refine lv_aload_n hx hb dX1_be_55 rfl (lv_at hl 1 rfl) ?_
  refine x_sX1_123_told hx hb hts hown hK hw dX1_be_56 ?_
  refine lv_aload_n hx hb dX1_be_59 rfl (lv_at hl 0 rfl) ?_
  refine x_sX1_51_told hx hb hts hown hK hw dX1_be_60 ?_
  refine c_call (va_runS (As := [.ref (ad 129), .ref (ad 57)]) (rest := []) ⟨hx, hb, hml, hown, hts⟩ (met_X1_copy_2 l G ad sz (xCpR (xCpR (upr (upr (upr X 52 (X 124)) 53 ((upr X 52 (X 124)) 125)) 54 ((upr (upr X 52 (X 124)) 53 ((upr X 52 (X 124)) 125)) 126)) 133 61 6) 139 67 6) Z T 129 57 20 145 73 4 xO_129 xO_57 (fun _ h9 => xL_145 h9) (fun _ h9 => xL_73 h9) (by decide) (by decide) (by decide) (by decide)) (cs_X1_X1_copy_2 hts ⟨Nat.le_of_ble_eq_true rfl, Nat.le_of_ble_eq_true rfl⟩) (cP.pre hK hw.1) rfl rfl hl.1 rfl (lv_room (Nat.le_of_ble_eq_true rfl)) dX1_be_63 ⟨by first | exact Nat.zero_le _ | omega | decide, by first | exact Nat.zero_le _ | omega | decide⟩) hw.2.1 (fun q _ h => h) (fun q h => h) (fun H locs hw _ _ hS => ?_)
  replace hw := XS.mk hw hS hz
  refine lv_aload_n hx hb dX1_be_66 rfl (lv_at hl 1 rfl) ?_
  refine x_sX1_123_step hx hb hts hown hK hw dX1_be_67 ?_
  refine lv_aload_n hx hb dX1_be_70 rfl (lv_at hl 0 rfl) ?_
  refine x_sX1_51_step hx hb hts hown hK hw dX1_be_71 ?_
  refine c_call (va_runS (As := [.ref (ad 130), .ref (ad 58)]) (rest := []) ⟨hx, hb, hml, hown, hts⟩ (met_X1_copy_2 l G ad sz (xCpR (xCpR (xCpR (upr (upr (upr X 52 (X 124)) 53 ((upr X 52 (X 124)) 125)) 54 ((upr (upr X 52 (X 124)) 53 ((upr X 52 (X 124)) 125)) 126)) 133 61 6) 139 67 6) 145 73 20) Z T 130 58 30 165 93 275 xO_130 xO_58 (fun _ h9 => xL_165 h9) (fun _ h9 => xL_93 h9) (by decide) (by decide) (by decide) (by decide)) (cs_X1_X1_copy_2 hts ⟨Nat.le_of_ble_eq_true rfl, Nat.le_of_ble_eq_true rfl⟩) (cP.pre hK hw.1) rfl rfl hl.1 rfl (lv_room (Nat.le_of_ble_eq_true rfl)) dX1_be_74 ⟨by first | exact Nat.zero_le _ | omega | decide, by first | exact Nat.zero_le _ | omega | decide⟩) hw.2.1 (fun q _ h => h) (fun q h => h) (fun H locs hw _ _ hS => ?_)
  replace hw := XS.mk hw hS hz
  refine lv_aload_n hx hb dX1_be_77 rfl (lv_at hl 1 rfl) ?_
  refine x_sX1_123_text hx hb hts hown hK hw dX1_be_78 ?_
  refine lv_iconst (v := nI 0) hx hb dX1_be_81 (by decide) ?_
  refine lv_aload_n hx hb dX1_be_82 rfl (lv_at hl 0 rfl) ?_
  refine x_sX1_51_text hx hb hts hown hK hw dX1_be_83 ?_
  refine lv_iconst (v := nI 0) hx hb dX1_be_86 (by decide) ?_
  refine lv_iconst (v := nI 4) hx hb dX1_be_87 (by decide) ?_
  refine x_ct10 hx hb (hml.trans hl.1.symm) hts hown hK hw hE (Nat.le_of_ble_eq_true rfl) (Nat.le_of_ble_eq_true rfl) dX1_be_88 (fun H locs hw => ?_)
  exact c_vret hx hb hr hlocks (xH.to rfl rfl rfl hw.1) hw.2.1 dX1_be_91
set_option maxHeartbeats 4000000 in
set_option maxRecDepth 100000 in
theorem met_X0_back (l : Launch) (G : gG) (ad : Nat → Nat) (sz : Nat) (X Z : Nat → Nat → Int32) (T : Nat → Nat → Option Nat) : Met l yX0_back (ws_ yX0_back cX0_back 1 (some .int)) ({ frames := 4, cells := 0, slots := 0, locals := 104 } : Room) (cP G [.ref (ad 0)] (fun H => xH G ad X Z T sz H ∧ xTxt G ad sz T 1 H)) (cQ (some (.int (X 125 113))) (xH G ad (xBe X 123 51) Z (upr T 0 (va_cpy (T 1) (T 0) 0 0 4)) sz) (xA ad sz)) 0 0 (xA ad sz) := by
  refine c_start (by decide) (Nat.le_of_ble_eq_true rfl) ?_
  intro p e s m below meth c hx hb hr hlocks hml hown hts hB hK ls hl
  obtain ⟨hB, hE⟩ := hB
  have hz := hB.2.2
  have hw := XS.of hB
  have hl : lv_has ls 1 [(0, .ref (ad 0))] := hl
  refine lv_aload_n hx hb dX0_back_0 rfl (lv_at hl 0 rfl) ?_
  refine x_g_now hx hb hts hown hK hw dX0_back_1 ?_
  refine lv_aload_n hx hb dX0_back_4 rfl (lv_at hl 0 rfl) ?_
  refine x_g_image hx hb hts hown hK hw dX0_back_5 ?_
  refine c_call (va_runV (As := [.ref (ad 123)]) (rest := []) ⟨hx, hb, hml, hown, hts⟩ (met_X1_be_back l G ad sz X Z T) (cv_X0_X1_be hts ⟨Nat.le_of_ble_eq_true rfl, Nat.le_of_ble_eq_true rfl⟩) (cP.preV hK ⟨hw.1, hE⟩ (hw.1.recv0 hK)) rfl rfl hl.1 rfl (lv_room (Nat.le_of_ble_eq_true rfl)) dX0_back_8 ⟨by first | exact Nat.zero_le _ | omega | decide, by first | exact Nat.zero_le _ | omega | decide⟩) hw.2.1 (fun q _ h => h) (fun q h => h) (fun H locs hw _ _ hS => ?_)
  replace hw := XS.mk hw hS hz
  refine lv_aload_n hx hb dX0_back_11 rfl (lv_at hl 0 rfl) ?_
  refine c_read (va_runV (As := []) (rest := []) ⟨hx, hb, hml, hown, hts⟩ (met_X0_hour l G ad sz (xBe X 123 51) Z (upr T 0 (va_cpy (T 1) (T 0) 0 0 4)) (X 125 113) (congrFun (xBe_in (X := X) (r := 2) (by decide) (by decide)) 113)) (cv_X0_X0_hour hts ⟨Nat.le_of_ble_eq_true rfl, Nat.le_of_ble_eq_true rfl⟩) (cP.preV hK hw.1 (hw.1.recv hK)) rfl rfl hl.1 rfl (lv_room (Nat.le_of_ble_eq_true rfl)) dX0_back_12 ⟨by first | exact Nat.zero_le _ | omega | decide, by first | exact Nat.zero_le _ | omega | decide⟩) ?_
  exact c_iret (v := X 125 113) (by first | rfl | simp [pif_true, pif_false]) hx hb hr rfl hlocks (xH.to rfl rfl rfl hw.1) hw.2.1 dX0_back_15
