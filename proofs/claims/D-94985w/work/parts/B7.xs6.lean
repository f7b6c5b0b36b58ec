/-! ArrayList.add (printed by gen/xs6.py) -/
theorem gC_b (c : Nat) : gC c + 4 * c ≤ 4 * gC c ∧ c < gC c ∧ gC c ≤ 10 + 2 * c := by
  unfold gC
  by_cases h : c = 0
  · rw [if_pos h]; omega
  · rw [if_neg h]; omega
/-- what adding x to the list leaves -/
abbrev lsP (G : gG) (z l k arr cap N0 x : Nat) (f : Nat → Option Nat) (H0 H1 : Heap) : Prop := ∃ (mc : Int32) (arr1 cap1 : Nat) (g : Nat → Option Nat), va_at (gD G) g_cl (l, .inr (15, [.int mc, .ref arr1, .int (nI (k + 1))])) H1 ∧ va_at (gD G) g_cl (arr1, .inl (G.2.2 8, cap1, .inr (.inr (.inr (.inr g))))) H1 ∧ g k = some x ∧ (∀ i, i < k → g i = f i) ∧ (k + 1 ≤ cap1 ∧ cap1 ≤ 10 + 2 * (k + 1)) ∧ (z ≤ arr1 ∧ arr1 ≠ l) ∧ (arr1 = arr ∧ 0 < cap ∨ N0 ≤ arr1) ∧ H1.size ≤ N0 + 1 ∧ hU H1 + 4 * cap ≤ hU H0 + 4 * cap1
theorem cls_ne {s : State} {n1 n2 : String} {c1 c2 : ClassId} (h1 : s.vm.findClass n1 = some c1) (h2 : s.vm.findClass n2 = some c2) (hn : n1 ≠ n2) : c1 ≠ c2 := by
  rintro rfl
  obtain ⟨k1, a1, b1⟩ := Vm.findClass_spec h1
  obtain ⟨k2, a2, b2⟩ := Vm.findClass_spec h2
  rw [a1] at a2
  obtain rfl := Option.some.inj a2
  exact hn (b1.symm.trans b2)
theorem modS {args : Array Value} {s : State} (hts : ∀ w ∈ lw_all, w.before args s = true) : ∀ x, s.fieldFound? "java/util/AbstractList" "modCount" "I" = some x → s.fieldFound? "java/util/ArrayList" "modCount" "I" = some x := by
  intro x h
  have hw : (Cond.sameField "java/util/ArrayList" "java/util/AbstractList" "modCount" "I").before args s = true := hts _ q352
  cases hi : s.fieldFound? "java/util/ArrayList" "modCount" "I" with
  | none => simp [Cond.before, Cond.holds, Cond.value, hi] at hw
  | some y =>
    obtain ⟨c, k, i, f⟩ := y
    rw [Cond.sameField_spec hi hw] at h
    exact h
theorem aO.fc {G : gG} {H : Heap} {x : Nat} {s : State} (hK : KK G s) (h : aO G H x) : ∃ (C : String) (cell : Cell), H[x]? = some cell ∧ s.vm.findClass C = some cell.cls ∧ C ≠ RJ2 ∧ C ≠ "[Ljava/lang/Object;" := by
  obtain ⟨ci, hc, cell, q1, q2, q3⟩ := h
  rcases hc with rfl | rfl | rfl | rfl | rfl | rfl | rfl | rfl | rfl | rfl
  · exact ⟨RX6, cell, q1, by rw [q3]; exact ((hK.1.1 6 _ rfl).2).1, by decide +kernel, by decide +kernel⟩
  · exact ⟨RX7, cell, q1, by rw [q3]; exact ((hK.1.1 7 _ rfl).2).1, by decide +kernel, by decide +kernel⟩
  · exact ⟨RX8, cell, q1, by rw [q3]; exact ((hK.1.1 8 _ rfl).2).1, by decide +kernel, by decide +kernel⟩
  · exact ⟨RX9, cell, q1, by rw [q3]; exact ((hK.1.1 9 _ rfl).2).1, by decide +kernel, by decide +kernel⟩
  · exact ⟨RX10, cell, q1, by rw [q3]; exact ((hK.1.1 10 _ rfl).2).1, by decide +kernel, by decide +kernel⟩
  · exact ⟨RX11, cell, q1, by rw [q3]; exact ((hK.1.1 11 _ rfl).2).1, by decide +kernel, by decide +kernel⟩
  · exact ⟨RX12, cell, q1, by rw [q3]; exact ((hK.1.1 12 _ rfl).2).1, by decide +kernel, by decide +kernel⟩
  · exact ⟨RX13, cell, q1, by rw [q3]; exact ((hK.1.1 13 _ rfl).2).1, by decide +kernel, by decide +kernel⟩
  · exact ⟨RX14, cell, q1, by rw [q3]; exact ((hK.1.1 14 _ rfl).2).1, by decide +kernel, by decide +kernel⟩
  · exact ⟨RJ15, cell, q1, by rw [q3]; exact ((hK.1.1 16 _ rfl).2).1, by decide +kernel, by decide +kernel⟩
theorem aO.ne_l {G : gG} {H : Heap} {x l : Nat} {fs : List Value} {s : State} (hK : KK G s) (h : aO G H x) (hl : va_at (gD G) g_cl (l, .inr (15, fs)) H) : x ≠ l := by
  rintro rfl
  obtain ⟨C, cell, q1, q2, q3, -⟩ := h.fc hK
  obtain ⟨r, h1, cell2, p1, p2, p3, -⟩ := hl
  rw [p1] at q1
  obtain rfl := Option.some.inj q1
  refine cls_ne q2 ((hK.1.1 15 _ rfl).2).1 q3 ?_
  rw [p2]
theorem aO.ne_a {G : gG} {H : Heap} {x a n : Nat} {f : Nat → Option Nat} {s : State} (hK : KK G s) (h : aO G H x) (ha : va_at (gD G) g_cl (a, .inl (G.2.2 8, n, .inr (.inr (.inr (.inr f))))) H) : x ≠ a := by
  rintro rfl
  obtain ⟨C, cell, q1, q2, -, q3⟩ := h.fc hK
  obtain ⟨kA0, comp0, k1, k2, k3, k4⟩ := (hK.1.2 8 _ rfl).2
  have ha : H[x]? = some _ := ha
  rw [q1] at ha
  obtain rfl := Option.some.inj ha
  exact cls_ne q2 k4 q3 rfl
theorem up_s {f : Nat → Option Nat} {k : Nat} {x : Option Nat} : va_up f k x k = x := if_pos rfl
theorem up_o {f : Nat → Option Nat} {k i : Nat} {x : Option Nat} (h : i ≠ k) : va_up f k x i = f i := if_neg h
set_option maxHeartbeats 4000000 in
set_option maxRecDepth 100000 in
theorem met_J2_add_2 (l1 : Launch) (G : gG) (κ : kK) (z : Nat) (l k arr cap N0 x : Nat) (mc : Int32) (f : Nat → Option Nat) (hz : z ≤ l) (hzN : z ≤ N0) (hcase : (k = 0 ∧ cap = 0 ∧ arr = κ.2.2.2 3) ∨ (0 < cap ∧ k ≤ cap ∧ z ≤ arr ∧ arr ≠ l)) (hk20 : k < 2 ^ 18) (hcap : cap ≤ 10 + 2 * k) : Met l1 yJ2_add_2 (ws_ yJ2_add_2 cJ2_add_2 4 none) ({ frames := 5, cells := 1, slots := gC cap, locals := 163 } : Room) (cT G κ z [.ref l, .ref x, .ref arr, .int (nI k)] (fun H => lsB G l k arr cap mc f H ∧ H.size = N0 ∧ (∀ i, i < k → ∀ y, f i = some y → aO G H y) ∧ aO G H x)) (tQ (fun ov H0 H1 => ov = none ∧ lsP G z l k arr cap N0 x f H0 H1) (fun q => q = l ∨ (q = arr ∧ 0 < cap) ∨ N0 ≤ q)) 1 (gC cap) (fun q => q = l ∨ (q = arr ∧ 0 < cap) ∨ N0 ≤ q) := by
  refine t_startR (by decide) (Nat.le_of_ble_eq_true rfl) ?_
  intro p e s m below meth c hx hb hr hlocks hml hown hts hB hK hZ hname ls hl
  have hl : lv_has ls 4 [(0, .ref l), (1, .ref x), (2, .ref arr), (3, .int (nI k))] := hl
  obtain ⟨⟨hk, hka⟩, hN, hel, hxO⟩ := hB
  have hAZ : ∀ q, (q = l ∨ (q = arr ∧ 0 < cap) ∨ N0 ≤ q) → aZ z q := fun q e => show z ≤ q by rcases e with e | ⟨e, e2⟩ | e <;> rcases hcase with ⟨h7, h8, -⟩ | ⟨h7, h8, h9, h10⟩ <;> omega
  have hS : va_S (fun q => q = l ∨ (q = arr ∧ 0 < cap) ∨ N0 ≤ q) s.heap s.heap [] := va_S.rf
  have hlN := at_lt hk
  have gb := gC_b cap
  have hxl := hxO.ne_l hK hk
  have hxa : 0 < cap → x ≠ arr := fun h9 => hxO.ne_a hK (hka h9)
  have hxN := hxO.lt
  rcases hcase with ⟨hk0, hc0, ha0⟩ | ⟨hc0, hkc, hza, hal⟩
  · refine lv_iload_n hx hb dJ2_add_2_0 rfl (lv_at hl 3 rfl) ?_
    refine lv_aload_n hx hb dJ2_add_2_1 rfl (lv_at hl 2 rfl) ?_
    refine va_tlen (v := nI 0) hx hb (ha0 ▸ hZ.2.2.2.2.2.2.2.1.2) (xS_mono hS hAZ) rfl dJ2_add_2_2 ?_
    refine n_icmp_ne (tgt := 11) hx hb dJ2_add_2_3 (by decide) (by omega) (by omega) (fun h9 => absurd hk0 h9) (fun _ => ?_)
    refine lv_aload_n hx hb dJ2_add_2_6 rfl (lv_at hl 0 rfl) ?_
    refine t_callR (va_runV (As := []) (rest := []) ⟨hx, hb, hml, hown, hts⟩ (met_J2_grow l1 G κ z l k arr cap N0 mc f hz hzN (Or.inl ⟨hk0, hc0, ha0⟩) hk20) (cv_J2_J2_grow hts ⟨Nat.le_of_ble_eq_true rfl, Nat.le_of_ble_eq_true rfl⟩) (cT.preV hK hZ (xS_mono hS hAZ) ⟨⟨hk, hka⟩, hN, hel⟩ (a_recv (ci := 15) hK hk rfl)) rfl rfl hl.1 rfl (lv_room (Nat.le_of_ble_eq_true rfl)) dJ2_add_2_7 ⟨by show _ ≤ 1; omega, by show _ ≤ gC cap; omega⟩) hS (fun q hq e => e) (fun q e => e) (fun v9 H locs hB9 hz9 hk9 hS => ?_)
    obtain ⟨rfl, ⟨hk, g1, hb1, hg1⟩, hsz, hu9⟩ := hB9
    replace hxO := aO.kept hxO (hk9 _ (aO.lt hxO) (by omega))
    refine lv_astore_n (lv' := [(2, .ref N0), (0, .ref l), (1, .ref x), (3, .int (nI k))]) hx hb dJ2_add_2_10 rfl hl (by decide) rfl (fun ls hl => ?_)
    refine lv_aload_n hx hb dJ2_add_2_11 rfl (lv_at hl 0 rfl) ?_
    refine lv_iload_n hx hb dJ2_add_2_12 rfl (lv_at hl 3 rfl) ?_
    refine lv_aload_n hx hb dJ2_add_2_13 rfl (lv_at hl 2 rfl) ?_
    obtain ⟨C9, hr9, hc9⟩ := hxO.cast hK
    refine p_aast (C := C9) (E := "java/lang/Object") (t := 8) (j := k) (n := gC cap) (f := g1) hx hb hK hb1 rfl hr9 hc9 (by omega) (by omega) dJ2_add_2_14 (fun H locs hb1 hz9 ho9 hl9 => ?_)
    replace hk := va_at.kept hk (ho9 _ (by omega))
    replace hS := xS_put hS (Or.inr (Or.inr (Nat.le_refl _))) hz9 ho9 hl9
    refine lv_aload_n hx hb dJ2_add_2_15 rfl (lv_at hl 1 rfl) ?_
    refine lv_iload_n hx hb dJ2_add_2_16 rfl (lv_at hl 3 rfl) ?_
    refine lv_iconst (v := nI 1) hx hb dJ2_add_2_17 (by decide) ?_
    refine n_iadd hx hb dJ2_add_2_18 ?_
    refine p_put (own := RJ2) (C := RJ2) (T := TJ2) (N := 3) (ci := 15) (a := l) (fs := [.int mc, .ref N0, .int (nI k)]) (ty := tyJ2 2) (v := .int (nI (k + 1))) hx hb hts in_J2 tyJ2 tyJ2_ok nmJ2 hown hK hk rfl 2 (by decide) (hts _ q349) (fun _ h9 => h9) rfl (tyJ2_ok 2 (by decide)) rfl rfl (Nat.le_of_ble_eq_true rfl) dJ2_add_2_19 (fun H locs hk hz9 ho9 hl9 => ?_)
    replace hk : va_at (gD G) g_cl (l, .inr (15, [.int mc, .ref N0, .int (nI (k + 1))])) H := hk
    replace hb1 := va_at.kept hb1 (ho9 _ (by omega))
    replace hS := xS_put hS (Or.inl rfl) hz9 ho9 hl9
    refine W_own (fun z1 z2 => ?_)
    refine W.widen (k := 1) (n := gC cap) (by omega) (by omega) ?_
    exact t_vret hx hb hr hlocks ⟨rfl, _, N0, gC cap, _, hk, hb1, up_s, fun i hi => (up_o (Nat.ne_of_lt hi)).trans (hg1 i hi), ⟨by omega, by omega⟩, ⟨by omega, by omega⟩, Or.inr (Nat.le_refl _), by omega, by omega⟩ hS dJ2_add_2_22
  · replace hka := hka hc0
    refine lv_iload_n hx hb dJ2_add_2_0 rfl (lv_at hl 3 rfl) ?_
    refine lv_aload_n hx hb dJ2_add_2_1 rfl (lv_at hl 2 rfl) ?_
    refine p_len (n := cap) (t := 8) hx hb hK hka rfl dJ2_add_2_2 ?_
    refine n_icmp_ne (tgt := 11) hx hb dJ2_add_2_3 (by decide) (by omega) (by omega) (fun hkn => ?_) (fun hke => ?_)
    · refine lv_aload_n hx hb dJ2_add_2_11 rfl (lv_at hl 2 rfl) ?_
      refine lv_iload_n hx hb dJ2_add_2_12 rfl (lv_at hl 3 rfl) ?_
      refine lv_aload_n hx hb dJ2_add_2_13 rfl (lv_at hl 1 rfl) ?_
      obtain ⟨C9, hr9, hc9⟩ := hxO.cast hK
      refine p_aast (C := C9) (E := "java/lang/Object") (t := 8) (j := k) (n := cap) (f := f) hx hb hK hka rfl hr9 hc9 (by omega) (by omega) dJ2_add_2_14 (fun H locs hka hz9 ho9 hl9 => ?_)
      replace hk := va_at.kept hk (ho9 _ hal.symm)
      replace hS := xS_put hS (Or.inr (Or.inl ⟨rfl, hc0⟩)) hz9 ho9 hl9
      refine lv_aload_n hx hb dJ2_add_2_15 rfl (lv_at hl 0 rfl) ?_
      refine lv_iload_n hx hb dJ2_add_2_16 rfl (lv_at hl 3 rfl) ?_
      refine lv_iconst (v := nI 1) hx hb dJ2_add_2_17 (by decide) ?_
      refine n_iadd hx hb dJ2_add_2_18 ?_
      refine p_put (own := RJ2) (C := RJ2) (T := TJ2) (N := 3) (ci := 15) (a := l) (fs := [.int mc, .ref arr, .int (nI k)]) (ty := tyJ2 2) (v := .int (nI (k + 1))) hx hb hts in_J2 tyJ2 tyJ2_ok nmJ2 hown hK hk rfl 2 (by decide) (hts _ q349) (fun _ h9 => h9) rfl (tyJ2_ok 2 (by decide)) rfl rfl (Nat.le_of_ble_eq_true rfl) dJ2_add_2_19 (fun H locs hk hz9 ho9 hl9 => ?_)
      replace hk : va_at (gD G) g_cl (l, .inr (15, [.int mc, .ref arr, .int (nI (k + 1))])) H := hk
      replace hka := va_at.kept hka (ho9 _ hal)
      replace hS := xS_put hS (Or.inl rfl) hz9 ho9 hl9
      refine W_own (fun z1 z2 => ?_)
      refine W.widen (k := 1) (n := gC cap) (by omega) (by omega) ?_
      exact t_vret hx hb hr hlocks ⟨rfl, _, arr, cap, _, hk, hka, up_s, fun i hi => up_o (Nat.ne_of_lt hi), ⟨by omega, by omega⟩, ⟨by omega, by omega⟩, Or.inl ⟨rfl, hc0⟩, by omega, by omega⟩ hS dJ2_add_2_22
    refine lv_aload_n hx hb dJ2_add_2_6 rfl (lv_at hl 0 rfl) ?_
    refine t_callR (va_runV (As := []) (rest := []) ⟨hx, hb, hml, hown, hts⟩ (met_J2_grow l1 G κ z l k arr cap N0 mc f hz hzN (Or.inr ⟨hc0, hke, hza, hal⟩) hk20) (cv_J2_J2_grow hts ⟨Nat.le_of_ble_eq_true rfl, Nat.le_of_ble_eq_true rfl⟩) (cT.preV hK hZ (xS_mono hS hAZ) ⟨⟨hk, fun _ => hka⟩, hN, hel⟩ (a_recv (ci := 15) hK hk rfl)) rfl rfl hl.1 rfl (lv_room (Nat.le_of_ble_eq_true rfl)) dJ2_add_2_7 ⟨by show _ ≤ 1; omega, by show _ ≤ gC cap; omega⟩) hS (fun q hq e => e) (fun q e => e) (fun v9 H locs hB9 hz9 hk9 hS => ?_)
    obtain ⟨rfl, ⟨hk, g1, hb1, hg1⟩, hsz, hu9⟩ := hB9
    replace hxO := aO.kept hxO (hk9 _ (aO.lt hxO) (by omega))
    refine lv_astore_n (lv' := [(2, .ref N0), (0, .ref l), (1, .ref x), (3, .int (nI k))]) hx hb dJ2_add_2_10 rfl hl (by decide) rfl (fun ls hl => ?_)
    refine lv_aload_n hx hb dJ2_add_2_11 rfl (lv_at hl 0 rfl) ?_
    refine lv_iload_n hx hb dJ2_add_2_12 rfl (lv_at hl 3 rfl) ?_
    refine lv_aload_n hx hb dJ2_add_2_13 rfl (lv_at hl 2 rfl) ?_
    obtain ⟨C9, hr9, hc9⟩ := hxO.cast hK
    refine p_aast (C := C9) (E := "java/lang/Object") (t := 8) (j := k) (n := gC cap) (f := g1) hx hb hK hb1 rfl hr9 hc9 (by omega) (by omega) dJ2_add_2_14 (fun H locs hb1 hz9 ho9 hl9 => ?_)
    replace hk := va_at.kept hk (ho9 _ (by omega))
    replace hS := xS_put hS (Or.inr (Or.inr (Nat.le_refl _))) hz9 ho9 hl9
    refine lv_aload_n hx hb dJ2_add_2_15 rfl (lv_at hl 1 rfl) ?_
    refine lv_iload_n hx hb dJ2_add_2_16 rfl (lv_at hl 3 rfl) ?_
    refine lv_iconst (v := nI 1) hx hb dJ2_add_2_17 (by decide) ?_
    refine n_iadd hx hb dJ2_add_2_18 ?_
    refine p_put (own := RJ2) (C := RJ2) (T := TJ2) (N := 3) (ci := 15) (a := l) (fs := [.int mc, .ref N0, .int (nI k)]) (ty := tyJ2 2) (v := .int (nI (k + 1))) hx hb hts in_J2 tyJ2 tyJ2_ok nmJ2 hown hK hk rfl 2 (by decide) (hts _ q349) (fun _ h9 => h9) rfl (tyJ2_ok 2 (by decide)) rfl rfl (Nat.le_of_ble_eq_true rfl) dJ2_add_2_19 (fun H locs hk hz9 ho9 hl9 => ?_)
    replace hk : va_at (gD G) g_cl (l, .inr (15, [.int mc, .ref N0, .int (nI (k + 1))])) H := hk
    replace hb1 := va_at.kept hb1 (ho9 _ (by omega))
    replace hS := xS_put hS (Or.inl rfl) hz9 ho9 hl9
    refine W_own (fun z1 z2 => ?_)
    refine W.widen (k := 1) (n := gC cap) (by omega) (by omega) ?_
    exact t_vret hx hb hr hlocks ⟨rfl, _, N0, gC cap, _, hk, hb1, up_s, fun i hi => (up_o (Nat.ne_of_lt hi)).trans (hg1 i hi), ⟨by omega, by omega⟩, ⟨by omega, by omega⟩, Or.inr (Nat.le_refl _), by omega, by omega⟩ hS dJ2_add_2_22
set_option maxHeartbeats 4000000 in
set_option maxRecDepth 100000 in
theorem met_J2_add (l1 : Launch) (G : gG) (κ : kK) (z : Nat) (l k arr cap N0 x : Nat) (mc : Int32) (f : Nat → Option Nat) (hz : z ≤ l) (hzN : z ≤ N0) (hcase : (k = 0 ∧ cap = 0 ∧ arr = κ.2.2.2 3) ∨ (0 < cap ∧ k ≤ cap ∧ z ≤ arr ∧ arr ≠ l)) (hk20 : k < 2 ^ 18) (hcap : cap ≤ 10 + 2 * k) : Met l1 yJ2_add (ws_ yJ2_add cJ2_add 2 (some .boolean)) ({ frames := 6, cells := 1, slots := gC cap, locals := 186 } : Room) (cT G κ z [.ref l, .ref x] (fun H => lsB G l k arr cap mc f H ∧ H.size = N0 ∧ (∀ i, i < k → ∀ y, f i = some y → aO G H y) ∧ aO G H x)) (tQ (fun ov H0 H1 => ov = (some (.int (nI 1))) ∧ lsP G z l k arr cap N0 x f H0 H1) (fun q => q = l ∨ (q = arr ∧ 0 < cap) ∨ N0 ≤ q)) 1 (gC cap) (fun q => q = l ∨ (q = arr ∧ 0 < cap) ∨ N0 ≤ q) := by
  refine t_startR (by decide) (Nat.le_of_ble_eq_true rfl) ?_
  intro p e s m below meth c hx hb hr hlocks hml hown hts hB hK hZ hname ls hl
  have hl : lv_has ls 2 [(0, .ref l), (1, .ref x)] := hl
  obtain ⟨⟨hk, hka⟩, hN, hel, hxO⟩ := hB
  have hAZ : ∀ q, (q = l ∨ (q = arr ∧ 0 < cap) ∨ N0 ≤ q) → aZ z q := fun q e => show z ≤ q by rcases e with e | ⟨e, e2⟩ | e <;> rcases hcase with ⟨h7, h8, -⟩ | ⟨h7, h8, h9, h10⟩ <;> omega
  have hS : va_S (fun q => q = l ∨ (q = arr ∧ 0 < cap) ∨ N0 ≤ q) s.heap s.heap [] := va_S.rf
  have hlN := at_lt hk
  have gb := gC_b cap
  have hxl := hxO.ne_l hK hk
  have hxa : 0 < cap → x ≠ arr := fun h9 => hxO.ne_a hK (hka h9)
  have hxN := hxO.lt
  have hal9 : 0 < cap → arr ≠ l := fun h9 => by rcases hcase with ⟨h7, h8, -⟩ | ⟨h7, h8, h9, h10⟩; omega; exact h10
  have hyl : ∀ i, i < k → ∀ y, f i = some y → y ≠ l := fun i hi y hy => (hel i hi y hy).ne_l hK hk
  refine lv_aload_n hx hb dJ2_add_0 rfl (lv_at hl 0 rfl) ?_
  refine lv_dup hx hb dJ2_add_1 rfl ?_
  refine a_get (own := RJ2) (C := RJ2) (T := TJ2) (N := 3) (ci := 15) hx hb hts in_J2 hown hK hk rfl 0 (by decide) (hts _ q351) (modS hts) rfl dJ2_add_2 ?_
  refine lv_iconst (v := nI 1) hx hb dJ2_add_5 (by decide) ?_
  refine lv_iadd hx hb dJ2_add_6 ?_
  refine p_put (own := RJ2) (C := RJ2) (T := TJ2) (N := 3) (ci := 15) (a := l) (fs := [.int mc, .ref arr, .int (nI k)]) (ty := tyJ2 0) (v := .int (mc + (nI 1))) hx hb hts in_J2 tyJ2 tyJ2_ok nmJ2 hown hK hk rfl 0 (by decide) (hts _ q351) (modS hts) rfl (tyJ2_ok 0 (by decide)) rfl rfl (Nat.le_of_ble_eq_true rfl) dJ2_add_7 (fun H locs hk hz9 ho9 hl9 => ?_)
  replace hk : va_at (gD G) g_cl (l, .inr (15, [.int (mc + (nI 1)), .ref arr, .int (nI k)])) H := hk
  replace hxO := aO.kept hxO (ho9 _ hxl)
  replace hel := fun i hi y hy => (hel i hi y hy).kept (ho9 _ (hyl i hi y hy))
  replace hka := fun h9 => va_at.kept (hka h9) (ho9 _ (hal9 h9))
  replace hS := xS_put hS (Or.inl rfl) hz9 ho9 hl9
  refine lv_aload_n hx hb dJ2_add_10 rfl (lv_at hl 0 rfl) ?_
  refine lv_aload_n hx hb dJ2_add_11 rfl (lv_at hl 1 rfl) ?_
  refine lv_aload_n hx hb dJ2_add_12 rfl (lv_at hl 0 rfl) ?_
  refine a_get (own := RJ2) (C := RJ2) (T := TJ2) (N := 3) (ci := 15) hx hb hts in_J2 hown hK hk rfl 1 (by decide) (hts _ q348) (fun _ h9 => h9) rfl dJ2_add_13 ?_
  refine lv_aload_n hx hb dJ2_add_16 rfl (lv_at hl 0 rfl) ?_
  refine a_get (own := RJ2) (C := RJ2) (T := TJ2) (N := 3) (ci := 15) hx hb hts in_J2 hown hK hk rfl 2 (by decide) (hts _ q349) (fun _ h9 => h9) rfl dJ2_add_17 ?_
  refine W_own (fun zz1 zz2 => ?_)
  refine t_callR (va_runV (As := [.ref x, .ref arr, .int (nI k)]) (rest := []) ⟨hx, hb, hml, hown, hts⟩ (met_J2_add_2 l1 G κ z l k arr cap N0 x (mc + nI 1) f hz hzN hcase hk20 hcap) (cv_J2_J2_add_2 hts ⟨Nat.le_of_ble_eq_true rfl, Nat.le_of_ble_eq_true rfl⟩) (cT.preV hK hZ (xS_mono hS hAZ) ⟨⟨hk, hka⟩, by omega, hel, hxO⟩ (a_recv (ci := 15) hK hk rfl)) rfl rfl hl.1 rfl (lv_room (Nat.le_of_ble_eq_true rfl)) dJ2_add_20 ⟨by show _ ≤ 1; omega, by show _ ≤ gC cap; omega⟩) hS (fun q hq e => e) (fun q e => e) (fun v9 H locs hB9 hz9 hk9 hS => ?_)
  obtain ⟨rfl, mc9, arr9, cap9, g9, hk, hb1, hg9, hgi9, hcp9, hza9, hor9, hsz9, hu9⟩ := hB9
  refine lv_iconst (v := nI 1) hx hb dJ2_add_23 (by decide) ?_
  refine W.widen (k := 1) (n := gC cap) (by omega) (by omega) ?_
  exact t_iret hx hb hr rfl hlocks ⟨rfl, mc9, arr9, cap9, g9, hk, hb1, hg9, hgi9, hcp9, hza9, hor9, hsz9, by omega⟩ hS dJ2_add_24
