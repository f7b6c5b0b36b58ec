/-! ArrayList.add, growth, Integer.valueOf (printed by gen/xs5.py) -/
theorem pif_max {a b : Nat} (ha : a < 2 ^ 31) (hb : b < 2 ^ 31) : pif (nI a < nI b) (nI b) (nI a) = nI (max a b) := by
  by_cases h : a < b
  · rw [pif_t ((nI_ltI ha hb).mpr h), Nat.max_eq_right (by omega)]
  · rw [pif_f (fun q => h ((nI_ltI ha hb).mp q)), Nat.max_eq_left (by omega)]
theorem xn128 : ∀ n, n ≤ 127 → ¬ nI n < -128 := by decide +kernel
theorem vbc_n : ∀ n, n ≤ 127 → vb_c (n + 128) = nI n := by decide +kernel
/-- the cache's Integers -/
theorem aI_cache {G : gG} {κ : kK} {z n : Nat} {s : State} {H : Heap} {locs : List Loc} (hK : KK G s) (hZ : KZ κ z s) (hS : va_S (aZ z) s.heap H locs) (hn : n ≤ 127) : aI G H (κ.2.2.1 (n + 128)) (nI n) ∧ κ.2.2.1 (n + 128) < z := by
  have hC := hZ.2.2.2.2.2.2.1.2.2.kept hS.2.1
  obtain ⟨cell, q1, q2, q3, q4⟩ := hC.1 (n + 128) (by omega)
  obtain ⟨cf, k, i, f, cell2, r1, r2, r3, r4, r5, -⟩ := hC.2 (n + 128) (by omega)
  obtain rfl : cell = cell2 := Option.some.inj (q1.symm.trans r3)
  obtain ⟨hSl, hfc, -⟩ := hK.1.1 16 _ rfl
  obtain ⟨cf2, kf2, fi2, f2, t1, t2⟩ := hSl 0 (by decide)
  have e : f = f2 := by
    have := r1.symm.trans t1
    simp only [Option.some.injEq, Prod.mk.injEq] at this
    exact this.2.2.2
  refine ⟨⟨cell, q1, Option.some.inj (q3.symm.trans hfc), q2, r4, ?_⟩, Nat.lt_of_not_le q4⟩
  have t2' : f2.slot = G.2.1 16 0 := t2
  rw [← t2', ← e, r5]; exact congrArg (fun x => some (Value.int x)) (vbc_n n hn)
theorem shr1 (n : Nat) (h : n < 2 ^ 31) : nI n >>> (nI 1 &&& 31) = nI (n / 2) := pk_shrN h _ 1 (by decide +kernel)
set_option maxHeartbeats 4000000 in
set_option maxRecDepth 100000 in
theorem met_J15_valueOf (l : Launch) (G : gG) (κ : kK) (z : Nat) (n : Nat) (hn : n ≤ 127) : Met l yJ15_valueOf (ws_ yJ15_valueOf cJ15_valueOf 1 (some (Jvm.ClassFile.FieldType.object "java/lang/Integer"))) ({ frames := 0, cells := 0, slots := 0, locals := 0 } : Room) (cT G κ z [.int (nI n)] (fun _ => True)) (cR (some (.ref (κ.2.2.1 (n + 128))))) 0 0 (fun _ => False) := by
  refine t_startR (by decide) (Nat.le_of_ble_eq_true rfl) ?_
  intro p e s m below meth c hx hb hr hlocks hml hown hts hB hK hZ hname ls hl
  have hl : lv_has ls 1 [(0, .int (nI n))] := hl
  refine lv_iload_n hx hb dJ15_valueOf_0 rfl (lv_at hl 0 rfl) ?_
  refine lv_bipush (v := (-128)) hx hb dJ15_valueOf_1 (by decide) ?_
  refine lv_icmp_lt (tgt := 23) hx hb dJ15_valueOf_3 (by decide) (fun h9 => absurd h9 (xn128 n hn)) (fun _ => ?_)
  refine lv_iload_n hx hb dJ15_valueOf_6 rfl (lv_at hl 0 rfl) ?_
  refine va_gets (v := .int (nI 127)) hx hb hZ.2.2.2.2.2.1 va_S.rf hown (hts _ q771) (fun _ h9 => h9) dJ15_valueOf_7 ?_
  refine n_icmp_gt (tgt := 23) hx hb dJ15_valueOf_10 (by decide) (by omega) (by decide) (fun c_1 => ?_) (fun c_1 => ?_)
  · exfalso; omega
  refine va_gets (v := .ref (κ.2.2.2 2)) hx hb hZ.2.2.2.2.2.2.1.1 va_S.rf hown (hts _ q773) (fun _ h9 => h9) dJ15_valueOf_13 ?_
  refine lv_iload_n hx hb dJ15_valueOf_16 rfl (lv_at hl 0 rfl) ?_
  refine lv_sipush (v := nI 128) hx hb dJ15_valueOf_17 (by decide) ?_
  refine n_iadd hx hb dJ15_valueOf_20 ?_
  refine vb_tq (v := .ref (κ.2.2.1 (n + 128))) hx hb hZ.2.2.2.2.2.2.1.2.1 va_S.rf (vp_in_nI (by omega) (by decide)) (by rw [nI_clamp (show n + 128 < 2 ^ 31 by omega)]) dJ15_valueOf_21 ?_
  exact c_rref (v := .ref (κ.2.2.1 (n + 128))) rfl hx hb hr (Or.inl ⟨_, rfl⟩) (Or.inr ⟨_, rfl⟩) hlocks dJ15_valueOf_22 rfl rfl
set_option maxHeartbeats 4000000 in
set_option maxRecDepth 100000 in
theorem met_J11_newLength (l : Launch) (G : gG) (a c0 : Nat) (ha : a < 2 ^ 20) (hc : c0 < 2 ^ 20) : Met l yJ11_newLength (ws_ yJ11_newLength cJ11_newLength 4 (some .int)) ({ frames := 1, cells := 0, slots := 0, locals := 41 } : Room) (cP G [.int (nI a), .int (nI 1), .int (nI c0)] (fun _ => True)) (cR (some (.int (nI (a + max 1 c0))))) 0 0 (fun _ => False) := by
  refine c_start (by decide) (Nat.le_of_ble_eq_true rfl) ?_
  intro p e s m below meth c hx hb hr hlocks hml hown hts hB hK ls hl
  have hl : lv_has ls 4 [(0, .int (nI a)), (1, .int (nI 1)), (2, .int (nI c0))] := hl
  refine lv_iload_n hx hb dJ11_newLength_0 rfl (lv_at hl 0 rfl) ?_
  refine lv_iload_n hx hb dJ11_newLength_1 rfl (lv_at hl 1 rfl) ?_
  refine lv_iload_n hx hb dJ11_newLength_2 rfl (lv_at hl 2 rfl) ?_
  refine c_mmax (x := (nI 1)) (y := (nI c0)) hx hb (hml.trans hl.1.symm) hown (hts _ q567) (hts _ q568) (hts _ q109) (hts _ q569) (Nat.le_of_ble_eq_true rfl) (Nat.le_trans (Nat.add_le_add_right (show (([.int (nI a)] : List Value).map fun v => v.category).sum ≤ 20 from Nat.le_of_ble_eq_true rfl) 13) (Nat.le_of_ble_eq_true rfl)) (Nat.le_of_ble_eq_true rfl) (Nat.le_of_ble_eq_true rfl) dJ11_newLength_3 ?_
  rw [pif_max (by omega) (by omega)]
  refine n_iadd hx hb dJ11_newLength_6 ?_
  refine lv_istore_n (lv' := [(3, .int (nI (a + max 1 c0))), (0, .int (nI a)), (1, .int (nI 1)), (2, .int (nI c0))]) hx hb dJ11_newLength_7 rfl hl (by decide) rfl (fun ls hl => ?_)
  refine lv_iconst (v := nI 0) hx hb dJ11_newLength_8 (by decide) ?_
  refine lv_iload_n hx hb dJ11_newLength_9 rfl (lv_at hl 0 rfl) ?_
  refine n_icmp_ge (tgt := 21) hx hb dJ11_newLength_10 (by decide) (by decide) (by omega) (fun c_1 => ?_) (fun c_1 => ?_)
  · exfalso; omega
  refine lv_iload_n hx hb dJ11_newLength_13 rfl (lv_at hl 0 rfl) ?_
  refine lv_ldc (v := nI 2147483639) hx hb hown (hts _ q570) dJ11_newLength_14 ?_
  refine n_icmp_gt (tgt := 21) hx hb dJ11_newLength_16 (by decide) (by omega) (by decide) (fun c_2 => ?_) (fun c_2 => ?_)
  · exfalso; omega
  refine lv_iload_n hx hb dJ11_newLength_19 rfl (lv_at hl 0 rfl) ?_
  exact c_rret (v := nI (a + max 1 c0)) rfl hx hb hr rfl hlocks dJ11_newLength_20 rfl rfl
section PC
variable {p : Program} {l : Launch} {e : Env} {R : Room} {s : State} {m : MethodId} {args : Array Value} {below : List Frame} {meth : Method} {c : Code} {H : Heap} {locs : List Loc} {cells slots : Nat} {Q : State → Prop}
variable {cc : ByteArray} {pc : Nat} {ls : Array Slot} {rest st0 : List Value} {G : gG} {A : Nat → Prop}
/-- an array of objects is copied into another one, from the beginning on -/
theorem p_copy (hx : p.tables.exec = Jvm.exec) (hb : c.code = cc) (hml : c.maxLocals = ls.size) {own : String} {index : Nat} (hown : s.vm.findClass own = some m.cls) (hlink : (Cond.methodLink own index arraycopyName).before args s = true) (hnat : (Cond.native arraycopyName).before args s = true) (hstat : (Cond.static arraycopyName).before args s = true) (hini : (Cond.initialized "java/lang/System").before args s = true) (hK : KK G s) {a b n1 n : Nat} {f g : Nat → Option Nat} {H0 : Heap} (ha : va_at (gD G) g_cl (a, .inl (G.2.2 8, n, .inr (.inr (.inr (.inr f))))) H) (hbb : va_at (gD G) g_cl (b, .inl (G.2.2 8, n1, .inr (.inr (.inr (.inr g))))) H) (hab : a ≠ b) (hAa : A a) (hAb : A b) (hS : va_S A H0 H locs) (hn : n ≤ n1) (hn1 : n1 < 2 ^ 30) (hel : ∀ i, i < n → ∀ y, f i = some y → aO G H y)
    (hframes : 1 ≤ R.frames) (hlocals : (rest.map fun v => v.category).sum + (nativeFrameWords "java/lang/System" "arraycopy" 5 + 11) ≤ R.locals) (hdg : decode cc pc = .ok (.invokestatic index, 3))
    (kk : ∀ (H1 : Heap) (locs1 : List Loc) (g1 : Nat → Option Nat), va_at (gD G) g_cl (a, .inl (G.2.2 8, n, .inr (.inr (.inr (.inr f))))) H1 → va_at (gD G) g_cl (b, .inl (G.2.2 8, n1, .inr (.inr (.inr (.inr g1))))) H1 → (∀ i, i < n → g1 i = f i) → va_S A H0 H1 locs1 → W p l e R s m args below meth c H1 locs1 cells slots Q (F0 m (pc + 3) ls rest)) : W p l e R s m args below meth c H locs cells slots Q (F0 m pc ls (.int (nI n) :: .int (nI 0) :: .ref b :: .int (nI 0) :: .ref a :: rest)) := by
  have e0 : (nI 0).toNatClampNeg = 0 := nI_clamp (by decide)
  have en : (nI n).toNatClampNeg = n := nI_clamp (by omega)
  have hP : va_P (gD G) g_cl [(a, .inl (G.2.2 8, n, .inr (.inr (.inr (.inr f))))), (b, .inl (G.2.2 8, n1, .inr (.inr (.inr (.inr g)))))] H := by
    intro k q hq
    match k, hq with
    | 0, hq => cases hq; exact ha
    | 1, hq => cases hq; exact hbb
    | k + 2, hq => simp at hq
  have hD : va_D A [(a, (.inl (G.2.2 8, n, .inr (.inr (.inr (.inr f)))) : va_E)), (b, .inl (G.2.2 8, n1, .inr (.inr (.inr (.inr g)))))] := by
    constructor
    · intro i j q1 q2 h1 h2 h3
      match i, j, h1, h2 with
      | 0, 0, _, _ => rfl
      | 1, 1, _, _ => rfl
      | 0, 1, h1, h2 => cases h1; cases h2; exact absurd h3 hab
      | 1, 0, h1, h2 => cases h1; cases h2; exact absurd h3.symm hab
      | i + 2, _, h1, _ => simp at h1
      | 0, j + 2, _, h2 => simp at h2
      | 1, j + 2, _, h2 => simp at h2
    · intro k q hq
      match k, hq with
      | 0, hq => cases hq; exact hAa
      | 1, hq => cases hq; exact hAb
      | k + 2, hq => simp at hq
  refine va_copyM (D := gD G) hx hb hml hown hlink hnat hstat hini hK.1 hP hD hS 0 1 8 8 rfl rfl rfl rfl (nI_pos (by decide)) (nI_pos (by decide)) (nI_pos (by omega)) (by rw [e0, en]; omega) (by rw [e0, en]; omega) (fun i hi y hy => ?_) hframes hlocals hdg (fun H1 locs1 hP1 hD1 hS1 => ?_)
  · rw [en] at hi
    rw [e0, Nat.zero_add] at hy
    exact (hel i hi y hy).any hK
  · rw [e0, en] at hP1
    exact kk H1 locs1 _ (hP1 0 _ rfl) (hP1 1 _ rfl) (fun i hi => by unfold va_cpy; rw [if_pos ⟨Nat.zero_le _, by omega⟩, Nat.zero_add, Nat.sub_zero]) hS1
end PC
set_option maxHeartbeats 4000000 in
set_option maxRecDepth 100000 in
theorem met_J12_copyOf_2 (l : Launch) (G : gG) (κ : kK) (z : Nat) (a cap n N0 : Nat) (f : Nat → Option Nat) (hz : z ≤ a) (hzN : z ≤ N0) (hcn : cap ≤ n) (hn2 : n < 2 ^ 20) : Met l yJ12_copyOf_2 (ws_ yJ12_copyOf_2 cJ12_copyOf_2 4 (some (Jvm.ClassFile.FieldType.array (Jvm.ClassFile.FieldType.object "java/lang/Object")))) ({ frames := 1, cells := 1, slots := n, locals := 60 } : Room) (cT G κ z [.ref a, .int (nI n), .ref (κ.2.2.2 4)] (fun H => va_at (gD G) g_cl (a, .inl (G.2.2 8, cap, .inr (.inr (.inr (.inr f))))) H ∧ H.size = N0 ∧ ∀ i, i < cap → ∀ y, f i = some y → aO G H y)) (tQ (fun ov H0 H1 => ov = some (.ref N0) ∧ va_at (gD G) g_cl (a, .inl (G.2.2 8, cap, .inr (.inr (.inr (.inr f))))) H1 ∧ (∃ g1, va_at (gD G) g_cl (N0, .inl (G.2.2 8, n, .inr (.inr (.inr (.inr g1))))) H1 ∧ ∀ i, i < cap → g1 i = f i) ∧ H1.size = N0 + 1 ∧ hU H1 ≤ hU H0 + n) (fun q => q = a ∨ N0 ≤ q)) 1 (n) (fun q => q = a ∨ N0 ≤ q) := by
  refine t_startR (by decide) (Nat.le_of_ble_eq_true rfl) ?_
  intro p e s m below meth c hx hb hr hlocks hml hown hts hB hK hZ hname ls hl
  have hl : lv_has ls 4 [(0, .ref a), (1, .int (nI n)), (2, .ref (κ.2.2.2 4))] := hl
  obtain ⟨hk, hN, hel⟩ := hB
  have hAZ : ∀ q, (q = a ∨ N0 ≤ q) → aZ z q := fun q e => by rcases e with rfl | e; exact hz; exact Nat.le_trans hzN e
  have hS : va_S (fun q => q = a ∨ N0 ≤ q) s.heap s.heap [] := va_S.rf
  have haN := at_lt hk
  refine lv_aload_n hx hb dJ12_copyOf_2_0 rfl (lv_at hl 2 rfl) ?_
  refine va_ldcM hx hb hown (hts _ q601) hZ.2.2.2.2.2.2.2.2.2.1 dJ12_copyOf_2_1 ?_
  refine lv_acmp_ne (rx := some (κ.2.2.2 4)) (ry := some (κ.2.2.2 4)) (tgt := 13) hx hb dJ12_copyOf_2_3 (by decide) (fun h9 => absurd rfl h9) (fun _ => ?_)
  refine lv_iload_n hx hb dJ12_copyOf_2_6 rfl (lv_at hl 1 rfl) ?_
  refine p_anew (n := n) (t := 8) hx hb hown (hts _ q603) (hK.2.2.2.1 _ (List.mem_of_getElem? (i := 2) rfl)) hK rfl (by omega) (Nat.le_refl _) (by show 0 + n ≤ n; omega) dJ12_copyOf_2_7 (fun b H hb1 eb zb ob => ?_)
  have la_b : a < b := by have := at_lt hk; omega
  replace hk := va_at.kept hk (ob _ (at_lt hk))
  replace hS := xS_new hS (by omega) ob
  refine lv_goto (tgt := 24) hx hb dJ12_copyOf_2_10 (by decide) ?_
  refine lv_astore_n (lv' := [(3, .ref b), (0, .ref a), (1, .int (nI n)), (2, .ref (κ.2.2.2 4))]) hx hb dJ12_copyOf_2_24 rfl hl (by decide) rfl (fun ls hl => ?_)
  refine lv_aload_n hx hb dJ12_copyOf_2_25 rfl (lv_at hl 1 rfl) ?_
  refine lv_iconst (v := nI 0) hx hb dJ12_copyOf_2_26 (by decide) ?_
  refine lv_aload_n hx hb dJ12_copyOf_2_27 rfl (lv_at hl 0 rfl) ?_
  refine lv_iconst (v := nI 0) hx hb dJ12_copyOf_2_28 (by decide) ?_
  refine lv_aload_n hx hb dJ12_copyOf_2_29 rfl (lv_at hl 1 rfl) ?_
  refine p_len (n := cap) (t := 8) hx hb hK hk rfl dJ12_copyOf_2_30 ?_
  refine lv_iload_n hx hb dJ12_copyOf_2_31 rfl (lv_at hl 2 rfl) ?_
  refine c_mmin (x := (nI cap)) (y := (nI n)) hx hb (hml.trans hl.1.symm) hown (hts _ q604) (hts _ q440) (hts _ q109) (hts _ q441) (Nat.le_of_ble_eq_true rfl) (Nat.le_trans (Nat.add_le_add_right (show (([.int (nI 0), .ref b, .int (nI 0), .ref a] : List Value).map fun v => v.category).sum ≤ 20 from Nat.le_of_ble_eq_true rfl) 13) (Nat.le_of_ble_eq_true rfl)) (Nat.le_of_ble_eq_true rfl) (by show 0 + n ≤ n; omega) dJ12_copyOf_2_32 ?_
  rw [pif_min (by omega) (by omega), Nat.min_eq_left hcn]
  refine p_copy (a := a) (b := b) (n := cap) (n1 := n) hx hb (hml.trans hl.1.symm) hown (hts _ q605) (hts _ q193) (hts _ q192) (hts _ q98) hK hk hb1 (by omega) (Or.inl rfl) (Or.inr (by omega)) hS hcn (by omega) (fun i hi y hy => (hel i hi y hy).kept (ob _ (hel i hi y hy).lt)) (Nat.le_of_ble_eq_true rfl) (Nat.le_of_ble_eq_true rfl) dJ12_copyOf_2_35 (fun H locs g1 hk hb1 hg1 hS => ?_)
  refine lv_aload_n hx hb dJ12_copyOf_2_38 rfl (lv_at hl 0 rfl) ?_
  refine W_own (fun z1 z2 => ?_)
  obtain rfl : N0 = b := by omega
  refine W.widen (k := 1) (n := n) (by omega) (by omega) ?_
  exact t_aret hx hb hr (Or.inr ⟨_, rfl⟩) (Or.inr ⟨_, rfl⟩) hlocks ⟨rfl, hk, ⟨_, hb1, hg1⟩, by have := at_lt hb1; omega, by omega⟩ hS dJ12_copyOf_2_39
theorem p_arrC {G : gG} {s : State} {H : Heap} {a n : Nat} {f : Nat → Option Nat} (hK : KK G s) (h : va_at (gD G) g_cl (a, .inl (G.2.2 8, n, .inr (.inr (.inr (.inr f))))) H) : ∃ cell : Cell, H[a]? = some cell ∧ cell.vm.isStatics = false ∧ s.vm.findClass "[Ljava/lang/Object;" = some cell.cls := by
  obtain ⟨kA0, comp0, k1, k2, k3, k4⟩ := (hK.1.2 8 _ rfl).2
  exact ⟨_, h, rfl, k4⟩
set_option maxHeartbeats 4000000 in
set_option maxRecDepth 100000 in
theorem met_J12_copyOf (l : Launch) (G : gG) (κ : kK) (z : Nat) (a cap n N0 : Nat) (f : Nat → Option Nat) (hz : z ≤ a) (hzN : z ≤ N0) (hcn : cap ≤ n) (hn2 : n < 2 ^ 20) : Met l yJ12_copyOf (ws_ yJ12_copyOf cJ12_copyOf 2 (some (Jvm.ClassFile.FieldType.array (Jvm.ClassFile.FieldType.object "java/lang/Object")))) ({ frames := 2, cells := 1, slots := n, locals := 83 } : Room) (cT G κ z [.ref a, .int (nI n)] (fun H => va_at (gD G) g_cl (a, .inl (G.2.2 8, cap, .inr (.inr (.inr (.inr f))))) H ∧ H.size = N0 ∧ ∀ i, i < cap → ∀ y, f i = some y → aO G H y)) (tQ (fun ov H0 H1 => ov = some (.ref N0) ∧ va_at (gD G) g_cl (a, .inl (G.2.2 8, cap, .inr (.inr (.inr (.inr f))))) H1 ∧ (∃ g1, va_at (gD G) g_cl (N0, .inl (G.2.2 8, n, .inr (.inr (.inr (.inr g1))))) H1 ∧ ∀ i, i < cap → g1 i = f i) ∧ H1.size = N0 + 1 ∧ hU H1 ≤ hU H0 + n) (fun q => q = a ∨ N0 ≤ q)) 1 (n) (fun q => q = a ∨ N0 ≤ q) := by
  refine t_startR (by decide) (Nat.le_of_ble_eq_true rfl) ?_
  intro p e s m below meth c hx hb hr hlocks hml hown hts hB hK hZ hname ls hl
  have hl : lv_has ls 2 [(0, .ref a), (1, .int (nI n))] := hl
  obtain ⟨hk, hN, hel⟩ := hB
  have hAZ : ∀ q, (q = a ∨ N0 ≤ q) → aZ z q := fun q e => by rcases e with rfl | e; exact hz; exact Nat.le_trans hzN e
  have hS : va_S (fun q => q = a ∨ N0 ≤ q) s.heap s.heap [] := va_S.rf
  have haN := at_lt hk
  refine lv_aload_n hx hb dJ12_copyOf_0 rfl (lv_at hl 0 rfl) ?_
  refine lv_iload_n hx hb dJ12_copyOf_1 rfl (lv_at hl 1 rfl) ?_
  refine lv_aload_n hx hb dJ12_copyOf_2 rfl (lv_at hl 0 rfl) ?_
  refine va_getC (C := "[Ljava/lang/Object;") hx hb (hml.trans hl.1.symm) hown (hts _ q577) (va_Dc.use hZ.2.2.2.2.2.2.2.2.2.2) (hts _ q1637) (hts _ q578) (hts _ q597) hZ.2.2.2.2.2.2.2.2.2.1 (p_arrC hK hk) (Nat.le_of_ble_eq_true rfl) (Nat.le_of_ble_eq_true rfl) dJ12_copyOf_3 ?_
  refine t_callR (va_runS (As := [.ref a, .int (nI n), .ref (κ.2.2.2 4)]) (rest := []) ⟨hx, hb, hml, hown, hts⟩ (met_J12_copyOf_2 l G κ z a cap n N0 f hz hzN hcn hn2) (cs_J12_J12_copyOf_2 hts ⟨Nat.le_of_ble_eq_true rfl, Nat.le_of_ble_eq_true rfl⟩) (cT.pre hK hZ (xS_mono hS hAZ) ⟨hk, hN, hel⟩) rfl rfl hl.1 rfl (lv_room (Nat.le_of_ble_eq_true rfl)) dJ12_copyOf_6 ⟨by show 0 + 1 ≤ 1; omega, by show 0 + n ≤ n; omega⟩) hS (fun q hq e => e) (fun q e => e) (fun v9 H locs hB9 hz9 hk9 hS => ?_)
  obtain ⟨rfl, hk, ⟨g1, hb1, hg1⟩, hsz, hu9⟩ := hB9
  refine W.widen (k := 1) (n := n) (by omega) (by omega) ?_
  exact t_aret hx hb hr (Or.inr ⟨_, rfl⟩) (Or.inr ⟨_, rfl⟩) hlocks ⟨rfl, hk, ⟨_, hb1, hg1⟩, hsz, hu9⟩ hS dJ12_copyOf_9
/-- the capacity behind a growth -/
def gC (cap : Nat) : Nat := if cap = 0 then 10 else cap + max 1 (cap / 2)
/-- a list in the making: its object, its array -/
abbrev lsB (G : gG) (l k arr cap : Nat) (mc : Int32) (f : Nat → Option Nat) (H : Heap) : Prop := va_at (gD G) g_cl (l, .inr (15, [.int mc, .ref arr, .int (nI k)])) H ∧ (0 < cap → va_at (gD G) g_cl (arr, .inl (G.2.2 8, cap, .inr (.inr (.inr (.inr f))))) H)
set_option maxHeartbeats 4000000 in
set_option maxRecDepth 100000 in
theorem met_J2_grow_2 (l1 : Launch) (G : gG) (κ : kK) (z : Nat) (l k arr cap N0 : Nat) (mc : Int32) (f : Nat → Option Nat) (hz : z ≤ l) (hzN : z ≤ N0) (hcase : (k = 0 ∧ cap = 0 ∧ arr = κ.2.2.2 3) ∨ (0 < cap ∧ k = cap ∧ z ≤ arr ∧ arr ≠ l)) (hk20 : k < 2 ^ 18) : Met l1 yJ2_grow_2 (ws_ yJ2_grow_2 cJ2_grow_2 4 (some (Jvm.ClassFile.FieldType.array (Jvm.ClassFile.FieldType.object "java/lang/Object")))) ({ frames := 3, cells := 1, slots := gC cap, locals := 120 } : Room) (cT G κ z [.ref l, .int (nI (k + 1))] (fun H => lsB G l k arr cap mc f H ∧ H.size = N0 ∧ ∀ i, i < k → ∀ y, f i = some y → aO G H y)) (tQ (fun ov H0 H1 => ov = some (.ref N0) ∧ (va_at (gD G) g_cl (l, .inr (15, [.int mc, .ref N0, .int (nI k)])) H1 ∧ ∃ g, va_at (gD G) g_cl (N0, .inl (G.2.2 8, gC cap, .inr (.inr (.inr (.inr g))))) H1 ∧ ∀ i, i < k → g i = f i) ∧ H1.size = N0 + 1 ∧ hU H1 ≤ hU H0 + gC cap) (fun q => q = l ∨ (q = arr ∧ 0 < cap) ∨ N0 ≤ q)) 1 (gC cap) (fun q => q = l ∨ (q = arr ∧ 0 < cap) ∨ N0 ≤ q) := by
  refine t_startR (by decide) (Nat.le_of_ble_eq_true rfl) ?_
  intro p e s m below meth c hx hb hr hlocks hml hown hts hB hK hZ hname ls hl
  have hl : lv_has ls 4 [(0, .ref l), (1, .int (nI (k + 1)))] := hl
  obtain ⟨⟨hk, hka⟩, hN, hel⟩ := hB
  have hAZ : ∀ q, (q = l ∨ (q = arr ∧ 0 < cap) ∨ N0 ≤ q) → aZ z q := fun q e => show z ≤ q by rcases e with e | ⟨e, e2⟩ | e <;> rcases hcase with ⟨h7, h8, -⟩ | ⟨h7, h8, h9, h10⟩ <;> omega
  have hS : va_S (fun q => q = l ∨ (q = arr ∧ 0 < cap) ∨ N0 ≤ q) s.heap s.heap [] := va_S.rf
  have hlN := at_lt hk
  rcases hcase with ⟨hk0, hc0, ha0⟩ | ⟨hc0, hkc, hza, hal⟩
  · refine lv_aload_n hx hb dJ2_grow_2_0 rfl (lv_at hl 0 rfl) ?_
    refine a_get (own := RJ2) (C := RJ2) (T := TJ2) (N := 3) (ci := 15) hx hb hts in_J2 hown hK hk rfl 1 (by decide) (hts _ q348) (fun _ h9 => h9) rfl dJ2_grow_2_1 ?_
    rw [ha0]
    refine va_tlen (v := nI 0) hx hb hZ.2.2.2.2.2.2.2.1.2 (xS_mono hS hAZ) rfl dJ2_grow_2_4 ?_
    refine lv_istore_n (lv' := [(2, .int (nI 0)), (0, .ref l), (1, .int (nI (k + 1)))]) hx hb dJ2_grow_2_5 rfl hl (by decide) rfl (fun ls hl => ?_)
    refine lv_iload_n hx hb dJ2_grow_2_6 rfl (lv_at hl 0 rfl) ?_
    refine n_if_gt (tgt := 20) hx hb dJ2_grow_2_7 (by decide) (by decide) (fun h9 => absurd h9 (by decide)) (fun _ => ?_)
    refine lv_aload_n hx hb dJ2_grow_2_10 rfl (lv_at hl 1 rfl) ?_
    refine a_get (own := RJ2) (C := RJ2) (T := TJ2) (N := 3) (ci := 15) hx hb hts in_J2 hown hK hk rfl 1 (by decide) (hts _ q348) (fun _ h9 => h9) rfl dJ2_grow_2_11 ?_
    refine va_gets (v := .ref (κ.2.2.2 3)) hx hb hZ.2.2.2.2.2.2.2.1.1 (xS_mono hS hAZ) hown (hts _ q346) (fun _ h9 => h9) dJ2_grow_2_14 ?_
    refine lv_acmp_eq (rx := some arr) (ry := some (κ.2.2.2 3)) (tgt := 45) hx hb dJ2_grow_2_17 (by decide) (fun _ => ?_) (fun h9 => absurd (by rw [ha0]) h9)
    refine lv_aload_n hx hb dJ2_grow_2_45 rfl (lv_at hl 1 rfl) ?_
    refine lv_bipush (v := nI 10) hx hb dJ2_grow_2_46 (by decide) ?_
    refine lv_iload_n hx hb dJ2_grow_2_48 rfl (lv_at hl 2 rfl) ?_
    refine c_mmax (x := (nI 10)) (y := (nI (k + 1))) hx hb (hml.trans hl.1.symm) hown (hts _ q606) (hts _ q568) (hts _ q109) (hts _ q569) (Nat.le_of_ble_eq_true rfl) (Nat.le_trans (Nat.add_le_add_right (show (([.ref l] : List Value).map fun v => v.category).sum ≤ 20 from Nat.le_of_ble_eq_true rfl) 13) (Nat.le_of_ble_eq_true rfl)) (Nat.le_of_ble_eq_true rfl) (Nat.le_of_ble_eq_true rfl) dJ2_grow_2_49 ?_
    rw [pif_max (by decide) (by omega), show max 10 (k + 1) = 10 by omega]
    refine p_anew (n := 10) (t := 8) hx hb hown (hts _ q607) (hK.2.2.2.1 _ (List.mem_of_getElem? (i := 2) rfl)) hK rfl (by omega) (Nat.le_refl _) (by show 0 + 10 ≤ gC cap; unfold gC; rw [if_pos hc0]; omega) dJ2_grow_2_52 (fun b H hb1 eb zb ob => ?_)
    have ll_b : l < b := by have := at_lt hk; omega
    replace hk := va_at.kept hk (ob _ (at_lt hk))
    replace hS := xS_new hS (by omega) ob
    refine lv_dup_x1 hx hb dJ2_grow_2_55 rfl rfl ?_
    refine p_put (own := RJ2) (C := RJ2) (T := TJ2) (N := 3) (ci := 15) (a := l) (fs := [.int mc, .ref arr, .int (nI k)]) (ty := tyJ2 1) (v := .ref b) hx hb hts in_J2 tyJ2 tyJ2_ok nmJ2 hown hK hk rfl 1 (by decide) (hts _ q348) (fun _ h9 => h9) rfl (tyJ2_ok 1 (by decide)) rfl rfl (Nat.le_of_ble_eq_true rfl) dJ2_grow_2_56 (fun H locs hk hz9 ho9 hl9 => ?_)
    replace hk : va_at (gD G) g_cl (l, .inr (15, [.int mc, .ref b, .int (nI k)])) H := hk
    replace hb1 := va_at.kept hb1 (ho9 _ (by omega))
    replace hS := xS_put hS (Or.inl rfl) hz9 ho9 hl9
    rw [ha0] at hS
    refine W_own (fun z1 z2 => ?_)
    obtain rfl : N0 = b := by omega
    have hg0 : gC cap = 10 := by unfold gC; rw [if_pos hc0]
    rw [← hg0] at hb1
    refine W.widen (k := 1) (n := gC cap) (by omega) (by omega) ?_
    exact t_aret hx hb hr (Or.inr ⟨_, rfl⟩) (Or.inr ⟨_, rfl⟩) hlocks ⟨rfl, ⟨hk, _, hb1, fun i hi => absurd hi (by omega)⟩, by have := at_lt hb1; omega, by omega⟩ hS dJ2_grow_2_59
  · replace hka := hka hc0
    refine lv_aload_n hx hb dJ2_grow_2_0 rfl (lv_at hl 0 rfl) ?_
    refine a_get (own := RJ2) (C := RJ2) (T := TJ2) (N := 3) (ci := 15) hx hb hts in_J2 hown hK hk rfl 1 (by decide) (hts _ q348) (fun _ h9 => h9) rfl dJ2_grow_2_1 ?_
    refine p_len (n := cap) (t := 8) hx hb hK hka rfl dJ2_grow_2_4 ?_
    refine lv_istore_n (lv' := [(2, .int (nI cap)), (0, .ref l), (1, .int (nI (k + 1)))]) hx hb dJ2_grow_2_5 rfl hl (by decide) rfl (fun ls hl => ?_)
    refine lv_iload_n hx hb dJ2_grow_2_6 rfl (lv_at hl 0 rfl) ?_
    refine n_if_gt (tgt := 20) hx hb dJ2_grow_2_7 (by decide) (by omega) (fun _ => ?_) (fun h9 => absurd h9 (by omega))
    refine lv_iload_n hx hb dJ2_grow_2_20 rfl (lv_at hl 0 rfl) ?_
    refine lv_iload_n hx hb dJ2_grow_2_21 rfl (lv_at hl 2 rfl) ?_
    refine lv_iload_n hx hb dJ2_grow_2_22 rfl (lv_at hl 0 rfl) ?_
    refine n_isub hx hb (by omega) dJ2_grow_2_23 ?_
    rw [show k + 1 - cap = 1 by omega]
    refine lv_iload_n hx hb dJ2_grow_2_24 rfl (lv_at hl 0 rfl) ?_
    refine lv_iconst (v := nI 1) hx hb dJ2_grow_2_25 (by decide) ?_
    refine lv_ishr hx hb dJ2_grow_2_26 ?_
    rw [shr1 cap (by omega)]
    refine c_read (va_runS (As := [.int (nI cap), .int (nI 1), .int (nI (cap / 2))]) (rest := []) ⟨hx, hb, hml, hown, hts⟩ (met_J11_newLength l1 G cap (cap / 2) (by omega) (by omega)) (cs_J2_J11_newLength hts ⟨Nat.le_of_ble_eq_true rfl, Nat.le_of_ble_eq_true rfl⟩) (cP.pre hK trivial) rfl rfl hl.1 rfl (lv_room (Nat.le_of_ble_eq_true rfl)) dJ2_grow_2_27 ⟨by first | exact Nat.zero_le _ | omega | decide, by first | exact Nat.zero_le _ | omega | decide⟩) ?_
    rw [show cap + max 1 (cap / 2) = gC cap by unfold gC; rw [if_neg (by omega)]]
    have hgC : cap ≤ gC cap ∧ gC cap < 2 ^ 19 := by unfold gC; rw [if_neg (by omega)]; omega
    refine lv_istore_n (lv' := [(3, .int (nI (gC cap))), (2, .int (nI cap)), (0, .ref l), (1, .int (nI (k + 1)))]) hx hb dJ2_grow_2_30 rfl hl (by decide) rfl (fun ls hl => ?_)
    refine lv_aload_n hx hb dJ2_grow_2_31 rfl (lv_at hl 2 rfl) ?_
    refine lv_aload_n hx hb dJ2_grow_2_32 rfl (lv_at hl 2 rfl) ?_
    refine a_get (own := RJ2) (C := RJ2) (T := TJ2) (N := 3) (ci := 15) hx hb hts in_J2 hown hK hk rfl 1 (by decide) (hts _ q348) (fun _ h9 => h9) rfl dJ2_grow_2_33 ?_
    refine lv_iload_n hx hb dJ2_grow_2_36 rfl (lv_at hl 0 rfl) ?_
    refine t_callR (va_runS (As := [.ref arr, .int (nI (gC cap))]) (rest := [.ref l]) ⟨hx, hb, hml, hown, hts⟩ (met_J12_copyOf l1 G κ z arr cap (gC cap) N0 f hza hzN hgC.1 (by omega)) (cs_J2_J12_copyOf hts ⟨Nat.le_of_ble_eq_true rfl, Nat.le_of_ble_eq_true rfl⟩) (cT.pre hK hZ (xS_mono hS hAZ) ⟨hka, hN, fun i hi => hel i (by omega)⟩) rfl rfl hl.1 rfl (lv_room (Nat.le_of_ble_eq_true rfl)) dJ2_grow_2_37 ⟨by show _ ≤ 1; omega, by show _ ≤ gC cap; omega⟩) hS (fun q hq e => e.elim (fun e => Or.inr (Or.inl ⟨e, hc0⟩)) (fun e => Or.inr (Or.inr e))) (fun q e => e.elim (fun e => Or.inr (Or.inl ⟨e, hc0⟩)) (fun e => Or.inr (Or.inr e))) (fun v9 H locs hB9 hz9 hk9 hS => ?_)
    obtain ⟨rfl, hka, ⟨g1, hb1, hg1⟩, hsz, hu9⟩ := hB9
    replace hk := va_at.kept hk (hk9 _ (at_lt hk) (by omega))
    refine lv_dup_x1 hx hb dJ2_grow_2_40 rfl rfl ?_
    refine p_put (own := RJ2) (C := RJ2) (T := TJ2) (N := 3) (ci := 15) (a := l) (fs := [.int mc, .ref arr, .int (nI k)]) (ty := tyJ2 1) (v := .ref N0) hx hb hts in_J2 tyJ2 tyJ2_ok nmJ2 hown hK hk rfl 1 (by decide) (hts _ q348) (fun _ h9 => h9) rfl (tyJ2_ok 1 (by decide)) rfl rfl (Nat.le_of_ble_eq_true rfl) dJ2_grow_2_41 (fun H locs hk hz9 ho9 hl9 => ?_)
    replace hk : va_at (gD G) g_cl (l, .inr (15, [.int mc, .ref N0, .int (nI k)])) H := hk
    replace hka := va_at.kept hka (ho9 _ hal)
    replace hb1 := va_at.kept hb1 (ho9 _ (by omega))
    replace hS := xS_put hS (Or.inl rfl) hz9 ho9 hl9
    refine W_own (fun z1 z2 => ?_)
    refine W.widen (k := 1) (n := gC cap) (by omega) (by omega) ?_
    exact t_aret hx hb hr (Or.inr ⟨_, rfl⟩) (Or.inr ⟨_, rfl⟩) hlocks ⟨rfl, ⟨hk, _, hb1, fun i hi => hg1 i (by omega)⟩, by have := at_lt hb1; omega, by omega⟩ hS dJ2_grow_2_44
set_option maxHeartbeats 4000000 in
set_option maxRecDepth 100000 in
theorem met_J2_grow (l1 : Launch) (G : gG) (κ : kK) (z : Nat) (l k arr cap N0 : Nat) (mc : Int32) (f : Nat → Option Nat) (hz : z ≤ l) (hzN : z ≤ N0) (hcase : (k = 0 ∧ cap = 0 ∧ arr = κ.2.2.2 3) ∨ (0 < cap ∧ k = cap ∧ z ≤ arr ∧ arr ≠ l)) (hk20 : k < 2 ^ 18) : Met l1 yJ2_grow (ws_ yJ2_grow cJ2_grow 1 (some (Jvm.ClassFile.FieldType.array (Jvm.ClassFile.FieldType.object "java/lang/Object")))) ({ frames := 4, cells := 1, slots := gC cap, locals := 143 } : Room) (cT G κ z [.ref l] (fun H => lsB G l k arr cap mc f H ∧ H.size = N0 ∧ ∀ i, i < k → ∀ y, f i = some y → aO G H y)) (tQ (fun ov H0 H1 => ov = some (.ref N0) ∧ (va_at (gD G) g_cl (l, .inr (15, [.int mc, .ref N0, .int (nI k)])) H1 ∧ ∃ g, va_at (gD G) g_cl (N0, .inl (G.2.2 8, gC cap, .inr (.inr (.inr (.inr g))))) H1 ∧ ∀ i, i < k → g i = f i) ∧ H1.size = N0 + 1 ∧ hU H1 ≤ hU H0 + gC cap) (fun q => q = l ∨ (q = arr ∧ 0 < cap) ∨ N0 ≤ q)) 1 (gC cap) (fun q => q = l ∨ (q = arr ∧ 0 < cap) ∨ N0 ≤ q) := by
  refine t_startR (by decide) (Nat.le_of_ble_eq_true rfl) ?_
  intro p e s m below meth c hx hb hr hlocks hml hown hts hB hK hZ hname ls hl
  have hl : lv_has ls 1 [(0, .ref l)] := hl
  obtain ⟨⟨hk, hka⟩, hN, hel⟩ := hB
  have hAZ : ∀ q, (q = l ∨ (q = arr ∧ 0 < cap) ∨ N0 ≤ q) → aZ z q := fun q e => show z ≤ q by rcases e with e | ⟨e, e2⟩ | e <;> rcases hcase with ⟨h7, h8, -⟩ | ⟨h7, h8, h9, h10⟩ <;> omega
  have hS : va_S (fun q => q = l ∨ (q = arr ∧ 0 < cap) ∨ N0 ≤ q) s.heap s.heap [] := va_S.rf
  have hlN := at_lt hk
  refine lv_aload_n hx hb dJ2_grow_0 rfl (lv_at hl 0 rfl) ?_
  refine lv_aload_n hx hb dJ2_grow_1 rfl (lv_at hl 0 rfl) ?_
  refine a_get (own := RJ2) (C := RJ2) (T := TJ2) (N := 3) (ci := 15) hx hb hts in_J2 hown hK hk rfl 2 (by decide) (hts _ q349) (fun _ h9 => h9) rfl dJ2_grow_2 ?_
  refine lv_iconst (v := nI 1) hx hb dJ2_grow_5 (by decide) ?_
  refine n_iadd hx hb dJ2_grow_6 ?_
  refine t_callR (va_runV (As := [.int (nI (k + 1))]) (rest := []) ⟨hx, hb, hml, hown, hts⟩ (met_J2_grow_2 l1 G κ z l k arr cap N0 mc f hz hzN hcase hk20) (cv_J2_J2_grow_2 hts ⟨Nat.le_of_ble_eq_true rfl, Nat.le_of_ble_eq_true rfl⟩) (cT.preV hK hZ (xS_mono hS hAZ) ⟨⟨hk, hka⟩, hN, hel⟩ (a_recv (ci := 15) hK hk rfl)) rfl rfl hl.1 rfl (lv_room (Nat.le_of_ble_eq_true rfl)) dJ2_grow_7 ⟨by show _ ≤ 1; omega, by show _ ≤ gC cap; omega⟩) hS (fun q hq e => e) (fun q e => e) (fun v9 H locs hB9 hz9 hk9 hS => ?_)
  obtain ⟨rfl, ⟨hk, g1, hb1, hg1⟩, hsz, hu9⟩ := hB9
  refine W.widen (k := 1) (n := gC cap) (by omega) (by omega) ?_
  exact t_aret hx hb hr (Or.inr ⟨_, rfl⟩) (Or.inr ⟨_, rfl⟩) hlocks ⟨rfl, ⟨hk, _, hb1, hg1⟩, hsz, hu9⟩ hS dJ2_grow_10
