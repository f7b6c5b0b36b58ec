/-! The thrown object, wrong, want, number, opens, chains, texts (printed by gen/xs7.py) -/
/-- the thrown object lies at q -/
abbrev XW (G : gG) (q : Nat) (v1 v2 : Int32) (H : Heap) : Prop := ∃ f : Nat → Value, va_at (gD G) g_cl (q, .inr (5, [f 0, f 1, f 2, f 3, f 4, f 5, .int v1, .int v2])) H
section PW
variable {p : Program} {l : Launch} {e : Env} {R : Room} {s : State} {m : MethodId} {args : Array Value} {below : List Frame} {meth : Method} {c : Code} {H : Heap} {locs : List Loc} {cells slots : Nat} {Q : State → Prop}
variable {cc : ByteArray} {pc : Nat} {ls : Array Slot} {rest st0 : List Value} {G : gG} {A0 A1 : Nat → Prop} {H0 : Heap}
theorem p_newM (hx : p.tables.exec = Jvm.exec) (hb : c.code = cc) {own C : String} {T : u_T} {N ci index : Nat} (hts : ∀ w ∈ lw_all, w.before args s = true) (hin : ∀ w ∈ u_ws C T N, w ∈ lw_all) (ty : Nat → FieldType) (hty : ∀ k, k < N → parseFieldDescriptor (T k).2.2.1 = some (ty k)) (hown : s.vm.findClass own = some m.cls) (hcl : (Cond.classLink own index C).before args s = true) (hinst : (Cond.instantiable C N).before args s = true) (hini : (Cond.initialized C).before args s = true) (hK : KK G s) (hc : g_cl[ci]? = some (C, T, N)) {fs : List Value} (hfs : ∀ j, j < N → defaultValue (ty j) = vp_V fs j) (hcells : cells + 1 ≤ R.cells) (hslots : slots + N ≤ R.slots) (hdg : decode cc pc = .ok (.new index, 3))
    (kk : ∀ (q : Nat) (H1 : Heap), va_at (gD G) g_cl (q, .inr (ci, fs)) H1 → (∀ ce, H1[q]? = some ce → ce.monitor.owner = none ∧ ce.monitor.count = 0) → q = H.size → H1.size = H.size + 1 → (∀ z, z < H.size → H1[z]? = H[z]?) → W p l e R s m args below meth c H1 locs (cells + 1) (slots + N) Q (F0 m (pc + 3) ls (.ref q :: rest))) : W p l e R s m args below meth c H locs cells slots Q (F0 m pc ls rest) := by
  have hKn := hK.1.1 ci _ hc
  refine W.newcK hx hb hown hcl hinst hini rfl hdg hcells hslots hKn.2.1 rfl fun H1 kC hkC e1 z1 o1 => ?_
  exact kk H.size H1 ⟨_, hc, (u_born ty hts hin hKn hkC e1 hty).to hfs⟩ (fun ce h9 => by rw [e1] at h9; obtain rfl := Option.some.inj h9; exact ⟨rfl, rfl⟩) rfl z1 o1
theorem t_outA {mc ms q : Nat} {fs : List Value} {BX : Nat → Heap → Heap → Prop} (hout : ∀ x ∈ c.exceptionTable.toList, False) (hlocks : meth.locks = false) (hK : KK G s) (hat : va_at (gD G) g_cl (q, .inr (5, fs)) H) (hB : BX q s.heap H) (hS : va_S A1 s.heap H locs) {Qc : Array Value → State → Outcome → State → Prop} (hc : cells ≤ mc) (hs : slots ≤ ms) : vq_W p l e R s m args below meth c H locs cells slots (vq_MQ below Qc (tX BX A1) args s mc ms A1) (F0 m pc ls rest) q := by
  obtain ⟨r, h1, cell, c1, c2, c3, -⟩ := hat
  exact t_out hout hlocks c1 c3 (by rw [c2]; exact ((hK.1.1 5 _ rfl).2).1) hB hS hc hs
end PW
set_option maxHeartbeats 4000000 in
set_option maxRecDepth 100000 in
theorem met_X5_init (l : Launch) (G : gG) (κ : kK) (z : Nat) (a : Nat) (v1 v2 : Int32) (hz : z ≤ a) (hst : l.stackTraces = false) : Met l yX5_init (ws_ yX5_init cX5_init 3 none) ({ frames := 6, cells := 0, slots := 0, locals := 100 } : Room) (cT G κ z [.ref a, .int v1, .int v2] (fun H => va_at (gD G) g_cl (a, .inr (5, [.null, .null, .null, .null, .null, .int (nI 0), .int (nI 0), .int (nI 0)])) H ∧ ∀ ce, H[a]? = some ce → ce.monitor.owner = none ∧ ce.monitor.count = 0)) (tQ (fun ov H0 H1 => ov = none ∧ XW G a v1 v2 H1 ∧ H1.size = H0.size ∧ hU H1 ≤ hU H0) (fun q => q = a)) 0 0 (fun q => q = a) := by
  refine t_startR (by decide) (Nat.le_of_ble_eq_true rfl) ?_
  intro p e s m below meth c hx hb hr hlocks hml hown hts hB hK hZ hname ls hl
  have hl : lv_has ls 3 [(0, .ref a), (1, .int v1), (2, .int v2)] := hl
  obtain ⟨hk, hmon⟩ := hB
  have hAZ : ∀ q, q = a → aZ z q := fun q e => e ▸ hz
  have hS : va_S (fun q => q = a) s.heap s.heap [] := va_S.rf
  refine lv_aload_n hx hb dX5_init_0 rfl (lv_at hl 0 rfl) ?_
  refine p_super (a := a) hx hb hst hts hown (hml.trans hl.1.symm).symm hK hZ hk hmon dX5_init_1 (by decide) (by decide) (fun H locs f hk hz9 ho9 hl9 => ?_)
  replace hS := xS_put hS rfl hz9 ho9 hl9
  refine lv_aload_n hx hb dX5_init_4 rfl (lv_at hl 0 rfl) ?_
  refine lv_iload_n hx hb dX5_init_5 rfl (lv_at hl 1 rfl) ?_
  refine p_putF (own := RX5) (C := RX5) (T := TX5) (N := 8) (ci := 5) (a := a) (fs := [f 0, f 1, f 2, f 3, f 4, f 5, f 6, f 7]) (ty := tyX5 6) (v := .int v1) hx hb hts in_X5 tyX5 tyX5_ok nmX5 hown hK hk rfl 6 (by decide) (hts _ q491) (fun _ h9 => h9) rfl hname rfl (tyX5_ok 6 (by decide)) rfl rfl (Nat.le_of_ble_eq_true rfl) dX5_init_6 (fun H locs hk hz9 ho9 hl9 => ?_)
  replace hk : va_at (gD G) g_cl (a, .inr (5, [f 0, f 1, f 2, f 3, f 4, f 5, .int v1, f 7])) H := hk
  replace hS := xS_put hS rfl hz9 ho9 hl9
  refine lv_aload_n hx hb dX5_init_9 rfl (lv_at hl 0 rfl) ?_
  refine lv_iload_n hx hb dX5_init_10 rfl (lv_at hl 2 rfl) ?_
  refine p_putF (own := RX5) (C := RX5) (T := TX5) (N := 8) (ci := 5) (a := a) (fs := [f 0, f 1, f 2, f 3, f 4, f 5, .int v1, f 7]) (ty := tyX5 7) (v := .int v2) hx hb hts in_X5 tyX5 tyX5_ok nmX5 hown hK hk rfl 7 (by decide) (hts _ q493) (fun _ h9 => h9) rfl hname rfl (tyX5_ok 7 (by decide)) rfl rfl (Nat.le_of_ble_eq_true rfl) dX5_init_11 (fun H locs hk hz9 ho9 hl9 => ?_)
  replace hk : va_at (gD G) g_cl (a, .inr (5, [f 0, f 1, f 2, f 3, f 4, f 5, .int v1, .int v2])) H := hk
  replace hS := xS_put hS rfl hz9 ho9 hl9
  refine W_own (fun z1 z2 => ?_)
  exact t_vret hx hb hr hlocks ⟨rfl, ⟨f, hk⟩, Nat.le_antisymm (by omega) hS.1, by omega⟩ hS dX5_init_14
set_option maxHeartbeats 4000000 in
set_option maxRecDepth 100000 in
theorem met_X3_wrong (l : Launch) (G : gG) (κ : kK) (z : Nat) (Xb : Nat → Int32) (r ta t N0 : Nat) (v at_ tok srt num opn knd : Int32) (hzN : z ≤ N0) (hst : l.stackTraces = false) : Met l yX3_wrong (ws_ yX3_wrong cX3_wrong 2 (some (Jvm.ClassFile.FieldType.object "BreathOnLoan$Wrong"))) ({ frames := 7, cells := 1, slots := 8, locals := 130 } : Room) (cT G κ z [.ref r, .int v] (fun H => tkC G r ta t Xb at_ tok srt num opn knd H ∧ H.size = N0)) (tQ (fun ov H0 H1 => ov = some (.ref N0) ∧ XW G N0 v tok H1 ∧ H1.size = N0 + 1 ∧ hU H1 ≤ hU H0 + 8) (fun q => N0 ≤ q)) 1 8 (fun q => N0 ≤ q) := by
  refine t_startR (by decide) (Nat.le_of_ble_eq_true rfl) ?_
  intro p e s m below meth c hx hb hr hlocks hml hown hts hB hK hZ hname ls hl
  have hl : lv_has ls 2 [(0, .ref r), (1, .int v)] := hl
  obtain ⟨⟨hk, htp⟩, hN⟩ := hB
  have hAZ : ∀ q, N0 ≤ q → aZ z q := fun q e => Nat.le_trans hzN e
  have hS : va_S (fun q => N0 ≤ q) s.heap s.heap [] := va_S.rf
  refine p_newM (own := RX3) (C := RX5) (T := TX5) (N := 8) (ci := 5) (fs := [.null, .null, .null, .null, .null, .int (nI 0), .int (nI 0), .int (nI 0)]) hx hb hts in_X5 tyX5 tyX5_ok hown (hts _ q447) (hts _ q448) (hts _ q112) hK rfl (by decide +kernel) (Nat.le_refl _) (Nat.le_refl _) dX3_wrong_0 (fun q9 H hq9 hmq eq9 zq9 oq9 => ?_)
  have lr_q9 : r < q9 := by have := at_lt hk; omega
  have lta_q9 : ta < q9 := by have := at_lt htp; omega
  replace hk := va_at.kept hk (oq9 _ (at_lt hk))
  replace htp := va_at.kept htp (oq9 _ (at_lt htp))
  replace hS := xS_new hS (by omega) oq9
  refine lv_dup hx hb dX3_wrong_3 rfl ?_
  refine lv_iload_n hx hb dX3_wrong_4 rfl (lv_at hl 1 rfl) ?_
  refine lv_aload_n hx hb dX3_wrong_5 rfl (lv_at hl 0 rfl) ?_
  refine a_get (own := RX3) (C := RX3) (T := TX3) (N := 8) (ci := 3) hx hb hts in_X3 hown hK hk rfl 3 (by decide) (hts _ q300) (fun _ h9 => h9) rfl dX3_wrong_6 ?_
  refine t_callR (va_runI (As := [.int v, .int tok]) (rest := [.ref q9]) ⟨hx, hb, hml, hown, hts⟩ (met_X5_init l G κ z q9 v tok (by omega) hst) (ci_X3_X5_init hts ⟨Nat.le_of_ble_eq_true rfl, Nat.le_of_ble_eq_true rfl⟩) (cT.pre hK hZ (xS_mono hS hAZ) ⟨hq9, hmq⟩) rfl rfl hl.1 rfl (lv_room (Nat.le_of_ble_eq_true rfl)) dX3_wrong_9 ⟨Nat.le_refl _, Nat.le_refl _⟩) hS (fun q hq e => by have e : q = q9 := e; show N0 ≤ q; omega) (fun q e => by have e : @Eq Nat q q9 := e; show N0 ≤ q; omega) (fun v9 H locs hB9 hz9 hk9 hS => ?_)
  obtain ⟨rfl, hxw, hxz, hxu⟩ := hB9
  replace hk := va_at.kept hk (hk9 _ (at_lt hk) (by omega))
  replace htp := va_at.kept htp (hk9 _ (at_lt htp) (by omega))
  refine W_own (fun z1 z2 => ?_)
  obtain rfl : q9 = N0 := by omega
  exact t_aret hx hb hr (Or.inl ⟨_, rfl⟩) (Or.inr ⟨_, rfl⟩) hlocks ⟨rfl, hxw, by have := hS.1; omega, by omega⟩ hS dX3_wrong_12
