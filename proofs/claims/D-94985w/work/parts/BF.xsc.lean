/-! ask, choice, one (printed by gen/xsc.py) -/
abbrev hpOf {A : Nat → Prop} {H0 H : Heap} {locs : List Loc} (_ : va_S A H0 H locs) : Heap := H
theorem gF {G : gG} {z N1 M D x : Nat} {b : Bool} {L : Cd} {H H1 : Heap} (h : aS G (gO z N1 M) H D b x L) (ho : ∀ q, q < M → (q < z ∨ N1 ≤ q) → H1[q]? = H[q]?) : aS G (gO z N1 M) H1 D b x L := aS.kept (fun q hq => ho q hq.1 hq.2) (fun q hq => hq) _ _ _ _ h
theorem gU {G : gG} {z N0 N1 M n D D1 x : Nat} {b : Bool} {L : Cd} {H : Heap} (h : aS G (gO z N1 M) H D b x L) (hN : N0 ≤ N1) (hM : M ≤ n) (hD : D ≤ D1) : aS G (gO z N0 n) H D1 b x L := aS.le hD (aS.kept (fun _ _ => rfl) (fun q hq => ⟨by have := hq.1; omega, by have := hq.2; omega⟩) _ _ _ _ h)
theorem mkPlain {G : gG} {z N0 D a : Nat} {v : Int32} {H : Heap} (hc : va_at (gD G) g_cl (a, .inr (8, [.int v])) H) (ha : N0 ≤ a) : aS G (gO z N0 H.size) H (D + 1) true a [(0, v)] := ⟨⟨at_lt hc, Or.inr ha⟩, Or.inl ⟨v, hc, rfl⟩⟩
theorem mkName {G : gG} {z N0 D a w : Nat} {H : Heap} (hc : va_at (gD G) g_cl (a, .inr (9, [.int (nI w)])) H) (hw : w < 11) (ha : N0 ≤ a) : aS G (gO z N0 H.size) H (D + 1) true a [(1, nI w)] := ⟨⟨at_lt hc, Or.inr ha⟩, Or.inr (Or.inl ⟨w, hw, hc, rfl⟩)⟩
theorem mkMinus {G : gG} {z N0 D a x : Nat} {L : Cd} {H : Heap} (hc : va_at (gD G) g_cl (a, .inr (14, [.ref x])) H) (ha : N0 ≤ a) (h : aS G (gO z N0 H.size) H D true x L) : aS G (gO z N0 H.size) H (D + 1) true a (L ++ [(2, nI 0)]) := ⟨⟨at_lt hc, Or.inr ha⟩, Or.inr (Or.inr (Or.inl ⟨x, L, hc, h, rfl⟩))⟩
theorem mkIf {G : gG} {z N0 D a w x y : Nat} {L0 L1 L2 : Cd} {H : Heap} (hc : va_at (gD G) g_cl (a, .inr (13, [.ref w, .ref x, .ref y])) H) (ha : N0 ≤ a) (h0 : aS G (gO z N0 H.size) H D false w L0) (h1 : aS G (gO z N0 H.size) H D true x L1) (h2 : aS G (gO z N0 H.size) H D true y L2) : aS G (gO z N0 H.size) H (D + 1) true a (L0 ++ (L1 ++ (L2 ++ [(23, nI 0)]))) := ⟨⟨at_lt hc, Or.inr ha⟩, Or.inr (Or.inr (Or.inr (Or.inr ⟨w, x, y, L0, L1, L2, hc, h0, h1, h2, rfl⟩)))⟩
theorem mkNot {G : gG} {z N0 D a x : Nat} {L : Cd} {H : Heap} (hc : va_at (gD G) g_cl (a, .inr (10, [.ref x])) H) (ha : N0 ≤ a) (h : aS G (gO z N0 H.size) H D false x L) : aS G (gO z N0 H.size) H (D + 1) false a (L ++ [(20, nI 0)]) := ⟨⟨at_lt hc, Or.inr ha⟩, Or.inr (Or.inl ⟨x, L, hc, h, rfl⟩)⟩
theorem mkComp {G : gG} {z N0 D a x y c : Nat} {L1 L2 : Cd} {H : Heap} (hc : va_at (gD G) g_cl (a, .inr (11, [.int (cmc c), .ref x, .ref y])) H) (ho : 10 ≤ c ∧ c ≤ 15) (ha : N0 ≤ a) (h1 : aS G (gO z N0 H.size) H D true x L1) (h2 : aS G (gO z N0 H.size) H D true y L2) : aS G (gO z N0 H.size) H (D + 1) false a (L1 ++ (L2 ++ [(c, nI 0)])) := ⟨⟨at_lt hc, Or.inr ha⟩, Or.inl ⟨c, x, y, L1, L2, ho, hc, h1, h2, rfl⟩⟩
theorem cmc_in {x c : Nat} (hx : 10 ≤ x ∧ x ≤ 15) (h : cmc x = nI c) (hc : c ≤ 304) : c = 60 ∨ c = 303 ∨ c = 62 ∨ c = 304 ∨ c = 61 ∨ c = 35 := by
  have k : ∀ n, n < 2 ^ 31 → nI n = nI c → c = n := fun n hn e => ((nI_eq hn (by omega)).mp e).symm
  have : x = 10 ∨ x = 11 ∨ x = 12 ∨ x = 13 ∨ x = 14 ∨ x = 15 := by omega
  rcases this with rfl | rfl | rfl | rfl | rfl | rfl
  · exact Or.inl (k 60 (by decide) h)
  · exact Or.inr (Or.inl (k 303 (by decide) h))
  · exact Or.inr (Or.inr (Or.inl (k 62 (by decide) h)))
  · exact Or.inr (Or.inr (Or.inr (Or.inl (k 304 (by decide) h))))
  · exact Or.inr (Or.inr (Or.inr (Or.inr (Or.inl (k 61 (by decide) h)))))
  · exact Or.inr (Or.inr (Or.inr (Or.inr (Or.inr (k 35 (by decide) h)))))
theorem yBl_notE {tp : Nat → Nat} {t so o p q f : Nat} (hf : f ≠ 0) (h : tW tp t p wNot) (hn : nmO tp t p = none) (ho : o ≠ 8) (hr : yBl tp t so 4 3 (o + 1) (lxQ tp t p) (f, [], q)) : yBl tp t so 4 3 o p (f, [], q) := Eq.mp (congrArg (fun X => yBl tp t so 4 3 o p (f, X, q)) (if_neg hf)) (yBl_not h hn ho hr)
theorem yBl_cmpE {tp : Nat → Nat} {t so o p x q f q2 : Nat} {L : Cd} (hf : f ≠ 0) (hnt : ¬ tW tp t p wNot) (hr : ySm tp t so 5 o p (0, L, q)) (hn5 : nop tp t 5 q) (hx : cpO (lxT tp t q) = some x) (h2 : ySm tp t so 5 o (lxQ tp t q) (f, [], q2)) : yBl tp t so 4 3 o p (f, [], q2) := Eq.mp (congrArg (fun X => yBl tp t so 4 3 o p (f, X, q2)) (if_neg hf)) (yBl_cmp hnt hr rfl hn5 hx h2 (fun e => absurd e hf))
theorem yOne_minusE {tp : Nat → Nat} {t so o p q f : Nat} (hf : f ≠ 0) (h : lxT tp t p = 45) (ho : o ≠ 8) (hr : yOne tp t so (o + 1) (lxQ tp t p) (f, [], q)) : yOne tp t so o p (f, [], q) := Eq.mp (congrArg (fun X => yOne tp t so o p (f, X, q)) (if_neg hf)) (yOne_minus h ho hr)
theorem yOne_parE {tp : Nat → Nat} {t so o p q f : Nat} (hf : f ≠ 0) (h : lxT tp t p = 40) (ho : o ≠ 8) (ht : t ≤ 300) (hr : ySm tp t so 5 (o + 1) (lxQ tp t p) (f, [], q)) : yOne tp t so o p (f, [], q) := Eq.mp (congrArg (yOne tp t so o p) (if_neg hf)) (yOne_par h ho ht hr (fun e => absurd e hf))
theorem yOne_par1 {tp : Nat → Nat} {t so o p q : Nat} {L : Cd} (h : lxT tp t p = 40) (ho : o ≠ 8) (ht : t ≤ 300) (hr : ySm tp t so 5 (o + 1) (lxQ tp t p) (0, L, q)) (hn5 : nop tp t 5 q) (hc : lxT tp t q ≠ 41) : yOne tp t so o p (1, [], q) := Eq.mp (congrArg (yOne tp t so o p) (if_neg hc)) (yOne_par h ho ht hr (fun _ => hn5))
theorem yOne_parN {tp : Nat → Nat} {t so o p q : Nat} {L : Cd} (h : lxT tp t p = 40) (ho : o ≠ 8) (ht : t ≤ 300) (hr : ySm tp t so 5 (o + 1) (lxQ tp t p) (0, L, q)) (hn5 : nop tp t 5 q) (hc : lxT tp t q = 41) : yOne tp t so o p (0, L, lxQ tp t q) := Eq.mp (congrArg (yOne tp t so o p) (if_pos hc)) (yOne_par h ho ht hr (fun _ => hn5))
set_option maxHeartbeats 4000000 in
set_option maxRecDepth 100000 in
theorem met_X3_ask (l : Launch) (G : gG) (κ : kK) (z : Nat) (tp : Nat → Nat) (Xb : Nat → Int32) (r ta t kd o d : Nat) (hXb : ∀ j, j < t → Xb j = sb (tp j) ∧ tp j < 256) (ht : t ≤ 300) (hra : r ≠ ta) (hz : z ≤ r) (hst : l.stackTraces = false) (hod : o + d = 8) (h1 : g_sum l G κ z tp Xb r ta t kd o d) (ih : ∀ d1, d = d1 + 1 → g_ask l G κ z tp Xb r ta t kd (o + 1) d1) : g_ask l G κ z tp Xb r ta t kd o d := by
  intro p0 N0 n hn0 hzN
  have hp : p0 ≤ t := by omega
  show vq_Met l yX3_ask (ws_ yX3_ask cX3_ask 3 (some (Jvm.ClassFile.FieldType.object "BreathOnLoan$Asked"))) (rmG d 23 490 (16 * n + 14) (160 * n + 112)) (cT G κ z [.ref r] (fun H => tkP G r ta t Xb tp p0 o kd H ∧ H.size = N0)) (tQ (gN G z r ta t Xb tp kd o p0 N0 false (6 * d + 4) 7 157 (yBl tp t kd 4 3 o p0)) (fun q => q = r ∨ N0 ≤ q)) (tX (gX G t tp (yBl tp t kd 4 3 o p0)) (fun q => q = r ∨ N0 ≤ q)) (16 * n + 14) (160 * n + 112) (fun q => q = r ∨ N0 ≤ q)
  refine t_start (by decide) (Nat.le_of_ble_eq_true rfl) ?_
  intro p e s m below meth c hx hb hr hlocks hml hown hts hB hK hZ htab ls hl
  have hl : lv_has ls 3 [(0, .ref r)] := hl
  obtain ⟨⟨num, hnum, hk, htp⟩, hN⟩ := hB
  have hAZ : ∀ q, (q = r ∨ N0 ≤ q) → aZ z q := fun q e => show z ≤ q by rcases e with e | e <;> omega
  have hS : va_S (fun q => q = r ∨ N0 ≤ q) s.heap s.heap [] := va_S.rf
  have hrN := at_lt hk
  have htN := at_lt htp
  have hcb := cst_b tp t p0
  have hrN0 : r < s.heap.size := hrN
  have htN0 : ta < s.heap.size := htN
  refine lv_aload_n hx hb dX3_ask_0 rfl (lv_at hl 0 rfl) ?_
  refine a_get (own := RX3) (C := RX3) (T := TX3) (N := 8) (ci := 3) hx hb hts in_X3 hown hK hk rfl 4 (by decide) (hts _ q301) (fun _ h9 => h9) rfl dX3_ask_1 ?_
  refine lv_sipush (v := nI 213) hx hb dX3_ask_4 (by decide) ?_
  refine n_icmp_ne (tgt := 38) hx hb dX3_ask_7 (by decide) (by omega) (by omega) (fun hc213 => ?_) (fun hc213 => ?_)
  · refine lv_aload_n hx hb dX3_ask_38 rfl (lv_at hl 0 rfl) ?_
    have hnt : ¬ tW tp t p0 wNot := fun e => hc213 (cst_not.mp e)
    have hNN := hS.1
    obtain ⟨NA, hNA⟩ : ∃ m9 : Nat, (hpOf hS).size = m9 := ⟨_, rfl⟩
    dsimp only [hpOf] at hNA
    refine W_own (fun zw1 zw2 => ?_)
    have hNN := hS.1
    refine t_call (vq_runV (As := []) (rest := []) ⟨hx, hb, hml, hown, hts⟩ (h1 p0 NA n hn0 (Nat.le_trans hzN (Nat.le_trans (Nat.le_of_eq hN.symm) (Nat.le_trans hS.1 (Nat.le_of_eq hNA))))) (cv_X3_X3_sum hts ⟨by dsimp only [rmG]; omega, by dsimp only [rmG]; omega⟩) (cT.preV hK hZ (xS_mono hS hAZ) ⟨⟨_, hnum, hk, htp⟩, hNA⟩ (a_recv (ci := 3) hK hk rfl)) rfl rfl hl.1 rfl (lv_room (Nat.le_of_ble_eq_true rfl)) dX3_ask_39 ⟨by dsimp only [rmG]; omega, by dsimp only [rmG]; omega⟩) hS (fun q hq e => Or.inl (e.resolve_right (Nat.not_le.mpr (Nat.lt_of_lt_of_le hq (Nat.le_of_eq hNA))))) (fun q e => e.elim Or.inl (fun e => Or.inr (Nat.le_trans (Nat.le_trans (Nat.le_of_eq hN.symm) (Nat.le_trans hS.1 (Nat.le_of_eq hNA))) e))) (fun q9 ce9 H locs hX9 hz9 hk9 hS hc9 hv9 hl9 => ?_) (fun v9 H locs hB9 hz9 hk9 hS => ?_)
    · obtain ⟨f9, p9, hf0, hf6, hP9, hxw⟩ := hX9
      exact t_out htab hlocks hc9 hv9 hl9 ⟨f9, p9, hf0, hf6, yBl_se hnt hP9.1 hf0, hxw⟩ hS (by omega) (by omega)
    obtain ⟨xA, LA, qA, rfl, hPA, hqA, ⟨num9, hnum, hk, htp⟩, haA, hszA, husA⟩ := hB9
    have hcb := cst_b tp t qA
    obtain ⟨MA, hMA⟩ : ∃ m9 : Nat, (hpOf hS).size = m9 := ⟨_, rfl⟩
    dsimp only [hpOf] at hMA
    rw [hMA] at haA
    have hrN := at_lt hk
    refine W_own (fun zt1 zt2 => ?_)
    obtain ⟨cA1, hcA1, hdA1⟩ : ∃ c9 : Nat, H.size ≤ s.heap.size + c9 ∧ c9 + 16 * p0 + 0 ≤ 16 * qA := ⟨16 * qA - 16 * p0 - 0, by omega, by omega⟩
    obtain ⟨sA1, hsA1, htA1⟩ : ∃ s9 : Nat, hU H ≤ hU s.heap + s9 ∧ s9 + 160 * p0 + 0 ≤ 160 * qA := ⟨160 * qA - 160 * p0 - 0, by omega, by omega⟩
    refine W_tight (k := cA1) (n := sA1) hcA1 hsA1 ?_
    refine lv_astore_n (lv' := [(1, .ref xA), (0, .ref r)]) hx hb dX3_ask_42 rfl hl (by decide) rfl (fun ls hl => ?_)
    refine lv_aload_n hx hb dX3_ask_43 rfl (lv_at hl 1 rfl) ?_
    refine a_get (own := RX3) (C := RX3) (T := TX3) (N := 8) (ci := 3) hx hb hts in_X3 hown hK hk rfl 4 (by decide) (hts _ q301) (fun _ h9 => h9) rfl dX3_ask_44 ?_
    refine lv_istore_n (lv' := [(2, .int (nI (cst tp t qA))), (1, .ref xA), (0, .ref r)]) hx hb dX3_ask_47 rfl hl (by decide) rfl (fun ls hl => ?_)
    rcases cpO_by (tp := tp) (t := t) (q := qA) with ⟨x9, hcp, hx9, hcm⟩ | ⟨hcp, e1, e2, e3, e4, e5, e6⟩
    · have hin := cmc_in hx9 hcm hcb
      have J92 : ∀ (ls : Array Slot), lv_has ls 3 [(2, .int (nI (cst tp t qA))), (1, .ref xA), (0, .ref r)] → W p l e (rmG d 23 490 (16 * n + 14) (160 * n + 112)) s m ([.ref r] : List Value).toArray below meth c H locs cA1 sA1 (vq_MQ below (tQ (gN G z r ta t Xb tp kd o p0 N0 false (6 * d + 4) 7 157 (yBl tp t kd 4 3 o p0)) (fun q => q = r ∨ N0 ≤ q)) (tX (gX G t tp (yBl tp t kd 4 3 o p0)) (fun q => q = r ∨ N0 ≤ q)) ([.ref r] : List Value).toArray s (16 * n + 14) (160 * n + 112) (fun q => q = r ∨ N0 ≤ q)) (F0 m 92 ls []) := by
        intro ls hl
        have hgqA := lxQ_gt (tp := tp) (t := t) (p0 := qA) (fun e => by have := cst_0.mp e; omega)
        have hlqA : lxQ tp t qA ≤ t := lxQ_le hqA.2
        refine lv_aload_n hx hb dX3_ask_92 rfl (lv_at hl 2 rfl) ?_
        refine t_callR (va_runV (As := []) (rest := []) ⟨hx, hb, hml, hown, hts⟩ (met_X3_next l G κ z tp Xb r ta t (lxQ tp t qA) (nI (lxS tp t qA)) (nI (cst tp t qA)) num9 (nI o) (nI kd) hXb ht (lxQ_le hqA.2) hra hz) (cv_X3_X3_next hts ⟨by dsimp only [rmG]; omega, by dsimp only [rmG]; omega⟩) (cT.preV hK hZ (xS_mono hS hAZ) ⟨hk, htp⟩ (a_recv (ci := 3) hK hk rfl)) rfl rfl hl.1 rfl (lv_room (Nat.le_of_ble_eq_true rfl)) dX3_ask_93 ⟨by dsimp only [rmG]; omega, by dsimp only [rmG]; omega⟩) hS (fun q hq e => Or.inl e) (fun q e => Or.inl e) (fun v9 H locs hB9 hz9 hk9 hS => ?_)
        obtain ⟨rfl, num9, hnum, hk, htp⟩ := hB9
        replace haA := gF haA (fun q h1 h2 => hk9 q (by omega) (by omega))
        refine p_new (own := RX3) (C := RX11) (T := TX11) (N := 3) (ci := 11) (fs := [.int (nI 0), .null, .null]) hx hb hts in_X11 tyX11 tyX11_ok hown (hts _ q676) (hts _ q677) (hts _ q121) hK rfl (by decide +kernel) (by dsimp only [rmG]; omega) (by dsimp only [rmG]; omega) dX3_ask_96 (fun q_1 H hq_1 eq_1 zq_1 oq_1 => ?_)
        have lr_q_1 : r < q_1 := by have := at_lt hk; omega
        have lta_q_1 : ta < q_1 := by have := at_lt htp; omega
        replace hk := va_at.kept hk (oq_1 _ (at_lt hk))
        replace htp := va_at.kept htp (oq_1 _ (at_lt htp))
        replace haA := gF haA (fun q h1 h2 => oq_1 q (by omega))
        replace hS := xS_new hS (by omega) oq_1
        refine lv_dup hx hb dX3_ask_99 rfl ?_
        refine lv_iload_n hx hb dX3_ask_100 rfl (lv_at hl 0 rfl) ?_
        refine lv_aload_n hx hb dX3_ask_101 rfl (lv_at hl 1 rfl) ?_
        refine lv_aload_n hx hb dX3_ask_102 rfl (lv_at hl 2 rfl) ?_
        refine W_own (fun zt1 zt2 => ?_)
        obtain ⟨cT9, hcT9, hdT9⟩ : ∃ c9 : Nat, H.size ≤ s.heap.size + c9 ∧ c9 + 16 * p0 + 15 ≤ 16 * (lxQ tp t qA) := ⟨16 * (lxQ tp t qA) - 16 * p0 - 15, by omega, by omega⟩
        obtain ⟨sT9, hsT9, htT9⟩ : ∃ s9 : Nat, hU H ≤ hU s.heap + s9 ∧ s9 + 160 * p0 + 157 ≤ 160 * (lxQ tp t qA) := ⟨160 * (lxQ tp t qA) - 160 * p0 - 157, by omega, by omega⟩
        refine W_tight (k := cT9) (n := sT9) hcT9 hsT9 ?_
        have hNN := hS.1
        obtain ⟨NB, hNB⟩ : ∃ m9 : Nat, (hpOf hS).size = m9 := ⟨_, rfl⟩
        dsimp only [hpOf] at hNB
        obtain ⟨nB, hnB⟩ := Nat.le.dest hlqA
        refine W_own (fun zw1 zw2 => ?_)
        have hNN := hS.1
        refine t_call (vq_runV (As := []) (rest := [.ref xA, .int (nI (cst tp t qA)), .ref q_1, .ref q_1]) ⟨hx, hb, hml, hown, hts⟩ (h1 (lxQ tp t qA) NB nB hnB (Nat.le_trans hzN (Nat.le_trans (Nat.le_of_eq hN.symm) (Nat.le_trans hS.1 (Nat.le_of_eq hNB))))) (cv_X3_X3_sum hts ⟨by dsimp only [rmG]; omega, by dsimp only [rmG]; omega⟩) (cT.preV hK hZ (xS_mono hS hAZ) ⟨⟨_, hnum, hk, htp⟩, hNB⟩ (a_recv (ci := 3) hK hk rfl)) rfl rfl hl.1 rfl (lv_room (Nat.le_of_ble_eq_true rfl)) dX3_ask_103 ⟨by dsimp only [rmG]; omega, by dsimp only [rmG]; omega⟩) hS (fun q hq e => Or.inl (e.resolve_right (Nat.not_le.mpr (Nat.lt_of_lt_of_le hq (Nat.le_of_eq hNB))))) (fun q e => e.elim Or.inl (fun e => Or.inr (Nat.le_trans (Nat.le_trans (Nat.le_of_eq hN.symm) (Nat.le_trans hS.1 (Nat.le_of_eq hNB))) e))) (fun q9 ce9 H locs hX9 hz9 hk9 hS hc9 hv9 hl9 => ?_) (fun v9 H locs hB9 hz9 hk9 hS => ?_)
        · obtain ⟨f9, p9, hf0, hf6, hP9, hxw⟩ := hX9
          exact t_out htab hlocks hc9 hv9 hl9 ⟨f9, p9, hf0, hf6, yBl_cmpE hf0 hnt hPA.1 (hPA.2 rfl) hcp hP9.1, hxw⟩ hS (by omega) (by omega)
        obtain ⟨xB, LB, qB, rfl, hPB, hqB, ⟨num9, hnum, hk, htp⟩, haB, hszB, husB⟩ := hB9
        replace hq_1 := va_at.kept hq_1 (hk9 _ (at_lt hq_1) (by have := at_lt hq_1; omega))
        replace haA := gF haA (fun q h1 h2 => hk9 q (by omega) (by omega))
        have hcb := cst_b tp t qB
        obtain ⟨MB, hMB⟩ : ∃ m9 : Nat, (hpOf hS).size = m9 := ⟨_, rfl⟩
        dsimp only [hpOf] at hMB
        rw [hMB] at haB
        have hrN := at_lt hk
        have hNN := hS.1
        refine t_callR (va_runIN (As := [.int (nI (cst tp t qA)), .ref xA, .ref xB]) (rest := [.ref q_1]) ⟨hx, hb, hml, hown, hts⟩ (met_X11_init l G κ z q_1 (nI (cst tp t qA)) xA xB (by omega)) ⟨cn_X3_X11_init hts hK ⟨by dsimp only [rmG]; omega, by dsimp only [rmG]; omega⟩, rfl, hts _ q679⟩ (cT.pre hK hZ (xS_mono hS hAZ) hq_1) rfl rfl hl.1 rfl (lv_room (Nat.le_of_ble_eq_true rfl)) dX3_ask_106 ⟨by dsimp only [rmG]; omega, by dsimp only [rmG]; omega⟩) hS (fun q hq e => Or.inr (by have e : @Eq Nat q q_1 := e; omega)) (fun q e => Or.inr (by have e : @Eq Nat q q_1 := e; omega)) (fun v9 H locs hB9 hz9 hk9 hS => ?_)
        obtain ⟨rfl, hq_1, hsv, huv⟩ := hB9
        replace hk := va_at.kept hk (hk9 _ (at_lt hk) (by omega))
        replace htp := va_at.kept htp (hk9 _ (at_lt htp) (by omega))
        replace haA := gF haA (fun q h1 h2 => hk9 q (by omega) (by omega))
        replace haB := gF haB (fun q h1 h2 => hk9 q (by omega) (by omega))
        rw [← hcm] at hq_1
        have haF : aS G (gO z N0 H.size) H ((6 * d + 3) + 1) false q_1 _ := mkComp hq_1 hx9 (by omega) (gU haA (by omega) (by omega) (by omega)) (gU haB (by omega) (by omega) (by omega))
        refine W_own (fun z1 z2 => ?_)
        refine vq_ret ?_
        refine W.widen (k := 16 * n + 14) (n := 160 * n + 112) (by omega) (by omega) ?_
        exact t_aret hx hb hr (Or.inl ⟨_, rfl⟩) (Or.inr ⟨_, rfl⟩) hlocks ⟨_, _, qB, rfl, yBl_cmp hnt hPA.1 rfl (hPA.2 rfl) hcp hPB.1 hPB.2, ⟨by omega, hqB.2⟩, ⟨_, hnum, hk, htp⟩, haF, by omega, by omega⟩ hS dX3_ask_109
      refine lv_iload_n hx hb dX3_ask_48 rfl (lv_at hl 0 rfl) ?_
      refine lv_bipush (v := nI 60) hx hb dX3_ask_49 (by decide) ?_
      refine n_icmp_eq (tgt := 92) hx hb dX3_ask_51 (by decide) (by omega) (by omega) (fun _ => J92 ls hl) (fun hne51 => ?_)
      refine lv_iload_n hx hb dX3_ask_54 rfl (lv_at hl 0 rfl) ?_
      refine lv_bipush (v := nI 62) hx hb dX3_ask_55 (by decide) ?_
      refine n_icmp_eq (tgt := 92) hx hb dX3_ask_57 (by decide) (by omega) (by omega) (fun _ => J92 ls hl) (fun hne57 => ?_)
      refine lv_iload_n hx hb dX3_ask_60 rfl (lv_at hl 0 rfl) ?_
      refine lv_bipush (v := nI 61) hx hb dX3_ask_61 (by decide) ?_
      refine n_icmp_eq (tgt := 92) hx hb dX3_ask_63 (by decide) (by omega) (by omega) (fun _ => J92 ls hl) (fun hne63 => ?_)
      refine lv_iload_n hx hb dX3_ask_66 rfl (lv_at hl 0 rfl) ?_
      refine lv_bipush (v := nI 35) hx hb dX3_ask_67 (by decide) ?_
      refine n_icmp_eq (tgt := 92) hx hb dX3_ask_69 (by decide) (by omega) (by omega) (fun _ => J92 ls hl) (fun hne69 => ?_)
      refine lv_iload_n hx hb dX3_ask_72 rfl (lv_at hl 0 rfl) ?_
      refine lv_sipush (v := nI 303) hx hb dX3_ask_73 (by decide) ?_
      refine n_icmp_eq (tgt := 92) hx hb dX3_ask_76 (by decide) (by omega) (by omega) (fun _ => J92 ls hl) (fun hne76 => ?_)
      refine lv_iload_n hx hb dX3_ask_79 rfl (lv_at hl 0 rfl) ?_
      refine lv_sipush (v := nI 304) hx hb dX3_ask_80 (by decide) ?_
      refine n_icmp_eq (tgt := 92) hx hb dX3_ask_83 (by decide) (by omega) (by omega) (fun _ => J92 ls hl) (fun hne83 => ?_)
      exfalso; omega
    refine lv_iload_n hx hb dX3_ask_48 rfl (lv_at hl 0 rfl) ?_
    refine lv_bipush (v := nI 60) hx hb dX3_ask_49 (by decide) ?_
    refine n_icmp_eq (tgt := 92) hx hb dX3_ask_51 (by decide) (by omega) (by omega) (fun h9 => absurd h9 (by assumption)) (fun _ => ?_)
    refine lv_iload_n hx hb dX3_ask_54 rfl (lv_at hl 0 rfl) ?_
    refine lv_bipush (v := nI 62) hx hb dX3_ask_55 (by decide) ?_
    refine n_icmp_eq (tgt := 92) hx hb dX3_ask_57 (by decide) (by omega) (by omega) (fun h9 => absurd h9 (by assumption)) (fun _ => ?_)
    refine lv_iload_n hx hb dX3_ask_60 rfl (lv_at hl 0 rfl) ?_
    refine lv_bipush (v := nI 61) hx hb dX3_ask_61 (by decide) ?_
    refine n_icmp_eq (tgt := 92) hx hb dX3_ask_63 (by decide) (by omega) (by omega) (fun h9 => absurd h9 (by assumption)) (fun _ => ?_)
    refine lv_iload_n hx hb dX3_ask_66 rfl (lv_at hl 0 rfl) ?_
    refine lv_bipush (v := nI 35) hx hb dX3_ask_67 (by decide) ?_
    refine n_icmp_eq (tgt := 92) hx hb dX3_ask_69 (by decide) (by omega) (by omega) (fun h9 => absurd h9 (by assumption)) (fun _ => ?_)
    refine lv_iload_n hx hb dX3_ask_72 rfl (lv_at hl 0 rfl) ?_
    refine lv_sipush (v := nI 303) hx hb dX3_ask_73 (by decide) ?_
    refine n_icmp_eq (tgt := 92) hx hb dX3_ask_76 (by decide) (by omega) (by omega) (fun h9 => absurd h9 (by assumption)) (fun _ => ?_)
    refine lv_iload_n hx hb dX3_ask_79 rfl (lv_at hl 0 rfl) ?_
    refine lv_sipush (v := nI 304) hx hb dX3_ask_80 (by decide) ?_
    refine n_icmp_eq (tgt := 92) hx hb dX3_ask_83 (by decide) (by omega) (by omega) (fun h9 => absurd h9 (by assumption)) (fun _ => ?_)
    refine lv_aload_n hx hb dX3_ask_86 rfl (lv_at hl 2 rfl) ?_
    refine lv_iconst (v := nI 1) hx hb dX3_ask_87 (by decide) ?_
    refine t_callR (va_runV (As := [.int (nI 1)]) (rest := []) ⟨hx, hb, hml, hown, hts⟩ (met_X3_wrong l G κ z Xb r ta t _ (nI 1) (nI (lxQ tp t qA)) (nI (lxS tp t qA)) (nI (cst tp t qA)) num9 (nI o) (nI kd) (Nat.le_trans hzN (Nat.le_trans (Nat.le_of_eq hN.symm) hS.1)) hst) (cv_X3_X3_wrong hts ⟨by dsimp only [rmG]; omega, by dsimp only [rmG]; omega⟩) (cT.preV hK hZ (xS_mono hS hAZ) ⟨⟨hk, htp⟩, rfl⟩ (a_recv (ci := 3) hK hk rfl)) rfl rfl hl.1 rfl (lv_room (Nat.le_of_ble_eq_true rfl)) dX3_ask_88 ⟨by dsimp only [rmG]; omega, by dsimp only [rmG]; omega⟩) hS (fun q hq e => absurd hq (Nat.not_lt.mpr e)) (fun q e => Or.inr (Nat.le_trans (Nat.le_trans (Nat.le_of_eq hN.symm) hS.1) e)) (fun v9 H locs hB9 hz9 hk9 hS => ?_)
    obtain ⟨rfl, hwx, hwz, hwu⟩ := hB9
    replace hk := va_at.kept hk (hk9 _ (at_lt hk) (Nat.not_le.mpr (at_lt hk)))
    replace htp := va_at.kept htp (hk9 _ (at_lt htp) (Nat.not_le.mpr (at_lt htp)))
    replace haA := gF haA (fun q h1 h2 => hk9 q (by omega) (by omega))
    refine vq_athrow hx hb dX3_ask_91 ?_
    obtain ⟨fw, hwx⟩ := hwx
    exact t_outA htab hlocks hK hwx ⟨1, qA, by decide, by decide, yBl_cn ht hnt hPA.1 rfl (hPA.2 rfl) hcp, fw, hwx⟩ hS (by omega) (by omega)
  refine lv_aload_n hx hb dX3_ask_10 rfl (lv_at hl 0 rfl) ?_
  have hnot : tW tp t p0 wNot := cst_not.mpr hc213
  have hnone := nmO_no (tp := tp) (t := t) (p := p0) (by omega)
  have hgt := lxQ_gt (tp := tp) (t := t) (p0 := p0) (fun e => by have := cst_0.mp e; omega)
  refine W_own (fun zw1 zw2 => ?_)
  have hNN := hS.1
  refine t_call (vq_runV (As := []) (rest := []) ⟨hx, hb, hml, hown, hts⟩ (met_X3_opens l G κ z tp Xb r ta t p0 o kd _  hXb ht hp hra hz (Nat.le_trans hzN (Nat.le_trans (Nat.le_of_eq hN.symm) hS.1)) hst (by omega)) (cv_X3_X3_opens hts ⟨by dsimp only [rmG]; omega, by dsimp only [rmG]; omega⟩) (cT.preV hK hZ (xS_mono hS hAZ) ⟨⟨_, hnum, hk, htp⟩, rfl⟩ (a_recv (ci := 3) hK hk rfl)) rfl rfl hl.1 rfl (lv_room (Nat.le_of_ble_eq_true rfl)) dX3_ask_11 ⟨by dsimp only [rmG]; omega, by dsimp only [rmG]; omega⟩) hS (fun q hq e => Or.inl (e.resolve_right (Nat.not_le.mpr hq))) (fun q e => e.elim Or.inl (fun e => Or.inr (Nat.le_trans (Nat.le_trans (Nat.le_of_eq hN.symm) hS.1) e))) (fun q9 ce9 H locs hX9 hz9 hk9 hS hc9 hv9 hl9 => ?_) (fun v9 H locs hB9 hz9 hk9 hS => ?_)
  · obtain ⟨hX1, hxw⟩ := hX9
    exact t_out htab hlocks hc9 hv9 hl9 ⟨3, p0, by decide, by decide, (by have h9 := yBl_deep (so := kd) hp hnot hnone; rw [← hX1] at h9; exact h9), hxw⟩ hS (by omega) (by omega)
  obtain ⟨rfl, ho8, ⟨num9, hnum, hk, htp⟩, hszO, husO⟩ := hB9
  have hcb := cst_b tp t (lxQ tp t p0)
  have hltO : lxQ tp t p0 ≤ t := lxQ_le hp
  obtain ⟨d1, hd1⟩ : ∃ d1, d = d1 + 1 := ⟨d - 1, by omega⟩
  refine W_own (fun zt1 zt2 => ?_)
  obtain ⟨cO1, hcO1, hdO1⟩ : ∃ c9 : Nat, H.size ≤ s.heap.size + c9 ∧ c9 + 16 * p0 + 16 ≤ 16 * (lxQ tp t p0) := ⟨16 * (lxQ tp t p0) - 16 * p0 - 16, by omega, by omega⟩
  obtain ⟨sO1, hsO1, htO1⟩ : ∃ s9 : Nat, hU H ≤ hU s.heap + s9 ∧ s9 + 160 * p0 + 160 ≤ 160 * (lxQ tp t p0) := ⟨160 * (lxQ tp t p0) - 160 * p0 - 160, by omega, by omega⟩
  refine W_tight (k := cO1) (n := sO1) hcO1 hsO1 ?_
  refine p_new (own := RX3) (C := RX10) (T := TX10) (N := 1) (ci := 10) (fs := [.null]) hx hb hts in_X10 tyX10 tyX10_ok hown (hts _ q666) (hts _ q667) (hts _ q120) hK rfl (by decide +kernel) (by dsimp only [rmG]; omega) (by dsimp only [rmG]; omega) dX3_ask_14 (fun q_2 H hq_2 eq_2 zq_2 oq_2 => ?_)
  have lr_q_2 : r < q_2 := by have := at_lt hk; omega
  have lta_q_2 : ta < q_2 := by have := at_lt htp; omega
  replace hk := va_at.kept hk (oq_2 _ (at_lt hk))
  replace htp := va_at.kept htp (oq_2 _ (at_lt htp))
  replace hS := xS_new hS (by omega) oq_2
  refine lv_dup hx hb dX3_ask_17 rfl ?_
  refine lv_aload_n hx hb dX3_ask_18 rfl (lv_at hl 0 rfl) ?_
  refine W_own (fun zt1 zt2 => ?_)
  obtain ⟨cT9, hcT9, hdT9⟩ : ∃ c9 : Nat, H.size ≤ s.heap.size + c9 ∧ c9 + 16 * p0 + 15 ≤ 16 * (lxQ tp t p0) := ⟨16 * (lxQ tp t p0) - 16 * p0 - 15, by omega, by omega⟩
  obtain ⟨sT9, hsT9, htT9⟩ : ∃ s9 : Nat, hU H ≤ hU s.heap + s9 ∧ s9 + 160 * p0 + 159 ≤ 160 * (lxQ tp t p0) := ⟨160 * (lxQ tp t p0) - 160 * p0 - 159, by omega, by omega⟩
  refine W_tight (k := cT9) (n := sT9) hcT9 hsT9 ?_
  have hNN := hS.1
  obtain ⟨NA, hNA⟩ : ∃ m9 : Nat, (hpOf hS).size = m9 := ⟨_, rfl⟩
  dsimp only [hpOf] at hNA
  obtain ⟨nA, hnA⟩ := Nat.le.dest hltO
  refine W_own (fun zw1 zw2 => ?_)
  have hNN := hS.1
  refine t_call (vq_runV (As := []) (rest := [.ref q_2, .ref q_2]) ⟨hx, hb, hml, hown, hts⟩ ((ih d1 hd1) (lxQ tp t p0) NA nA hnA (Nat.le_trans hzN (Nat.le_trans (Nat.le_of_eq hN.symm) (Nat.le_trans hS.1 (Nat.le_of_eq hNA))))) (cv_X3_X3_ask hts ⟨by dsimp only [rmG]; omega, by dsimp only [rmG]; omega⟩) (cT.preV hK hZ (xS_mono hS hAZ) ⟨⟨_, hnum, hk, htp⟩, hNA⟩ (a_recv (ci := 3) hK hk rfl)) rfl rfl hl.1 rfl (lv_room (Nat.le_of_ble_eq_true rfl)) dX3_ask_19 ⟨by dsimp only [rmG]; omega, by dsimp only [rmG]; omega⟩) hS (fun q hq e => Or.inl (e.resolve_right (Nat.not_le.mpr (Nat.lt_of_lt_of_le hq (Nat.le_of_eq hNA))))) (fun q e => e.elim Or.inl (fun e => Or.inr (Nat.le_trans (Nat.le_trans (Nat.le_of_eq hN.symm) (Nat.le_trans hS.1 (Nat.le_of_eq hNA))) e))) (fun q9 ce9 H locs hX9 hz9 hk9 hS hc9 hv9 hl9 => ?_) (fun v9 H locs hB9 hz9 hk9 hS => ?_)
  · obtain ⟨f9, p9, hf0, hf6, hP9, hxw⟩ := hX9
    exact t_out htab hlocks hc9 hv9 hl9 ⟨f9, p9, hf0, hf6, yBl_notE hf0 hnot hnone (by omega) hP9, hxw⟩ hS (by omega) (by omega)
  obtain ⟨xA, LA, qA, rfl, hPA, hqA, ⟨num9, hnum, hk, htp⟩, haA, hszA, husA⟩ := hB9
  replace hq_2 := va_at.kept hq_2 (hk9 _ (at_lt hq_2) (by have := at_lt hq_2; omega))
  have hcb := cst_b tp t qA
  obtain ⟨MA, hMA⟩ : ∃ m9 : Nat, (hpOf hS).size = m9 := ⟨_, rfl⟩
  dsimp only [hpOf] at hMA
  rw [hMA] at haA
  have hrN := at_lt hk
  have hNN := hS.1
  refine t_callR (va_runIN (As := [.ref xA]) (rest := [.ref q_2]) ⟨hx, hb, hml, hown, hts⟩ (met_X10_init l G κ z q_2 xA (by omega)) ⟨cn_X3_X10_init hts hK ⟨by dsimp only [rmG]; omega, by dsimp only [rmG]; omega⟩, rfl, hts _ q669⟩ (cT.pre hK hZ (xS_mono hS hAZ) hq_2) rfl rfl hl.1 rfl (lv_room (Nat.le_of_ble_eq_true rfl)) dX3_ask_22 ⟨by dsimp only [rmG]; omega, by dsimp only [rmG]; omega⟩) hS (fun q hq e => Or.inr (by have e : @Eq Nat q q_2 := e; omega)) (fun q e => Or.inr (by have e : @Eq Nat q q_2 := e; omega)) (fun v9 H locs hB9 hz9 hk9 hS => ?_)
  obtain ⟨rfl, hq_2, hsv, huv⟩ := hB9
  replace hk := va_at.kept hk (hk9 _ (at_lt hk) (by omega))
  replace htp := va_at.kept htp (hk9 _ (at_lt htp) (by omega))
  replace haA := gF haA (fun q h1 h2 => hk9 q (by omega) (by omega))
  refine W_own (fun zt1 zt2 => ?_)
  obtain ⟨cE1, hcE1, hdE1⟩ : ∃ c9 : Nat, H.size ≤ s.heap.size + c9 ∧ c9 + 16 * p0 + 7 ≤ 16 * qA := ⟨16 * qA - 16 * p0 - 7, by omega, by omega⟩
  obtain ⟨sE1, hsE1, htE1⟩ : ∃ s9 : Nat, hU H ≤ hU s.heap + s9 ∧ s9 + 160 * p0 + 157 ≤ 160 * qA := ⟨160 * qA - 160 * p0 - 157, by omega, by omega⟩
  refine W_tight (k := cE1) (n := sE1) hcE1 hsE1 ?_
  refine lv_astore_n (lv' := [(1, .ref q_2), (0, .ref r)]) hx hb dX3_ask_25 rfl hl (by decide) rfl (fun ls hl => ?_)
  refine lv_aload_n hx hb dX3_ask_26 rfl (lv_at hl 1 rfl) ?_
  refine lv_dup hx hb dX3_ask_27 rfl ?_
  refine a_get (own := RX3) (C := RX3) (T := TX3) (N := 8) (ci := 3) hx hb hts in_X3 hown hK hk rfl 6 (by decide) (hts _ q303) (fun _ h9 => h9) rfl dX3_ask_28 ?_
  refine lv_iconst (v := nI 1) hx hb dX3_ask_31 (by decide) ?_
  refine n_isub hx hb (by omega) dX3_ask_32 ?_
  rw [show o + 1 - 1 = o by omega]
  refine p_put (own := RX3) (C := RX3) (T := TX3) (N := 8) (ci := 3) (a := r) (fs := [.ref ta, .int (nI t), .int (nI (lxQ tp t qA)), .int (nI (lxS tp t qA)), .int (nI (cst tp t qA)), .int num9, .int (nI (o + 1)), .int (nI kd)]) (ty := tyX3 6) (v := .int (nI o)) hx hb hts in_X3 tyX3 tyX3_ok nmX3 hown hK hk rfl 6 (by decide) (hts _ q303) (fun _ h9 => h9) rfl (tyX3_ok 6 (by decide)) rfl rfl (Nat.le_of_ble_eq_true rfl) dX3_ask_33 (fun H locs hk hz9 ho9 hl9 => ?_)
  replace hk : va_at (gD G) g_cl (r, .inr (3, [.ref ta, .int (nI t), .int (nI (lxQ tp t qA)), .int (nI (lxS tp t qA)), .int (nI (cst tp t qA)), .int num9, .int (nI o), .int (nI kd)])) H := hk
  replace htp := va_at.kept htp (ho9 _ (Ne.symm hra))
  replace hq_2 := va_at.kept hq_2 (ho9 _ (by omega))
  replace haA := gF haA (fun q h1 h2 => ho9 q (by omega))
  replace hS := xS_put hS (Or.inl rfl) hz9 ho9 hl9
  refine lv_aload_n hx hb dX3_ask_36 rfl (lv_at hl 0 rfl) ?_
  have haF : aS G (gO z N0 H.size) H ((6 * d + 3) + 1) false q_2 _ := mkNot hq_2 (by omega) (gU haA (by omega) (by omega) (by omega))
  refine W_own (fun z1 z2 => ?_)
  refine vq_ret ?_
  refine W.widen (k := 16 * n + 14) (n := 160 * n + 112) (by omega) (by omega) ?_
  exact t_aret hx hb hr (Or.inl ⟨_, rfl⟩) (Or.inr ⟨_, rfl⟩) hlocks ⟨_, _, qA, rfl, yBl_not hnot hnone (by omega) hPA, ⟨by omega, hqA.2⟩, ⟨_, hnum, hk, htp⟩, haF, by omega, by omega⟩ hS dX3_ask_37
