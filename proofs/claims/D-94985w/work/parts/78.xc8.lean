/-- a state of the component (at o) and the model's row say the same -/
def RT (X : Nat → Nat → Int32) (o : Nat) (a : Nat → Int32) (nb nk ns : Nat) (NB NU : Nat → Nat) (k : Nat) : Prop :=
  NB k ≤ nb ∧ a (410 + 116 * k + 3) = nI (NB k) ∧ X (o + 42 + k) 112 = a (410 + 116 * k + 1) ∧ X (o + 42 + k) 113 = a (410 + 116 * k) ∧ X (o + 42 + k) 114 = a (410 + 116 * k + 2) ∧ a (410 + 116 * k + 2) = nI (NU k) ∧ (∃ h, h ≤ 999 ∧ a (410 + 116 * k) = nI h) ∧
  (∃ np, np ≤ 10 ∧ a (410 + 116 * k + 1) = nI np ∧ ∀ q, q < np → ∃ kk, kk < nk ∧ a (410 + 116 * k + 16 + 10 * q) = nI kk) ∧
  (∀ b, b < NB k → X (o + 42 + k) b = a (410 + 116 * k + 4 + b) ∧ X (o + 42 + k) (6 + b) = a (410 + 116 * k + 10 + b)) ∧
  (∀ b, NB k ≤ b → b < 6 → X (o + 42 + k) (6 + b) = nI 0) ∧
  (∀ b, NB k ≤ b → b < nb → X (o + 42 + k) b = X (if k + 1 = ns then o + 2 else o + 42 + (k + 1)) b) ∧
  (∀ i, i < 100 → X (o + 42 + k) (12 + i) = a (410 + 116 * k + 16 + i)) ∧
  (∀ i, i < 4 * NU k → X (o + 42 + k) (115 + i) = a (250 + i)) ∧
  (∀ q b, q < 10 → b < 6 → ∃ v, v ≤ 9 * NU k ∧ a (410 + 116 * k + 16 + 10 * q + 4 + b) = nI v)
/-- bounds of what is told -/
def RV (a : Nat → Int32) (nb nk nu nt : Nat) : Prop :=
  (∀ b, b < nb → ∃ v, 1 ≤ v ∧ v ≤ 9 ∧ a (10 + 5 * b) = nI v) ∧ (∀ k, k < nk → (∃ v, 1 ≤ v ∧ v ≤ 30 ∧ a (40 + 3 * k) = nI v) ∧ ∃ v, v ≤ 999 ∧ a (40 + 3 * k + 2) = nI v) ∧
  (∀ k, k < nt → ∃ v, v ≤ 9 ∧ a (70 + 4 * k + 2) = nI v) ∧ (∀ i, i < nu → ∃ v, v ≤ 9 ∧ a (250 + 4 * i + 2) = nI v) ∧ (∀ q b, q < 10 → b < 6 → ∃ v, v ≤ 9 * nu ∧ a (150 + 10 * q + 4 + b) = nI v)
def RS (X : Nat → Nat → Int32) (o : Nat) (a : Nat → Int32) (nb nk nx np h nu ns ne nt : Nat) : Prop :=
  (X (o + 1) 0 = nI nb ∧ a 0 = nI nb ∧ nb ≤ 6) ∧ (X (o + 1) 1 = nI nk ∧ a 1 = nI nk ∧ nk ≤ 6) ∧ (X (o + 1) 2 = nI nx ∧ a 4 = nI nx ∧ nx ≤ 4) ∧ X (o + 1) 3 = a 5 ∧
  (X (o + 1) 4 = nI ns ∧ a 6 = nI ns ∧ ns ≤ 30) ∧ (X (o + 1) 5 = nI ne ∧ a 7 = nI ne ∧ ne ≤ 8) ∧ (X (o + 1) 6 = nI nt ∧ a 8 = nI nt ∧ nt ≤ 20) ∧
  (X (o + 2) 112 = nI np ∧ a 2 = nI np ∧ np ≤ 10) ∧ (X (o + 2) 113 = nI h ∧ a 3 = nI h ∧ h ≤ 999) ∧ (X (o + 2) 114 = nI nu ∧ a 9 = nI nu ∧ nu ≤ 40) ∧
  (∀ b, b < nb → X (o + 10 + b) 0 = a (10 + 5 * b) ∧ X (o + 10 + b) 1 = a (10 + 5 * b + 1) ∧ X (o + 10 + b) 2 = a (10 + 5 * b + 4)) ∧
  (∀ b, b < nb → X (o + 2) b = a (10 + 5 * b + 2) ∧ X (o + 2) (6 + b) = a (10 + 5 * b + 3)) ∧ (∀ b, nb ≤ b → b < 6 → X (o + 2) (6 + b) = nI 0) ∧
  (∀ k, k < nk → X (o + 16 + k) 0 = a (40 + 3 * k) ∧ X (o + 16 + k) 1 = a (40 + 3 * k + 1) ∧ X (o + 16 + k) 2 = a (40 + 3 * k + 2)) ∧
  (∀ k, k < ne → X (o + 3) k = a (60 + k)) ∧
  (∀ k, k < nt → X (o + 22 + k) 0 = a (70 + 4 * k + 1) ∧ X (o + 22 + k) 1 = a (70 + 4 * k) ∧ X (o + 22 + k) 2 = a (70 + 4 * k + 2) ∧ X (o + 22 + k) 3 = a (70 + 4 * k + 3)) ∧
  (∀ i, i < 100 → X (o + 2) (12 + i) = a (150 + i)) ∧ (∀ i, i < 4 * nu → X (o + 2) (115 + i) = a (250 + i)) ∧
  (∀ q, q < np → ∃ k, k < nk ∧ a (150 + 10 * q) = nI k) ∧ RV a nb nk nu nt ∧
  ∃ NB NU : Nat → Nat, (∀ k, k < ns → NU k ≤ nu ∧ ∀ j, j ≤ k → NU j ≤ NU k) ∧ ∀ k, k < ns → RT X o a nb nk ns NB NU k
/-- the first clause of a sort -/
def fnd (so : Nat) : List kC → Option Cd
  | [] => none
  | c :: cs => if c.1 = so then some c.2.1 else fnd so cs
theorem mSum_fnd {nm : Nat → Int32} {so : Nat} {top w : Int32} : ∀ cs : List kC, mSum nm so top w cs = match fnd so cs with | none => w | some L => mHeld (mVal nm L) (nI 0) top
  | [] => rfl
  | c :: cs => by
    unfold mSum fnd
    by_cases e : c.1 = so
    · rw [if_pos e, if_pos e]
    · rw [if_neg e, if_neg e]
      exact mSum_fnd cs
/-- a Doing of a clause -/
def dDo (G : gG) (H : Heap) (r number : Nat) (c : kC) : Prop := ∃ b n, va_at (gD G) g_cl (r, .inr (6, [.int (nI (200 + c.1)), .int (nI c.2.2.1), .int b, .int n, .int (nI number)])) H ∧ (c.1 = 5 → ∃ p q, p < 6 ∧ q < 10 ∧ c.2.2.2 = 10 * p + q ∧ b = nI p ∧ n = nI q)
/-- the places of the doings among the clauses -/
def dPl : List kC → Nat → List (Nat × kC)
  | [], _ => []
  | c :: cs, k => if 4 ≤ c.1 then (k, c) :: dPl cs (k + 1) else dPl cs (k + 1)
def aTextB (G : gG) (O : Nat → Prop) (H : Heap) (cs : List kC) (arr dl : Nat) (f : Nat → Option Nat) : Prop :=
  O arr ∧ va_at (gD G) g_cl (arr, .inl (G.2.2 7, 4, .inr (.inr (.inr (.inr f))))) H ∧ (∀ k, k < 4 → match fnd k cs with | none => f k = none | some L => ∃ x, f k = some x ∧ aS G O H 100 true x L) ∧ ∃ xs, aLst G O H dl (dPl cs 0).length xs ∧ ∀ i q, (dPl cs 0)[i]? = some q → O (xs i) ∧ dDo G H (xs i) q.1 q.2
/-- at y lies a text with these clauses -/
def aText (G : gG) (O : Nat → Prop) (H : Heap) (y : Nat) (cs : List kC) : Prop := O y ∧ ∃ arr dl n f, va_at (gD G) g_cl (y, .inr (4, [.ref arr, .ref dl, .int n])) H ∧ aTextB G O H cs arr dl f
theorem aText.kept {G : gG} {O O' : Nat → Prop} {H H1 : Heap} {y : Nat} {cs : List kC} (hO : ∀ q, O q → H1[q]? = H[q]?) (hO2 : ∀ q, O q → O' q) (h : aText G O H y cs) : aText G O' H1 y cs := by
  obtain ⟨o1, arr, dl, n, f, h1, o2, h2, h3, xs, h4, h5⟩ := h
  refine ⟨hO2 _ o1, arr, dl, n, f, va_at.kept h1 (hO _ o1), hO2 _ o2, va_at.kept h2 (hO _ o2), fun k hk => ?_, xs, h4.kept hO hO2, fun i q hq => ?_⟩
  · have := h3 k hk
    cases e : fnd k cs with
    | none => rw [e] at this; exact this
    | some L =>
      rw [e] at this
      obtain ⟨x, hx1, hx2⟩ := this
      exact ⟨x, hx1, hx2.kept hO hO2⟩
  · obtain ⟨o3, b, n, h6, h7⟩ := h5 i q hq
    exact ⟨hO2 _ o3, b, n, va_at.kept h6 (hO _ o3), h7⟩
/-- THE TEXT, as the component has it -/
def aTx (G : gG) (O : Nat → Prop) (X : Nat → Nat → Int32) (T : Nat → Nat → Option Nat) (tx : kT) (H : Heap) : Prop := match tx with
  | none => X 52 3 = (-1)
  | some q => X 52 3 = nI q.1 ∧ q.1 < 4 ∧ ∃ y, T 0 q.1 = some y ∧ aText G O H y q.2
theorem aTx.kept {G : gG} {O O' : Nat → Prop} {X X' : Nat → Nat → Int32} {T : Nat → Nat → Option Nat} {tx : kT} {H H1 : Heap} (h3 : X' 52 3 = X 52 3) (hO : ∀ q, O q → H1[q]? = H[q]?) (hO2 : ∀ q, O q → O' q) (h : aTx G O X T tx H) : aTx G O' X' T tx H1 := by
  cases tx with
  | none => exact h3.trans h
  | some q =>
    obtain ⟨h1, h2, y, h4, h5⟩ := h
    exact ⟨h3.trans h1, h2, y, h4, h5.kept hO hO2⟩
theorem held_mm (v : Int64) {top : Nat} (ht : top < 2 ^ 31) : (pif (pif (v < lN top) v (lN top) < lN 0) (lN 0) (pif (v < lN top) v (lN top))).toInt32 = mHeld v (nI 0) (nI top) := by
  have e0 : (nI 0).toInt64 = lN 0 := nI_l (by decide)
  have e1 : (nI top).toInt64 = lN top := nI_l ht
  have h0 : ¬ lN top < lN 0 := by rw [lN_lt ht (by decide)]; omega
  unfold mHeld
  rw [e0, e1]
  by_cases c2 : v < lN top
  · rw [pif_t c2]
    by_cases c1 : v < lN 0
    · rw [pif_t c1, pif_t c1]; exact lN_i 0
    · rw [pif_f c1, pif_f c1, pif_f (l_asym c2)]
  · rw [pif_f c2, pif_f h0, lN_i]
    have c1 : ¬ v < lN 0 := fun h => by
      rcases l_cmp_vals (lN top) (lN 0) with q | q | q
      · exact c2 (Int64.lt_trans h q.1)
      · exact c2 (by rw [q.1]; exact h)
      · exact h0 q.1
    rw [pif_f c1]
    by_cases c3 : lN top < v
    · rw [pif_t c3]
    · rw [pif_f c3]
      have h6 : v = lN top := by
        rcases l_cmp_vals v (lN top) with h | h | h
        · exact absurd h.1 c3
        · exact h.1
        · exact absurd h.1 c2
      rw [h6, lN_i]
theorem xH.atz {G : gG} {ad : Nat → Nat} {sz : Nat} {H : Heap} {X Z : Nat → Nat → Int32} {T : Nat → Nat → Option Nat} (h : xH G ad X Z T sz H) {k n : Nat} (hL : zLen k = n) (hn : 0 < n) : va_at (gD G) g_cl (ad k, .inl (G.2.2 0, n, .inl (Z k))) H := by
  have := h.at (zLen_R (k := k) (by omega))
  rwa [xC_z hL hn] at this
section AN
variable {p : Program} {l : Launch} {e : Env} {R : Room} {s : State} {m : MethodId} {args : Array Value} {below : List Frame} {meth : Method} {c : Code} {H : Heap} {locs : List Loc} {cells slots : Nat} {Q : State → Prop}
variable {cc : ByteArray} {pc : Nat} {ls : Array Slot} {rest st0 : List Value} {G : gG} {a : Array Value}
theorem a_getN (hx : p.tables.exec = Jvm.exec) (hb : c.code = cc) (hts : ∀ w ∈ lw_all, w.before args s = true) {own ref C host : String} {T : u_T} {N ci index r : Nat} {fs : List Value} (hin : ∀ w ∈ u_ws C T N, w ∈ lw_all) (hown : s.vm.findClass own = some m.cls) (hK : KK G s) (hat : va_at (gD G) g_cl (r, .inr (ci, fs)) H) (hc : g_cl[ci]? = some (C, T, N)) (k : Nat) (hk : k < N) (hlink : (Cond.fieldLinkNest own index ref (T k).2.1 (T k).2.2.1 host).before args s = true) (hsame : ∀ x, s.fieldFound? (T k).1 (T k).2.1 (T k).2.2.1 = some x → s.fieldFound? ref (T k).2.1 (T k).2.2.1 = some x) {v : Value} (hv : fs[k]? = some v) (hdg : decode cc pc = .ok (.getfield index, 3)) (kk : W p l e R s m args below meth c H locs cells slots Q (F0 m (pc + 3) ls (v :: rest))) : W p l e R s m args below meth c H locs cells slots Q (F0 m pc ls (.ref r :: rest)) :=
  va_getN (D := gD G) hx hb hts hin hown hK.1 (va_P1 hat) 0 rfl hc k hk hlink hsame hv hdg kk
theorem c_read0 {v : Option Value} (hr : va_Run p l e R s m args below meth c H locs cells slots 0 0 (F0 m pc ls st0) rest (cR v a) (fun _ => False))
    (kk : W p l e R s m args below meth c H locs cells slots Q (F0 m (pc + 3) ls (v.toList ++ rest))) : W p l e R s m args below meth c H locs cells slots Q (F0 m pc ls st0) := c_read hr kk
end AN
theorem pc_at {X : Nat → Nat → Int32} {a : Nat → Int32} (h : ∀ i, i < 100 → X (51 + 2) (12 + i) = a (150 + i)) {i j k : Nat} (hj : j = 12 + i) (hk : k = 150 + i) (hi : i < 100) : X 53 j = a k := by
  subst hj; subst hk; exact h i hi
theorem bu_at {X : Nat → Nat → Int32} {a : Nat → Int32} {nu : Nat} (h : ∀ i, i < 4 * nu → X (51 + 2) (115 + i) = a (250 + i)) {i j k : Nat} (hj : j = 115 + i) (hk : k = 250 + i) (hi : i < 4 * nu) : X 53 j = a k := by
  subst hj; subst hk; exact h i hi
set_option maxHeartbeats 4000000 in
set_option maxRecDepth 100000 in
theorem met_X0_asks (l : Launch) (G : gG) (ad : Nat → Nat) (sz : Nat) (X Z : Nat → Nat → Int32) (T : Nat → Nat → Option Nat) (tx : kT) (so top : Nat) (hso : so < 4) (htop : top < 2 ^ 31) (wo : Int32) : Met l yX0_asks (ws_ yX0_asks cX0_asks 5 (some .int)) ({ frames := 105, cells := 0, slots := 0, locals := 6400 } : Room) (cP G [.ref (ad 0), .int (nI so), .int (nI top), .int wo] (fun H => xH G ad X Z T sz H ∧ aTx G (xOld ad sz) X T tx H)) (cR (some (.int (mSumT tx (Z 2) so (nI top) wo)))) 0 0 (fun _ => False) := by
  refine c_start (by decide) (Nat.le_of_ble_eq_true rfl) ?_
  intro p e s m below meth c hx hb hr hlocks hml hown hts hB hK ls hl
  obtain ⟨hB, hE⟩ := hB
  have hz := hB.2.2
  have hw := XS.of hB
  have hl : lv_has ls 5 [(0, .ref (ad 0)), (1, .int (nI so)), (2, .int (nI top)), (3, .int wo)] := hl
  cases tx with
  | none =>
    refine lv_aload_n hx hb dX0_asks_0 rfl (lv_at hl 0 rfl) ?_
    refine x_g_now hx hb hts hown hK hw dX0_asks_1 ?_
    refine x_sX0_51_n hx hb hts hown hK hw dX0_asks_4 ?_
    refine lv_iconst (v := nI 3) hx hb dX0_asks_7 (by decide) ?_
    refine x_l (k := 52) (j := 3) (n := 7) (v := (-1)) hx hb hK hw hE (by decide) (by decide) dX0_asks_8 ?_
    refine lv_iconst (v := (-1)) hx hb dX0_asks_9 (by decide) ?_
    refine lv_icmp_ne (tgt := 17) hx hb dX0_asks_10 (by decide) (fun h9 => absurd rfl h9) (fun _ => ?_)
    refine lv_null hx hb dX0_asks_13 ?_
    refine lv_goto (tgt := 34) hx hb dX0_asks_14 (by decide) ?_
    refine lv_astoreN (lv' := [(4, .null), (0, .ref (ad 0)), (1, .int (nI so)), (2, .int (nI top)), (3, .int wo)]) hx hb dX0_asks_34 hl (by decide) rfl (fun ls hl => ?_)
    refine lv_aloadN hx hb dX0_asks_36 (lv_at hl 0 rfl) ?_
    refine lv_ifnullN (tgt := 51) hx hb dX0_asks_38 (by decide) ?_
    refine lv_iload_n hx hb dX0_asks_51 rfl (lv_at hl 4 rfl) ?_
    refine lv_goto (tgt := 81) hx hb dX0_asks_52 (by decide) ?_
    exact c_rret (v := wo) rfl hx hb hr rfl hlocks dX0_asks_81 rfl rfl
  | some q =>
    obtain ⟨t, cs⟩ := q
    obtain ⟨e3, ht4, y, hT, hy⟩ := hE
    change X 52 3 = nI t at e3
    change t < 4 at ht4
    change T 0 t = some y at hT
    change aText G (xOld ad sz) s.heap y cs at hy
    obtain ⟨o1, arr, dl, nn, f, h1, o2, h2, h3, -⟩ := hy
    have h4 := h3 so hso
    rw [show mSumT (some (t, cs)) (Z 2) so (nI top) wo = mSum (Z 2) so (nI top) wo cs from rfl, mSum_fnd]
    cases e9 : fnd so cs with
    | none =>
      rw [e9] at h4
      refine lv_aload_n hx hb dX0_asks_0 rfl (lv_at hl 0 rfl) ?_
      refine x_g_now hx hb hts hown hK hw dX0_asks_1 ?_
      refine x_sX0_51_n hx hb hts hown hK hw dX0_asks_4 ?_
      refine lv_iconst (v := nI 3) hx hb dX0_asks_7 (by decide) ?_
      refine x_l (k := 52) (j := 3) (n := 7) (v := nI t) hx hb hK hw e3 (by decide) (by decide) dX0_asks_8 ?_
      refine lv_iconst (v := (-1)) hx hb dX0_asks_9 (by decide) ?_
      refine lv_icmp_ne (tgt := 17) hx hb dX0_asks_10 (by decide) (fun _ => ?_) (fun h9 => absurd h9 (nI_ne_m1 (by omega)))
      refine lv_aload_n hx hb dX0_asks_17 rfl (lv_at hl 0 rfl) ?_
      refine x_g_now hx hb hts hown hK hw dX0_asks_18 ?_
      refine x_sX0_51_text hx hb hts hown hK hw dX0_asks_21 ?_
      refine lv_aload_n hx hb dX0_asks_24 rfl (lv_at hl 0 rfl) ?_
      refine x_g_now hx hb hts hown hK hw dX0_asks_25 ?_
      refine x_sX0_51_n hx hb hts hown hK hw dX0_asks_28 ?_
      refine lv_iconst (v := nI 3) hx hb dX0_asks_31 (by decide) ?_
      refine x_l (k := 52) (j := 3) (n := 7) (v := nI t) hx hb hK hw e3 (by decide) (by decide) dX0_asks_32 ?_
      refine x_t0 (r := (some y)) hx hb hK hw hT (by omega) dX0_asks_33 ?_
      refine lv_astore (lv' := [(4, .ref y), (0, .ref (ad 0)), (1, .int (nI so)), (2, .int (nI top)), (3, .int wo)]) hx hb dX0_asks_34 hl (by decide) rfl (fun ls hl => ?_)
      refine lv_aload hx hb dX0_asks_36 (lv_at hl 0 rfl) ?_
      refine lv_ifnull hx hb dX0_asks_38 ?_
      refine lv_aload hx hb dX0_asks_41 (lv_at hl 0 rfl) ?_
      refine a_getN (own := RX0) (C := RX4) (T := TX4) (N := 3) (ci := 4) hx hb hts in_X4 hown hK h1 rfl 0 (by decide) (va_Nw.use rfl (hK.2.1 _ q362 rfl)) (fun _ h9 => h9) rfl dX0_asks_43 ?_
      refine lv_iload_n hx hb dX0_asks_46 rfl (lv_at hl 2 rfl) ?_
      refine a_aald (j := so) (t := 7) (v := .null) hx hb hK h2 rfl (by decide) hso (by rw [h4]; rfl) dX0_asks_47 ?_
      refine lv_ifnonnullN hx hb dX0_asks_48 ?_
      refine lv_iload_n hx hb dX0_asks_51 rfl (lv_at hl 4 rfl) ?_
      refine lv_goto (tgt := 81) hx hb dX0_asks_52 (by decide) ?_
      exact c_rret (v := wo) rfl hx hb hr rfl hlocks dX0_asks_81 rfl rfl
    | some L =>
      rw [e9] at h4
      obtain ⟨xx, hf, hax⟩ := h4
      obtain ⟨vv, hvv, -⟩ := (aS_val (Z 2) _ _ _).1 hax
      refine lv_aload_n hx hb dX0_asks_0 rfl (lv_at hl 0 rfl) ?_
      refine x_g_now hx hb hts hown hK hw dX0_asks_1 ?_
      refine x_sX0_51_n hx hb hts hown hK hw dX0_asks_4 ?_
      refine lv_iconst (v := nI 3) hx hb dX0_asks_7 (by decide) ?_
      refine x_l (k := 52) (j := 3) (n := 7) (v := nI t) hx hb hK hw e3 (by decide) (by decide) dX0_asks_8 ?_
      refine lv_iconst (v := (-1)) hx hb dX0_asks_9 (by decide) ?_
      refine lv_icmp_ne (tgt := 17) hx hb dX0_asks_10 (by decide) (fun _ => ?_) (fun h9 => absurd h9 (nI_ne_m1 (by omega)))
      refine lv_aload_n hx hb dX0_asks_17 rfl (lv_at hl 0 rfl) ?_
      refine x_g_now hx hb hts hown hK hw dX0_asks_18 ?_
      refine x_sX0_51_text hx hb hts hown hK hw dX0_asks_21 ?_
      refine lv_aload_n hx hb dX0_asks_24 rfl (lv_at hl 0 rfl) ?_
      refine x_g_now hx hb hts hown hK hw dX0_asks_25 ?_
      refine x_sX0_51_n hx hb hts hown hK hw dX0_asks_28 ?_
      refine lv_iconst (v := nI 3) hx hb dX0_asks_31 (by decide) ?_
      refine x_l (k := 52) (j := 3) (n := 7) (v := nI t) hx hb hK hw e3 (by decide) (by decide) dX0_asks_32 ?_
      refine x_t0 (r := (some y)) hx hb hK hw hT (by omega) dX0_asks_33 ?_
      refine lv_astore (lv' := [(4, .ref y), (0, .ref (ad 0)), (1, .int (nI so)), (2, .int (nI top)), (3, .int wo)]) hx hb dX0_asks_34 hl (by decide) rfl (fun ls hl => ?_)
      refine lv_aload hx hb dX0_asks_36 (lv_at hl 0 rfl) ?_
      refine lv_ifnull hx hb dX0_asks_38 ?_
      refine lv_aload hx hb dX0_asks_41 (lv_at hl 0 rfl) ?_
      refine a_getN (own := RX0) (C := RX4) (T := TX4) (N := 3) (ci := 4) hx hb hts in_X4 hown hK h1 rfl 0 (by decide) (va_Nw.use rfl (hK.2.1 _ q362 rfl)) (fun _ h9 => h9) rfl dX0_asks_43 ?_
      refine lv_iload_n hx hb dX0_asks_46 rfl (lv_at hl 2 rfl) ?_
      refine a_aald (j := so) (t := 7) (v := .ref xx) hx hb hK h2 rfl (by decide) hso (by rw [hf]; rfl) dX0_asks_47 ?_
      refine lv_ifnonnull (tgt := 55) hx hb dX0_asks_48 (by decide) ?_
      refine lv_lconst (v := lN 0) hx hb dX0_asks_55 (by decide) ?_
      refine lv_iload_n hx hb dX0_asks_56 rfl (lv_at hl 3 rfl) ?_
      refine lv_i2l (v := lN top) hx hb dX0_asks_57 (nI_l (by omega)) ?_
      refine lv_aload hx hb dX0_asks_58 (lv_at hl 0 rfl) ?_
      refine a_getN (own := RX0) (C := RX4) (T := TX4) (N := 3) (ci := 4) hx hb hts in_X4 hown hK h1 rfl 0 (by decide) (va_Nw.use rfl (hK.2.1 _ q362 rfl)) (fun _ h9 => h9) rfl dX0_asks_60 ?_
      refine lv_iload_n hx hb dX0_asks_63 rfl (lv_at hl 2 rfl) ?_
      refine a_aald (j := so) (t := 7) (v := .ref xx) hx hb hK h2 rfl (by decide) hso (by rw [hf]; rfl) dX0_asks_64 ?_
      refine lv_aload_n hx hb dX0_asks_65 rfl (lv_at hl 1 rfl) ?_
      refine x_g_names hx hb hts hown hK hw dX0_asks_66 ?_
      refine fSum_X0 ⟨hx, hb, hml, hown, hts⟩ hts hK (fun k9 h9 => ev_all l G (xOld ad sz) k9) (n := 100) (Nat.le_of_ble_eq_true rfl) (Nat.le_of_ble_eq_true rfl) ⟨Nat.zero_le _, Nat.zero_le _⟩ hax (hw.1.atz (k := 2) (n := 11) (by decide) (by decide)) hvv hl.1 (Nat.le_of_ble_eq_true rfl) dX0_asks_69 ?_
      refine c_mmin_2 (x := (lN top)) (y := vv) hx hb (hml.trans hl.1.symm) hown (hts _ q908) (hts _ q903) (hts _ q109) (hts _ q904) (Nat.le_of_ble_eq_true rfl) (Nat.le_trans (Nat.add_le_add_right (show (([.long (lN 0)] : List Value).map fun v => v.category).sum ≤ 20 from Nat.le_of_ble_eq_true rfl) 15) (Nat.le_of_ble_eq_true rfl)) (Nat.le_of_ble_eq_true rfl) (Nat.le_of_ble_eq_true rfl) dX0_asks_74 ?_
      refine c_mmax_2 (x := (lN 0)) (y := (pif (vv < (lN top)) vv (lN top))) hx hb (hml.trans hl.1.symm) hown (hts _ q909) (hts _ q906) (hts _ q109) (hts _ q907) (Nat.le_of_ble_eq_true rfl) (Nat.le_trans (Nat.add_le_add_right (show (([] : List Value).map fun v => v.category).sum ≤ 20 from Nat.le_of_ble_eq_true rfl) 15) (Nat.le_of_ble_eq_true rfl)) (Nat.le_of_ble_eq_true rfl) (Nat.le_of_ble_eq_true rfl) dX0_asks_77 ?_
      refine lv_l2i (v := ((pif ((pif (vv < (lN top)) vv (lN top)) < (lN 0)) (lN 0) (pif (vv < (lN top)) vv (lN top)))).toInt32) hx hb dX0_asks_80 rfl ?_
      exact c_rret (v := ((pif ((pif (vv < (lN top)) vv (lN top)) < (lN 0)) (lN 0) (pif (vv < (lN top)) vv (lN top)))).toInt32) ((held_mm vv htop).trans (by show _ = mHeld (mVal (Z 2) L) (nI 0) (nI top); rw [show mVal (Z 2) L = vv from mVal_ev hvv])) hx hb hr rfl hlocks dX0_asks_81 rfl rfl
