/-! Chains and lists in the making: what lies there, without the program (hand-written) -/
def sgN (o : Nat) : Nat := if o = 3 then 43 else if o = 4 then 45 else if o = 5 then 42 else 47
theorem sgN_c {o : Nat} (h : 3 ≤ o ∧ o ≤ 6) : sgc o = nI (sgN o) ∧ sgN o ≤ 127 := by
  have : o = 3 ∨ o = 4 ∨ o = 5 ∨ o = 6 := by omega
  rcases this with rfl | rfl | rfl | rfl <;> exact ⟨rfl, by decide⟩
/-- what a call's tree may hold -/
def gO (z N0 n : Nat) : Nat → Prop := fun q => q < n ∧ (q < z ∨ N0 ≤ q)
def oE (z N0 : Nat) (B : Nat → Prop) (n : Nat) : Nat → Prop := fun q => q < n ∧ (q < z ∨ N0 ≤ q) ∧ ¬ B q
def chB (ch lm lg am cm as_ cs : Nat) : Nat → Prop := fun q => q = ch ∨ q = lm ∨ q = lg ∨ (q = am ∧ 0 < cm) ∨ (q = as_ ∧ 0 < cs)
/-- a chain in the making, with what it holds -/
def chK (G : gG) (κ : kK) (z N0 D ch k pot : Nat) (L : Cd) (H : Heap) : Prop :=
  ∃ (x0 lm lg am cm as_ cs : Nat) (fm fs : Nat → Option Nat) (xs : Nat → Nat) (L0 : Cd) (Ls : Nat → Cd) (os : Nat → Nat),
    chI G κ z ch x0 lm lg k am cm as_ cs fm fs H ∧
    (∀ i, i < k → fm i = some (xs i) ∧ fs i = some (κ.2.2.1 (sgN (os i) + 128)) ∧ (3 ≤ os i ∧ os i ≤ 6) ∧ aS G (oE z N0 (chB ch lm lg am cm as_ cs) H.size) H D true (xs i) (Ls i)) ∧
    aS G (oE z N0 (chB ch lm lg am cm as_ cs) H.size) H D true x0 L0 ∧ L = L0 ++ tlS Ls os k ∧ pot = 4 * cm + 4 * cs ∧ N0 ≤ ch
theorem chI.ord {G : gG} {κ : kK} {z ch x0 lm lg k am cm as_ cs : Nat} {fm fs : Nat → Option Nat} {H : Heap} (h : chI G κ z ch x0 lm lg k am cm as_ cs fm fs H) : (z ≤ ch ∧ ch < lm ∧ lm < lg ∧ (0 < cm → lg < am) ∧ (0 < cs → lg < as_) ∧ (0 < cm → 0 < cs → am ≠ as_)) ∧ (∀ q, chB ch lm lg am cm as_ cs q → q < H.size) := by
  obtain ⟨h1, ⟨m1, h2, h3⟩, ⟨m2, h4, h5⟩, -, -, h6⟩ := h
  refine ⟨h6, fun q hq => ?_⟩
  rcases hq with rfl | rfl | rfl | ⟨rfl, h9⟩ | ⟨rfl, h9⟩
  · exact at_lt h1
  · exact at_lt h2
  · exact at_lt h4
  · exact at_lt (h3 h9)
  · exact at_lt (h5 h9)
theorem chK.pot {G : gG} {κ : kK} {z N0 D ch k pot : Nat} {L : Cd} {H : Heap} (h : chK G κ z N0 D ch k pot L H) : pot ≤ 96 * k ∧ ch < H.size := by
  obtain ⟨x0, lm, lg, am, cm, as_, cs, fm, fs, xs, L0, Ls, os, hc, he, h0, hL, hp, hn⟩ := h
  have h9 := hc.ord.2 ch (Or.inl rfl)
  obtain ⟨-, -, -, ⟨-, -, c1⟩, ⟨-, -, c2⟩, -⟩ := hc
  omega
theorem chK.kept {G : gG} {κ : kK} {z N0 D ch k pot r : Nat} {L : Cd} {H H1 : Heap} (h : chK G κ z N0 D ch k pot L H) (hr : z ≤ r ∧ r < N0) (hs : H.size ≤ H1.size) (ho : ∀ q, q < H.size → ¬ q = r → H1[q]? = H[q]?) : chK G κ z N0 D ch k pot L H1 := by
  obtain ⟨x0, lm, lg, am, cm, as_, cs, fm, fs, xs, L0, Ls, os, hc, he, h0, hL, hp, hn⟩ := h
  have hO : ∀ q, oE z N0 (chB ch lm lg am cm as_ cs) H.size q → H1[q]? = H[q]? := fun q hq => ho q hq.1 (by have := hq.2.1; omega)
  have hO2 : ∀ q, oE z N0 (chB ch lm lg am cm as_ cs) H.size q → oE z N0 (chB ch lm lg am cm as_ cs) H1.size q := fun q hq => ⟨Nat.lt_of_lt_of_le hq.1 hs, hq.2⟩
  have hord := hc.ord.1
  exact ⟨x0, lm, lg, am, cm, as_, cs, fm, fs, xs, L0, Ls, os, hc.kept (fun q hq hb => ho q hq (by omega)), fun i hi => ⟨(he i hi).1, (he i hi).2.1, (he i hi).2.2.1, aS.kept hO hO2 _ _ _ _ (he i hi).2.2.2⟩, aS.kept hO hO2 _ _ _ _ h0, hL, hp, hn⟩
theorem chK.init {G : gG} {κ : kK} {z N0 D ch Nc x0 : Nat} {L0 : Cd} {H0 H : Heap} (hx : aS G (gO z Nc H0.size) H0 D true x0 L0) (hs : H0.size ≤ H.size) (hfr : ∀ q, q < H0.size → ¬ (q = ch ∨ H0.size ≤ q) → H[q]? = H0[q]?) (hN : N0 ≤ ch ∧ ch < Nc ∧ z ≤ ch ∧ ch < H0.size)
    (h1 : va_at (gD G) g_cl (ch, .inr (7, [.ref x0, .ref H0.size, .ref (H0.size + 1)])) H) (h2 : va_at (gD G) g_cl (H0.size, .inr (15, [.int (nI 0), .ref (κ.2.2.2 3), .int (nI 0)])) H) (h3 : va_at (gD G) g_cl ((H0.size + 1), .inr (15, [.int (nI 0), .ref (κ.2.2.2 3), .int (nI 0)])) H) : chK G κ z N0 D ch 0 0 L0 H := by
  refine ⟨x0, H0.size, H0.size + 1, κ.2.2.2 3, 0, κ.2.2.2 3, 0, fun _ => none, fun _ => none, fun _ => 0, L0, fun _ => [], fun _ => 0, ⟨h1, ⟨nI 0, h2, fun q => absurd q (Nat.lt_irrefl 0)⟩, ⟨nI 0, h3, fun q => absurd q (Nat.lt_irrefl 0)⟩, ⟨Or.inl ⟨rfl, rfl, rfl⟩, by omega, by omega⟩, ⟨Or.inl ⟨rfl, rfl, rfl⟩, by omega, by omega⟩, by omega, by omega, by omega, fun q => absurd q (Nat.lt_irrefl 0), fun q => absurd q (Nat.lt_irrefl 0), fun q => absurd q (Nat.lt_irrefl 0)⟩, fun i hi => absurd hi (Nat.not_lt_zero i), ?_, ?_, rfl, hN.1⟩
  · refine aS.kept (fun q hq => hfr q hq.1 ?_) (fun q hq => ⟨Nat.lt_of_lt_of_le hq.1 hs, ?_, ?_⟩) _ _ _ _ hx
    · obtain ⟨a, b⟩ := hq; omega
    · obtain ⟨a, b⟩ := hq; omega
    · obtain ⟨a, b⟩ := hq
      rintro (h9 | h9 | h9 | ⟨_, h9⟩ | ⟨_, h9⟩) <;> omega
  · show L0 = L0 ++ []
    rw [List.append_nil]
theorem tlS_up {Ls : Nat → Cd} {os : Nat → Nat} {k o : Nat} {L1 : Cd} : ∀ n, n ≤ k → tlS (fun i => if i = k then L1 else Ls i) (fun i => if i = k then o else os i) n = tlS Ls os n
  | 0, _ => rfl
  | n + 1, h => by
    show tlS _ _ n ++ ((if n = k then L1 else Ls n) ++ [((if n = k then o else os n), nI 0)]) = tlS Ls os n ++ (Ls n ++ [(os n, nI 0)])
    rw [tlS_up n (by omega), if_neg (by omega), if_neg (by omega)]
theorem tlB_up {Ls : Nat → Cd} {k o : Nat} {L1 : Cd} : ∀ n, n ≤ k → tlB (fun i => if i = k then L1 else Ls i) o n = tlB Ls o n
  | 0, _ => rfl
  | 1, h => by
    show (if 0 = k then L1 else Ls 0) = Ls 0
    rw [if_neg (by omega)]
  | n + 2, h => by
    show tlB _ _ (n + 1) ++ ((if n + 1 = k then L1 else Ls (n + 1)) ++ [(o, nI 0)]) = tlB Ls o (n + 1) ++ (Ls (n + 1) ++ [(o, nI 0)])
    rw [tlB_up (n + 1) (by omega), if_neg (by omega)]
theorem chK.add {G : gG} {κ : kK} {z N0 N1 D ch x x0 lm lg k am cm as_ cs am1 cm1 as1 cs1 o : Nat} {fm fs gm gs : Nat → Option Nat} {xs : Nat → Nat} {L L0 L1 : Cd} {Ls : Nat → Cd} {os : Nat → Nat} {H H1 : Heap}
    (hc : chI G κ z ch x0 lm lg k am cm as_ cs fm fs H)
    (he : ∀ i, i < k → fm i = some (xs i) ∧ fs i = some (κ.2.2.1 (sgN (os i) + 128)) ∧ (3 ≤ os i ∧ os i ≤ 6) ∧ aS G (oE z N0 (chB ch lm lg am cm as_ cs) H.size) H D true (xs i) (Ls i))
    (h0 : aS G (oE z N0 (chB ch lm lg am cm as_ cs) H.size) H D true x0 L0) (hL : L = L0 ++ tlS Ls os k) (hn : N0 ≤ ch)
    (hx : aS G (gO z N1 H.size) H D true x L1) (hN1 : ∀ q, chB ch lm lg am cm as_ cs q → q < N1) (ho : 3 ≤ o ∧ o ≤ 6)
    (hc1 : chI G κ z ch x0 lm lg (k + 1) am1 cm1 as1 cs1 gm gs H1) (hgm : gm k = some x) (hgs : gs k = some (κ.2.2.1 (sgN o + 128))) (hgi : ∀ i, i < k → gm i = fm i) (hgj : ∀ i, i < k → gs i = fs i) (horm : am1 = am ∧ 0 < cm ∨ H.size ≤ am1) (hors : as1 = as_ ∧ 0 < cs ∨ H.size ≤ as1) (hs : H.size ≤ H1.size)
    (hfr : ∀ q, q < H.size → ¬ (q = lm ∨ q = lg ∨ (q = am ∧ 0 < cm) ∨ (q = as_ ∧ 0 < cs) ∨ H.size ≤ q) → H1[q]? = H[q]?) : chK G κ z N0 D ch (k + 1) (4 * cm1 + 4 * cs1) (L ++ (L1 ++ [(o, nI 0)])) H1 := by
  have hord := hc.ord.1
  have hO : ∀ q, oE z N0 (chB ch lm lg am cm as_ cs) H.size q → H1[q]? = H[q]? := fun q hq => hfr q hq.1 (fun h9 => by
    rcases h9 with h9 | h9 | h9 | h9 | h9
    · exact hq.2.2 (Or.inr (Or.inl h9))
    · exact hq.2.2 (Or.inr (Or.inr (Or.inl h9)))
    · exact hq.2.2 (Or.inr (Or.inr (Or.inr (Or.inl h9))))
    · exact hq.2.2 (Or.inr (Or.inr (Or.inr (Or.inr h9))))
    · have := hq.1; omega)
  have hO2 : ∀ q, oE z N0 (chB ch lm lg am cm as_ cs) H.size q → oE z N0 (chB ch lm lg am1 cm1 as1 cs1) H1.size q := fun q hq => ⟨Nat.lt_of_lt_of_le hq.1 hs, hq.2.1, fun h9 => by
    have a1 := hq.1
    rcases h9 with h9 | h9 | h9 | ⟨h9, _⟩ | ⟨h9, _⟩
    · exact hq.2.2 (Or.inl h9)
    · exact hq.2.2 (Or.inr (Or.inl h9))
    · exact hq.2.2 (Or.inr (Or.inr (Or.inl h9)))
    · rcases horm with ⟨h8, h7⟩ | h8
      · exact hq.2.2 (Or.inr (Or.inr (Or.inr (Or.inl ⟨by omega, h7⟩))))
      · omega
    · rcases hors with ⟨h8, h7⟩ | h8
      · exact hq.2.2 (Or.inr (Or.inr (Or.inr (Or.inr ⟨by omega, h7⟩))))
      · omega⟩
  have b1 := hN1 ch (Or.inl rfl)
  have b2 := hN1 lm (Or.inr (Or.inl rfl))
  have b3 := hN1 lg (Or.inr (Or.inr (Or.inl rfl)))
  have b4 : 0 < cm → am < N1 := fun h9 => hN1 am (Or.inr (Or.inr (Or.inr (Or.inl ⟨rfl, h9⟩))))
  have b5 : 0 < cs → as_ < N1 := fun h9 => hN1 as_ (Or.inr (Or.inr (Or.inr (Or.inr ⟨rfl, h9⟩))))
  have hX : ∀ q, gO z N1 H.size q → H1[q]? = H[q]? := fun q hq => hfr q hq.1 (by obtain ⟨a, b⟩ := hq; omega)
  have hX2 : ∀ q, gO z N1 H.size q → oE z N0 (chB ch lm lg am1 cm1 as1 cs1) H1.size q := fun q hq => ⟨Nat.lt_of_lt_of_le hq.1 hs, by obtain ⟨a, b⟩ := hq; omega, fun h9 => by
    obtain ⟨a, b⟩ := hq
    rcases h9 with h9 | h9 | h9 | ⟨h9, _⟩ | ⟨h9, _⟩
    · omega
    · omega
    · omega
    · rcases horm with ⟨h8, h7⟩ | h8
      · have := b4 h7; omega
      · omega
    · rcases hors with ⟨h8, h7⟩ | h8
      · have := b5 h7; omega
      · omega⟩
  refine ⟨x0, lm, lg, am1, cm1, as1, cs1, gm, gs, fun i => if i = k then x else xs i, L0, fun i => if i = k then L1 else Ls i, fun i => if i = k then o else os i, hc1, fun i hi => ?_, aS.kept hO hO2 _ _ _ _ h0, ?_, rfl, hn⟩
  · dsimp only
    by_cases e : i = k
    · subst e
      rw [if_pos rfl, if_pos rfl, if_pos rfl]
      exact ⟨hgm, hgs, ho, aS.kept hX hX2 _ _ _ _ hx⟩
    · rw [if_neg e, if_neg e, if_neg e]
      obtain ⟨e1, e2, e3, e4⟩ := he i (by omega)
      exact ⟨(hgi i (by omega)).trans e1, (hgj i (by omega)).trans e2, e3, aS.kept hO hO2 _ _ _ _ e4⟩
  · show L ++ (L1 ++ [(o, nI 0)]) = L0 ++ (tlS _ _ k ++ ((if k = k then L1 else Ls k) ++ [((if k = k then o else os k), nI 0)]))
    rw [tlS_up k (Nat.le_refl k), if_pos rfl, if_pos rfl, hL, List.append_assoc]
theorem chK.fin {G : gG} {κ : kK} {z N0 D ch k pot : Nat} {L : Cd} {H : Heap} (h : chK G κ z N0 D ch k pot L H) (hI : ∀ n, n ≤ 127 → aI G H (κ.2.2.1 (n + 128)) (nI n) ∧ κ.2.2.1 (n + 128) < z) (hzH : z ≤ H.size) (hk : k < 2 ^ 17) : ∃ (x0 lm lg am cm as_ cs : Nat) (fm fs : Nat → Option Nat) (xs : Nat → Nat), chI G κ z ch x0 lm lg k am cm as_ cs fm fs H ∧ (∀ i, i < k → fm i = some (xs i)) ∧ aS G (gO z N0 H.size) H (D + 1) true (if k = 0 then x0 else ch) L := by
  obtain ⟨x0, lm, lg, am, cm, as_, cs, fm, fs, xs, L0, Ls, os, hc, he, h0, hL, hp, hn⟩ := h
  refine ⟨x0, lm, lg, am, cm, as_, cs, fm, fs, xs, hc, fun i hi => (he i hi).1, ?_⟩
  have hO : ∀ q, oE z N0 (chB ch lm lg am cm as_ cs) H.size q → H[q]? = H[q]? := fun q _ => rfl
  have hO2 : ∀ q, oE z N0 (chB ch lm lg am cm as_ cs) H.size q → gO z N0 H.size q := fun q hq => ⟨hq.1, hq.2.1⟩
  by_cases e : k = 0
  · rw [if_pos e, hL, e]
    show aS G _ H (D + 1) true x0 (L0 ++ [])
    rw [List.append_nil]
    exact aS.up _ _ _ _ (aS.kept hO hO2 _ _ _ _ h0)
  · rw [if_neg e]
    obtain ⟨hord, hlt⟩ := hc.ord
    obtain ⟨h1, ⟨m1, h2, h3⟩, ⟨m2, h4, h5⟩, ⟨c1, -, c3⟩, ⟨d1, -, d3⟩, -⟩ := hc
    have hcm : 0 < cm ∧ k ≤ cm := by omega
    have hcs : 0 < cs ∧ k ≤ cs := by omega
    have l1 := at_lt h1
    have l2 := at_lt h2
    have l3 := at_lt h4
    have l4 := at_lt (h3 hcm.1)
    have l5 := at_lt (h5 hcs.1)
    refine ⟨⟨l1, Or.inr hn⟩, Or.inr (Or.inr (Or.inr (Or.inl ⟨x0, lm, lg, k, L0, xs, fun i => κ.2.2.1 (sgN (os i) + 128), Ls, os, h1, aS.kept hO hO2 _ _ _ _ h0, by omega, by omega, ⟨m1, am, cm, fm, ⟨l2, Or.inr (by omega)⟩, hcm.2, by omega, h2, fun _ => ⟨⟨l4, Or.inr (by omega)⟩, h3 hcm.1⟩, fun i hi => (he i hi).1⟩, ⟨m2, as_, cs, fs, ⟨l3, Or.inr (by omega)⟩, hcs.2, by omega, h4, fun _ => ⟨⟨l5, Or.inr (by omega)⟩, h5 hcs.1⟩, fun i hi => (he i hi).2.1⟩, fun i hi => ?_, hL⟩)))⟩
    obtain ⟨-, -, e3, e4⟩ := he i hi
    obtain ⟨f1, f2⟩ := sgN_c e3
    obtain ⟨g1, g2⟩ := hI _ f2
    exact ⟨aS.kept hO hO2 _ _ _ _ e4, e3, ⟨Nat.lt_of_lt_of_le g2 hzH, Or.inl g2⟩, by rw [f1]; exact g1⟩
-- ===== lists of what is asked =====
def lsK (G : gG) (κ : kK) (z N0 D op l k pot : Nat) (L : Cd) (H : Heap) : Prop :=
  ∃ (arr cap : Nat) (f : Nat → Option Nat) (xs : Nat → Nat) (Ls : Nat → Cd), (∃ mc, lsB G l k arr cap mc f H) ∧ lsC κ z l k arr cap ∧ (0 < cap → l < arr) ∧ (N0 ≤ l ∧ z ≤ l) ∧
    (∀ i, i < k → f i = some (xs i) ∧ aS G (oE z N0 (fun q => q = l ∨ (q = arr ∧ 0 < cap)) H.size) H D false (xs i) (Ls i)) ∧ L = tlB Ls op k ∧ pot = 4 * cap
theorem lsK.pot {G : gG} {κ : kK} {z N0 D op l k pot : Nat} {L : Cd} {H : Heap} (h : lsK G κ z N0 D op l k pot L H) : pot ≤ 48 * k ∧ l < H.size := by
  obtain ⟨arr, cap, f, xs, Ls, ⟨m, h1, -⟩, ⟨-, -, c1⟩, -, -, -, -, hp⟩ := h
  have := at_lt h1
  omega
theorem lsK.init {G : gG} {κ : kK} {z N0 D op l : Nat} {H : Heap} (h1 : va_at (gD G) g_cl (l, .inr (15, [.int (nI 0), .ref (κ.2.2.2 3), .int (nI 0)])) H) (hl : N0 ≤ l ∧ z ≤ l) : lsK G κ z N0 D op l 0 0 [] H :=
  ⟨κ.2.2.2 3, 0, fun _ => none, fun _ => 0, fun _ => [], ⟨nI 0, h1, fun q => absurd q (Nat.lt_irrefl 0)⟩, ⟨Or.inl ⟨rfl, rfl, rfl⟩, by omega, by omega⟩, fun q => absurd q (Nat.lt_irrefl 0), hl, fun i hi => absurd hi (Nat.not_lt_zero i), rfl, rfl⟩
theorem lsK.kept {G : gG} {κ : kK} {z N0 D op l k pot r : Nat} {L : Cd} {H H1 : Heap} (h : lsK G κ z N0 D op l k pot L H) (hr : z ≤ r ∧ r < N0) (hs : H.size ≤ H1.size) (ho : ∀ q, q < H.size → ¬ q = r → H1[q]? = H[q]?) : lsK G κ z N0 D op l k pot L H1 := by
  obtain ⟨arr, cap, f, xs, Ls, ⟨m, h1, h2⟩, hc, hla, hl, he, hL, hp⟩ := h
  exact ⟨arr, cap, f, xs, Ls, ⟨m, h1.kept (ho _ (at_lt h1) (by omega)), fun q => (h2 q).kept (ho _ (at_lt (h2 q)) (by have := hla q; omega))⟩, hc, hla, hl, fun i hi => ⟨(he i hi).1, aS.kept (fun q hq => ho q hq.1 (by have := hq.2.1; omega)) (fun q hq => ⟨Nat.lt_of_lt_of_le hq.1 hs, hq.2⟩) _ _ _ _ (he i hi).2⟩, hL, hp⟩
theorem lsK.add {G : gG} {κ : kK} {z N0 N1 D op l k arr cap x : Nat} {f : Nat → Option Nat} {xs : Nat → Nat} {L L1 : Cd} {Ls : Nat → Cd} {H H1 : Heap} (hB : ∃ mc, lsB G l k arr cap mc f H) (hla : 0 < cap → l < arr) (hl : N0 ≤ l ∧ z ≤ l) (he : ∀ i, i < k → f i = some (xs i) ∧ aS G (oE z N0 (fun q => q = l ∨ (q = arr ∧ 0 < cap)) H.size) H D false (xs i) (Ls i)) (hL : L = tlB Ls op k)
    (hx : aS G (gO z N1 H.size) H D false x L1) (hN1 : l < N1 ∧ (0 < cap → arr < N1)) (hp : lsP G z l k arr cap H.size x f H H1) (hs : H.size ≤ H1.size) (hfr : ∀ q, q < H.size → ¬ (q = l ∨ (q = arr ∧ 0 < cap) ∨ H.size ≤ q) → H1[q]? = H[q]?) :
    ∃ pot1, lsK G κ z N0 D op l (k + 1) pot1 (if k = 0 then L1 else L ++ (L1 ++ [(op, nI 0)])) H1 ∧ H1.size ≤ H.size + 1 ∧ hU H1 + 4 * cap ≤ hU H + pot1 := by
  obtain ⟨m, hb1, hb2⟩ := hB
  obtain ⟨mc, arr1, cap1, g, p1, p2, p3, p4, p5, p6, p7, p8, p9⟩ := hp
  have l1 := at_lt hb1
  refine ⟨4 * cap1, ⟨arr1, cap1, g, fun i => if i = k then x else xs i, fun i => if i = k then L1 else Ls i, ⟨mc, p1, fun _ => p2⟩, ⟨Or.inr ⟨by omega, by omega, p6.1, p6.2⟩, by omega, by omega⟩, fun _ => ?_, hl, fun i hi => ?_, ?_, rfl⟩, p8, p9⟩
  · rcases p7 with ⟨h8, h7⟩ | h8
    · have := hla h7; omega
    · omega
  · dsimp only
    by_cases e : i = k
    · subst e
      rw [if_pos rfl, if_pos rfl]
      refine ⟨p3, aS.kept (fun q hq => hfr q hq.1 ?_) (fun q hq => ⟨Nat.lt_of_lt_of_le hq.1 hs, ?_, ?_⟩) _ _ _ _ hx⟩
      · obtain ⟨a, b⟩ := hq
        rintro (h9 | ⟨h9, h8⟩ | h9)
        · omega
        · have := hla h8; have := hN1.2 h8; omega
        · omega
      · obtain ⟨a, b⟩ := hq; omega
      · obtain ⟨a, b⟩ := hq
        rintro (h9 | ⟨h9, -⟩)
        · omega
        · rcases p7 with ⟨h8, h7⟩ | h8
          · have := hla h7; have := hN1.2 h7; omega
          · omega
    · rw [if_neg e, if_neg e]
      obtain ⟨e1, e2⟩ := he i (by omega)
      refine ⟨(p4 i (by omega)).trans e1, aS.kept (fun q hq => hfr q hq.1 ?_) (fun q hq => ⟨Nat.lt_of_lt_of_le hq.1 hs, hq.2.1, ?_⟩) _ _ _ _ e2⟩
      · obtain ⟨a, b, c9⟩ := hq
        rintro (h9 | h9 | h9)
        · exact c9 (Or.inl h9)
        · exact c9 (Or.inr h9)
        · omega
      · obtain ⟨a, b, c9⟩ := hq
        rintro (h9 | ⟨h9, -⟩)
        · exact c9 (Or.inl h9)
        · rcases p7 with ⟨h8, h7⟩ | h8
          · exact c9 (Or.inr ⟨by omega, h7⟩)
          · omega
  · by_cases e : k = 0
    · subst e
      rw [if_pos rfl]
      show L1 = (if 0 = 0 then L1 else Ls 0)
      rw [if_pos rfl]
    · rw [if_neg e]
      obtain ⟨n, rfl⟩ : ∃ n, k = n + 1 := ⟨k - 1, by omega⟩
      show L ++ (L1 ++ [(op, nI 0)]) = tlB _ _ (n + 1) ++ ((if n + 1 = n + 1 then L1 else Ls (n + 1)) ++ [(op, nI 0)])
      rw [tlB_up (n + 1) (Nat.le_refl _), if_pos rfl, hL]
/-- the list is read -/
theorem lsK.lst {G : gG} {κ : kK} {z N0 D op l k pot : Nat} {L : Cd} {H : Heap} (h : lsK G κ z N0 D op l (k + 1) pot L H) (hk : k < 2 ^ 17) : ∃ (xs : Nat → Nat) (Ls : Nat → Cd), aLst G (gO z N0 H.size) H l (k + 1) xs ∧ (∀ i, i < k + 1 → aS G (gO z N0 H.size) H D false (xs i) (Ls i)) ∧ L = tlB Ls op (k + 1) := by
  obtain ⟨arr, cap, f, xs, Ls, ⟨m, h1, h2⟩, ⟨c1, -, c3⟩, hla, hl, he, hL, hp⟩ := h
  have hx : ∀ i, i < k + 1 → aS G (gO z N0 H.size) H D false (xs i) (Ls i) := fun i hi => aS.kept (fun q _ => rfl) (fun q hq => ⟨hq.1, hq.2.1⟩) _ _ _ _ (he i hi).2
  have hc : 0 < cap ∧ k + 1 ≤ cap ∧ cap < 2 ^ 30 := by omega
  have l1 := at_lt h1
  have l2 := at_lt (h2 hc.1)
  have l3 := hla hc.1
  exact ⟨xs, Ls, ⟨m, arr, cap, f, ⟨l1, Or.inr hl.1⟩, hc.2.1, hc.2.2, h1, fun _ => ⟨⟨l2, Or.inr (by omega)⟩, h2 hc.1⟩, fun i hi => (he i hi).1⟩, hx, hL⟩
theorem aS.sub {G : gG} {O O' : Nat → Prop} {H : Heap} {n : Nat} {b : Bool} {r : Nat} {L : Cd} (h : aS G O H n b r L) (h2 : ∀ q, O q → O' q) : aS G O' H n b r L := aS.kept (fun _ _ => rfl) h2 _ _ _ _ h
/-- .. and all that is written for it lies below N1 -/
def chKb (G : gG) (κ : kK) (z N0 D ch k pot N1 : Nat) (L : Cd) (H : Heap) : Prop :=
  ∃ (x0 lm lg am cm as_ cs : Nat) (fm fs : Nat → Option Nat) (xs : Nat → Nat) (L0 : Cd) (Ls : Nat → Cd) (os : Nat → Nat),
    chI G κ z ch x0 lm lg k am cm as_ cs fm fs H ∧
    (∀ i, i < k → fm i = some (xs i) ∧ fs i = some (κ.2.2.1 (sgN (os i) + 128)) ∧ (3 ≤ os i ∧ os i ≤ 6) ∧ aS G (oE z N0 (chB ch lm lg am cm as_ cs) H.size) H D true (xs i) (Ls i)) ∧
    aS G (oE z N0 (chB ch lm lg am cm as_ cs) H.size) H D true x0 L0 ∧ L = L0 ++ tlS Ls os k ∧ pot = 4 * cm + 4 * cs ∧ N0 ≤ ch ∧ ∀ q, chB ch lm lg am cm as_ cs q → q < N1
theorem chK.bnd {G : gG} {κ : kK} {z N0 D ch k pot : Nat} {L : Cd} {H : Heap} (h : chK G κ z N0 D ch k pot L H) : chKb G κ z N0 D ch k pot H.size L H := by
  obtain ⟨x0, lm, lg, am, cm, as_, cs, fm, fs, xs, L0, Ls, os, hc, he, h0, hL, hp, hn⟩ := h
  exact ⟨x0, lm, lg, am, cm, as_, cs, fm, fs, xs, L0, Ls, os, hc, he, h0, hL, hp, hn, hc.ord.2⟩
theorem chKb.kept {G : gG} {κ : kK} {z N0 D ch k pot N1 r : Nat} {L : Cd} {H H1 : Heap} (h : chKb G κ z N0 D ch k pot N1 L H) (hr : z ≤ r ∧ r < N0) (hs : H.size ≤ H1.size) (ho : ∀ q, q < H.size → ¬ q = r → H1[q]? = H[q]?) : chKb G κ z N0 D ch k pot N1 L H1 := by
  obtain ⟨x0, lm, lg, am, cm, as_, cs, fm, fs, xs, L0, Ls, os, hc, he, h0, hL, hp, hn, hb⟩ := h
  have hO : ∀ q, oE z N0 (chB ch lm lg am cm as_ cs) H.size q → H1[q]? = H[q]? := fun q hq => ho q hq.1 (by have := hq.2.1; omega)
  have hO2 : ∀ q, oE z N0 (chB ch lm lg am cm as_ cs) H.size q → oE z N0 (chB ch lm lg am cm as_ cs) H1.size q := fun q hq => ⟨Nat.lt_of_lt_of_le hq.1 hs, hq.2⟩
  have hord := hc.ord.1
  exact ⟨x0, lm, lg, am, cm, as_, cs, fm, fs, xs, L0, Ls, os, hc.kept (fun q hq hb => ho q hq (by omega)), fun i hi => ⟨(he i hi).1, (he i hi).2.1, (he i hi).2.2.1, aS.kept hO hO2 _ _ _ _ (he i hi).2.2.2⟩, aS.kept hO hO2 _ _ _ _ h0, hL, hp, hn, hb⟩
def lsKb (G : gG) (κ : kK) (z N0 D op l k pot N1 : Nat) (L : Cd) (H : Heap) : Prop :=
  ∃ (arr cap : Nat) (f : Nat → Option Nat) (xs : Nat → Nat) (Ls : Nat → Cd), (∃ mc, lsB G l k arr cap mc f H) ∧ lsC κ z l k arr cap ∧ (0 < cap → l < arr) ∧ (N0 ≤ l ∧ z ≤ l) ∧
    (∀ i, i < k → f i = some (xs i) ∧ aS G (oE z N0 (fun q => q = l ∨ (q = arr ∧ 0 < cap)) H.size) H D false (xs i) (Ls i)) ∧ L = tlB Ls op k ∧ pot = 4 * cap ∧ l < N1 ∧ (0 < cap → arr < N1)
theorem lsK.bnd {G : gG} {κ : kK} {z N0 D op l k pot : Nat} {L : Cd} {H : Heap} (h : lsK G κ z N0 D op l k pot L H) : lsKb G κ z N0 D op l k pot H.size L H := by
  obtain ⟨arr, cap, f, xs, Ls, ⟨m, h1, h2⟩, hc, hla, hl, he, hL, hp⟩ := h
  exact ⟨arr, cap, f, xs, Ls, ⟨m, h1, h2⟩, hc, hla, hl, he, hL, hp, at_lt h1, fun q => at_lt (h2 q)⟩
theorem lsKb.kept {G : gG} {κ : kK} {z N0 D op l k pot N1 r : Nat} {L : Cd} {H H1 : Heap} (h : lsKb G κ z N0 D op l k pot N1 L H) (hr : z ≤ r ∧ r < N0) (hs : H.size ≤ H1.size) (ho : ∀ q, q < H.size → ¬ q = r → H1[q]? = H[q]?) : lsKb G κ z N0 D op l k pot N1 L H1 := by
  obtain ⟨arr, cap, f, xs, Ls, ⟨m, h1, h2⟩, hc, hla, hl, he, hL, hp, hb⟩ := h
  exact ⟨arr, cap, f, xs, Ls, ⟨m, h1.kept (ho _ (at_lt h1) (by omega)), fun q => (h2 q).kept (ho _ (at_lt (h2 q)) (by have := hla q; omega))⟩, hc, hla, hl, fun i hi => ⟨(he i hi).1, aS.kept (fun q hq => ho q hq.1 (by have := hq.2.1; omega)) (fun q hq => ⟨Nat.lt_of_lt_of_le hq.1 hs, hq.2⟩) _ _ _ _ (he i hi).2⟩, hL, hp, hb⟩
theorem chI.inA {G : gG} {κ : kK} {z ch x0 lm lg k am cm as_ cs N0 N q : Nat} {fm fs : Nat → Option Nat} {H : Heap} (h : chI G κ z ch x0 lm lg k am cm as_ cs fm fs H) (hn : N0 ≤ ch) (hN : N0 ≤ N) (e : q = lm ∨ q = lg ∨ (q = am ∧ 0 < cm) ∨ (q = as_ ∧ 0 < cs) ∨ N ≤ q) : N0 ≤ q := by
  have := h.ord.1
  omega
theorem chI.notA {G : gG} {κ : kK} {z ch x0 lm lg k am cm as_ cs N0 N y : Nat} {fm fs : Nat → Option Nat} {H : Heap} (h : chI G κ z ch x0 lm lg k am cm as_ cs fm fs H) (hn : N0 ≤ ch) (hN : N0 ≤ N) (hy : y < N0) : ¬ (y = lm ∨ y = lg ∨ (y = am ∧ 0 < cm) ∨ (y = as_ ∧ 0 < cs) ∨ N ≤ y) := fun e => by
  have := h.inA hn hN e
  omega
theorem lsInA {l arr cap N0 N q : Nat} (hl : N0 ≤ l) (hla : 0 < cap → l < arr) (hN : N0 ≤ N) (e : q = l ∨ (q = arr ∧ 0 < cap) ∨ N ≤ q) : N0 ≤ q := by omega
theorem lsNotA {l arr cap N0 N y : Nat} (hl : N0 ≤ l) (hla : 0 < cap → l < arr) (hN : N0 ≤ N) (hy : y < N0) : ¬ (y = l ∨ (y = arr ∧ 0 < cap) ∨ N ≤ y) := by omega
theorem lsAll {G : gG} {z N0 D a l k g : Nat} {xs : Nat → Nat} {Ls : Nat → Cd} {H H2 : Heap} (hal : aLst G (gO z N0 H.size) H l (k + 1) xs) (hxs : ∀ i, i < k + 1 → aS G (gO z N0 H.size) H D false (xs i) (Ls i)) (hs : H.size ≤ H2.size) (hfr : ∀ q, q < H.size → H2[q]? = H[q]?) (hg : g < 2) (ha : va_at (gD G) g_cl (a, .inr (12, [.int (nI g), .ref l])) H2) (hN : N0 ≤ a) (hk : k < 2 ^ 20) : aS G (gO z N0 H2.size) H2 (D + 1) false a (tlB Ls (22 - g) (k + 1)) := by
  have hO : ∀ q, gO z N0 H.size q → H2[q]? = H[q]? := fun q hq => hfr q hq.1
  have hO2 : ∀ q, gO z N0 H.size q → gO z N0 H2.size q := fun q hq => ⟨Nat.lt_of_lt_of_le hq.1 hs, hq.2⟩
  exact ⟨⟨at_lt ha, Or.inr hN⟩, Or.inr (Or.inr ⟨g, l, k, xs, Ls, hg, ha, hk, hal.kept hO hO2, fun i hi => aS.kept hO hO2 _ _ _ _ (hxs i hi), rfl⟩)⟩
