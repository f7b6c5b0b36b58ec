/-! A text in the making: what lies there, how it is kept (hand-written) -/
theorem fnd_snoc {k : Nat} {c : kC} : ∀ cs : List kC, fnd k (cs ++ [c]) = match fnd k cs with | some L => some L | none => if c.1 = k then some c.2.1 else none
  | [] => rfl
  | d :: cs => by
    show (if d.1 = k then some d.2.1 else fnd k (cs ++ [c])) = match (if d.1 = k then some d.2.1 else fnd k cs) with | some L => some L | none => if c.1 = k then some c.2.1 else none
    by_cases e : d.1 = k
    · rw [if_pos e, if_pos e]
    · rw [if_neg e, if_neg e]; exact fnd_snoc cs
theorem dPl_snoc {c : kC} : ∀ (cs : List kC) (k : Nat), dPl (cs ++ [c]) k = dPl cs k ++ (if 4 ≤ c.1 then [(k + cs.length, c)] else [])
  | [], k => rfl
  | d :: cs, k => by
    show (if 4 ≤ d.1 then (k, d) :: dPl (cs ++ [c]) (k + 1) else dPl (cs ++ [c]) (k + 1)) = (if 4 ≤ d.1 then (k, d) :: dPl cs (k + 1) else dPl cs (k + 1)) ++ _
    rw [dPl_snoc cs (k + 1), show k + 1 + cs.length = k + (d :: cs).length by rw [List.length_cons]; omega]
    by_cases e : 4 ≤ d.1
    · rw [if_pos e, if_pos e]; rfl
    · rw [if_neg e, if_neg e]
theorem dPl_len : ∀ (cs : List kC) (k : Nat), (dPl cs k).length ≤ cs.length
  | [], _ => Nat.le_refl _
  | d :: cs, k => by
    have := dPl_len cs (k + 1)
    show (if 4 ≤ d.1 then (k, d) :: dPl cs (k + 1) else dPl cs (k + 1)).length ≤ cs.length + 1
    by_cases e : 4 ≤ d.1
    · rw [if_pos e]; exact Nat.succ_le_succ this
    · rw [if_neg e]; omega
/-- the cells of the parts of a text that don't change any more -/
def rdE (z N0 arr cap M : Nat) : Nat → Prop := oE z N0 (fun q => q = N0 ∨ q = N0 + 1 ∨ q = N0 + 2 ∨ (q = arr ∧ 0 < cap)) M
def rdR (G : gG) (κ : kK) (z N0 M arr cap n : Nat) (cs : List kC) (mc : Int32) (f g : Nat → Option Nat) (H : Heap) : Prop :=
  va_at (gD G) g_cl (N0, .inr (4, [.ref (N0 + 1), .ref (N0 + 2), .int (nI n)])) H ∧
  va_at (gD G) g_cl ((N0 + 1), .inl (G.2.2 7, 4, .inr (.inr (.inr (.inr f))))) H ∧
  lsB G (N0 + 2) (dPl cs 0).length arr cap mc g H ∧
  lsC κ z (N0 + 2) (dPl cs 0).length arr cap ∧
  (z ≤ N0 ∧ N0 + 3 ≤ M ∧ (0 < cap → N0 + 2 < arr ∧ arr < M)) ∧
  (∀ k, k < 4 → match fnd k cs with | none => f k = none | some L => ∃ x, f k = some x ∧ aS G (rdE z N0 arr cap M) H 100 true x L) ∧
  (∀ i q, (dPl cs 0)[i]? = some q → ∃ x, g i = some x ∧ rdE z N0 arr cap M x ∧ dDo G H x q.1 q.2)
theorem dDo.kept {G : gG} {H H1 : Heap} {r number : Nat} {c : kC} (h : dDo G H r number c) (ho : H1[r]? = H[r]?) : dDo G H1 r number c := by
  obtain ⟨b, n, h1, h2⟩ := h
  exact ⟨b, n, h1.kept ho, h2⟩
theorem rdR.same {G : gG} {κ : kK} {z N0 M M1 arr cap n : Nat} {cs : List kC} {mc : Int32} {f g : Nat → Option Nat} {H H1 : Heap} (h : rdR G κ z N0 M arr cap n cs mc f g H) (hM : M ≤ M1) (ho : ∀ q, q < M → (q < z ∨ N0 ≤ q) → H1[q]? = H[q]?) : rdR G κ z N0 M1 arr cap n cs mc f g H1 := by
  obtain ⟨h1, h2, ⟨h3, h4⟩, h5, ⟨h6, h7, h8⟩, h9, hd⟩ := h
  refine ⟨h1.kept (ho _ (by omega) (Or.inr (by omega))), h2.kept (ho _ (by omega) (Or.inr (by omega))), ⟨h3.kept (ho _ (by omega) (Or.inr (by omega))), fun q => (h4 q).kept (ho _ (h8 q).2 (Or.inr (by have := (h8 q).1; omega)))⟩, h5, ⟨h6, by omega, fun q => ⟨(h8 q).1, by have := (h8 q).2; omega⟩⟩, fun k hk => ?_, fun i q hq => ?_⟩
  · have := h9 k hk
    cases e : fnd k cs with
    | none => rw [e] at this; exact this
    | some L =>
      rw [e] at this
      obtain ⟨x, hx1, hx2⟩ := this
      exact ⟨x, hx1, aS.kept (fun q hq => ho q hq.1 hq.2.1) (fun q hq => ⟨Nat.lt_of_lt_of_le hq.1 hM, hq.2⟩) _ _ _ _ hx2⟩
  · obtain ⟨x, e1, e2, e3⟩ := hd i q hq
    exact ⟨x, e1, ⟨Nat.lt_of_lt_of_le e2.1 hM, e2.2⟩, e3.kept (ho x e2.1 e2.2.1)⟩
theorem rdR.kept {G : gG} {κ : kK} {z N0 M arr cap n r : Nat} {cs : List kC} {mc : Int32} {f g : Nat → Option Nat} {H H1 : Heap} (h : rdR G κ z N0 M arr cap n cs mc f g H) (hr : z ≤ r ∧ r < N0) (ho : ∀ q, q < M → ¬ q = r → H1[q]? = H[q]?) : rdR G κ z N0 M arr cap n cs mc f g H1 :=
  h.same (Nat.le_refl _) (fun q h1 h2 => ho q h1 (by omega))
theorem rdR.cnt {G : gG} {κ : kK} {z N0 M arr cap n n1 : Nat} {cs : List kC} {mc : Int32} {f g : Nat → Option Nat} {H H1 : Heap} (h : rdR G κ z N0 M arr cap n cs mc f g H) (hA : va_at (gD G) g_cl (N0, .inr (4, [.ref (N0 + 1), .ref (N0 + 2), .int (nI n1)])) H1) (ho : ∀ q, q ≠ N0 → H1[q]? = H[q]?) : rdR G κ z N0 M arr cap n1 cs mc f g H1 := by
  obtain ⟨h1, h2, ⟨h3, h4⟩, h5, ⟨h6, h7, h8⟩, h9, hd⟩ := h
  refine ⟨hA, h2.kept (ho _ (by omega)), ⟨h3.kept (ho _ (by omega)), fun q => (h4 q).kept (ho _ (by have := (h8 q).1; omega))⟩, h5, ⟨h6, h7, h8⟩, fun k hk => ?_, fun i q hq => ?_⟩
  · have := h9 k hk
    cases e : fnd k cs with
    | none => rw [e] at this; exact this
    | some L =>
      rw [e] at this
      obtain ⟨x, hx1, hx2⟩ := this
      exact ⟨x, hx1, aS.kept (fun q hq => ho q (fun e => hq.2.2 (Or.inl e))) (fun q hq => hq) _ _ _ _ hx2⟩
  · obtain ⟨x, e1, e2, e3⟩ := hd i q hq
    exact ⟨x, e1, e2, e3.kept (ho x (fun e => e2.2.2 (Or.inl e)))⟩
theorem rdR.sum {G : gG} {κ : kK} {z N0 M arr cap n s x Nc M2 D : Nat} {cs : List kC} {L : Cd} {mc : Int32} {f g : Nat → Option Nat} {H H1 : Heap} (h : rdR G κ z N0 M arr cap n cs mc f g H) (hs : s < 4) (hn : fnd s cs = none) (hx : aS G (gO z Nc M2) H D true x L) (hD : D ≤ 100) (hNc : M ≤ Nc) (hM2 : M ≤ M2)
    (hH : va_at (gD G) g_cl ((N0 + 1), .inl (G.2.2 7, 4, .inr (.inr (.inr (.inr (va_up f s (some x))))))) H1) (ho : ∀ q, q ≠ N0 + 1 → H1[q]? = H[q]?) : rdR G κ z N0 M2 arr cap n (cs ++ [(s, L, 0, 0)]) mc (va_up f s (some x)) g H1 := by
  obtain ⟨h1, h2, ⟨h3, h4⟩, h5, ⟨h6, h7, h8⟩, h9, hd⟩ := h
  have hp : dPl (cs ++ [(s, L, 0, 0)]) 0 = dPl cs 0 := by
    rw [dPl_snoc, if_neg (show ¬ 4 ≤ s by omega), List.append_nil]
  unfold rdR
  rw [hp]
  refine ⟨h1.kept (ho _ (by omega)), hH, ⟨h3.kept (ho _ (by omega)), fun q => (h4 q).kept (ho _ (by have := (h8 q).1; omega))⟩, h5, ⟨h6, by omega, fun q => ⟨(h8 q).1, by have := (h8 q).2; omega⟩⟩, fun k hk => ?_, fun i q hq => ?_⟩
  · have h0 := h9 k hk
    rw [fnd_snoc]
    cases e : fnd k cs with
    | none =>
      rw [e] at h0
      dsimp only
      by_cases e2 : s = k
      · subst e2
        rw [if_pos rfl]
        refine ⟨x, up_s, aS.le hD (aS.kept (fun q hq => ho q (by have := hq.2; omega)) (fun q hq => ⟨hq.1, by have := hq.2; omega, ?_⟩) _ _ _ _ hx)⟩
        obtain ⟨a1, a2⟩ := hq
        rintro (b | b | b | ⟨b, b2⟩)
        · omega
        · omega
        · omega
        · have := h8 b2; omega
      · rw [if_neg e2]
        exact (up_o (fun e => e2 e.symm)).trans h0
    | some L9 =>
      rw [e] at h0
      obtain ⟨x9, hx1, hx2⟩ := h0
      have e2 : k ≠ s := fun e9 => by rw [e9, hn] at e; cases e
      exact ⟨x9, (up_o e2).trans hx1, aS.kept (fun q hq => ho q (fun e => hq.2.2 (Or.inr (Or.inl e)))) (fun q hq => ⟨Nat.lt_of_lt_of_le hq.1 hM2, hq.2⟩) _ _ _ _ hx2⟩
  · obtain ⟨x9, e1, e2, e3⟩ := hd i q hq
    exact ⟨x9, e1, ⟨Nat.lt_of_lt_of_le e2.1 hM2, e2.2⟩, e3.kept (ho x9 (fun e => e2.2.2 (Or.inr (Or.inl e))))⟩
theorem rdR.line {G : gG} {κ : kK} {z N0 M arr cap n x : Nat} {cs : List kC} {c : kC} {mc : Int32} {f g : Nat → Option Nat} {H H1 : Heap} (h : rdR G κ z N0 M arr cap n cs mc f g H) (hc : 4 ≤ c.1) (hM : M ≤ H.size) (hx : M ≤ x ∧ x < H.size) (hx2 : dDo G H x cs.length c) (hp : lsP G z (N0 + 2) (dPl cs 0).length arr cap H.size x g H H1) (hs : H.size ≤ H1.size) (hfr : ∀ q, q < H.size → ¬ (q = N0 + 2 ∨ (q = arr ∧ 0 < cap) ∨ H.size ≤ q) → H1[q]? = H[q]?) :
    ∃ (arr1 cap1 : Nat) (mc1 : Int32) (g1 : Nat → Option Nat), rdR G κ z N0 H1.size arr1 cap1 n (cs ++ [c]) mc1 f g1 H1 ∧ H1.size ≤ H.size + 1 ∧ hU H1 + 4 * cap ≤ hU H + 4 * cap1 := by
  obtain ⟨h1, h2, ⟨h3, h4⟩, h5, ⟨h6, h7, h8⟩, h9, hd⟩ := h
  obtain ⟨mc1, arr1, cap1, g1, p1, p2, p3, p4, p5, p6, p7, p8, p9⟩ := hp
  have hl : dPl (cs ++ [c]) 0 = dPl cs 0 ++ [(cs.length, c)] := by rw [dPl_snoc, if_pos hc, Nat.zero_add]
  have hll : (dPl (cs ++ [c]) 0).length = (dPl cs 0).length + 1 := by rw [hl, List.length_append]; rfl
  have hE : ∀ q, rdE z N0 arr cap M q → H1[q]? = H[q]? ∧ rdE z N0 arr1 cap1 H1.size q := by
    intro q hq
    obtain ⟨a1, a2, a3⟩ := hq
    refine ⟨hfr q (by omega) ?_, by omega, a2, ?_⟩
    · rintro (b | b | b)
      · exact a3 (Or.inr (Or.inr (Or.inl b)))
      · exact a3 (Or.inr (Or.inr (Or.inr b)))
      · omega
    · rintro (b | b | b | ⟨b, -⟩)
      · exact a3 (Or.inl b)
      · exact a3 (Or.inr (Or.inl b))
      · exact a3 (Or.inr (Or.inr (Or.inl b)))
      · rcases p7 with ⟨c1, c2⟩ | c1
        · exact a3 (Or.inr (Or.inr (Or.inr ⟨by omega, c2⟩)))
        · omega
  have hn2 : ∀ q, q ≤ N0 + 1 → q < H.size → H1[q]? = H[q]? := fun q a b => hfr q b (by
    rintro (c1 | ⟨c1, c2⟩ | c1)
    · omega
    · have := h8 c2; omega
    · omega)
  refine ⟨arr1, cap1, mc1, g1, ⟨h1.kept (hn2 _ (by omega) (by omega)), h2.kept (hn2 _ (by omega) (by omega)), ⟨?_, fun _ => p2⟩, ?_, ⟨h6, by omega, fun _ => ⟨?_, at_lt p2⟩⟩, fun k hk => ?_, fun i q hq => ?_⟩, p8, p9⟩
  · rw [hll]; exact p1
  · rw [hll]
    obtain ⟨k1, k2, k3⟩ := h5
    exact ⟨Or.inr ⟨by omega, by omega, p6.1, p6.2⟩, by omega, by omega⟩
  · rcases p7 with ⟨c1, c2⟩ | c1
    · have := h8 c2; omega
    · omega
  · have h0 := h9 k hk
    rw [fnd_snoc]
    cases e : fnd k cs with
    | none =>
      rw [e] at h0
      dsimp only
      rw [if_neg (show ¬ c.1 = k by omega)]
      exact h0
    | some L9 =>
      rw [e] at h0
      obtain ⟨x9, hx1, hx9⟩ := h0
      exact ⟨x9, hx1, aS.kept (fun q hq => (hE q hq).1) (fun q hq => (hE q hq).2) _ _ _ _ hx9⟩
  · rw [hl] at hq
    rcases getE_app hq with ⟨a1, a2⟩ | ⟨a1, a2⟩
    · obtain ⟨x9, e1, e2, e3⟩ := hd i q a2
      exact ⟨x9, (p4 i a1).trans e1, (hE x9 e2).2, e3.kept (hE x9 e2).1⟩
    · subst a1 a2
      refine ⟨x, p3, ⟨by omega, Or.inr (by omega), ?_⟩, hx2.kept (hfr x hx.2 ?_)⟩
      · rintro (b | b | b | ⟨b, -⟩)
        · omega
        · omega
        · omega
        · rcases p7 with ⟨c1, c2⟩ | c1
          · have := h8 c2; omega
          · omega
      · rintro (b | ⟨b, b2⟩ | b)
        · omega
        · have := h8 b2; omega
        · omega
/-- the text is read -/
theorem rdR.txt {G : gG} {κ : kK} {z N0 M arr cap n : Nat} {cs : List kC} {mc : Int32} {f g : Nat → Option Nat} {H : Heap} (h : rdR G κ z N0 M arr cap n cs mc f g H) (hM : M ≤ H.size) (hl : cs.length ≤ 24) : aText G (gO z N0 H.size) H N0 cs := by
  obtain ⟨h1, h2, ⟨h3, h4⟩, h5, ⟨h6, h7, h8⟩, h9, hd⟩ := h
  have hE : ∀ q, rdE z N0 arr cap M q → gO z N0 H.size q := fun q hq => ⟨Nat.lt_of_lt_of_le hq.1 hM, hq.2.1⟩
  have hdl := dPl_len cs 0
  refine ⟨⟨by omega, Or.inr (Nat.le_refl _)⟩, N0 + 1, N0 + 2, nI n, f, h1, ⟨by omega, Or.inr (by omega)⟩, h2, fun k hk => ?_, fun i => (g i).getD 0, ⟨mc, arr, cap, g, ⟨by omega, Or.inr (by omega)⟩, ?_, ?_, h3, fun hn => ?_, fun i hi => ?_⟩, fun i q hq => ?_⟩
  · have h0 := h9 k hk
    cases e : fnd k cs with
    | none => rw [e] at h0; exact h0
    | some L =>
      rw [e] at h0
      obtain ⟨x, hx1, hx2⟩ := h0
      exact ⟨x, hx1, aS.kept (fun q hq => rfl) hE _ _ _ _ hx2⟩
  · rcases h5.1 with ⟨a, -⟩ | ⟨-, a, -⟩ <;> omega
  · have := h5.2.2; omega
  · have hcp : 0 < cap := by rcases h5.1 with ⟨a, -⟩ | ⟨a, -⟩ <;> omega
    exact ⟨⟨by have := h8 hcp; omega, Or.inr (by have := h8 hcp; omega)⟩, h4 hcp⟩
  · obtain ⟨x, e1, -⟩ := hd i _ (List.getElem?_eq_getElem hi)
    rw [e1]; rfl
  · obtain ⟨x, e1, e2, e3⟩ := hd i q hq
    rw [show (g i).getD 0 = x by rw [e1]; rfl]
    exact ⟨hE x e2, e3⟩
theorem rdR.init {G : gG} {κ : kK} {z N0 : Nat} {H : Heap} (hz : z ≤ N0) (h1 : va_at (gD G) g_cl (N0, .inr (4, [.ref (N0 + 1), .ref (N0 + 2), .int (nI 0)])) H) (h2 : va_at (gD G) g_cl ((N0 + 1), .inl (G.2.2 7, 4, .inr (.inr (.inr (.inr (fun _ => none)))))) H) (h3 : va_at (gD G) g_cl ((N0 + 2), .inr (15, [.int (nI 0), .ref (κ.2.2.2 3), .int (nI 0)])) H) : rdR G κ z N0 (N0 + 3) (κ.2.2.2 3) 0 0 [] (nI 0) (fun _ => none) (fun _ => none) H :=
  ⟨h1, h2, ⟨h3, fun q => absurd q (Nat.lt_irrefl 0)⟩, ⟨Or.inl ⟨rfl, rfl, rfl⟩, Nat.zero_le _, Nat.le_refl _⟩, ⟨hz, Nat.le_refl _, fun q => absurd q (Nat.lt_irrefl 0)⟩, fun k hk => rfl, fun i q hq => by cases hq⟩
theorem dOk_lnc {tp : Nat → Nat} {t s p a n q : Nat} {b : Int32} (h : dOk tp t s p a b n q) : (lnc tp t s p).1 = 0 ∧ (lnc tp t s p).2.1 = a ∧ (lnc tp t s p).2.2.2 = q ∧ (s = 5 → ∃ b9, b9 < 6 ∧ n < 10 ∧ (lnc tp t s p).2.2.1 = 10 * b9 + n ∧ b = nI b9) := by
  obtain ⟨h1, ha, h⟩ := h
  unfold lnc lin
  dsimp only
  rcases h with ⟨rfl, h2, hb, hn, hq⟩ | ⟨rfl, h2, hb, hn, hq⟩ | ⟨rfl, h2, h3, h4, h5, hb, h6, h7, h8, hn, hq⟩
  · rw [if_neg (show ¬ (6 : Nat) = 4 by decide), if_pos rfl]
    have e : fgO tp t p 1 99 = 0 := fgO_0 h1 ⟨by omega, by omega⟩
    exact ⟨e, ha.symm, by dsimp only; rw [if_pos e]; exact hq.symm, fun h => absurd h (by decide)⟩
  · rw [if_pos rfl]
    have e : fgO tp t p 0 5 = 0 := fgO_0 h1 ⟨by omega, by omega⟩
    exact ⟨e, ha.symm, by dsimp only; rw [if_pos e]; exact hq.symm, fun h => absurd h (by decide)⟩
  · rw [if_neg (show ¬ (5 : Nat) = 4 by decide), if_neg (show ¬ (5 : Nat) = 6 by decide)]
    unfold blw
    rw [if_pos (fgO_0 h1 ⟨by omega, by omega⟩), if_pos (tw_7.mpr h3), if_pos (fgO_0 h4 ⟨by omega, by omega⟩), if_pos (tw_8.mpr h6), if_pos (fgO_0 h7 ⟨by omega, by omega⟩)]
    exact ⟨rfl, ha.symm, hq.symm, fun _ => ⟨lxN tp t (lxQ tp t (lxQ tp t p)), by omega, by omega, by rw [if_pos rfl]; omega, hb⟩⟩
theorem dEr_lnc {tp : Nat → Nat} {t s p f q : Nat} (hs : 4 ≤ s ∧ s ≤ 6) (h : dEr tp t s p f q) : (lnc tp t s p).1 = f ∧ (lnc tp t s p).2.2.2 = q ∧ f ≠ 0 := by
  obtain ⟨hf, h⟩ := h
  have hf0 : f ≠ 0 := by omega
  unfold lnc lin
  dsimp only
  rcases h with ⟨h1, rfl⟩ | ⟨rfl, h1, h⟩
  · by_cases e4 : s = 4
    · subst e4
      rw [if_pos rfl]
      rw [if_neg (show ¬ (4 : Nat) = 6 by decide), if_neg (show ¬ (4 : Nat) = 6 by decide), if_pos rfl] at h1
      exact ⟨h1.symm, by dsimp only; rw [if_neg (fun e => hf0 (h1.trans e))], hf0⟩
    · rw [if_neg e4]
      by_cases e6 : s = 6
      · subst e6
        rw [if_pos rfl]
        rw [if_pos rfl, if_pos rfl] at h1
        exact ⟨h1.symm, by dsimp only; rw [if_neg (fun e => hf0 (h1.trans e))], hf0⟩
      · rw [if_neg e6]
        rw [if_neg e6, if_neg e6, if_neg e4] at h1
        unfold blw
        rw [if_neg (fun e => hf0 (h1.trans e))]
        exact ⟨h1.symm, rfl, hf0⟩
  · rw [if_neg (show ¬ (5 : Nat) = 4 by decide), if_neg (show ¬ (5 : Nat) = 6 by decide)]
    unfold blw
    rw [if_pos h1]
    rcases h with ⟨h2, rfl, rfl⟩ | ⟨h2, h⟩
    · rw [if_neg (fun e => h2 (tw_7.mp e))]
      exact ⟨rfl, rfl, hf0⟩
    · rw [if_pos (tw_7.mpr h2)]
      rcases h with ⟨h3, rfl⟩ | ⟨h3, h⟩
      · rw [if_neg (fun e => hf0 (h3.trans e))]
        exact ⟨h3.symm, rfl, hf0⟩
      · rw [if_pos h3]
        rcases h with ⟨h4, rfl, rfl⟩ | ⟨h4, h5, rfl⟩
        · rw [if_neg (fun e => h4 (tw_8.mp e))]
          exact ⟨rfl, rfl, hf0⟩
        · rw [if_pos (tw_8.mpr h4), if_neg (fun e => hf0 (h5.trans e))]
          exact ⟨h5.symm, rfl, hf0⟩
/-- one clause more, read -/
theorem rdc_0 {tp : Nat → Nat} {t f p : Nat} {cs : List kC} (h : lxT tp t p = 0) : rdc tp t (f + 1) p cs = (0, cs, p) := by rw [rdc, if_pos h]
theorem rdc_1 {tp : Nat → Nat} {t f p : Nat} {cs : List kC} (h : lxT tp t p ≠ 0) (hs : soO tp t p = none) : rdc tp t (f + 1) p cs = (1, cs, p) := by rw [rdc, if_neg h, hs]
theorem rdc_s {tp : Nat → Nat} {t f p s : Nat} {cs : List kC} (hs : soO tp t p = some s) (h : lxT tp t p ≠ 0) : rdc tp t (f + 1) p cs = if s < 4 ∧ fnd s cs ≠ none then (4, cs, p) else if cs.length = 24 then (6, cs, p) else
      if s < 4 then (if (psd tp t s (lxQ tp t p)).1 = 0 then (if lxT tp t (psd tp t s (lxQ tp t p)).2.2.1 = 59 then rdc tp t f (lxQ tp t (psd tp t s (lxQ tp t p)).2.2.1) (cs ++ [(s, (psd tp t s (lxQ tp t p)).2.1, 0, 0)]) else (1, cs, (psd tp t s (lxQ tp t p)).2.2.1)) else ((psd tp t s (lxQ tp t p)).1, cs, (psd tp t s (lxQ tp t p)).2.2.1))
      else (if (lnc tp t s (lxQ tp t p)).1 = 0 then (if lxT tp t (lnc tp t s (lxQ tp t p)).2.2.2 = 59 then rdc tp t f (lxQ tp t (lnc tp t s (lxQ tp t p)).2.2.2) (cs ++ [(s, [], (lnc tp t s (lxQ tp t p)).2.1, (lnc tp t s (lxQ tp t p)).2.2.1)]) else (1, cs, (lnc tp t s (lxQ tp t p)).2.2.2)) else ((lnc tp t s (lxQ tp t p)).1, cs, (lnc tp t s (lxQ tp t p)).2.2.2)) := by
  rw [rdc, if_neg h, hs]
/-- a sum's clause -/
theorem rdc_sum {tp : Nat → Nat} {t f p s q k : Nat} {L : Cd} {cs : List kC} (h0 : lxT tp t p ≠ 0) (hs : soO tp t p = some s) (h4 : s < 4) (hn : fnd s cs = none) (hl : cs.length ≠ 24) (hr : ySm tp t s 5 0 (lxQ tp t p) (k, L, q)) (hn5 : k = 0 → nop tp t 5 q) : rdc tp t (f + 1) p cs = if k = 0 then (if lxT tp t q = 59 then rdc tp t f (lxQ tp t q) (cs ++ [(s, L, 0, 0)]) else (1, cs, q)) else (k, cs, q) := by
  obtain ⟨e1, e2, e3⟩ := ySm_psd hr hn5
  dsimp only at e1 e2 e3
  rw [rdc_s hs h0, if_neg (fun h => h.2 hn), if_neg hl, if_pos h4, e1, e2]
  by_cases e : k = 0
  · rw [if_pos e, if_pos e, e3 e]
  · rw [if_neg e, if_neg e]
theorem rdc_ln {tp : Nat → Nat} {t f p s q k a b : Nat} {cs : List kC} (h0 : lxT tp t p ≠ 0) (hs : soO tp t p = some s) (h4 : 4 ≤ s) (hl : cs.length ≠ 24) (e1 : (lnc tp t s (lxQ tp t p)).1 = k) (e2 : (lnc tp t s (lxQ tp t p)).2.2.2 = q) (e3 : k = 0 → (lnc tp t s (lxQ tp t p)).2.1 = a) (e4 : k = 0 → (lnc tp t s (lxQ tp t p)).2.2.1 = b) : rdc tp t (f + 1) p cs = if k = 0 then (if lxT tp t q = 59 then rdc tp t f (lxQ tp t q) (cs ++ [(s, [], a, b)]) else (1, cs, q)) else (k, cs, q) := by
  rw [rdc_s hs h0, if_neg (fun h => by omega), if_neg hl, if_neg (by omega), e1, e2]
  by_cases e : k = 0
  · rw [if_pos e, if_pos e, e3 e, e4 e]
  · rw [if_neg e, if_neg e]
theorem rdR.cap {G : gG} {κ : kK} {z N0 M arr cap n : Nat} {cs : List kC} {mc : Int32} {f g : Nat → Option Nat} {H : Heap} (h : rdR G κ z N0 M arr cap n cs mc f g H) (hl : cs.length ≤ 24) : cap ≤ 288 ∧ N0 + 3 ≤ M ∧ (dPl cs 0).length ≤ 24 ∧ (0 < cap → N0 + 2 < arr) := by
  have h1 := dPl_len cs 0
  have h2 := h.2.2.2.1.2.2
  exact ⟨by omega, h.2.2.2.2.1.2.1, by omega, fun q => (h.2.2.2.2.1.2.2 q).1⟩
theorem rdR.aO {G : gG} {κ : kK} {z N0 M arr cap n : Nat} {cs : List kC} {mc : Int32} {f g : Nat → Option Nat} {H : Heap} (h : rdR G κ z N0 M arr cap n cs mc f g H) : ∀ i, i < (dPl cs 0).length → ∀ y, g i = some y → aO G H y := by
  intro i hi y hy
  obtain ⟨x9, e1, -, ⟨b9, n9, h9, -⟩⟩ := h.2.2.2.2.2.2 i _ (List.getElem?_eq_getElem hi)
  rw [e1] at hy
  obtain rfl := Option.some.inj hy
  exact aO.at (by omega) h9
theorem rdR.none {G : gG} {κ : kK} {z N0 M arr cap n s : Nat} {cs : List kC} {mc : Int32} {f g : Nat → Option Nat} {H : Heap} (h : rdR G κ z N0 M arr cap n cs mc f g H) (hs : s < 4) (e : fnd s cs = none) : f s = none := by
  have h1 := h.2.2.2.2.2.1 s hs
  rw [e] at h1; exact h1
theorem rdR.some {G : gG} {κ : kK} {z N0 M arr cap n s : Nat} {L : Cd} {cs : List kC} {mc : Int32} {f g : Nat → Option Nat} {H : Heap} (h : rdR G κ z N0 M arr cap n cs mc f g H) (hs : s < 4) (e : fnd s cs = some L) : ∃ x, f s = some x := by
  have h1 := h.2.2.2.2.2.1 s hs
  rw [e] at h1
  obtain ⟨x, hx, -⟩ := h1
  exact ⟨x, hx⟩
theorem gd_app {cs : List kC} {c : kC} (h : ∀ c ∈ cs, c.1 < 4 → kGood c.2.1 ∧ kNm c.1 c.2.1) (hc : c.1 < 4 → kGood c.2.1 ∧ kNm c.1 c.2.1) : ∀ d ∈ cs ++ [c], d.1 < 4 → kGood d.2.1 ∧ kNm d.1 d.2.1 := fun d hd => (List.mem_append.mp hd).elim (h d) (fun h9 => by obtain rfl := List.mem_singleton.mp h9; exact hc)
theorem aS_good {G : gG} {O : Nat → Prop} {H : Heap} {n r : Nat} {L : Cd} (h : aS G O H n true r L) : kGood L := kGood_of (fun nm => by
  obtain ⟨v, hv, -⟩ := (aS_val nm _ _ _).1 h
  exact ⟨v, hv⟩)
