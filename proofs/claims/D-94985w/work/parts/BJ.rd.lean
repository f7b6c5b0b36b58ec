/-! The clauses of a text, read as a list (hand-written, without the program) -/
theorem blw_ind {tp : Nat → Nat} {t k k2 p : Nat} {M M2 : Nat → Nat → Int32} : (blw tp t k p M).1 = (blw tp t k2 p M2).1 ∧ (blw tp t k p M).2.2 = (blw tp t k2 p M2).2.2 := by
  unfold blw
  by_cases h1 : fgO tp t p 0 9 = 0
  · rw [if_pos h1, if_pos h1]
    by_cases h2 : lxT tp t (lxQ tp t p) = 2 ∧ lxW tp t (lxQ tp t p) = (25209)
    · rw [if_pos h2, if_pos h2]
      by_cases h3 : fgO tp t (lxQ tp t (lxQ tp t p)) 0 5 = 0
      · rw [if_pos h3, if_pos h3]
        by_cases h4 : lxT tp t (lxQ tp t (lxQ tp t (lxQ tp t p))) = 2 ∧ lxW tp t (lxQ tp t (lxQ tp t (lxQ tp t p))) = w8 (w8 (w8 (lN 103) 105) 118) 101
        · rw [if_pos h4, if_pos h4]
          by_cases h5 : fgO tp t (lxQ tp t (lxQ tp t (lxQ tp t (lxQ tp t p)))) 1 9 = 0
          · rw [if_pos h5, if_pos h5]; exact ⟨rfl, rfl⟩
          · rw [if_neg h5, if_neg h5]; exact ⟨rfl, rfl⟩
        · rw [if_neg h4, if_neg h4]; exact ⟨rfl, rfl⟩
      · rw [if_neg h3, if_neg h3]; exact ⟨rfl, rfl⟩
    · rw [if_neg h2, if_neg h2]; exact ⟨rfl, rfl⟩
  · rw [if_neg h1, if_neg h1]; exact ⟨rfl, rfl⟩
/-- a line behind its word: fault, first number, the other two, place -/
noncomputable def lnc (tp : Nat → Nat) (t s p : Nat) : Nat × Nat × Nat × Nat :=
  ((lin tp t s 0 p (fun _ _ => 0)).1, lxN tp t p, if s = 5 then lxN tp t (lxQ tp t (lxQ tp t (lxQ tp t (lxQ tp t p)))) + 10 * lxN tp t (lxQ tp t (lxQ tp t p)) else 0, (lin tp t s 0 p (fun _ _ => 0)).2.2)
theorem lin_lnc {tp : Nat → Nat} {t s k p : Nat} {M : Nat → Nat → Int32} : (lin tp t s k p M).1 = (lnc tp t s p).1 ∧ (lin tp t s k p M).2.2 = (lnc tp t s p).2.2.2 := by
  unfold lnc lin
  by_cases h4 : s = 4
  · rw [if_pos h4, if_pos h4]; exact ⟨rfl, rfl⟩
  · rw [if_neg h4, if_neg h4]
    by_cases h6 : s = 6
    · rw [if_pos h6, if_pos h6]; exact ⟨rfl, rfl⟩
    · rw [if_neg h6, if_neg h6]
      exact blw_ind
/-- all the clauses from a place on: fault, the clauses, place -/
noncomputable def rdc (tp : Nat → Nat) (t : Nat) : Nat → Nat → List kC → Nat × List kC × Nat
  | 0, p, cs => (0, cs, p)
  | f + 1, p, cs => if lxT tp t p = 0 then (0, cs, p) else match soO tp t p with
    | none => (1, cs, p)
    | some s => if s < 4 ∧ fnd s cs ≠ none then (4, cs, p) else if cs.length = 24 then (6, cs, p) else
      if s < 4 then (if (psd tp t s (lxQ tp t p)).1 = 0 then (if lxT tp t (psd tp t s (lxQ tp t p)).2.2.1 = 59 then rdc tp t f (lxQ tp t (psd tp t s (lxQ tp t p)).2.2.1) (cs ++ [(s, (psd tp t s (lxQ tp t p)).2.1, 0, 0)]) else (1, cs, (psd tp t s (lxQ tp t p)).2.2.1)) else ((psd tp t s (lxQ tp t p)).1, cs, (psd tp t s (lxQ tp t p)).2.2.1))
      else (if (lnc tp t s (lxQ tp t p)).1 = 0 then (if lxT tp t (lnc tp t s (lxQ tp t p)).2.2.2 = 59 then rdc tp t f (lxQ tp t (lnc tp t s (lxQ tp t p)).2.2.2) (cs ++ [(s, [], (lnc tp t s (lxQ tp t p)).2.1, (lnc tp t s (lxQ tp t p)).2.2.1)]) else (1, cs, (lnc tp t s (lxQ tp t p)).2.2.2)) else ((lnc tp t s (lxQ tp t p)).1, cs, (lnc tp t s (lxQ tp t p)).2.2.2))
theorem fnd_app {so : Nat} {c : kC} : ∀ cs : List kC, fnd so (cs ++ [c]) ≠ none ↔ fnd so cs ≠ none ∨ c.1 = so
  | [] => by
    show (if c.1 = so then some c.2.1 else none) ≠ none ↔ none ≠ none ∨ c.1 = so
    by_cases e : c.1 = so
    · rw [if_pos e]; exact ⟨fun _ => Or.inr e, fun _ h => by cases h⟩
    · rw [if_neg e]; exact ⟨fun h => absurd rfl h, fun h => h.elim id (fun h => absurd h e)⟩
  | d :: cs => by
    show (if d.1 = so then some d.2.1 else fnd so (cs ++ [c])) ≠ none ↔ (if d.1 = so then some d.2.1 else fnd so cs) ≠ none ∨ c.1 = so
    by_cases e : d.1 = so
    · rw [if_pos e, if_pos e]; exact ⟨fun h => Or.inl h, fun _ h => by cases h⟩
    · rw [if_neg e, if_neg e]; exact fnd_app cs
theorem on_all : ((List.range 16).all fun m => (List.range 4).all fun s => (List.range 4).all fun s2 => decide ((nI m ||| (nI 1 <<< (nI s &&& 31))) = nI (m ||| (1 <<< s)) ∧ (m ||| (1 <<< s)) < 16 ∧ (((nI (m ||| (1 <<< s)) >>> (nI s2 &&& 31)) &&& nI 1 = nI 1) ↔ (((nI m >>> (nI s2 &&& 31)) &&& nI 1 = nI 1) ∨ s = s2)))) = true := by decide +kernel
theorem on_up {m s : Nat} (hm : m < 16) (hs : s < 4) : (nI m ||| (nI 1 <<< (nI s &&& 31))) = nI (m ||| (1 <<< s)) ∧ (m ||| (1 <<< s)) < 16 ∧ ∀ s2, s2 < 4 → (((nI (m ||| (1 <<< s)) >>> (nI s2 &&& 31)) &&& nI 1 = nI 1) ↔ (((nI m >>> (nI s2 &&& 31)) &&& nI 1 = nI 1) ∨ s = s2)) := by
  have h := fun s2 (h2 : s2 < 4) => of_decide_eq_true (List.all_eq_true.mp (List.all_eq_true.mp (List.all_eq_true.mp on_all m (List.mem_range.mpr hm)) s (List.mem_range.mpr hs)) s2 (List.mem_range.mpr h2))
  exact ⟨(h 0 (by decide)).1, (h 0 (by decide)).2.1, fun s2 h2 => (h s2 h2).2.2⟩
theorem rdl_go {tp : Nat → Nat} {t x0 f c p n p1 n1 : Nat} {on on1 : Int32} {M M1 : Nat → Nat → Int32} (h0 : lxT tp t p ≠ 0) (e : cls tp t x0 c p n on M = (0, M1, p1, n1, on1)) : rdl tp t x0 (f + 1) c p n on M = rdl tp t x0 f (c + 1) p1 n1 on1 M1 := by
  rw [rdl, if_neg h0, e]
  exact if_pos rfl
theorem rdl_er {tp : Nat → Nat} {t x0 f c p n k p1 n1 : Nat} {on on1 : Int32} {M M1 : Nat → Nat → Int32} (h0 : lxT tp t p ≠ 0) (hk : k ≠ 0) (e : cls tp t x0 c p n on M = (k, M1, p1, n1, on1)) : rdl tp t x0 (f + 1) c p n on M = (k, M1, p1) := by
  rw [rdl, if_neg h0, e]
  exact if_neg hk
/-- the twin reads the same: fault and place -/
theorem rdl_rdc {tp : Nat → Nat} {t x0 : Nat} : ∀ (f c p n m : Nat) (M : Nat → Nat → Int32) (cs : List kC), cs.length = c → m < 16 → (∀ s, s < 4 → (((nI m >>> (nI s &&& 31)) &&& nI 1 = nI 1) ↔ fnd s cs ≠ none)) → (rdl tp t x0 f c p n (nI m) M).1 = (rdc tp t f p cs).1 ∧ (rdl tp t x0 f c p n (nI m) M).2.2 = (rdc tp t f p cs).2.2
  | 0, c, p, n, m, M, cs, _, _, _ => ⟨rfl, rfl⟩
  | f + 1, c, p, n, m, M, cs, hc, hm, hon => by
    by_cases h0 : lxT tp t p = 0
    · rw [rdl, rdc, if_pos h0, if_pos h0]; exact ⟨rfl, rfl⟩
    rcases hs : soO tp t p with _ | s
    · rw [rdl_er h0 (by decide) (show cls tp t x0 c p n (nI m) M = (1, M, p, n, nI m) by unfold cls; rw [hs]), rdc, if_neg h0, hs]
      exact ⟨rfl, rfl⟩
    have hcl : cls tp t x0 c p n (nI m) M = (if s < 4 then (if (nI m >>> (nI s &&& 31)) &&& nI 1 = nI 1 then (4, M, p, n, nI m) else if c = 24 then (6, M, p, n, nI m) else clr tp t x0 c s (lxQ tp t p) n (nI m ||| (nI 1 <<< (nI s &&& 31))) (up2 M 2 (x0 + 1 + 3 * c) (nI s))) else if c = 24 then (6, M, p, n, nI m) else clt tp t x0 c s (lxQ tp t p) n (nI m) (up2 M 2 (x0 + 1 + 3 * c) (nI s))) := by unfold cls; rw [hs]
    rw [rdc, if_neg h0, hs]
    dsimp only
    by_cases h4 : s < 4
    · rw [if_pos h4] at hcl
      by_cases hb : (nI m >>> (nI s &&& 31)) &&& nI 1 = nI 1
      · rw [if_pos hb] at hcl
        rw [rdl_er h0 (by decide) hcl, if_pos ⟨h4, (hon s h4).mp hb⟩]; exact ⟨rfl, rfl⟩
      rw [if_neg hb] at hcl
      rw [if_neg (fun h => hb ((hon s h4).mpr h.2))]
      by_cases hl : c = 24
      · rw [if_pos hl] at hcl
        rw [rdl_er h0 (by decide) hcl, if_pos (hc.trans hl)]; exact ⟨rfl, rfl⟩
      rw [if_neg hl] at hcl
      rw [if_neg (fun h => hl (hc.symm.trans h)), if_pos h4]
      unfold clr at hcl
      by_cases h1 : (psd tp t s (lxQ tp t p)).1 = 0
      · rw [if_pos h1] at hcl
        rw [if_pos h1]
        by_cases h2 : lxT tp t (psd tp t s (lxQ tp t p)).2.2.1 = 59
        · rw [if_pos h2] at hcl
          obtain ⟨e1, e2, e3⟩ := on_up hm h4
          rw [rdl_go h0 hcl, if_pos h2, e1]
          exact rdl_rdc f (c + 1) _ _ _ _ _ (by rw [List.length_append, hc]; rfl) e2 (fun s2 h9 => by rw [e3 s2 h9, fnd_app, hon s2 h9])
        · rw [if_neg h2] at hcl
          rw [rdl_er h0 (by decide) hcl, if_neg h2]; exact ⟨rfl, rfl⟩
      · rw [if_neg h1] at hcl
        rw [rdl_er h0 h1 hcl, if_neg h1]; exact ⟨rfl, rfl⟩
    · rw [if_neg h4] at hcl
      rw [if_neg (fun h => h4 h.1)]
      by_cases hl : c = 24
      · rw [if_pos hl] at hcl
        rw [rdl_er h0 (by decide) hcl, if_pos (hc.trans hl)]; exact ⟨rfl, rfl⟩
      rw [if_neg hl] at hcl
      rw [if_neg (fun h => hl (hc.symm.trans h)), if_neg h4]
      unfold clt at hcl
      obtain ⟨l1, l2⟩ := lin_lnc (tp := tp) (t := t) (s := s) (k := x0 + 1 + 3 * c) (p := lxQ tp t p) (M := up2 M 2 (x0 + 1 + 3 * c) (nI s))
      rw [l1, l2] at hcl
      by_cases h1 : (lnc tp t s (lxQ tp t p)).1 = 0
      · rw [if_pos h1] at hcl
        rw [if_pos h1]
        by_cases h2 : lxT tp t (lnc tp t s (lxQ tp t p)).2.2.2 = 59
        · rw [if_pos h2] at hcl
          rw [rdl_go h0 hcl, if_pos h2]
          exact rdl_rdc f (c + 1) _ _ _ _ _ (by rw [List.length_append, hc]; rfl) hm (fun s2 h9 => by
            rw [hon s2 h9, fnd_app]
            exact ⟨Or.inl, fun h => h.elim id (fun h => absurd (show s = s2 from h) (by omega))⟩)
        · rw [if_neg h2] at hcl
          rw [rdl_er h0 (by decide) hcl, if_neg h2]; exact ⟨rfl, rfl⟩
      · rw [if_neg h1] at hcl
        rw [rdl_er h0 h1 hcl, if_neg h1]; exact ⟨rfl, rfl⟩
