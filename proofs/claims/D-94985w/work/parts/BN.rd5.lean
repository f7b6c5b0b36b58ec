/-! The twin's text after a faultless reading: it holds the clauses (hand-written, without the program) -/
theorem getE_app {α : Type} {cs : List α} {d e : α} {i : Nat} (h : (cs ++ [d])[i]? = some e) : (i < cs.length ∧ cs[i]? = some e) ∨ (i = cs.length ∧ e = d) := by
  rcases Nat.lt_trichotomy i cs.length with h1 | h1 | h1
  · rw [List.getElem?_append_left h1] at h; exact Or.inl ⟨h1, h⟩
  · subst h1
    rw [List.getElem?_append_right (Nat.le_refl _), Nat.sub_self] at h
    exact Or.inr ⟨rfl, (Option.some.inj h).symm⟩
  · rw [List.getElem?_eq_none (by rw [List.length_append]; show cs.length + 1 ≤ i; omega)] at h; cases h
theorem kC2_app {M M1 : Nat → Nat → Int32} {tx n n1 : Nat} {cs : List kC} {d : kC} (h : ∀ i e, cs[i]? = some e → kC2 M tx n i e) (hn : n ≤ n1) (hc : cs.length < 24)
    (h1 : ∀ j, 680 * tx < j → (j < 680 * tx + 1 + 3 * cs.length ∨ (680 * tx + 75 ≤ j ∧ j < 680 * tx + 75 + 2 * n)) → M1 2 j = M 2 j) (hd : kC2 M1 tx n1 cs.length d) : ∀ i e, (cs ++ [d])[i]? = some e → kC2 M1 tx n1 i e := by
  intro i e hi
  rcases getE_app hi with ⟨h9, h8⟩ | ⟨rfl, rfl⟩
  · exact (h i e h8).kept hn (fun j a b => h1 j (by omega) (Or.inl (by omega))) (fun j a b => h1 j (by omega) (Or.inr ⟨a, b⟩))
  · exact hd
/-- what holds of the twin's array behind a faultless reading -/
def rdT (M M1 : Nat → Nat → Int32) (tx t : Nat) (cs : List kC) : Prop := M1 2 (680 * tx) = nI cs.length ∧ cs.length ≤ 24 ∧ (∃ n, n ≤ t ∧ ∀ i d, cs[i]? = some d → kC2 M1 tx n i d) ∧ ∀ k j, (k ≠ 2 ∨ j < 680 * tx ∨ 680 * tx + 680 ≤ j) → M1 k j = M k j
theorem rdl_text {tp : Nat → Nat} {t tx : Nat} (ht : t ≤ 300) : ∀ (f c p n m : Nat) (M : Nat → Nat → Int32) (cs : List kC), cs.length = c → c ≤ 24 → m < 16 → (∀ s, s < 4 → (((nI m >>> (nI s &&& 31)) &&& nI 1 = nI 1) ↔ fnd s cs ≠ none)) → p ≤ t → n ≤ p → M 2 (680 * tx) = nI c → (∀ i d, cs[i]? = some d → kC2 M tx n i d) → (rdl tp t (680 * tx) f c p n (nI m) M).1 = 0 → rdT M (rdl tp t (680 * tx) f c p n (nI m) M).2.1 tx t (rdc tp t f p cs).2.1
  | 0, c, p, n, m, M, cs, hc, h24, _, _, hp, hn, hM, hC, _ => ⟨hM.trans (by rw [← hc]; rfl), by show cs.length ≤ 24; omega, ⟨n, by omega, hC⟩, fun _ _ _ => rfl⟩
  | f + 1, c, p, n, m, M, cs, hc, h24, hm, hon, hp, hn, hM, hC, hf => by
    by_cases h0 : lxT tp t p = 0
    · rw [rdl, rdc, if_pos h0, if_pos h0]
      exact ⟨hM.trans (by rw [← hc]), by show cs.length ≤ 24; omega, ⟨n, by omega, hC⟩, fun _ _ _ => rfl⟩
    have hg := lxQ_g h0 hp
    rcases hs : soO tp t p with _ | s
    · rw [rdl_er h0 (by decide) (show cls tp t (680 * tx) c p n (nI m) M = (1, M, p, n, nI m) by unfold cls; rw [hs])] at hf
      cases hf
    have hs7 := soO_l7 hs
    have hcl : cls tp t (680 * tx) c p n (nI m) M = (if s < 4 then (if (nI m >>> (nI s &&& 31)) &&& nI 1 = nI 1 then (4, M, p, n, nI m) else if c = 24 then (6, M, p, n, nI m) else clr tp t (680 * tx) c s (lxQ tp t p) n (nI m ||| (nI 1 <<< (nI s &&& 31))) (up2 M 2 (680 * tx + 1 + 3 * c) (nI s))) else if c = 24 then (6, M, p, n, nI m) else clt tp t (680 * tx) c s (lxQ tp t p) n (nI m) (up2 M 2 (680 * tx + 1 + 3 * c) (nI s))) := by unfold cls; rw [hs]
    rw [rdc, if_neg h0, hs]
    dsimp only
    by_cases h4 : s < 4
    · rw [if_pos h4] at hcl
      by_cases hb : (nI m >>> (nI s &&& 31)) &&& nI 1 = nI 1
      · rw [if_pos hb] at hcl
        rw [rdl_er h0 (by decide) hcl] at hf; cases hf
      rw [if_neg hb] at hcl
      rw [if_neg (fun h => hb ((hon s h4).mpr h.2))]
      by_cases hl : c = 24
      · rw [if_pos hl] at hcl
        rw [rdl_er h0 (by decide) hcl] at hf; cases hf
      rw [if_neg hl] at hcl
      rw [if_neg (fun h => hl (hc.symm.trans h)), if_pos h4]
      unfold clr at hcl
      by_cases h1 : (psd tp t s (lxQ tp t p)).1 = 0
      · rw [if_pos h1] at hcl
        rw [if_pos h1]
        by_cases h2 : lxT tp t (psd tp t s (lxQ tp t p)).2.2.1 = 59
        · rw [if_pos h2] at hcl
          obtain ⟨e1, e2, e3⟩ := on_up hm h4
          rw [rdl_go h0 hcl, e1] at hf ⊢
          rw [if_pos h2]
          obtain ⟨k1, k2, k3, k4⟩ := psd_ok (c := n) hg.2 ht (by omega) h1
          have hg2 := lxQ_g (tp := tp) (t := t) (p := (psd tp t s (lxQ tp t p)).2.2.1) (by rw [h2]; decide) k3
          obtain ⟨c1, c2⟩ := sumM_C (M := M) (tx := tx) (c := c) (n := n) (s := s) (L := (psd tp t s (lxQ tp t p)).2.1) (by omega) h4
          have hfr := @sumM_fr M tx c n s (psd tp t s (lxQ tp t p)).2.1 (by omega)
          obtain ⟨r1, r2, r3, r4⟩ := rdl_text ht f (c + 1) _ (n + (psd tp t s (lxQ tp t p)).2.1.length) _ (sumM M tx c n s (psd tp t s (lxQ tp t p)).2.1) (cs ++ [(s, (psd tp t s (lxQ tp t p)).2.1, 0, 0)]) (by rw [List.length_append, hc]; rfl) (by omega) e2 (fun s2 h9 => by rw [e3 s2 h9, fnd_app, hon s2 h9]) hg2.2 (by omega) c2
            (kC2_app hC (Nat.le_add_right _ _) (by omega) (fun j a b => hfr (Or.inr (by omega))) (by rw [hc]; exact c1)) hf
          refine ⟨r1, r2, r3, fun k j hk => (r4 k j hk).trans (hfr ?_)⟩
          rcases hk with hk | hk | hk
          · exact Or.inl hk
          · exact Or.inr (by omega)
          · exact Or.inr (by omega)
        · rw [if_neg h2] at hcl
          rw [rdl_er h0 (by decide) hcl] at hf; cases hf
      · rw [if_neg h1] at hcl
        rw [rdl_er h0 h1 hcl] at hf; exact absurd hf h1
    · rw [if_neg h4] at hcl
      rw [if_neg (fun h => h4 h.1)]
      by_cases hl : c = 24
      · rw [if_pos hl] at hcl
        rw [rdl_er h0 (by decide) hcl] at hf; cases hf
      rw [if_neg hl] at hcl
      rw [if_neg (fun h => hl (hc.symm.trans h)), if_neg h4]
      unfold clt at hcl
      obtain ⟨l1, l2⟩ := lin_lnc (tp := tp) (t := t) (s := s) (k := 680 * tx + 1 + 3 * c) (p := lxQ tp t p) (M := up2 M 2 (680 * tx + 1 + 3 * c) (nI s))
      rw [l1, l2] at hcl
      by_cases h1 : (lnc tp t s (lxQ tp t p)).1 = 0
      · rw [if_pos h1] at hcl
        rw [if_pos h1]
        by_cases h2 : lxT tp t (lnc tp t s (lxQ tp t p)).2.2.2 = 59
        · rw [if_pos h2] at hcl
          rw [rdl_go h0 hcl] at hf ⊢
          rw [if_pos h2]
          obtain ⟨k2, k3⟩ := lnc_le hg.2 h1
          have hg2 := lxQ_g (tp := tp) (t := t) (p := (lnc tp t s (lxQ tp t p)).2.2.2) (by rw [h2]; decide) k3
          obtain ⟨m1, m2, m3⟩ := lin_M (k := 680 * tx + 1 + 3 * c) (M := up2 M 2 (680 * tx + 1 + 3 * c) (nI s)) (by omega : 4 ≤ s) hs7 h1
          have hfr : ∀ k j, (k ≠ 2 ∨ (j ≠ 680 * tx ∧ (j < 680 * tx + 1 + 3 * c ∨ 680 * tx + 3 + 3 * c < j))) → (up2 (lin tp t s (680 * tx + 1 + 3 * c) (lxQ tp t p) (up2 M 2 (680 * tx + 1 + 3 * c) (nI s))).2.1 2 (680 * tx) (nI (c + 1))) k j = M k j := fun k j h => by
            rw [up2_ne (by omega), m3 k j (by omega), up2_ne (by omega)]
          obtain ⟨r1, r2, r3, r4⟩ := rdl_text ht f (c + 1) _ n m _ (cs ++ [(s, [], (lnc tp t s (lxQ tp t p)).2.1, (lnc tp t s (lxQ tp t p)).2.2.1)]) (by rw [List.length_append, hc]; rfl) (by omega) hm (fun s2 h9 => by
              rw [hon s2 h9, fnd_app]
              exact ⟨Or.inl, fun h => h.elim id (fun h => absurd (show s = s2 from h) (by omega))⟩) hg2.2 (by omega) up2_at
            (kC2_app hC (Nat.le_refl _) (by omega) (fun j a b => hfr 2 j (Or.inr (by omega))) (by
              rw [hc]
              refine ⟨hs7, ?_, fun h => absurd h (by dsimp only; omega), fun _ => ⟨?_, fun e => ?_⟩⟩
              · rw [up2_ne (by omega), m3 _ _ (by omega)]; exact up2_at
              · rw [up2_ne (by omega)]; exact m1
              · rw [up2_ne (by omega)]; exact m2 e)) hf
          refine ⟨r1, r2, r3, fun k j hk => (r4 k j hk).trans (hfr k j ?_)⟩
          rcases hk with hk | hk | hk
          · exact Or.inl hk
          · exact Or.inr (by omega)
          · exact Or.inr (by omega)
        · rw [if_neg h2] at hcl
          rw [rdl_er h0 (by decide) hcl] at hf; cases hf
      · rw [if_neg h1] at hcl
        rw [rdl_er h0 h1 hcl] at hf; exact absurd hf h1
/-- what text() of the twin does, by rdc -/
theorem rdt_rdc {tp : Nat → Nat} {t tx : Nat} {M : Nat → Nat → Int32} : (rdt tp t (680 * tx) M).1 = (rdc tp t (t + 1) 0 []).1 ∧ (rdt tp t (680 * tx) M).2.2 = (rdc tp t (t + 1) 0 []).2.2 :=
  rdl_rdc (t + 1) 0 0 0 0 _ [] rfl (by decide) (fun s hs => ⟨fun h => absurd h (by have : s = 0 ∨ s = 1 ∨ s = 2 ∨ s = 3 := (by omega); rcases this with rfl | rfl | rfl | rfl <;> decide), fun h => absurd rfl h⟩)
theorem rdt_text {tp : Nat → Nat} {t tx : Nat} {M : Nat → Nat → Int32} (ht : t ≤ 300) (h : (rdc tp t (t + 1) 0 []).1 = 0) : rdT M (rdt tp t (680 * tx) M).2.1 tx t (rdc tp t (t + 1) 0 []).2.1 := by
  obtain ⟨r1, r2, r3, r4⟩ := rdl_text ht (t + 1) 0 0 0 0 (up2 M 2 (680 * tx) (nI 0)) [] rfl (by decide) (by decide) (fun s hs => ⟨fun h => absurd h (by have : s = 0 ∨ s = 1 ∨ s = 2 ∨ s = 3 := (by omega); rcases this with rfl | rfl | rfl | rfl <;> decide), fun h => absurd rfl h⟩) (Nat.zero_le _) (Nat.le_refl _) up2_at (fun i d h => by cases h) ((rdt_rdc (M := M) (tx := tx)).1.trans h)
  exact ⟨r1, r2, r3, fun k j hk => (r4 k j hk).trans (up2_ne (by omega))⟩
theorem rdT.text {M M1 : Nat → Nat → Int32} {tx t : Nat} {cs : List kC} (h : rdT M M1 tx t cs) (ht : t ≤ 300) (hg : ∀ c ∈ cs, c.1 < 4 → kGood c.2.1 ∧ kNm c.1 c.2.1) : kText M1 tx cs := by
  obtain ⟨h1, h2, ⟨n, hn, h3⟩, -⟩ := h
  exact ⟨h1, h2, kC2.text (n := n) (by omega) cs 0 (fun i c e => by rw [Nat.zero_add]; exact h3 i c e) hg⟩
