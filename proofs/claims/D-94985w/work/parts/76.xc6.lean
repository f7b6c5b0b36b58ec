abbrev Cd : Type := List (Nat × Int32)
theorem va_P1 {D : va_G} {cl : List vw_C} {q : Nat × va_E} {H : Heap} (h : va_at D cl q H) : va_P D cl [q] H := by
  intro k x hx
  cases k with
  | zero => cases hx; exact h
  | succ k => simp at hx
/-- a list of n references on the heap -/
def aLst (G : gG) (O : Nat → Prop) (H : Heap) (r n : Nat) (xs : Nat → Nat) : Prop := ∃ (mc : Int32) (arr cap : Nat) (f : Nat → Option Nat), O r ∧ n ≤ cap ∧ cap < 2 ^ 30 ∧ va_at (gD G) g_cl (r, .inr (15, [.int mc, .ref arr, .int (nI n)])) H ∧ (0 < n → O arr ∧ va_at (gD G) g_cl (arr, .inl (G.2.2 8, cap, .inr (.inr (.inr (.inr f))))) H) ∧ ∀ i, i < n → f i = some (xs i)
/-- an Integer (a made one, or one of the cache) -/
def aI (G : gG) (H : Heap) (r : Nat) (v : Int32) : Prop := ∃ cell : Cell, H[r]? = some cell ∧ cell.cls = G.1 16 ∧ cell.vm.isStatics = false ∧ cell.vm ≠ .unknown ∧ cell.slots[G.2.1 16 0]? = some (.int v)
theorem aI.kept {G : gG} {H H1 : Heap} {r : Nat} {v : Int32} (h : aI G H r v) (h1 : H1[r]? = H[r]?) : aI G H1 r v := by
  obtain ⟨cell, q, e⟩ := h
  exact ⟨cell, h1.trans q, e⟩
theorem aI.recv {G : gG} {H : Heap} {r : Nat} {v : Int32} {s : State} (hK : KK G s) (h : aI G H r v) : ∃ cellB : Cell, H[r]? = some cellB ∧ cellB.vm.isStatics = false ∧ s.vm.findClass RJ15 = some cellB.cls := by
  obtain ⟨cell, q1, q2, q3, -⟩ := h
  exact ⟨cell, q1, q3, by rw [q2]; exact ((hK.1.1 16 _ rfl).2).1⟩
def sgc (o : Nat) : Int32 := if o = 3 then nI 43 else if o = 4 then nI 45 else if o = 5 then nI 42 else nI 47
def cmc (o : Nat) : Int32 := if o = 10 then nI 60 else if o = 11 then nI 303 else if o = 12 then nI 62 else if o = 13 then nI 304 else if o = 14 then nI 61 else nI 35
def dPlain (G : gG) (H : Heap) (r : Nat) (L : Cd) : Prop := ∃ v, va_at (gD G) g_cl (r, .inr (8, [.int v])) H ∧ L = [(0, v)]
def dName (G : gG) (H : Heap) (r : Nat) (L : Cd) : Prop := ∃ w, w < 11 ∧ va_at (gD G) g_cl (r, .inr (9, [.int (nI w)])) H ∧ L = [(1, nI w)]
def dMinus (G : gG) (H : Heap) (S : Bool → Nat → Cd → Prop) (r : Nat) (L : Cd) : Prop := ∃ x L1, va_at (gD G) g_cl (r, .inr (14, [.ref x])) H ∧ S true x L1 ∧ L = L1 ++ [(2, nI 0)]
def dChain (G : gG) (O : Nat → Prop) (H : Heap) (S : Bool → Nat → Cd → Prop) (r : Nat) (L : Cd) : Prop := ∃ (x lm lsg m : Nat) (L0 : Cd) (xs ss : Nat → Nat) (Ls : Nat → Cd) (os : Nat → Nat), va_at (gD G) g_cl (r, .inr (7, [.ref x, .ref lm, .ref lsg])) H ∧ S true x L0 ∧ 0 < m ∧ m < 2 ^ 20 ∧ aLst G O H lm m xs ∧ aLst G O H lsg m ss ∧ (∀ i, i < m → S true (xs i) (Ls i) ∧ (3 ≤ os i ∧ os i ≤ 6) ∧ O (ss i) ∧ aI G H (ss i) (sgc (os i))) ∧ L = L0 ++ tlS Ls os m
def dIf (G : gG) (H : Heap) (S : Bool → Nat → Cd → Prop) (r : Nat) (L : Cd) : Prop := ∃ (w y z : Nat) (L0 L1 L2 : Cd), va_at (gD G) g_cl (r, .inr (13, [.ref w, .ref y, .ref z])) H ∧ S false w L0 ∧ S true y L1 ∧ S true z L2 ∧ L = L0 ++ (L1 ++ (L2 ++ [(23, nI 0)]))
def dComp (G : gG) (H : Heap) (S : Bool → Nat → Cd → Prop) (r : Nat) (L : Cd) : Prop := ∃ (o x y : Nat) (L1 L2 : Cd), (10 ≤ o ∧ o ≤ 15) ∧ va_at (gD G) g_cl (r, .inr (11, [.int (cmc o), .ref x, .ref y])) H ∧ S true x L1 ∧ S true y L2 ∧ L = L1 ++ (L2 ++ [(o, nI 0)])
def dNot (G : gG) (H : Heap) (S : Bool → Nat → Cd → Prop) (r : Nat) (L : Cd) : Prop := ∃ x L1, va_at (gD G) g_cl (r, .inr (10, [.ref x])) H ∧ S false x L1 ∧ L = L1 ++ [(20, nI 0)]
def dAll (G : gG) (O : Nat → Prop) (H : Heap) (S : Bool → Nat → Cd → Prop) (r : Nat) (L : Cd) : Prop := ∃ (g lx m : Nat) (xs : Nat → Nat) (Ls : Nat → Cd), g < 2 ∧ va_at (gD G) g_cl (r, .inr (12, [.int (nI g), .ref lx])) H ∧ m < 2 ^ 20 ∧ aLst G O H lx (m + 1) xs ∧ (∀ i, i < m + 1 → S false (xs i) (Ls i)) ∧ L = tlB Ls (22 - g) (m + 1)
/-- at r lies an expression of depth n at the most whose code is L (true: a sum) -/
def aS (G : gG) (O : Nat → Prop) (H : Heap) : Nat → Bool → Nat → Cd → Prop
  | 0, _, _, _ => False
  | n + 1, true, r, L => O r ∧ (dPlain G H r L ∨ dName G H r L ∨ dMinus G H (fun b x l => aS G O H n b x l) r L ∨ dChain G O H (fun b x l => aS G O H n b x l) r L ∨ dIf G H (fun b x l => aS G O H n b x l) r L)
  | n + 1, false, r, L => O r ∧ (dComp G H (fun b x l => aS G O H n b x l) r L ∨ dNot G H (fun b x l => aS G O H n b x l) r L ∨ dAll G O H (fun b x l => aS G O H n b x l) r L)
theorem aS_val {G : gG} {O : Nat → Prop} {H : Heap} (nm : Nat → Int32) : ∀ (n r : Nat) (L : Cd), (aS G O H n true r L → ∃ v, ev nm L v ∧ vb v) ∧ (aS G O H n false r L → ∃ b, eb nm L b)
  | 0, r, L => ⟨fun h => h.elim, fun h => h.elim⟩
  | n + 1, r, L => by
    constructor
    · rintro ⟨-, ⟨v, -, rfl⟩ | ⟨w, hw, -, rfl⟩ | ⟨x, L1, -, h1, rfl⟩ | ⟨x, lm, lsg, m, L0, xs, ss, Ls, os, -, h0, -, -, -, -, h1, rfl⟩ | ⟨w, y, z, L0, L1, L2, -, h0, h1, h2, rfl⟩⟩
      · exact ⟨_, ev_plain, vb_i v⟩
      · exact ⟨_, ev_name hw, vb_i _⟩
      · obtain ⟨v, hv, hb⟩ := (aS_val nm n x L1).1 h1
        exact ⟨_, ev_minus hv, vb_neg hb⟩
      · have : ∀ k, k ≤ m → ∃ v, ev nm (L0 ++ tlS Ls os k) v ∧ vb v := by
          intro k
          induction k with
          | zero =>
            intro _
            obtain ⟨v, hv, hb⟩ := (aS_val nm n x L0).1 h0
            exact ⟨v, by show ev nm (L0 ++ []) v; rw [List.append_nil]; exact hv, hb⟩
          | succ k ih =>
            intro hk
            obtain ⟨a, ha, -⟩ := ih (by omega)
            obtain ⟨b, hb, -⟩ := (aS_val nm n (xs k) (Ls k)).1 (h1 k (by omega)).1
            exact ⟨_, ev_tl ha hb (h1 k (by omega)).2.1, vb_two⟩
        exact this m (Nat.le_refl m)
      · obtain ⟨c, hc⟩ := (aS_val nm n w L0).2 h0
        obtain ⟨a, ha, va⟩ := (aS_val nm n y L1).1 h1
        obtain ⟨b, hb, vb'⟩ := (aS_val nm n z L2).1 h2
        refine ⟨_, ev_if hc ha hb, ?_⟩
        cases c
        · exact vb'
        · exact va
    · rintro ⟨-, ⟨o, x, y, L1, L2, ho, -, h1, h2, rfl⟩ | ⟨x, L1, -, h1, rfl⟩ | ⟨g, lx, m, xs, Ls, hg, -, -, -, h1, rfl⟩⟩
      · obtain ⟨a, ha, -⟩ := (aS_val nm n x L1).1 h1
        obtain ⟨b, hb, -⟩ := (aS_val nm n y L2).1 h2
        exact ⟨_, eb_ask ho ha hb⟩
      · obtain ⟨b, hb⟩ := (aS_val nm n x L1).2 h1
        exact ⟨_, eb_not hb⟩
      · have hb : ∀ i, i < m + 1 → eb nm (Ls i) (bVal nm (Ls i)) := fun i hi => by
          obtain ⟨b, hb⟩ := (aS_val nm n (xs i) (Ls i)).2 (h1 i hi)
          rw [bVal_eb hb]
          exact hb
        obtain rfl | rfl : g = 0 ∨ g = 1 := by omega
        · exact ⟨_, eb_tlO m hb⟩
        · exact ⟨_, eb_tlA m hb⟩
/-- the expression lies there still -/
theorem aLst.kept {G : gG} {O O' : Nat → Prop} {H H1 : Heap} {r n : Nat} {xs : Nat → Nat} (hO : ∀ q, O q → H1[q]? = H[q]?) (hO2 : ∀ q, O q → O' q) (h : aLst G O H r n xs) : aLst G O' H1 r n xs := by
  obtain ⟨mc, arr, cap, f, o1, h1, h2, h3, h4, h5⟩ := h
  exact ⟨mc, arr, cap, f, hO2 _ o1, h1, h2, va_at.kept h3 (hO _ o1), fun q => ⟨hO2 _ (h4 q).1, va_at.kept (h4 q).2 (hO _ (h4 q).1)⟩, h5⟩
theorem aS.kept {G : gG} {O O' : Nat → Prop} {H H1 : Heap} (hO : ∀ q, O q → H1[q]? = H[q]?) (hO2 : ∀ q, O q → O' q) : ∀ (n : Nat) (b : Bool) (r : Nat) (L : Cd), aS G O H n b r L → aS G O' H1 n b r L
  | 0, _, _, _, h => h
  | n + 1, true, r, L, h => by
    obtain ⟨o, h⟩ := h
    refine ⟨hO2 _ o, ?_⟩
    rcases h with ⟨v, h1, e⟩ | ⟨w, hw, h1, e⟩ | ⟨x, L1, h1, h2, e⟩ | ⟨x, lm, lsg, m, L0, xs, ss, Ls, os, h0, h1, h2, h3, h4, h5, h6, e⟩ | ⟨w, y, z, L0, L1, L2, h0, h1, h2, h3, e⟩
    · exact Or.inl ⟨v, va_at.kept h1 (hO _ o), e⟩
    · exact Or.inr (Or.inl ⟨w, hw, va_at.kept h1 (hO _ o), e⟩)
    · exact Or.inr (Or.inr (Or.inl ⟨x, L1, va_at.kept h1 (hO _ o), aS.kept hO hO2 n _ _ _ h2, e⟩))
    · exact Or.inr (Or.inr (Or.inr (Or.inl ⟨x, lm, lsg, m, L0, xs, ss, Ls, os, va_at.kept h0 (hO _ o), aS.kept hO hO2 n _ _ _ h1, h2, h3, h4.kept hO hO2, h5.kept hO hO2, fun i hi => ⟨aS.kept hO hO2 n _ _ _ (h6 i hi).1, (h6 i hi).2.1, hO2 _ (h6 i hi).2.2.1, (h6 i hi).2.2.2.kept (hO _ (h6 i hi).2.2.1)⟩, e⟩)))
    · exact Or.inr (Or.inr (Or.inr (Or.inr ⟨w, y, z, L0, L1, L2, va_at.kept h0 (hO _ o), aS.kept hO hO2 n _ _ _ h1, aS.kept hO hO2 n _ _ _ h2, aS.kept hO hO2 n _ _ _ h3, e⟩)))
  | n + 1, false, r, L, h => by
    obtain ⟨o, h⟩ := h
    refine ⟨hO2 _ o, ?_⟩
    rcases h with ⟨o1, x, y, L1, L2, ho, h0, h1, h2, e⟩ | ⟨x, L1, h0, h1, e⟩ | ⟨g, lx, m, xs, Ls, hg, h0, h1, h2, h3, e⟩
    · exact Or.inl ⟨o1, x, y, L1, L2, ho, va_at.kept h0 (hO _ o), aS.kept hO hO2 n _ _ _ h1, aS.kept hO hO2 n _ _ _ h2, e⟩
    · exact Or.inr (Or.inl ⟨x, L1, va_at.kept h0 (hO _ o), aS.kept hO hO2 n _ _ _ h1, e⟩)
    · exact Or.inr (Or.inr ⟨g, lx, m, xs, Ls, hg, va_at.kept h0 (hO _ o), h1, h2.kept hO hO2, fun i hi => aS.kept hO hO2 n _ _ _ (h3 i hi), e⟩)
theorem aS.up {G : gG} {O : Nat → Prop} {H : Heap} : ∀ (n : Nat) (b : Bool) (r : Nat) (L : Cd), aS G O H n b r L → aS G O H (n + 1) b r L
  | 0, _, _, _, h => h.elim
  | n + 1, true, r, L, h => by
    obtain ⟨o, h⟩ := h
    refine ⟨o, ?_⟩
    rcases h with h | h | ⟨x, L1, h1, h2, e⟩ | ⟨x, lm, lsg, m, L0, xs, ss, Ls, os, h0, h1, h2, h3, h4, h5, h6, e⟩ | ⟨w, y, z, L0, L1, L2, h0, h1, h2, h3, e⟩
    · exact Or.inl h
    · exact Or.inr (Or.inl h)
    · exact Or.inr (Or.inr (Or.inl ⟨x, L1, h1, aS.up n _ _ _ h2, e⟩))
    · exact Or.inr (Or.inr (Or.inr (Or.inl ⟨x, lm, lsg, m, L0, xs, ss, Ls, os, h0, aS.up n _ _ _ h1, h2, h3, h4, h5, fun i hi => ⟨aS.up n _ _ _ (h6 i hi).1, (h6 i hi).2⟩, e⟩)))
    · exact Or.inr (Or.inr (Or.inr (Or.inr ⟨w, y, z, L0, L1, L2, h0, aS.up n _ _ _ h1, aS.up n _ _ _ h2, aS.up n _ _ _ h3, e⟩)))
  | n + 1, false, r, L, h => by
    obtain ⟨o, h⟩ := h
    refine ⟨o, ?_⟩
    rcases h with ⟨o1, x, y, L1, L2, ho, h0, h1, h2, e⟩ | ⟨x, L1, h0, h1, e⟩ | ⟨g, lx, m, xs, Ls, hg, h0, h1, h2, h3, e⟩
    · exact Or.inl ⟨o1, x, y, L1, L2, ho, h0, aS.up n _ _ _ h1, aS.up n _ _ _ h2, e⟩
    · exact Or.inr (Or.inl ⟨x, L1, h0, aS.up n _ _ _ h1, e⟩)
    · exact Or.inr (Or.inr ⟨g, lx, m, xs, Ls, hg, h0, h1, h2, fun i hi => aS.up n _ _ _ (h3 i hi), e⟩)
theorem aS.le {G : gG} {O : Nat → Prop} {H : Heap} {n k : Nat} (h : n ≤ k) {b : Bool} {r : Nat} {L : Cd} (ha : aS G O H n b r L) : aS G O H k b r L := by
  induction k with
  | zero => rw [Nat.le_zero.mp h] at ha; exact ha
  | succ k ih =>
    by_cases e : n = k + 1
    · subst e; exact ha
    · exact aS.up _ _ _ _ (ih (by omega))
theorem if_pif {α : Type} {c : Prop} [h : Decidable c] {a b : α} : (if c then a else b) = pif c a b := by
  by_cases q : c
  · rw [if_pos q, pif_t q]
  · rw [if_neg q, pif_f q]
section AR
variable {p : Program} {l : Launch} {e : Env} {R : Room} {s : State} {m : MethodId} {args : Array Value} {below : List Frame} {meth : Method} {c : Code} {H : Heap} {locs : List Loc} {cells slots : Nat} {Q : State → Prop}
variable {cc : ByteArray} {pc : Nat} {ls : Array Slot} {rest st0 : List Value} {G : gG} {a : Array Value}
theorem a_recv (hK : KK G s) {r ci : Nat} {fs : List Value} {q : vw_C} (h : va_at (gD G) g_cl (r, .inr (ci, fs)) H) (hc : g_cl[ci]? = some q) : ∃ cellB : Cell, H[r]? = some cellB ∧ cellB.vm.isStatics = false ∧ s.vm.findClass q.1 = some cellB.cls := va_recv (q0 := 0) hK.1 (va_P1 h) hc rfl
theorem a_get (hx : p.tables.exec = Jvm.exec) (hb : c.code = cc) (hts : ∀ w ∈ lw_all, w.before args s = true) {own ref C : String} {T : u_T} {N ci index r : Nat} {fs : List Value} (hin : ∀ w ∈ u_ws C T N, w ∈ lw_all) (hown : s.vm.findClass own = some m.cls) (hK : KK G s) (hat : va_at (gD G) g_cl (r, .inr (ci, fs)) H) (hc : g_cl[ci]? = some (C, T, N)) (k : Nat) (hk : k < N) (hlink : (Cond.fieldLink own index ref (T k).2.1 (T k).2.2.1).before args s = true) (hsame : ∀ x, s.fieldFound? (T k).1 (T k).2.1 (T k).2.2.1 = some x → s.fieldFound? ref (T k).2.1 (T k).2.2.1 = some x) {v : Value} (hv : fs[k]? = some v) (hdg : decode cc pc = .ok (.getfield index, 3)) (kk : W p l e R s m args below meth c H locs cells slots Q (F0 m (pc + 3) ls (v :: rest))) : W p l e R s m args below meth c H locs cells slots Q (F0 m pc ls (.ref r :: rest)) :=
  va_get (D := gD G) hx hb hts hin hown hK.1 (va_P1 hat) 0 rfl hc k hk hlink hsame hv hdg kk
theorem a_getI (hx : p.tables.exec = Jvm.exec) (hb : c.code = cc) (hts : ∀ w ∈ lw_all, w.before args s = true) {own ref : String} {index r : Nat} {v : Int32} (hown : s.vm.findClass own = some m.cls) (hK : KK G s) (hI : aI G H r v) (hlink : (Cond.fieldLink own index ref "value" "I").before args s = true) (hsame : ∀ x, s.fieldFound? "java/lang/Integer" "value" "I" = some x → s.fieldFound? ref "value" "I" = some x) (hdg : decode cc pc = .ok (.getfield index, 3)) (kk : W p l e R s m args below meth c H locs cells slots Q (F0 m (pc + 3) ls (.int v :: rest))) : W p l e R s m args below meth c H locs cells slots Q (F0 m pc ls (.ref r :: rest)) := by
  obtain ⟨cell, q1, q2, q3, q4, q5⟩ := hI
  obtain ⟨hS, hfc, kC, hkC, hkind⟩ := hK.1.1 16 _ rfl
  obtain ⟨cf, kf, fi, f, hi, hsl⟩ := hS 0 (by decide)
  refine W.getf hx hb hown hlink (hsame _ hi) (u_facts hfc hkC (u_lays hts in_J15 (show 0 < 1 by decide)) hi).1 q1 q4 (v := .int v) ?_ rfl rfl hdg kk
  rw [hsl]
  exact q5
theorem a_iald (hx : p.tables.exec = Jvm.exec) (hb : c.code = cc) (hK : KK G s) {r n j : Nat} {f : Nat → Int32} (hat : va_at (gD G) g_cl (r, .inl (G.2.2 0, n, .inl f)) H) (hn : n < 2 ^ 31) (hj : j < n) (hdg : decode cc pc = .ok (.iaload, 1)) (kk : W p l e R s m args below meth c H locs cells slots Q (F0 m (pc + 1) ls (.int (f j) :: rest))) : W p l e R s m args below meth c H locs cells slots Q (F0 m pc ls (.int (nI j) :: .ref r :: rest)) := by
  refine va_iald (D := gD G) (i := nI j) (f := f) hx hb hK.1 (va_P1 hat) 0 0 rfl rfl (vp_in_nI hj hn) hdg ?_
  rw [nI_clamp (show j < 2 ^ 31 by omega)]
  exact kk
theorem a_aald (hx : p.tables.exec = Jvm.exec) (hb : c.code = cc) (hK : KK G s) {r n j t : Nat} {C : String} {f : Nat → Option Nat} {v : Value} (hat : va_at (gD G) g_cl (r, .inl (G.2.2 t, n, .inr (.inr (.inr (.inr f))))) H) (ht : (g_ty G.2.2)[t]? = some (G.2.2 t, .object C)) (hn : n < 2 ^ 31) (hj : j < n) (hv : va_rf (f j) = v) (hdg : decode cc pc = .ok (.aaload, 1)) (kk : W p l e R s m args below meth c H locs cells slots Q (F0 m (pc + 1) ls (v :: rest))) : W p l e R s m args below meth c H locs cells slots Q (F0 m pc ls (.int (nI j) :: .ref r :: rest)) := by
  refine va_aldq (D := gD G) (i := nI j) (f := f) hx hb hK.1 (va_P1 hat) 0 t rfl ht (vp_in_nI hj hn) hdg ?_
  rw [nI_clamp (show j < 2 ^ 31 by omega), hv]
  exact kk
theorem c_mmin (hx : p.tables.exec = Jvm.exec) (hb : c.code = cc) (hml : c.maxLocals = ls.size) {own : String} {index : Nat} (hown : s.vm.findClass own = some m.cls) (hlink : (Cond.methodLink own index Lib.Math.min.name).before args s = true) (hstat : (Cond.static Lib.Math.min.name).before args s = true) (hini : (Cond.initialized "java/lang/Math").before args s = true) (hcode : (Cond.code Lib.Math.min.name Lib.Math.min.code 2 (some .int)).before args s = true) (hfr : 1 ≤ R.frames) (hlo : (rest.map fun v => v.category).sum + 13 ≤ R.locals) (hc : cells ≤ R.cells) (hs : slots ≤ R.slots) {x y : Int32} (hdg : decode cc pc = .ok (.invokestatic index, 3)) (kk : W p l e R s m args below meth c H locs cells slots Q (F0 m (pc + 3) ls (.int (pif (y < x) y x) :: rest))) : W p l e R s m args below meth c H locs cells slots Q (F0 m pc ls (.int y :: .int x :: rest)) :=
  va_mmin hx hb hml hown hlink hstat hini hcode hfr hlo hc hs hdg (by rw [if_pif]; exact kk)
theorem c_mmax (hx : p.tables.exec = Jvm.exec) (hb : c.code = cc) (hml : c.maxLocals = ls.size) {own : String} {index : Nat} (hown : s.vm.findClass own = some m.cls) (hlink : (Cond.methodLink own index Lib.Math.max.name).before args s = true) (hstat : (Cond.static Lib.Math.max.name).before args s = true) (hini : (Cond.initialized "java/lang/Math").before args s = true) (hcode : (Cond.code Lib.Math.max.name Lib.Math.max.code 2 (some .int)).before args s = true) (hfr : 1 ≤ R.frames) (hlo : (rest.map fun v => v.category).sum + 13 ≤ R.locals) (hc : cells ≤ R.cells) (hs : slots ≤ R.slots) {x y : Int32} (hdg : decode cc pc = .ok (.invokestatic index, 3)) (kk : W p l e R s m args below meth c H locs cells slots Q (F0 m (pc + 3) ls (.int (pif (x < y) y x) :: rest))) : W p l e R s m args below meth c H locs cells slots Q (F0 m pc ls (.int y :: .int x :: rest)) :=
  va_mmax hx hb hml hown hlink hstat hini hcode hfr hlo hc hs hdg (by rw [if_pif]; exact kk)
theorem c_mmin_2 (hx : p.tables.exec = Jvm.exec) (hb : c.code = cc) (hml : c.maxLocals = ls.size) {own : String} {index : Nat} (hown : s.vm.findClass own = some m.cls) (hlink : (Cond.methodLink own index Lib.MathLoose.min_long.x).before args s = true) (hstat : (Cond.static Lib.MathLoose.min_long.x).before args s = true) (hini : (Cond.initialized "java/lang/Math").before args s = true) (hcode : (Cond.code Lib.MathLoose.min_long.x Lib.MathLoose.min_long.code 4 (some .long)).before args s = true) (hfr : 1 ≤ R.frames) (hlo : (rest.map fun v => v.category).sum + 15 ≤ R.locals) (hc : cells ≤ R.cells) (hs : slots ≤ R.slots) {x y : Int64} (hdg : decode cc pc = .ok (.invokestatic index, 3)) (kk : W p l e R s m args below meth c H locs cells slots Q (F0 m (pc + 3) ls (.long (pif (y < x) y x) :: rest))) : W p l e R s m args below meth c H locs cells slots Q (F0 m pc ls (.long y :: .long x :: rest)) :=
  va_mmin_long hx hb hml hown hlink hstat hini hcode hfr hlo hc hs hdg (by rw [if_pif]; exact kk)
theorem c_mmax_2 (hx : p.tables.exec = Jvm.exec) (hb : c.code = cc) (hml : c.maxLocals = ls.size) {own : String} {index : Nat} (hown : s.vm.findClass own = some m.cls) (hlink : (Cond.methodLink own index Lib.MathLoose.max_long.x).before args s = true) (hstat : (Cond.static Lib.MathLoose.max_long.x).before args s = true) (hini : (Cond.initialized "java/lang/Math").before args s = true) (hcode : (Cond.code Lib.MathLoose.max_long.x Lib.MathLoose.max_long.code 4 (some .long)).before args s = true) (hfr : 1 ≤ R.frames) (hlo : (rest.map fun v => v.category).sum + 15 ≤ R.locals) (hc : cells ≤ R.cells) (hs : slots ≤ R.slots) {x y : Int64} (hdg : decode cc pc = .ok (.invokestatic index, 3)) (kk : W p l e R s m args below meth c H locs cells slots Q (F0 m (pc + 3) ls (.long (pif (y < x) x y) :: rest))) : W p l e R s m args below meth c H locs cells slots Q (F0 m pc ls (.long y :: .long x :: rest)) :=
  va_mmax_long hx hb hml hown hlink hstat hini hcode hfr hlo hc hs hdg (by rw [if_pif]; exact kk)
theorem c_rref {v v' : Value} (hv : v = v') (hx : p.tables.exec = Jvm.exec) (hb : c.code = cc) {rt : FieldType} (hr : meth.sig.returnType = some rt) (hrt : (∃ n, rt = .object n) ∨ ∃ t, rt = .array t) (hvv : v = .null ∨ ∃ a, v = .ref a) (hlocks : meth.locks = false) (hdg : decode cc pc = .ok (.areturn, 1)) (hH : H = s.heap) (hl : locs = []) : W p l e R s m args below meth c H locs cells slots (MQ below (cR (some v')) args s cells slots (fun _ => False)) (F0 m pc ls [v]) :=
  W.aret hx hb hr hrt hvv (fun t ht _ => ⟨by rw [hv], by rw [ht]; exact hH⟩) (by rw [hl]; intro q hq; cases hq) hdg hlocks
theorem c_read5 {v : Option Value} (hr : va_Run5 p l e R s m args below meth c H locs cells slots 0 0 (F0 m pc ls st0) rest (cR v a) (fun _ => False))
    (kk : W p l e R s m args below meth c H locs cells slots Q (F0 m (pc + 5) ls (v.toList ++ rest))) : W p l e R s m args below meth c H locs cells slots Q (F0 m pc ls st0) := by
  intro T hT X
  obtain ⟨v', st₀, t, T', L, h0, X', hL, e1, e2, ⟨hv, hh⟩, st⟩ := hr T hT X
  cases hv
  obtain ⟨t2, a1, b1⟩ := kk T' (by rw [e1, hh, h0]) (Stand.forget X' (fun q h => (hL q h).elim))
  exact ⟨t2, st t2 a1, b1⟩
end AR
theorem lw_F {own : String} {idx : Nat} {C : String} {x y : MethodName} {b : ByteArray} {L : Nat} {r : Option FieldType} (h1 : Cond.methodLink own idx x ∈ lw_all) (h2 : Cond.selects C x y ∈ lw_all) (h3 : Cond.instanceMethod y ∈ lw_all) (h4 : Cond.initialized y.cls ∈ lw_all) (h5 : Cond.code y b L r ∈ lw_all) : GoodIn lw_all (va_wsF own idx C x y (ws_ y b L r)) := by
  refine lw_app ?_ (lw_meth h5)
  intro w hw
  simp only [List.mem_cons, List.not_mem_nil, or_false] at hw
  rcases hw with e | e | e | e
  · rw [e]; exact h1
  · rw [e]; exact h2
  · rw [e]; exact h3
  · rw [e]; exact h4
set_option maxHeartbeats 4000000 in
set_option maxRecDepth 100000 in
theorem met_J2_size (l : Launch) (G : gG) (O : Nat → Prop) (r n : Nat) (xs : Nat → Nat) : Met l yJ2_size (ws_ yJ2_size cJ2_size 1 (some .int)) ({ frames := 0, cells := 0, slots := 0, locals := 0 } : Room) (cP G [.ref r] (fun H => aLst G O H r n xs)) (cR (some (.int (nI n)))) 0 0 (fun _ => False) := by
  refine c_start (by decide) (Nat.le_of_ble_eq_true rfl) ?_
  intro p e s m below meth c hx hb hr hlocks hml hown hts hB hK ls hl
  obtain ⟨mc, arr, cap, f, -, hn, hcap, h1, h2, h3⟩ := hB
  have hl : lv_has ls 1 [(0, .ref r)] := hl
  refine lv_aload_n hx hb dJ2_size_0 rfl (lv_at hl 0 rfl) ?_
  refine a_get (own := RJ2) (C := RJ2) (T := TJ2) (N := 3) (ci := 15) hx hb hts in_J2 hown hK h1 rfl 2 (by decide) (hts _ q349) (fun _ h9 => h9) rfl dJ2_size_1 ?_
  exact c_rret (v := nI n) rfl hx hb hr rfl hlocks dJ2_size_4 rfl rfl
set_option maxHeartbeats 4000000 in
set_option maxRecDepth 100000 in
theorem met_J2_isEmpty (l : Launch) (G : gG) (O : Nat → Prop) (r n : Nat) (xs : Nat → Nat) : Met l yJ2_isEmpty (ws_ yJ2_isEmpty cJ2_isEmpty 1 (some .boolean)) ({ frames := 0, cells := 0, slots := 0, locals := 0 } : Room) (cP G [.ref r] (fun H => aLst G O H r n xs)) (cR (some (.int (bI (n = 0))))) 0 0 (fun _ => False) := by
  refine c_start (by decide) (Nat.le_of_ble_eq_true rfl) ?_
  intro p e s m below meth c hx hb hr hlocks hml hown hts hB hK ls hl
  obtain ⟨mc, arr, cap, f, -, hn, hcap, h1, h2, h3⟩ := hB
  have hl : lv_has ls 1 [(0, .ref r)] := hl
  refine lv_aload_n hx hb dJ2_isEmpty_0 rfl (lv_at hl 0 rfl) ?_
  refine a_get (own := RJ2) (C := RJ2) (T := TJ2) (N := 3) (ci := 15) hx hb hts in_J2 hown hK h1 rfl 2 (by decide) (hts _ q349) (fun _ h9 => h9) rfl dJ2_isEmpty_1 ?_
  refine n_if_ne (tgt := 11) hx hb dJ2_isEmpty_4 (by decide) (by omega) (fun c_1 => ?_) (fun c_1 => ?_)
  · refine lv_iconst (v := nI 0) hx hb dJ2_isEmpty_11 (by decide) ?_
    exact c_rret (v := nI 0) (by first | exact (bI_t (by assumption)).symm | exact (bI_t (by omega)).symm | exact (bI_f (by omega)).symm) hx hb hr rfl hlocks dJ2_isEmpty_12 rfl rfl
  refine lv_iconst (v := nI 1) hx hb dJ2_isEmpty_7 (by decide) ?_
  refine lv_goto (tgt := 12) hx hb dJ2_isEmpty_8 (by decide) ?_
  exact c_rret (v := nI 1) (by first | exact (bI_t (by assumption)).symm | exact (bI_t (by omega)).symm | exact (bI_f (by omega)).symm) hx hb hr rfl hlocks dJ2_isEmpty_12 rfl rfl
set_option maxHeartbeats 4000000 in
set_option maxRecDepth 100000 in
theorem met_J2_elementData (l : Launch) (G : gG) (O : Nat → Prop) (r n : Nat) (xs : Nat → Nat) (i : Nat) (hi : i < n) : Met l yJ2_elementData (ws_ yJ2_elementData cJ2_elementData 2 (some (Jvm.ClassFile.FieldType.object "java/lang/Object"))) ({ frames := 0, cells := 0, slots := 0, locals := 0 } : Room) (cP G [.ref r, .int (nI i)] (fun H => aLst G O H r n xs)) (cR (some (.ref (xs i)))) 0 0 (fun _ => False) := by
  refine c_start (by decide) (Nat.le_of_ble_eq_true rfl) ?_
  intro p e s m below meth c hx hb hr hlocks hml hown hts hB hK ls hl
  obtain ⟨mc, arr, cap, f, -, hn, hcap, h1, h2, h3⟩ := hB
  have hl : lv_has ls 2 [(0, .ref r), (1, .int (nI i))] := hl
  refine lv_aload_n hx hb dJ2_elementData_0 rfl (lv_at hl 0 rfl) ?_
  refine a_get (own := RJ2) (C := RJ2) (T := TJ2) (N := 3) (ci := 15) hx hb hts in_J2 hown hK h1 rfl 1 (by decide) (hts _ q348) (fun _ h9 => h9) rfl dJ2_elementData_1 ?_
  refine lv_iload_n hx hb dJ2_elementData_4 rfl (lv_at hl 1 rfl) ?_
  refine a_aald (j := i) (t := 8) (v := .ref (xs i)) hx hb hK ((h2 (by omega)).2) rfl (by omega) (by omega) (by rw [h3 _ hi]; rfl) dJ2_elementData_5 ?_
  exact c_rref (v := .ref (xs i)) rfl hx hb hr (Or.inl ⟨_, rfl⟩) (Or.inr ⟨_, rfl⟩) hlocks dJ2_elementData_6 rfl rfl
set_option maxHeartbeats 4000000 in
set_option maxRecDepth 100000 in
theorem met_J5_checkIndex (l : Launch) (G : gG) (i n : Nat) (hi : i < n) (hn : n < 2 ^ 31) : Met l yJ5_checkIndex (ws_ yJ5_checkIndex cJ5_checkIndex 3 (some .int)) ({ frames := 0, cells := 0, slots := 0, locals := 0 } : Room) (cP G [.int (nI i), .int (nI n), .null] (fun _ => True)) (cR (some (.int (nI i)))) 0 0 (fun _ => False) := by
  refine c_start (by decide) (Nat.le_of_ble_eq_true rfl) ?_
  intro p e s m below meth c hx hb hr hlocks hml hown hts hB hK ls hl
  have hl : lv_has ls 3 [(0, .int (nI i)), (1, .int (nI n)), (2, .null)] := hl
  refine lv_iload_n hx hb dJ5_checkIndex_0 rfl (lv_at hl 0 rfl) ?_
  refine n_if_lt (tgt := 9) hx hb dJ5_checkIndex_1 (by decide) (by omega) ?_
  refine lv_iload_n hx hb dJ5_checkIndex_4 rfl (lv_at hl 0 rfl) ?_
  refine lv_iload_n hx hb dJ5_checkIndex_5 rfl (lv_at hl 1 rfl) ?_
  refine n_icmp_lt (tgt := 16) hx hb dJ5_checkIndex_6 (by decide) (by omega) (by omega) (fun c_1 => ?_) (fun c_1 => ?_)
  · refine lv_iload_n hx hb dJ5_checkIndex_16 rfl (lv_at hl 0 rfl) ?_
    exact c_rret (v := nI i) rfl hx hb hr rfl hlocks dJ5_checkIndex_17 rfl rfl
  exfalso; omega
set_option maxHeartbeats 4000000 in
set_option maxRecDepth 100000 in
theorem met_J13_checkIndex (l : Launch) (G : gG) (i n : Nat) (hi : i < n) (hn : n < 2 ^ 31) : Met l yJ13_checkIndex (ws_ yJ13_checkIndex cJ13_checkIndex 2 (some .int)) ({ frames := 1, cells := 0, slots := 0, locals := 22 } : Room) (cP G [.int (nI i), .int (nI n)] (fun _ => True)) (cR (some (.int (nI i)))) 0 0 (fun _ => False) := by
  refine c_start (by decide) (Nat.le_of_ble_eq_true rfl) ?_
  intro p e s m below meth c hx hb hr hlocks hml hown hts hB hK ls hl
  have hl : lv_has ls 2 [(0, .int (nI i)), (1, .int (nI n))] := hl
  refine lv_iload_n hx hb dJ13_checkIndex_0 rfl (lv_at hl 0 rfl) ?_
  refine lv_iload_n hx hb dJ13_checkIndex_1 rfl (lv_at hl 1 rfl) ?_
  refine lv_null hx hb dJ13_checkIndex_2 ?_
  refine c_read (va_runS (As := [.int (nI i), .int (nI n), .null]) (rest := []) ⟨hx, hb, hml, hown, hts⟩ (met_J5_checkIndex l G i n (by omega) (by omega)) (cs_J13_J5_checkIndex hts ⟨Nat.le_of_ble_eq_true rfl, Nat.le_of_ble_eq_true rfl⟩) (cP.pre hK trivial) rfl rfl hl.1 rfl (lv_room (Nat.le_of_ble_eq_true rfl)) dJ13_checkIndex_3 ⟨by first | exact Nat.zero_le _ | omega | decide, by first | exact Nat.zero_le _ | omega | decide⟩) ?_
  exact c_rret (v := nI i) rfl hx hb hr rfl hlocks dJ13_checkIndex_6 rfl rfl
set_option maxHeartbeats 4000000 in
set_option maxRecDepth 100000 in
theorem met_J2_get (l : Launch) (G : gG) (O : Nat → Prop) (r n : Nat) (xs : Nat → Nat) (i : Nat) (hi : i < n) : Met l yJ2_get (ws_ yJ2_get cJ2_get 2 (some (Jvm.ClassFile.FieldType.object "java/lang/Object"))) ({ frames := 2, cells := 0, slots := 0, locals := 43 } : Room) (cP G [.ref r, .int (nI i)] (fun H => aLst G O H r n xs)) (cR (some (.ref (xs i)))) 0 0 (fun _ => False) := by
  refine c_start (by decide) (Nat.le_of_ble_eq_true rfl) ?_
  intro p e s m below meth c hx hb hr hlocks hml hown hts hB hK ls hl
  have hB0 := hB
  obtain ⟨mc, arr, cap, f, -, hn, hcap, h1, h2, h3⟩ := hB
  have hl : lv_has ls 2 [(0, .ref r), (1, .int (nI i))] := hl
  refine lv_iload_n hx hb dJ2_get_0 rfl (lv_at hl 1 rfl) ?_
  refine lv_aload_n hx hb dJ2_get_1 rfl (lv_at hl 0 rfl) ?_
  refine a_get (own := RJ2) (C := RJ2) (T := TJ2) (N := 3) (ci := 15) hx hb hts in_J2 hown hK h1 rfl 2 (by decide) (hts _ q349) (fun _ h9 => h9) rfl dJ2_get_2 ?_
  refine c_read (va_runS (As := [.int (nI i), .int (nI n)]) (rest := []) ⟨hx, hb, hml, hown, hts⟩ (met_J13_checkIndex l G i n (by omega) (by omega)) (cs_J2_J13_checkIndex hts ⟨Nat.le_of_ble_eq_true rfl, Nat.le_of_ble_eq_true rfl⟩) (cP.pre hK trivial) rfl rfl hl.1 rfl (lv_room (Nat.le_of_ble_eq_true rfl)) dJ2_get_5 ⟨by first | exact Nat.zero_le _ | omega | decide, by first | exact Nat.zero_le _ | omega | decide⟩) ?_
  refine lv_pop hx hb dJ2_get_8 rfl ?_
  refine lv_aload_n hx hb dJ2_get_9 rfl (lv_at hl 0 rfl) ?_
  refine lv_iload_n hx hb dJ2_get_10 rfl (lv_at hl 1 rfl) ?_
  refine c_read (va_runV (As := [.int (nI i)]) (rest := []) ⟨hx, hb, hml, hown, hts⟩ (met_J2_elementData l G O r n xs i hi) (cv_J2_J2_elementData hts ⟨Nat.le_of_ble_eq_true rfl, Nat.le_of_ble_eq_true rfl⟩) (cP.preV hK hB0 ((fun h9 => a_recv (ci := 15) h9 h1 rfl) hK)) rfl rfl hl.1 rfl (lv_room (Nat.le_of_ble_eq_true rfl)) dJ2_get_11 ⟨by first | exact Nat.zero_le _ | omega | decide, by first | exact Nat.zero_le _ | omega | decide⟩) ?_
  exact c_rref (v := .ref (xs i)) rfl hx hb hr (Or.inl ⟨_, rfl⟩) (Or.inr ⟨_, rfl⟩) hlocks dJ2_get_14 rfl rfl
set_option maxHeartbeats 4000000 in
set_option maxRecDepth 100000 in
theorem met_J15_intValue (l : Launch) (G : gG) (r : Nat) (v : Int32) : Met l yJ15_intValue (ws_ yJ15_intValue cJ15_intValue 1 (some .int)) ({ frames := 0, cells := 0, slots := 0, locals := 0 } : Room) (cP G [.ref r] (fun H => aI G H r v)) (cR (some (.int v))) 0 0 (fun _ => False) := by
  refine c_start (by decide) (Nat.le_of_ble_eq_true rfl) ?_
  intro p e s m below meth c hx hb hr hlocks hml hown hts hB hK ls hl
  have hl : lv_has ls 1 [(0, .ref r)] := hl
  refine lv_aload_n hx hb dJ15_intValue_0 rfl (lv_at hl 0 rfl) ?_
  refine a_getI hx hb hts hown hK hB (hts _ q784) (fun _ h9 => h9) dJ15_intValue_1 ?_
  exact c_rret (v := v) rfl hx hb hr rfl hlocks dJ15_intValue_4 rfl rfl
