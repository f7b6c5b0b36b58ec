abbrev rmE (n : Nat) : Room := { frames := n + 4, cells := 0, slots := 0, locals := 60 * n + 200 }
/-- the names' array -/
def nmA (G : gG) (H : Heap) (na : Nat) (nm : Nat → Int32) : Prop := va_at (gD G) g_cl (na, .inl (G.2.2 0, 11, .inl nm)) H
/-- what expressions of depth n + 1 answer -/
def evOK (l : Launch) (G : gG) (O : Nat → Prop) (n : Nat) : Prop :=
  (∀ (r na : Nat) (nm : Nat → Int32) (L : Cd) (v : Int64), ev nm L v → Met l yX8_of (ws_ yX8_of cX8_of 2 (some .long)) (rmE n) (cP G [.ref r, .ref na] (fun H => dPlain G H r L ∧ nmA G H na nm)) (cR (some (.long v))) 0 0 (fun _ => False)) ∧
  (∀ (r na : Nat) (nm : Nat → Int32) (L : Cd) (v : Int64), ev nm L v → Met l yX9_of (ws_ yX9_of cX9_of 2 (some .long)) (rmE n) (cP G [.ref r, .ref na] (fun H => dName G H r L ∧ nmA G H na nm)) (cR (some (.long v))) 0 0 (fun _ => False)) ∧
  (∀ (r na : Nat) (nm : Nat → Int32) (L : Cd) (v : Int64), ev nm L v → Met l yX14_of (ws_ yX14_of cX14_of 2 (some .long)) (rmE n) (cP G [.ref r, .ref na] (fun H => dMinus G H (fun b x l => aS G O H n b x l) r L ∧ nmA G H na nm)) (cR (some (.long v))) 0 0 (fun _ => False)) ∧
  (∀ (r na : Nat) (nm : Nat → Int32) (L : Cd) (v : Int64), ev nm L v → Met l yX7_of (ws_ yX7_of cX7_of 10 (some .long)) (rmE n) (cP G [.ref r, .ref na] (fun H => dChain G O H (fun b x l => aS G O H n b x l) r L ∧ nmA G H na nm)) (cR (some (.long v))) 0 0 (fun _ => False)) ∧
  (∀ (r na : Nat) (nm : Nat → Int32) (L : Cd) (v : Int64), ev nm L v → Met l yX13_of (ws_ yX13_of cX13_of 2 (some .long)) (rmE n) (cP G [.ref r, .ref na] (fun H => dIf G H (fun b x l => aS G O H n b x l) r L ∧ nmA G H na nm)) (cR (some (.long v))) 0 0 (fun _ => False)) ∧
  (∀ (r na : Nat) (nm : Nat → Int32) (L : Cd) (v : Bool), eb nm L v → Met l yX11_is (ws_ yX11_is cX11_is 4 (some .boolean)) (rmE n) (cP G [.ref r, .ref na] (fun H => dComp G H (fun b x l => aS G O H n b x l) r L ∧ nmA G H na nm)) (cR (some (.int (bI (v = true))))) 0 0 (fun _ => False)) ∧
  (∀ (r na : Nat) (nm : Nat → Int32) (L : Cd) (v : Bool), eb nm L v → Met l yX10_is (ws_ yX10_is cX10_is 2 (some .boolean)) (rmE n) (cP G [.ref r, .ref na] (fun H => dNot G H (fun b x l => aS G O H n b x l) r L ∧ nmA G H na nm)) (cR (some (.int (bI (v = true))))) 0 0 (fun _ => False)) ∧
  (∀ (r na : Nat) (nm : Nat → Int32) (L : Cd) (v : Bool), eb nm L v → Met l yX12_is (ws_ yX12_is cX12_is 4 (some .boolean)) (rmE n) (cP G [.ref r, .ref na] (fun H => dAll G O H (fun b x l => aS G O H n b x l) r L ∧ nmA G H na nm)) (cR (some (.int (bI (v = true))))) 0 0 (fun _ => False))
/-- what those of depth n answer -/
def chOK (l : Launch) (G : gG) (O : Nat → Prop) (n : Nat) : Prop := ∀ k, n = k + 1 → evOK l G O k
theorem aS_castSum {G : gG} {O : Nat → Prop} {H : Heap} {s : State} (hK : KK G s) : ∀ {n r : Nat} {L : Cd}, aS G O H n true r L → ∃ C : String, (∃ cell : Cell, H[r]? = some cell ∧ cell.vm.isStatics = false ∧ s.vm.findClass C = some cell.cls) ∧ va_Nw (.castable C "BreathOnLoan$Sum") s ∧ va_Nw (.castable C "java/lang/Object") s
  | 0, _, _, h => h.elim
  | n + 1, r, L, h => by
    obtain ⟨-, h⟩ := h
    rcases h with ⟨_, h1, -⟩ | ⟨_, -, h1, -⟩ | ⟨_, _, h1, -⟩ | ⟨_, _, _, _, _, _, _, _, _, h1, -⟩ | ⟨_, _, _, _, _, _, h1, -⟩
    · exact ⟨RX8, a_recv (ci := 8) hK h1 rfl, hK.2.1 _ q876 rfl, hK.2.1 _ q1627 rfl⟩
    · exact ⟨RX9, a_recv (ci := 9) hK h1 rfl, hK.2.1 _ q870 rfl, hK.2.1 _ q1628 rfl⟩
    · exact ⟨RX14, a_recv (ci := 14) hK h1 rfl, hK.2.1 _ q862 rfl, hK.2.1 _ q1633 rfl⟩
    · exact ⟨RX7, a_recv (ci := 7) hK h1 rfl, hK.2.1 _ q825 rfl, hK.2.1 _ q1626 rfl⟩
    · exact ⟨RX13, a_recv (ci := 13) hK h1 rfl, hK.2.1 _ q833 rfl, hK.2.1 _ q1632 rfl⟩
theorem aS_castAsked {G : gG} {O : Nat → Prop} {H : Heap} {s : State} (hK : KK G s) : ∀ {n r : Nat} {L : Cd}, aS G O H n false r L → ∃ C : String, (∃ cell : Cell, H[r]? = some cell ∧ cell.vm.isStatics = false ∧ s.vm.findClass C = some cell.cls) ∧ va_Nw (.castable C "BreathOnLoan$Asked") s ∧ va_Nw (.castable C "java/lang/Object") s
  | 0, _, _, h => h.elim
  | n + 1, r, L, h => by
    obtain ⟨-, h⟩ := h
    rcases h with ⟨_, _, _, _, _, _, h1, -⟩ | ⟨_, _, h1, -⟩ | ⟨_, _, _, _, _, _, h1, -⟩
    · exact ⟨RX11, a_recv (ci := 11) hK h1 rfl, hK.2.1 _ q854 rfl, hK.2.1 _ q1630 rfl⟩
    · exact ⟨RX10, a_recv (ci := 10) hK h1 rfl, hK.2.1 _ q882 rfl, hK.2.1 _ q1629 rfl⟩
    · exact ⟨RX12, a_recv (ci := 12) hK h1 rfl, hK.2.1 _ q843 rfl, hK.2.1 _ q1631 rfl⟩
section FC
variable {p : Program} {l : Launch} {e : Env} {R : Room} {s : State} {m : MethodId} {args : Array Value} {below : List Frame} {meth : Method} {c : Code} {H : Heap} {locs : List Loc} {cells slots : Nat} {Q : State → Prop}
variable {cc : ByteArray} {pc nL : Nat} {ls : Array Slot} {rest : List Value} {G : gG} {O : Nat → Prop}
theorem fSum_X0 {n x na : Nat} {nm : Nat → Int32} {L : Cd} {v : Int64} (S : CallFix p m c cc nL s args lw_all RX0) (hts : ∀ w ∈ lw_all, w.before args s = true) (hK : KK G s) (hch : chOK l G O n) (hRf : n + 4 ≤ R.frames) (hRl : 60 * n + 200 ≤ R.locals) (hcs : cells ≤ R.cells ∧ slots ≤ R.slots) (hx : aS G O H n true x L) (hn : nmA G H na nm) (hv : ev nm L v) (hsz : ls.size = nL) (hcat : (rest.map fun v => v.category).sum ≤ 8) (hdg : decode cc pc = .ok (.invokeinterface 136 2, 5)) (kk : W p l e R s m args below meth c H locs cells slots Q (F0 m (pc + 5) ls (.long v :: rest))) : W p l e R s m args below meth c H locs cells slots Q (F0 m pc ls (.ref na :: .ref x :: rest)) := by
  cases n with
  | zero => exact hx.elim
  | succ k =>
    obtain ⟨hO, hx⟩ := hx
    have hE := hch k rfl
    rcases hx with h | h | h | h | h
    · have hh := h
      obtain ⟨_, h1, -⟩ := h
      exact c_read5 (va_runF (As := [.ref na]) (rest := rest) ((hK.1.1 8 _ rfl).2) S (hE.1 x na nm L v hv) (va_cwF 1 hts (lw_F (y := yX8_of) q822 q877 q879 q118 q881) rfl rfl rfl (hK.2.2.1 _ (List.mem_of_getElem? (i := 0) rfl)) (by decide +kernel) ⟨by dsimp only [rmE]; omega, by dsimp only [rmE]; omega⟩) (cP.preV (b := x) hK ⟨hh, hn⟩ (a_recv (ci := 8) hK h1 rfl)) rfl rfl hsz rfl (lv_room hcat) hdg hcs) kk
    · have hh := h
      obtain ⟨_, -, h1, -⟩ := h
      exact c_read5 (va_runF (As := [.ref na]) (rest := rest) ((hK.1.1 9 _ rfl).2) S (hE.2.1 x na nm L v hv) (va_cwF 1 hts (lw_F (y := yX9_of) q822 q871 q873 q119 q875) rfl rfl rfl (hK.2.2.1 _ (List.mem_of_getElem? (i := 1) rfl)) (by decide +kernel) ⟨by dsimp only [rmE]; omega, by dsimp only [rmE]; omega⟩) (cP.preV (b := x) hK ⟨hh, hn⟩ (a_recv (ci := 9) hK h1 rfl)) rfl rfl hsz rfl (lv_room hcat) hdg hcs) kk
    · have hh := h
      obtain ⟨_, _, h1, -⟩ := h
      exact c_read5 (va_runF (As := [.ref na]) (rest := rest) ((hK.1.1 14 _ rfl).2) S (hE.2.2.1 x na nm L v hv) (va_cwF 1 hts (lw_F (y := yX14_of) q822 q863 q865 q125 q867) rfl rfl rfl (hK.2.2.1 _ (List.mem_of_getElem? (i := 4) rfl)) (by decide +kernel) ⟨by dsimp only [rmE]; omega, by dsimp only [rmE]; omega⟩) (cP.preV (b := x) hK ⟨hh, hn⟩ (a_recv (ci := 14) hK h1 rfl)) rfl rfl hsz rfl (lv_room hcat) hdg hcs) kk
    · have hh := h
      obtain ⟨_, _, _, _, _, _, _, _, _, h1, -⟩ := h
      exact c_read5 (va_runF (As := [.ref na]) (rest := rest) ((hK.1.1 7 _ rfl).2) S (hE.2.2.2.1 x na nm L v hv) (va_cwF 1 hts (lw_F (y := yX7_of) q822 q826 q828 q117 q830) rfl rfl rfl (hK.2.2.1 _ (List.mem_of_getElem? (i := 2) rfl)) (by decide +kernel) ⟨by dsimp only [rmE]; omega, by dsimp only [rmE]; omega⟩) (cP.preV (b := x) hK ⟨hh, hn⟩ (a_recv (ci := 7) hK h1 rfl)) rfl rfl hsz rfl (lv_room hcat) hdg hcs) kk
    · have hh := h
      obtain ⟨_, _, _, _, _, _, h1, -⟩ := h
      exact c_read5 (va_runF (As := [.ref na]) (rest := rest) ((hK.1.1 13 _ rfl).2) S (hE.2.2.2.2.1 x na nm L v hv) (va_cwF 1 hts (lw_F (y := yX13_of) q822 q834 q836 q124 q838) rfl rfl rfl (hK.2.2.1 _ (List.mem_of_getElem? (i := 3) rfl)) (by decide +kernel) ⟨by dsimp only [rmE]; omega, by dsimp only [rmE]; omega⟩) (cP.preV (b := x) hK ⟨hh, hn⟩ (a_recv (ci := 13) hK h1 rfl)) rfl rfl hsz rfl (lv_room hcat) hdg hcs) kk
theorem fSum_X7 {n x na : Nat} {nm : Nat → Int32} {L : Cd} {v : Int64} (S : CallFix p m c cc nL s args lw_all RX7) (hts : ∀ w ∈ lw_all, w.before args s = true) (hK : KK G s) (hch : chOK l G O n) (hRf : n + 4 ≤ R.frames) (hRl : 60 * n + 200 ≤ R.locals) (hcs : cells ≤ R.cells ∧ slots ≤ R.slots) (hx : aS G O H n true x L) (hn : nmA G H na nm) (hv : ev nm L v) (hsz : ls.size = nL) (hcat : (rest.map fun v => v.category).sum ≤ 8) (hdg : decode cc pc = .ok (.invokeinterface 39 2, 5)) (kk : W p l e R s m args below meth c H locs cells slots Q (F0 m (pc + 5) ls (.long v :: rest))) : W p l e R s m args below meth c H locs cells slots Q (F0 m pc ls (.ref na :: .ref x :: rest)) := by
  cases n with
  | zero => exact hx.elim
  | succ k =>
    obtain ⟨hO, hx⟩ := hx
    have hE := hch k rfl
    rcases hx with h | h | h | h | h
    · have hh := h
      obtain ⟨_, h1, -⟩ := h
      exact c_read5 (va_runF (As := [.ref na]) (rest := rest) ((hK.1.1 8 _ rfl).2) S (hE.1 x na nm L v hv) (va_cwF 1 hts (lw_F (y := yX8_of) q832 q877 q879 q118 q881) rfl rfl rfl (hK.2.2.1 _ (List.mem_of_getElem? (i := 0) rfl)) (by decide +kernel) ⟨by dsimp only [rmE]; omega, by dsimp only [rmE]; omega⟩) (cP.preV (b := x) hK ⟨hh, hn⟩ (a_recv (ci := 8) hK h1 rfl)) rfl rfl hsz rfl (lv_room hcat) hdg hcs) kk
    · have hh := h
      obtain ⟨_, -, h1, -⟩ := h
      exact c_read5 (va_runF (As := [.ref na]) (rest := rest) ((hK.1.1 9 _ rfl).2) S (hE.2.1 x na nm L v hv) (va_cwF 1 hts (lw_F (y := yX9_of) q832 q871 q873 q119 q875) rfl rfl rfl (hK.2.2.1 _ (List.mem_of_getElem? (i := 1) rfl)) (by decide +kernel) ⟨by dsimp only [rmE]; omega, by dsimp only [rmE]; omega⟩) (cP.preV (b := x) hK ⟨hh, hn⟩ (a_recv (ci := 9) hK h1 rfl)) rfl rfl hsz rfl (lv_room hcat) hdg hcs) kk
    · have hh := h
      obtain ⟨_, _, h1, -⟩ := h
      exact c_read5 (va_runF (As := [.ref na]) (rest := rest) ((hK.1.1 14 _ rfl).2) S (hE.2.2.1 x na nm L v hv) (va_cwF 1 hts (lw_F (y := yX14_of) q832 q863 q865 q125 q867) rfl rfl rfl (hK.2.2.1 _ (List.mem_of_getElem? (i := 4) rfl)) (by decide +kernel) ⟨by dsimp only [rmE]; omega, by dsimp only [rmE]; omega⟩) (cP.preV (b := x) hK ⟨hh, hn⟩ (a_recv (ci := 14) hK h1 rfl)) rfl rfl hsz rfl (lv_room hcat) hdg hcs) kk
    · have hh := h
      obtain ⟨_, _, _, _, _, _, _, _, _, h1, -⟩ := h
      exact c_read5 (va_runF (As := [.ref na]) (rest := rest) ((hK.1.1 7 _ rfl).2) S (hE.2.2.2.1 x na nm L v hv) (va_cwF 1 hts (lw_F (y := yX7_of) q832 q826 q828 q117 q830) rfl rfl rfl (hK.2.2.1 _ (List.mem_of_getElem? (i := 2) rfl)) (by decide +kernel) ⟨by dsimp only [rmE]; omega, by dsimp only [rmE]; omega⟩) (cP.preV (b := x) hK ⟨hh, hn⟩ (a_recv (ci := 7) hK h1 rfl)) rfl rfl hsz rfl (lv_room hcat) hdg hcs) kk
    · have hh := h
      obtain ⟨_, _, _, _, _, _, h1, -⟩ := h
      exact c_read5 (va_runF (As := [.ref na]) (rest := rest) ((hK.1.1 13 _ rfl).2) S (hE.2.2.2.2.1 x na nm L v hv) (va_cwF 1 hts (lw_F (y := yX13_of) q832 q834 q836 q124 q838) rfl rfl rfl (hK.2.2.1 _ (List.mem_of_getElem? (i := 3) rfl)) (by decide +kernel) ⟨by dsimp only [rmE]; omega, by dsimp only [rmE]; omega⟩) (cP.preV (b := x) hK ⟨hh, hn⟩ (a_recv (ci := 13) hK h1 rfl)) rfl rfl hsz rfl (lv_room hcat) hdg hcs) kk
theorem fSum_X11 {n x na : Nat} {nm : Nat → Int32} {L : Cd} {v : Int64} (S : CallFix p m c cc nL s args lw_all RX11) (hts : ∀ w ∈ lw_all, w.before args s = true) (hK : KK G s) (hch : chOK l G O n) (hRf : n + 4 ≤ R.frames) (hRl : 60 * n + 200 ≤ R.locals) (hcs : cells ≤ R.cells ∧ slots ≤ R.slots) (hx : aS G O H n true x L) (hn : nmA G H na nm) (hv : ev nm L v) (hsz : ls.size = nL) (hcat : (rest.map fun v => v.category).sum ≤ 8) (hdg : decode cc pc = .ok (.invokeinterface 20 2, 5)) (kk : W p l e R s m args below meth c H locs cells slots Q (F0 m (pc + 5) ls (.long v :: rest))) : W p l e R s m args below meth c H locs cells slots Q (F0 m pc ls (.ref na :: .ref x :: rest)) := by
  cases n with
  | zero => exact hx.elim
  | succ k =>
    obtain ⟨hO, hx⟩ := hx
    have hE := hch k rfl
    rcases hx with h | h | h | h | h
    · have hh := h
      obtain ⟨_, h1, -⟩ := h
      exact c_read5 (va_runF (As := [.ref na]) (rest := rest) ((hK.1.1 8 _ rfl).2) S (hE.1 x na nm L v hv) (va_cwF 1 hts (lw_F (y := yX8_of) q861 q877 q879 q118 q881) rfl rfl rfl (hK.2.2.1 _ (List.mem_of_getElem? (i := 0) rfl)) (by decide +kernel) ⟨by dsimp only [rmE]; omega, by dsimp only [rmE]; omega⟩) (cP.preV (b := x) hK ⟨hh, hn⟩ (a_recv (ci := 8) hK h1 rfl)) rfl rfl hsz rfl (lv_room hcat) hdg hcs) kk
    · have hh := h
      obtain ⟨_, -, h1, -⟩ := h
      exact c_read5 (va_runF (As := [.ref na]) (rest := rest) ((hK.1.1 9 _ rfl).2) S (hE.2.1 x na nm L v hv) (va_cwF 1 hts (lw_F (y := yX9_of) q861 q871 q873 q119 q875) rfl rfl rfl (hK.2.2.1 _ (List.mem_of_getElem? (i := 1) rfl)) (by decide +kernel) ⟨by dsimp only [rmE]; omega, by dsimp only [rmE]; omega⟩) (cP.preV (b := x) hK ⟨hh, hn⟩ (a_recv (ci := 9) hK h1 rfl)) rfl rfl hsz rfl (lv_room hcat) hdg hcs) kk
    · have hh := h
      obtain ⟨_, _, h1, -⟩ := h
      exact c_read5 (va_runF (As := [.ref na]) (rest := rest) ((hK.1.1 14 _ rfl).2) S (hE.2.2.1 x na nm L v hv) (va_cwF 1 hts (lw_F (y := yX14_of) q861 q863 q865 q125 q867) rfl rfl rfl (hK.2.2.1 _ (List.mem_of_getElem? (i := 4) rfl)) (by decide +kernel) ⟨by dsimp only [rmE]; omega, by dsimp only [rmE]; omega⟩) (cP.preV (b := x) hK ⟨hh, hn⟩ (a_recv (ci := 14) hK h1 rfl)) rfl rfl hsz rfl (lv_room hcat) hdg hcs) kk
    · have hh := h
      obtain ⟨_, _, _, _, _, _, _, _, _, h1, -⟩ := h
      exact c_read5 (va_runF (As := [.ref na]) (rest := rest) ((hK.1.1 7 _ rfl).2) S (hE.2.2.2.1 x na nm L v hv) (va_cwF 1 hts (lw_F (y := yX7_of) q861 q826 q828 q117 q830) rfl rfl rfl (hK.2.2.1 _ (List.mem_of_getElem? (i := 2) rfl)) (by decide +kernel) ⟨by dsimp only [rmE]; omega, by dsimp only [rmE]; omega⟩) (cP.preV (b := x) hK ⟨hh, hn⟩ (a_recv (ci := 7) hK h1 rfl)) rfl rfl hsz rfl (lv_room hcat) hdg hcs) kk
    · have hh := h
      obtain ⟨_, _, _, _, _, _, h1, -⟩ := h
      exact c_read5 (va_runF (As := [.ref na]) (rest := rest) ((hK.1.1 13 _ rfl).2) S (hE.2.2.2.2.1 x na nm L v hv) (va_cwF 1 hts (lw_F (y := yX13_of) q861 q834 q836 q124 q838) rfl rfl rfl (hK.2.2.1 _ (List.mem_of_getElem? (i := 3) rfl)) (by decide +kernel) ⟨by dsimp only [rmE]; omega, by dsimp only [rmE]; omega⟩) (cP.preV (b := x) hK ⟨hh, hn⟩ (a_recv (ci := 13) hK h1 rfl)) rfl rfl hsz rfl (lv_room hcat) hdg hcs) kk
theorem fSum_X13 {n x na : Nat} {nm : Nat → Int32} {L : Cd} {v : Int64} (S : CallFix p m c cc nL s args lw_all RX13) (hts : ∀ w ∈ lw_all, w.before args s = true) (hK : KK G s) (hch : chOK l G O n) (hRf : n + 4 ≤ R.frames) (hRl : 60 * n + 200 ≤ R.locals) (hcs : cells ≤ R.cells ∧ slots ≤ R.slots) (hx : aS G O H n true x L) (hn : nmA G H na nm) (hv : ev nm L v) (hsz : ls.size = nL) (hcat : (rest.map fun v => v.category).sum ≤ 8) (hdg : decode cc pc = .ok (.invokeinterface 26 2, 5)) (kk : W p l e R s m args below meth c H locs cells slots Q (F0 m (pc + 5) ls (.long v :: rest))) : W p l e R s m args below meth c H locs cells slots Q (F0 m pc ls (.ref na :: .ref x :: rest)) := by
  cases n with
  | zero => exact hx.elim
  | succ k =>
    obtain ⟨hO, hx⟩ := hx
    have hE := hch k rfl
    rcases hx with h | h | h | h | h
    · have hh := h
      obtain ⟨_, h1, -⟩ := h
      exact c_read5 (va_runF (As := [.ref na]) (rest := rest) ((hK.1.1 8 _ rfl).2) S (hE.1 x na nm L v hv) (va_cwF 1 hts (lw_F (y := yX8_of) q891 q877 q879 q118 q881) rfl rfl rfl (hK.2.2.1 _ (List.mem_of_getElem? (i := 0) rfl)) (by decide +kernel) ⟨by dsimp only [rmE]; omega, by dsimp only [rmE]; omega⟩) (cP.preV (b := x) hK ⟨hh, hn⟩ (a_recv (ci := 8) hK h1 rfl)) rfl rfl hsz rfl (lv_room hcat) hdg hcs) kk
    · have hh := h
      obtain ⟨_, -, h1, -⟩ := h
      exact c_read5 (va_runF (As := [.ref na]) (rest := rest) ((hK.1.1 9 _ rfl).2) S (hE.2.1 x na nm L v hv) (va_cwF 1 hts (lw_F (y := yX9_of) q891 q871 q873 q119 q875) rfl rfl rfl (hK.2.2.1 _ (List.mem_of_getElem? (i := 1) rfl)) (by decide +kernel) ⟨by dsimp only [rmE]; omega, by dsimp only [rmE]; omega⟩) (cP.preV (b := x) hK ⟨hh, hn⟩ (a_recv (ci := 9) hK h1 rfl)) rfl rfl hsz rfl (lv_room hcat) hdg hcs) kk
    · have hh := h
      obtain ⟨_, _, h1, -⟩ := h
      exact c_read5 (va_runF (As := [.ref na]) (rest := rest) ((hK.1.1 14 _ rfl).2) S (hE.2.2.1 x na nm L v hv) (va_cwF 1 hts (lw_F (y := yX14_of) q891 q863 q865 q125 q867) rfl rfl rfl (hK.2.2.1 _ (List.mem_of_getElem? (i := 4) rfl)) (by decide +kernel) ⟨by dsimp only [rmE]; omega, by dsimp only [rmE]; omega⟩) (cP.preV (b := x) hK ⟨hh, hn⟩ (a_recv (ci := 14) hK h1 rfl)) rfl rfl hsz rfl (lv_room hcat) hdg hcs) kk
    · have hh := h
      obtain ⟨_, _, _, _, _, _, _, _, _, h1, -⟩ := h
      exact c_read5 (va_runF (As := [.ref na]) (rest := rest) ((hK.1.1 7 _ rfl).2) S (hE.2.2.2.1 x na nm L v hv) (va_cwF 1 hts (lw_F (y := yX7_of) q891 q826 q828 q117 q830) rfl rfl rfl (hK.2.2.1 _ (List.mem_of_getElem? (i := 2) rfl)) (by decide +kernel) ⟨by dsimp only [rmE]; omega, by dsimp only [rmE]; omega⟩) (cP.preV (b := x) hK ⟨hh, hn⟩ (a_recv (ci := 7) hK h1 rfl)) rfl rfl hsz rfl (lv_room hcat) hdg hcs) kk
    · have hh := h
      obtain ⟨_, _, _, _, _, _, h1, -⟩ := h
      exact c_read5 (va_runF (As := [.ref na]) (rest := rest) ((hK.1.1 13 _ rfl).2) S (hE.2.2.2.2.1 x na nm L v hv) (va_cwF 1 hts (lw_F (y := yX13_of) q891 q834 q836 q124 q838) rfl rfl rfl (hK.2.2.1 _ (List.mem_of_getElem? (i := 3) rfl)) (by decide +kernel) ⟨by dsimp only [rmE]; omega, by dsimp only [rmE]; omega⟩) (cP.preV (b := x) hK ⟨hh, hn⟩ (a_recv (ci := 13) hK h1 rfl)) rfl rfl hsz rfl (lv_room hcat) hdg hcs) kk
theorem fSum_X14 {n x na : Nat} {nm : Nat → Int32} {L : Cd} {v : Int64} (S : CallFix p m c cc nL s args lw_all RX14) (hts : ∀ w ∈ lw_all, w.before args s = true) (hK : KK G s) (hch : chOK l G O n) (hRf : n + 4 ≤ R.frames) (hRl : 60 * n + 200 ≤ R.locals) (hcs : cells ≤ R.cells ∧ slots ≤ R.slots) (hx : aS G O H n true x L) (hn : nmA G H na nm) (hv : ev nm L v) (hsz : ls.size = nL) (hcat : (rest.map fun v => v.category).sum ≤ 8) (hdg : decode cc pc = .ok (.invokeinterface 13 2, 5)) (kk : W p l e R s m args below meth c H locs cells slots Q (F0 m (pc + 5) ls (.long v :: rest))) : W p l e R s m args below meth c H locs cells slots Q (F0 m pc ls (.ref na :: .ref x :: rest)) := by
  cases n with
  | zero => exact hx.elim
  | succ k =>
    obtain ⟨hO, hx⟩ := hx
    have hE := hch k rfl
    rcases hx with h | h | h | h | h
    · have hh := h
      obtain ⟨_, h1, -⟩ := h
      exact c_read5 (va_runF (As := [.ref na]) (rest := rest) ((hK.1.1 8 _ rfl).2) S (hE.1 x na nm L v hv) (va_cwF 1 hts (lw_F (y := yX8_of) q869 q877 q879 q118 q881) rfl rfl rfl (hK.2.2.1 _ (List.mem_of_getElem? (i := 0) rfl)) (by decide +kernel) ⟨by dsimp only [rmE]; omega, by dsimp only [rmE]; omega⟩) (cP.preV (b := x) hK ⟨hh, hn⟩ (a_recv (ci := 8) hK h1 rfl)) rfl rfl hsz rfl (lv_room hcat) hdg hcs) kk
    · have hh := h
      obtain ⟨_, -, h1, -⟩ := h
      exact c_read5 (va_runF (As := [.ref na]) (rest := rest) ((hK.1.1 9 _ rfl).2) S (hE.2.1 x na nm L v hv) (va_cwF 1 hts (lw_F (y := yX9_of) q869 q871 q873 q119 q875) rfl rfl rfl (hK.2.2.1 _ (List.mem_of_getElem? (i := 1) rfl)) (by decide +kernel) ⟨by dsimp only [rmE]; omega, by dsimp only [rmE]; omega⟩) (cP.preV (b := x) hK ⟨hh, hn⟩ (a_recv (ci := 9) hK h1 rfl)) rfl rfl hsz rfl (lv_room hcat) hdg hcs) kk
    · have hh := h
      obtain ⟨_, _, h1, -⟩ := h
      exact c_read5 (va_runF (As := [.ref na]) (rest := rest) ((hK.1.1 14 _ rfl).2) S (hE.2.2.1 x na nm L v hv) (va_cwF 1 hts (lw_F (y := yX14_of) q869 q863 q865 q125 q867) rfl rfl rfl (hK.2.2.1 _ (List.mem_of_getElem? (i := 4) rfl)) (by decide +kernel) ⟨by dsimp only [rmE]; omega, by dsimp only [rmE]; omega⟩) (cP.preV (b := x) hK ⟨hh, hn⟩ (a_recv (ci := 14) hK h1 rfl)) rfl rfl hsz rfl (lv_room hcat) hdg hcs) kk
    · have hh := h
      obtain ⟨_, _, _, _, _, _, _, _, _, h1, -⟩ := h
      exact c_read5 (va_runF (As := [.ref na]) (rest := rest) ((hK.1.1 7 _ rfl).2) S (hE.2.2.2.1 x na nm L v hv) (va_cwF 1 hts (lw_F (y := yX7_of) q869 q826 q828 q117 q830) rfl rfl rfl (hK.2.2.1 _ (List.mem_of_getElem? (i := 2) rfl)) (by decide +kernel) ⟨by dsimp only [rmE]; omega, by dsimp only [rmE]; omega⟩) (cP.preV (b := x) hK ⟨hh, hn⟩ (a_recv (ci := 7) hK h1 rfl)) rfl rfl hsz rfl (lv_room hcat) hdg hcs) kk
    · have hh := h
      obtain ⟨_, _, _, _, _, _, h1, -⟩ := h
      exact c_read5 (va_runF (As := [.ref na]) (rest := rest) ((hK.1.1 13 _ rfl).2) S (hE.2.2.2.2.1 x na nm L v hv) (va_cwF 1 hts (lw_F (y := yX13_of) q869 q834 q836 q124 q838) rfl rfl rfl (hK.2.2.1 _ (List.mem_of_getElem? (i := 3) rfl)) (by decide +kernel) ⟨by dsimp only [rmE]; omega, by dsimp only [rmE]; omega⟩) (cP.preV (b := x) hK ⟨hh, hn⟩ (a_recv (ci := 13) hK h1 rfl)) rfl rfl hsz rfl (lv_room hcat) hdg hcs) kk
theorem fAsked_X10 {n x na : Nat} {nm : Nat → Int32} {L : Cd} {v : Bool} (S : CallFix p m c cc nL s args lw_all RX10) (hts : ∀ w ∈ lw_all, w.before args s = true) (hK : KK G s) (hch : chOK l G O n) (hRf : n + 4 ≤ R.frames) (hRl : 60 * n + 200 ≤ R.locals) (hcs : cells ≤ R.cells ∧ slots ≤ R.slots) (hx : aS G O H n false x L) (hn : nmA G H na nm) (hv : eb nm L v) (hsz : ls.size = nL) (hcat : (rest.map fun v => v.category).sum ≤ 8) (hdg : decode cc pc = .ok (.invokeinterface 13 2, 5)) (kk : W p l e R s m args below meth c H locs cells slots Q (F0 m (pc + 5) ls (.int (bI (v = true)) :: rest))) : W p l e R s m args below meth c H locs cells slots Q (F0 m pc ls (.ref na :: .ref x :: rest)) := by
  cases n with
  | zero => exact hx.elim
  | succ k =>
    obtain ⟨hO, hx⟩ := hx
    have hE := hch k rfl
    rcases hx with h | h | h
    · have hh := h
      obtain ⟨_, _, _, _, _, _, h1, -⟩ := h
      exact c_read5 (va_runF (As := [.ref na]) (rest := rest) ((hK.1.1 11 _ rfl).2) S (hE.2.2.2.2.2.1 x na nm L v hv) (va_cwF 1 hts (lw_F (y := yX11_is) q889 q855 q857 q121 q859) rfl rfl rfl (hK.2.2.1 _ (List.mem_of_getElem? (i := 6) rfl)) (by decide +kernel) ⟨by dsimp only [rmE]; omega, by dsimp only [rmE]; omega⟩) (cP.preV (b := x) hK ⟨hh, hn⟩ (a_recv (ci := 11) hK h1 rfl)) rfl rfl hsz rfl (lv_room hcat) hdg hcs) kk
    · have hh := h
      obtain ⟨_, _, h1, -⟩ := h
      exact c_read5 (va_runF (As := [.ref na]) (rest := rest) ((hK.1.1 10 _ rfl).2) S (hE.2.2.2.2.2.2.1 x na nm L v hv) (va_cwF 1 hts (lw_F (y := yX10_is) q889 q883 q885 q120 q887) rfl rfl rfl (hK.2.2.1 _ (List.mem_of_getElem? (i := 5) rfl)) (by decide +kernel) ⟨by dsimp only [rmE]; omega, by dsimp only [rmE]; omega⟩) (cP.preV (b := x) hK ⟨hh, hn⟩ (a_recv (ci := 10) hK h1 rfl)) rfl rfl hsz rfl (lv_room hcat) hdg hcs) kk
    · have hh := h
      obtain ⟨_, _, _, _, _, _, h1, -⟩ := h
      exact c_read5 (va_runF (As := [.ref na]) (rest := rest) ((hK.1.1 12 _ rfl).2) S (hE.2.2.2.2.2.2.2 x na nm L v hv) (va_cwF 1 hts (lw_F (y := yX12_is) q889 q844 q846 q123 q848) rfl rfl rfl (hK.2.2.1 _ (List.mem_of_getElem? (i := 7) rfl)) (by decide +kernel) ⟨by dsimp only [rmE]; omega, by dsimp only [rmE]; omega⟩) (cP.preV (b := x) hK ⟨hh, hn⟩ (a_recv (ci := 12) hK h1 rfl)) rfl rfl hsz rfl (lv_room hcat) hdg hcs) kk
theorem fAsked_X12 {n x na : Nat} {nm : Nat → Int32} {L : Cd} {v : Bool} (S : CallFix p m c cc nL s args lw_all RX12) (hts : ∀ w ∈ lw_all, w.before args s = true) (hK : KK G s) (hch : chOK l G O n) (hRf : n + 4 ≤ R.frames) (hRl : 60 * n + 200 ≤ R.locals) (hcs : cells ≤ R.cells ∧ slots ≤ R.slots) (hx : aS G O H n false x L) (hn : nmA G H na nm) (hv : eb nm L v) (hsz : ls.size = nL) (hcat : (rest.map fun v => v.category).sum ≤ 8) (hdg : decode cc pc = .ok (.invokeinterface 29 2, 5)) (kk : W p l e R s m args below meth c H locs cells slots Q (F0 m (pc + 5) ls (.int (bI (v = true)) :: rest))) : W p l e R s m args below meth c H locs cells slots Q (F0 m pc ls (.ref na :: .ref x :: rest)) := by
  cases n with
  | zero => exact hx.elim
  | succ k =>
    obtain ⟨hO, hx⟩ := hx
    have hE := hch k rfl
    rcases hx with h | h | h
    · have hh := h
      obtain ⟨_, _, _, _, _, _, h1, -⟩ := h
      exact c_read5 (va_runF (As := [.ref na]) (rest := rest) ((hK.1.1 11 _ rfl).2) S (hE.2.2.2.2.2.1 x na nm L v hv) (va_cwF 1 hts (lw_F (y := yX11_is) q853 q855 q857 q121 q859) rfl rfl rfl (hK.2.2.1 _ (List.mem_of_getElem? (i := 6) rfl)) (by decide +kernel) ⟨by dsimp only [rmE]; omega, by dsimp only [rmE]; omega⟩) (cP.preV (b := x) hK ⟨hh, hn⟩ (a_recv (ci := 11) hK h1 rfl)) rfl rfl hsz rfl (lv_room hcat) hdg hcs) kk
    · have hh := h
      obtain ⟨_, _, h1, -⟩ := h
      exact c_read5 (va_runF (As := [.ref na]) (rest := rest) ((hK.1.1 10 _ rfl).2) S (hE.2.2.2.2.2.2.1 x na nm L v hv) (va_cwF 1 hts (lw_F (y := yX10_is) q853 q883 q885 q120 q887) rfl rfl rfl (hK.2.2.1 _ (List.mem_of_getElem? (i := 5) rfl)) (by decide +kernel) ⟨by dsimp only [rmE]; omega, by dsimp only [rmE]; omega⟩) (cP.preV (b := x) hK ⟨hh, hn⟩ (a_recv (ci := 10) hK h1 rfl)) rfl rfl hsz rfl (lv_room hcat) hdg hcs) kk
    · have hh := h
      obtain ⟨_, _, _, _, _, _, h1, -⟩ := h
      exact c_read5 (va_runF (As := [.ref na]) (rest := rest) ((hK.1.1 12 _ rfl).2) S (hE.2.2.2.2.2.2.2 x na nm L v hv) (va_cwF 1 hts (lw_F (y := yX12_is) q853 q844 q846 q123 q848) rfl rfl rfl (hK.2.2.1 _ (List.mem_of_getElem? (i := 7) rfl)) (by decide +kernel) ⟨by dsimp only [rmE]; omega, by dsimp only [rmE]; omega⟩) (cP.preV (b := x) hK ⟨hh, hn⟩ (a_recv (ci := 12) hK h1 rfl)) rfl rfl hsz rfl (lv_room hcat) hdg hcs) kk
theorem fAsked_X13 {n x na : Nat} {nm : Nat → Int32} {L : Cd} {v : Bool} (S : CallFix p m c cc nL s args lw_all RX13) (hts : ∀ w ∈ lw_all, w.before args s = true) (hK : KK G s) (hch : chOK l G O n) (hRf : n + 4 ≤ R.frames) (hRl : 60 * n + 200 ≤ R.locals) (hcs : cells ≤ R.cells ∧ slots ≤ R.slots) (hx : aS G O H n false x L) (hn : nmA G H na nm) (hv : eb nm L v) (hsz : ls.size = nL) (hcat : (rest.map fun v => v.category).sum ≤ 8) (hdg : decode cc pc = .ok (.invokeinterface 20 2, 5)) (kk : W p l e R s m args below meth c H locs cells slots Q (F0 m (pc + 5) ls (.int (bI (v = true)) :: rest))) : W p l e R s m args below meth c H locs cells slots Q (F0 m pc ls (.ref na :: .ref x :: rest)) := by
  cases n with
  | zero => exact hx.elim
  | succ k =>
    obtain ⟨hO, hx⟩ := hx
    have hE := hch k rfl
    rcases hx with h | h | h
    · have hh := h
      obtain ⟨_, _, _, _, _, _, h1, -⟩ := h
      exact c_read5 (va_runF (As := [.ref na]) (rest := rest) ((hK.1.1 11 _ rfl).2) S (hE.2.2.2.2.2.1 x na nm L v hv) (va_cwF 1 hts (lw_F (y := yX11_is) q840 q855 q857 q121 q859) rfl rfl rfl (hK.2.2.1 _ (List.mem_of_getElem? (i := 6) rfl)) (by decide +kernel) ⟨by dsimp only [rmE]; omega, by dsimp only [rmE]; omega⟩) (cP.preV (b := x) hK ⟨hh, hn⟩ (a_recv (ci := 11) hK h1 rfl)) rfl rfl hsz rfl (lv_room hcat) hdg hcs) kk
    · have hh := h
      obtain ⟨_, _, h1, -⟩ := h
      exact c_read5 (va_runF (As := [.ref na]) (rest := rest) ((hK.1.1 10 _ rfl).2) S (hE.2.2.2.2.2.2.1 x na nm L v hv) (va_cwF 1 hts (lw_F (y := yX10_is) q840 q883 q885 q120 q887) rfl rfl rfl (hK.2.2.1 _ (List.mem_of_getElem? (i := 5) rfl)) (by decide +kernel) ⟨by dsimp only [rmE]; omega, by dsimp only [rmE]; omega⟩) (cP.preV (b := x) hK ⟨hh, hn⟩ (a_recv (ci := 10) hK h1 rfl)) rfl rfl hsz rfl (lv_room hcat) hdg hcs) kk
    · have hh := h
      obtain ⟨_, _, _, _, _, _, h1, -⟩ := h
      exact c_read5 (va_runF (As := [.ref na]) (rest := rest) ((hK.1.1 12 _ rfl).2) S (hE.2.2.2.2.2.2.2 x na nm L v hv) (va_cwF 1 hts (lw_F (y := yX12_is) q840 q844 q846 q123 q848) rfl rfl rfl (hK.2.2.1 _ (List.mem_of_getElem? (i := 7) rfl)) (by decide +kernel) ⟨by dsimp only [rmE]; omega, by dsimp only [rmE]; omega⟩) (cP.preV (b := x) hK ⟨hh, hn⟩ (a_recv (ci := 12) hK h1 rfl)) rfl rfl hsz rfl (lv_room hcat) hdg hcs) kk
end FC
