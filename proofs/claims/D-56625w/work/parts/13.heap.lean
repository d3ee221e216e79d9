/-! HEAP RULES (printed by gen/heap.py) -/
abbrev aI (G : GT) (n : Nat) (f : Nat → Int32) : va_E := .inl (G.2.2.2.1 0, n, .inl f)
abbrev aZ (G : GT) (n : Nat) (f : Nat → Int32) : va_E := .inl (G.2.2.2.1 1, n, .inl f)
abbrev aC (G : GT) (n : Nat) (f : Nat → Int32) : va_E := .inl (G.2.2.2.1 2, n, .inl f)
abbrev aB (G : GT) (n : Nat) (f : Nat → Int32) : va_E := .inl (G.2.2.2.1 3, n, .inl f)
abbrev aO (G : GT) (n : Nat) (f : Nat → Option Nat) : va_E := .inl (G.2.2.2.1 4, n, .inr (.inr (.inr (.inr f))))
/-- known, now or for ever -/
def cy_kn (G : GT) (h : Hp) (a : Nat) (e : va_E) : Prop := h a = some e ∨ G.2.2.1 a = some e
theorem cy_known {G : GT} {s : State} {H : Heap} {h : Hp} {locs : List Loc} {a : Nat} {e : va_E} (hE : cy_Env G s) (hR : cy_Rep G H h) (hS : va_S (cy_FA G) s.heap H locs) (he : cy_kn G h a e) : va_at G.1 cy_cl (a, e) H := by
  rcases he with he | he
  · exact (hR a e he).2
  · obtain ⟨g1, g2⟩ := hE.2.2.2.2.2.1 a e he
    exact g2.kept (hS.2.1 a g2.lt (Nat.not_le.mpr g1))
theorem cy_one {D : va_G} {a : Nat} {e : va_E} {H : Heap} (h : va_at D cy_cl (a, e) H) : va_P D cy_cl [(a, e)] H := by
  intro k q hq
  cases k with
  | zero => cases hq; exact h
  | succ k => cases hq
theorem cy_cell {G : GT} {s : State} {a ci : Nat} {fs : List Value} {r : vw_C} {H : Heap} (hE : cy_Env G s) (hc : cy_cl[ci]? = some r) (h : va_at G.1 cy_cl (a, .inr (ci, fs)) H) : ∃ cell : Cell, H[a]? = some cell ∧ cell.vm.isStatics = false ∧ s.vm.findClass r.1 = some cell.cls := va_recv (q0 := 0) hE.1 (cy_one h) hc rfl
theorem cy_fresh {G : GT} {H H1 : Heap} {h : Hp} {q : Nat} {e : va_E} (hR : cy_Rep G H h) (hD : va_D (cy_FA G) (cy_wl h H.size ++ [(q, e)])) : h q = none ∧ G.2.1 ≤ q := by
  have hl : (cy_wl h H.size ++ [(q, e)])[(cy_wl h H.size).length]? = some (q, e) := by
    rw [List.getElem?_append_right (Nat.le_refl _), Nat.sub_self]; rfl
  refine ⟨?_, hD.2 _ _ hl⟩
  cases hh : h q with
  | none => rfl
  | some e2 =>
    obtain ⟨k, hk⟩ := cy_wl_at hR hh
    have hkl := (List.getElem?_eq_some_iff.mp hk).1
    have := hD.1 k _ (q, e2) (q, e) (by rw [List.getElem?_append_left hkl]; exact hk) hl rfl
    omega
section KHEAP
variable {G : GT} {own : String} {cc : ByteArray} {nL : Nat} {rt : Option FieldType} {L U : Nat} {ini : Bool} {tb : List ExceptionTableEntry} {Fn : List Frame → Array Value → State → State → Prop} {K : KT1} {T : KT2}
variable {u : Nat} {h : Hp} {pc : Nat} {lv : LV} {st : List Value}
theorem rr_get (C : cy_M G own cc nL rt L U ini tb Fn K T) {ref C' : String} {Tt : u_T} {N ci index a : Nat} {fs : List Value} {v : Value} (hin : ∀ w ∈ u_ws C' Tt N, w ∈ lw_all) (hcl : cy_cl[ci]? = some (C', Tt, N)) (k : Nat) (hk : k < N) (hlink : Cond.fieldLink own index ref (Tt k).2.1 (Tt k).2.2.1 ∈ lw_all) (hsame : ∀ {s : State} {args : Array Value}, (∀ w ∈ lw_all, w.before args s = true) → ∀ x, s.fieldFound? (Tt k).1 (Tt k).2.1 (Tt k).2.2.1 = some x → s.fieldFound? ref (Tt k).2.1 (Tt k).2.2.1 = some x) (hd : decode cc pc = .ok (.getfield index, 3)) (he : cy_kn G h a (.inr (ci, fs))) (hv : fs[k]? = some v) (kk : K u h (pc + 3) lv (v :: st)) : K u h pc lv (.ref a :: st) := by
  obtain ⟨p, l, e, R, s, m, args, below, meth, c, ⟨hx, hb, hml, hr, hlk, ho, hst, hin0⟩, ⟨hw, hE, htb, hLf, hLl, hUc, hUs⟩, rfl, rfl⟩ := C
  intro H locs cells slots ls hR hS hc0 hs0 hl
  exact va_get (D := G.1) (ci := ci) hx hb hw hin ho hE.1 (cy_one (cy_known hE hR hS he)) 0 rfl hcl k hk (hw _ hlink) (hsame hw) hv hd (kk H locs cells slots ls hR hS hc0 hs0 hl)
theorem rr_getN (C : cy_M G own cc nL rt L U ini tb Fn K T) {ref C' host : String} {Tt : u_T} {N ci index a : Nat} {fs : List Value} {v : Value} (hin : ∀ w ∈ u_ws C' Tt N, w ∈ lw_all) (hcl : cy_cl[ci]? = some (C', Tt, N)) (k : Nat) (hk : k < N) (hlink : Cond.fieldLinkNest own index ref (Tt k).2.1 (Tt k).2.2.1 host ∈ lw_tbl) (hsame : ∀ {s : State} {args : Array Value}, (∀ w ∈ lw_all, w.before args s = true) → ∀ x, s.fieldFound? (Tt k).1 (Tt k).2.1 (Tt k).2.2.1 = some x → s.fieldFound? ref (Tt k).2.1 (Tt k).2.2.1 = some x) (hd : decode cc pc = .ok (.getfield index, 3)) (he : cy_kn G h a (.inr (ci, fs))) (hv : fs[k]? = some v) (kk : K u h (pc + 3) lv (v :: st)) : K u h pc lv (.ref a :: st) := by
  obtain ⟨p, l, e, R, s, m, args, below, meth, c, ⟨hx, hb, hml, hr, hlk, ho, hst, hin0⟩, ⟨hw, hE, htb, hLf, hLl, hUc, hUs⟩, rfl, rfl⟩ := C
  intro H locs cells slots ls hR hS hc0 hs0 hl
  exact va_getN (D := G.1) (ci := ci) hx hb hw hin ho hE.1 (cy_one (cy_known hE hR hS he)) 0 rfl hcl k hk (va_Nw.use rfl (hE.2.1 _ hlink rfl)) (hsame hw) hv hd (kk H locs cells slots ls hR hS hc0 hs0 hl)
theorem rr_put (C : cy_M G own cc nL rt L U ini tb Fn K T) {ref C' : String} {Tt : u_T} {N ci index a : Nat} {fs : List Value} {ty : FieldType} {v : Value} (hin : ∀ w ∈ u_ws C' Tt N, w ∈ lw_all) (ty0 : Nat → FieldType) (hty : ∀ k, k < N → parseFieldDescriptor (Tt k).2.2.1 = some (ty0 k)) (hnm : ∀ a, a < N → ∀ b, b < N → a ≠ b → (Tt a).2.1 ≠ (Tt b).2.1) (hcl : cy_cl[ci]? = some (C', Tt, N)) (k : Nat) (hk : k < N) (hlink : Cond.fieldLink own index ref (Tt k).2.1 (Tt k).2.2.1 ∈ lw_all) (hsame : ∀ {s : State} {args : Array Value}, (∀ w ∈ lw_all, w.before args s = true) → ∀ x, s.fieldFound? (Tt k).1 (Tt k).2.1 (Tt k).2.2.1 = some x → s.fieldFound? ref (Tt k).2.1 (Tt k).2.2.1 = some x) (hfin : (Tt k).2.2.2 = false) (hpd : parseFieldDescriptor (Tt k).2.2.1 = some ty) (hd : decode cc pc = .ok (.putfield index, 3)) (he : h a = some (.inr (ci, fs))) (hlen : k < fs.length) (hn : narrow ty v = v) (hfit : fits ty v = true) (kk : K u (cy_up h a (.inr (ci, fs.set k v))) (pc + 3) lv st) : K u h pc lv (v :: .ref a :: st) := by
  obtain ⟨p, l, e, R, s, m, args, below, meth, c, ⟨hx, hb, hml, hr, hlk, ho, hst, hin0⟩, ⟨hw, hE, htb, hLf, hLl, hUc, hUs⟩, rfl, rfl⟩ := C
  intro H locs cells slots ls hR hS hc0 hs0 hl
  obtain ⟨q0, hq⟩ := cy_wl_at hR he
  exact va_put (D := G.1) (ci := ci) hx hb hw hin ty0 hty hnm ho hE.1 (cy_wl_P hR) (cy_wl_D hR) hS q0 hq hcl k hk (hw _ hlink) (hsame hw) hfin hpd hn hfit hlen hd (fun H1 locs1 hP1 hD1 hS1 => kk H1 locs1 cells slots ls (cy_wl_set hR hq hP1) hS1 hc0 hs0 hl)
theorem rr_putF (C : cy_M G own cc nL rt L U true tb Fn K T) {ref C' : String} {Tt : u_T} {N ci index a : Nat} {fs : List Value} {ty : FieldType} {v : Value} (hin : ∀ w ∈ u_ws C' Tt N, w ∈ lw_all) (ty0 : Nat → FieldType) (hty : ∀ k, k < N → parseFieldDescriptor (Tt k).2.2.1 = some (ty0 k)) (hnm : ∀ a, a < N → ∀ b, b < N → a ≠ b → (Tt a).2.1 ≠ (Tt b).2.1) (hcl : cy_cl[ci]? = some (C', Tt, N)) (k : Nat) (hk : k < N) (hlink : Cond.fieldLink own index ref (Tt k).2.1 (Tt k).2.2.1 ∈ lw_all) (hsame : ∀ {s : State} {args : Array Value}, (∀ w ∈ lw_all, w.before args s = true) → ∀ x, s.fieldFound? (Tt k).1 (Tt k).2.1 (Tt k).2.2.1 = some x → s.fieldFound? ref (Tt k).2.1 (Tt k).2.2.1 = some x) (hfin : (Tt k).2.2.2 = true) (hdecl : (Tt k).1 = own) (hpd : parseFieldDescriptor (Tt k).2.2.1 = some ty) (hd : decode cc pc = .ok (.putfield index, 3)) (he : h a = some (.inr (ci, fs))) (hlen : k < fs.length) (hn : narrow ty v = v) (hfit : fits ty v = true) (kk : K u (cy_up h a (.inr (ci, fs.set k v))) (pc + 3) lv st) : K u h pc lv (v :: .ref a :: st) := by
  obtain ⟨p, l, e, R, s, m, args, below, meth, c, ⟨hx, hb, hml, hr, hlk, ho, hst, hin0⟩, ⟨hw, hE, htb, hLf, hLl, hUc, hUs⟩, rfl, rfl⟩ := C
  intro H locs cells slots ls hR hS hc0 hs0 hl
  obtain ⟨q0, hq⟩ := cy_wl_at hR he
  exact va_putF (D := G.1) (ci := ci) hx hb hw hin ty0 hty hnm ho hE.1 (cy_wl_P hR) (cy_wl_D hR) hS q0 hq hcl k hk (hw _ hlink) (hsame hw) hfin (hin0 rfl) hdecl hpd hn hfit hlen hd (fun H1 locs1 hP1 hD1 hS1 => kk H1 locs1 cells slots ls (cy_wl_set hR hq hP1) hS1 hc0 hs0 hl)
theorem rr_putN (C : cy_M G own cc nL rt L U ini tb Fn K T) {ref C' : String} {host : String} {Tt : u_T} {N ci index a : Nat} {fs : List Value} {ty : FieldType} {v : Value} (hin : ∀ w ∈ u_ws C' Tt N, w ∈ lw_all) (ty0 : Nat → FieldType) (hty : ∀ k, k < N → parseFieldDescriptor (Tt k).2.2.1 = some (ty0 k)) (hnm : ∀ a, a < N → ∀ b, b < N → a ≠ b → (Tt a).2.1 ≠ (Tt b).2.1) (hcl : cy_cl[ci]? = some (C', Tt, N)) (k : Nat) (hk : k < N) (hlink : Cond.fieldLinkNest own index ref (Tt k).2.1 (Tt k).2.2.1 host ∈ lw_tbl) (hsame : ∀ {s : State} {args : Array Value}, (∀ w ∈ lw_all, w.before args s = true) → ∀ x, s.fieldFound? (Tt k).1 (Tt k).2.1 (Tt k).2.2.1 = some x → s.fieldFound? ref (Tt k).2.1 (Tt k).2.2.1 = some x) (hfin : (Tt k).2.2.2 = false) (hpd : parseFieldDescriptor (Tt k).2.2.1 = some ty) (hd : decode cc pc = .ok (.putfield index, 3)) (he : h a = some (.inr (ci, fs))) (hlen : k < fs.length) (hn : narrow ty v = v) (hfit : fits ty v = true) (kk : K u (cy_up h a (.inr (ci, fs.set k v))) (pc + 3) lv st) : K u h pc lv (v :: .ref a :: st) := by
  obtain ⟨p, l, e, R, s, m, args, below, meth, c, ⟨hx, hb, hml, hr, hlk, ho, hst, hin0⟩, ⟨hw, hE, htb, hLf, hLl, hUc, hUs⟩, rfl, rfl⟩ := C
  intro H locs cells slots ls hR hS hc0 hs0 hl
  obtain ⟨q0, hq⟩ := cy_wl_at hR he
  exact va_putN (D := G.1) (ci := ci) hx hb hw hin ty0 hty hnm ho hE.1 (cy_wl_P hR) (cy_wl_D hR) hS q0 hq hcl k hk (va_Nw.use rfl (hE.2.1 _ hlink rfl)) (hsame hw) hfin hpd hn hfit hlen hd (fun H1 locs1 hP1 hD1 hS1 => kk H1 locs1 cells slots ls (cy_wl_set hR hq hP1) hS1 hc0 hs0 hl)
theorem rr_gets (C : cy_M G own cc nL rt L U ini tb Fn K T) {Cn n d ref : String} {v : Value} {index : Nat} (hq : (Cn, n, d, v) ∈ cy_SZ G) (hlink : Cond.fieldLink own index ref n d ∈ lw_all) (hsame : Cn = ref) (hd : decode cc pc = .ok (.getstatic index, 3)) (kk : K u h (pc + 3) lv (v :: st)) : K u h pc lv st := by
  obtain ⟨p, l, e, R, s, m, args, below, meth, c, ⟨hx, hb, hml, hr, hlk, ho, hst, hin0⟩, ⟨hw, hE, htb, hLf, hLl, hUc, hUs⟩, rfl, rfl⟩ := C
  intro H locs cells slots ls hR hS hc0 hs0 hl
  subst hsame
  exact va_gets hx hb (hE.2.2.2.2.1 _ hq) hS ho (hw _ hlink) (fun _ h9 => h9) hd (kk H locs cells slots ls hR hS hc0 hs0 hl)
theorem rr_getsN (C : cy_M G own cc nL rt L U ini tb Fn K T) {Cn n d ref host : String} {v : Value} {index : Nat} (hq : (Cn, n, d, v) ∈ cy_SZ G) (hlink : Cond.fieldLinkNest own index ref n d host ∈ lw_tbl) (hsame : Cn = ref) (hd : decode cc pc = .ok (.getstatic index, 3)) (kk : K u h (pc + 3) lv (v :: st)) : K u h pc lv st := by
  obtain ⟨p, l, e, R, s, m, args, below, meth, c, ⟨hx, hb, hml, hr, hlk, ho, hst, hin0⟩, ⟨hw, hE, htb, hLf, hLl, hUc, hUs⟩, rfl, rfl⟩ := C
  intro H locs cells slots ls hR hS hc0 hs0 hl
  subst hsame
  exact va_getsN hx hb (hE.2.2.2.2.1 _ hq) hS ho (va_Nw.use rfl (hE.2.1 _ hlink rfl)) (fun _ h9 => h9) hd (kk H locs cells slots ls hR hS hc0 hs0 hl)
theorem rr_new (C : cy_M G own cc nL rt L U ini tb Fn K T) {C' : String} {Tt : u_T} {N ci index : Nat} (w : Nat) {fs : List Value} (hin : ∀ w ∈ u_ws C' Tt N, w ∈ lw_all) (ty0 : Nat → FieldType) (hty : ∀ k, k < N → parseFieldDescriptor (Tt k).2.2.1 = some (ty0 k)) (hcl : cy_cl[ci]? = some (C', Tt, N)) (hlink : Cond.classLink own index C' ∈ lw_all) (hinst : Cond.instantiable C' N ∈ lw_all) (hini : Cond.initialized C' ∈ lw_all) (hfs : ∀ j, j < N → defaultValue (ty0 j) = vp_V fs j) (hN : N ≤ 12 * w) (hw1 : 1 ≤ w) (hd : decode cc pc = .ok (.new index, 3)) (hu : w ≤ u) (kk : ∀ a : Nat, h a = none → G.2.1 ≤ a → K (u - w) (cy_up h a (.inr (ci, fs))) (pc + 3) lv (.ref a :: st)) : K u h pc lv st := by
  obtain ⟨p, l, e, R, s, m, args, below, meth, c, ⟨hx, hb, hml, hr, hlk, ho, hst, hin0⟩, ⟨hw, hE, htb, hLf, hLl, hUc, hUs⟩, rfl, rfl⟩ := C
  intro H locs cells slots ls hR hS hc0 hs0 hl
  exact va_new (D := G.1) (ci := ci) hx hb hw hin ty0 hty ho (hw _ hlink) (hw _ hinst) (hw _ hini) hE.1 (cy_wl_P hR) (cy_wl_D hR) hS (fun q hq => Nat.le_trans hE.2.2.2.2.2.2.2.2.2 hq) hcl hfs (by omega) (by omega) hd (fun q H1 hP1 hD1 hS1 => kk q (cy_fresh (H1 := H1) hR hD1).1 (cy_fresh (H1 := H1) hR hD1).2 H1 locs (cells + 1) (slots + N) ls (cy_wl_app hR (cy_fresh (H1 := H1) hR hD1).2 hP1) hS1 (by omega) (by omega) hl)
theorem rr_newai (C : cy_M G own cc nL rt L U ini tb Fn K T) {n : Int32} (N w : Nat) (harr : Cond.arrayClass .int ∈ lw_all) (hd : decode cc pc = .ok (.newarray .int, 2)) (hn : n = nI N) (hN : N < 2 ^ 20) (hNw : N ≤ 12 * w) (hw1 : 1 ≤ w) (hu : w ≤ u) (kk : ∀ a : Nat, h a = none → G.2.1 ≤ a → K (u - w) (cy_up h a (aI G N (fun _ => 0))) (pc + 2) lv (.ref a :: st)) : K u h pc lv (.int n :: st) := by
  obtain ⟨p, l, e, R, s, m, args, below, meth, c, ⟨hx, hb, hml, hr, hlk, ho, hst, hin0⟩, ⟨hw, hE, htb, hLf, hLl, hUc, hUs⟩, rfl, rfl⟩ := C
  intro H locs cells slots ls hR hS hc0 hs0 hl
  subst hn
  exact va_newa (D := G.1) (atype := .int) (a0 := (N, .inl (fun _ => 0))) hx hb (hw _ harr) rfl hE.1 (cy_wl_P hR) (cy_wl_D hR) hS (fun q hq => Nat.le_trans hE.2.2.2.2.2.2.2.2.2 hq) (fun _ => rfl) (nI_pos (by omega)) (nI_clamp (by omega)) (by show N * 4 ≤ 536870912; omega) (by omega) (by omega) hd (fun q cA H1 hK1 hP1 hD1 hS1 => by
    have e1 : s.vm.findClass ("[" ++ (FieldType.int).toString) = some (G.2.2.2.1 0) := (hE.1.2 0 _ rfl).2
    have e2 : s.vm.findClass ("[" ++ (FieldType.int).toString) = some cA := (hK1.2 5 (cA, .int) rfl).2
    have e3 : cA = G.2.2.2.1 0 := Option.some.inj (e2.symm.trans e1)
    subst e3
    exact kk q (cy_fresh (H1 := H1) hR hD1).1 (cy_fresh (H1 := H1) hR hD1).2 H1 locs (cells + 1) (slots + N) ls (cy_wl_app hR (cy_fresh (H1 := H1) hR hD1).2 hP1) hS1 (by omega) (by omega) hl)
theorem rr_iald (C : cy_M G own cc nL rt L U ini tb Fn K T) {i : Int32} {a n : Nat} {f : Nat → Int32} (j : Nat) (hd : decode cc pc = .ok (.iaload, 1)) (he : cy_kn G h a (aI G n f)) (hi : i = nI j) (hj : j < n) (hn : n < 2 ^ 31) (kk : K u h (pc + 1) lv (.int (f j) :: st)) : K u h pc lv (.int i :: .ref a :: st) := by
  obtain ⟨p, l, e, R, s, m, args, below, meth, c, ⟨hx, hb, hml, hr, hlk, ho, hst, hin0⟩, ⟨hw, hE, htb, hLf, hLl, hUc, hUs⟩, rfl, rfl⟩ := C
  intro H locs cells slots ls hR hS hc0 hs0 hl
  subst hi
  have e := nI_clamp (n := j) (by omega)
  refine va_iald (D := G.1) (tys := cy_ty G) hx hb hE.1 (cy_one (cy_known hE hR hS he)) 0 0 rfl rfl (vp_in_nI hj hn) hd ?_
  rw [e]
  exact kk H locs cells slots ls hR hS hc0 hs0 hl
theorem rr_iast (C : cy_M G own cc nL rt L U ini tb Fn K T) {i x : Int32} {a n : Nat} {f : Nat → Int32} (j : Nat) (hd : decode cc pc = .ok (.iastore, 1)) (he : h a = some (aI G n f)) (hi : i = nI j) (hj : j < n) (hn : n < 2 ^ 31) (kk : K u (cy_up h a (aI G n (upd f j x))) (pc + 1) lv st) : K u h pc lv (.int x :: .int i :: .ref a :: st) := by
  obtain ⟨p, l, e, R, s, m, args, below, meth, c, ⟨hx, hb, hml, hr, hlk, ho, hst, hin0⟩, ⟨hw, hE, htb, hLf, hLl, hUc, hUs⟩, rfl, rfl⟩ := C
  intro H locs cells slots ls hR hS hc0 hs0 hl
  subst hi
  have e := nI_clamp (n := j) (by omega)
  obtain ⟨q0, hq⟩ := cy_wl_at hR he
  refine va_iast (D := G.1) (tys := cy_ty G) hx hb hE.1 (cy_wl_P hR) (cy_wl_D hR) hS q0 0 hq rfl (vp_in_nI hj hn) hd (fun H1 locs1 hP1 hD1 hS1 => ?_)
  rw [e] at hP1
  exact kk H1 locs1 cells slots ls (cy_wl_set hR hq hP1) hS1 hc0 hs0 hl
theorem rr_newaz (C : cy_M G own cc nL rt L U ini tb Fn K T) {n : Int32} (N w : Nat) (harr : Cond.arrayClass .boolean ∈ lw_all) (hd : decode cc pc = .ok (.newarray .boolean, 2)) (hn : n = nI N) (hN : N < 2 ^ 20) (hNw : N ≤ 12 * w) (hw1 : 1 ≤ w) (hu : w ≤ u) (kk : ∀ a : Nat, h a = none → G.2.1 ≤ a → K (u - w) (cy_up h a (aZ G N (fun _ => 0))) (pc + 2) lv (.ref a :: st)) : K u h pc lv (.int n :: st) := by
  obtain ⟨p, l, e, R, s, m, args, below, meth, c, ⟨hx, hb, hml, hr, hlk, ho, hst, hin0⟩, ⟨hw, hE, htb, hLf, hLl, hUc, hUs⟩, rfl, rfl⟩ := C
  intro H locs cells slots ls hR hS hc0 hs0 hl
  subst hn
  exact va_newa (D := G.1) (atype := .boolean) (a0 := (N, .inl (fun _ => 0))) hx hb (hw _ harr) rfl hE.1 (cy_wl_P hR) (cy_wl_D hR) hS (fun q hq => Nat.le_trans hE.2.2.2.2.2.2.2.2.2 hq) (fun _ => rfl) (nI_pos (by omega)) (nI_clamp (by omega)) (by show N * 1 ≤ 536870912; omega) (by omega) (by omega) hd (fun q cA H1 hK1 hP1 hD1 hS1 => by
    have e1 : s.vm.findClass ("[" ++ (FieldType.boolean).toString) = some (G.2.2.2.1 1) := (hE.1.2 1 _ rfl).2
    have e2 : s.vm.findClass ("[" ++ (FieldType.boolean).toString) = some cA := (hK1.2 5 (cA, .boolean) rfl).2
    have e3 : cA = G.2.2.2.1 1 := Option.some.inj (e2.symm.trans e1)
    subst e3
    exact kk q (cy_fresh (H1 := H1) hR hD1).1 (cy_fresh (H1 := H1) hR hD1).2 H1 locs (cells + 1) (slots + N) ls (cy_wl_app hR (cy_fresh (H1 := H1) hR hD1).2 hP1) hS1 (by omega) (by omega) hl)
theorem rr_zald (C : cy_M G own cc nL rt L U ini tb Fn K T) {i : Int32} {a n : Nat} {f : Nat → Int32} (j : Nat) (hd : decode cc pc = .ok (.baload, 1)) (he : cy_kn G h a (aZ G n f)) (hi : i = nI j) (hj : j < n) (hn : n < 2 ^ 31) (kk : K u h (pc + 1) lv (.int (f j) :: st)) : K u h pc lv (.int i :: .ref a :: st) := by
  obtain ⟨p, l, e, R, s, m, args, below, meth, c, ⟨hx, hb, hml, hr, hlk, ho, hst, hin0⟩, ⟨hw, hE, htb, hLf, hLl, hUc, hUs⟩, rfl, rfl⟩ := C
  intro H locs cells slots ls hR hS hc0 hs0 hl
  subst hi
  have e := nI_clamp (n := j) (by omega)
  refine va_zald (D := G.1) (tys := cy_ty G) hx hb hE.1 (cy_one (cy_known hE hR hS he)) 0 1 rfl rfl (vp_in_nI hj hn) hd ?_
  rw [e]
  exact kk H locs cells slots ls hR hS hc0 hs0 hl
theorem rr_zast (C : cy_M G own cc nL rt L U ini tb Fn K T) {i x : Int32} {a n : Nat} {f : Nat → Int32} (j : Nat) (hd : decode cc pc = .ok (.bastore, 1)) (he : h a = some (aZ G n f)) (hi : i = nI j) (hj : j < n) (hn : n < 2 ^ 31) (kk : K u (cy_up h a (aZ G n (upd f j (vp_nar .boolean x)))) (pc + 1) lv st) : K u h pc lv (.int x :: .int i :: .ref a :: st) := by
  obtain ⟨p, l, e, R, s, m, args, below, meth, c, ⟨hx, hb, hml, hr, hlk, ho, hst, hin0⟩, ⟨hw, hE, htb, hLf, hLl, hUc, hUs⟩, rfl, rfl⟩ := C
  intro H locs cells slots ls hR hS hc0 hs0 hl
  subst hi
  have e := nI_clamp (n := j) (by omega)
  obtain ⟨q0, hq⟩ := cy_wl_at hR he
  refine va_zast (D := G.1) (tys := cy_ty G) hx hb hE.1 (cy_wl_P hR) (cy_wl_D hR) hS q0 1 hq rfl (vp_in_nI hj hn) hd (fun H1 locs1 hP1 hD1 hS1 => ?_)
  rw [e] at hP1
  exact kk H1 locs1 cells slots ls (cy_wl_set hR hq hP1) hS1 hc0 hs0 hl
theorem rr_newac (C : cy_M G own cc nL rt L U ini tb Fn K T) {n : Int32} (N w : Nat) (harr : Cond.arrayClass .char ∈ lw_all) (hd : decode cc pc = .ok (.newarray .char, 2)) (hn : n = nI N) (hN : N < 2 ^ 20) (hNw : N ≤ 12 * w) (hw1 : 1 ≤ w) (hu : w ≤ u) (kk : ∀ a : Nat, h a = none → G.2.1 ≤ a → K (u - w) (cy_up h a (aC G N (fun _ => 0))) (pc + 2) lv (.ref a :: st)) : K u h pc lv (.int n :: st) := by
  obtain ⟨p, l, e, R, s, m, args, below, meth, c, ⟨hx, hb, hml, hr, hlk, ho, hst, hin0⟩, ⟨hw, hE, htb, hLf, hLl, hUc, hUs⟩, rfl, rfl⟩ := C
  intro H locs cells slots ls hR hS hc0 hs0 hl
  subst hn
  exact va_newa (D := G.1) (atype := .char) (a0 := (N, .inl (fun _ => 0))) hx hb (hw _ harr) rfl hE.1 (cy_wl_P hR) (cy_wl_D hR) hS (fun q hq => Nat.le_trans hE.2.2.2.2.2.2.2.2.2 hq) (fun _ => rfl) (nI_pos (by omega)) (nI_clamp (by omega)) (by show N * 2 ≤ 536870912; omega) (by omega) (by omega) hd (fun q cA H1 hK1 hP1 hD1 hS1 => by
    have e1 : s.vm.findClass ("[" ++ (FieldType.char).toString) = some (G.2.2.2.1 2) := (hE.1.2 2 _ rfl).2
    have e2 : s.vm.findClass ("[" ++ (FieldType.char).toString) = some cA := (hK1.2 5 (cA, .char) rfl).2
    have e3 : cA = G.2.2.2.1 2 := Option.some.inj (e2.symm.trans e1)
    subst e3
    exact kk q (cy_fresh (H1 := H1) hR hD1).1 (cy_fresh (H1 := H1) hR hD1).2 H1 locs (cells + 1) (slots + N) ls (cy_wl_app hR (cy_fresh (H1 := H1) hR hD1).2 hP1) hS1 (by omega) (by omega) hl)
theorem rr_cald (C : cy_M G own cc nL rt L U ini tb Fn K T) {i : Int32} {a n : Nat} {f : Nat → Int32} (j : Nat) (hd : decode cc pc = .ok (.caload, 1)) (he : cy_kn G h a (aC G n f)) (hi : i = nI j) (hj : j < n) (hn : n < 2 ^ 31) (kk : K u h (pc + 1) lv (.int (f j) :: st)) : K u h pc lv (.int i :: .ref a :: st) := by
  obtain ⟨p, l, e, R, s, m, args, below, meth, c, ⟨hx, hb, hml, hr, hlk, ho, hst, hin0⟩, ⟨hw, hE, htb, hLf, hLl, hUc, hUs⟩, rfl, rfl⟩ := C
  intro H locs cells slots ls hR hS hc0 hs0 hl
  subst hi
  have e := nI_clamp (n := j) (by omega)
  refine va_cald (D := G.1) (tys := cy_ty G) hx hb hE.1 (cy_one (cy_known hE hR hS he)) 0 2 rfl rfl (vp_in_nI hj hn) hd ?_
  rw [e]
  exact kk H locs cells slots ls hR hS hc0 hs0 hl
theorem rr_cast (C : cy_M G own cc nL rt L U ini tb Fn K T) {i x : Int32} {a n : Nat} {f : Nat → Int32} (j : Nat) (hd : decode cc pc = .ok (.castore, 1)) (he : h a = some (aC G n f)) (hi : i = nI j) (hj : j < n) (hn : n < 2 ^ 31) (kk : K u (cy_up h a (aC G n (upd f j (vp_nar .char x)))) (pc + 1) lv st) : K u h pc lv (.int x :: .int i :: .ref a :: st) := by
  obtain ⟨p, l, e, R, s, m, args, below, meth, c, ⟨hx, hb, hml, hr, hlk, ho, hst, hin0⟩, ⟨hw, hE, htb, hLf, hLl, hUc, hUs⟩, rfl, rfl⟩ := C
  intro H locs cells slots ls hR hS hc0 hs0 hl
  subst hi
  have e := nI_clamp (n := j) (by omega)
  obtain ⟨q0, hq⟩ := cy_wl_at hR he
  refine va_cast (D := G.1) (tys := cy_ty G) hx hb hE.1 (cy_wl_P hR) (cy_wl_D hR) hS q0 2 hq rfl (vp_in_nI hj hn) hd (fun H1 locs1 hP1 hD1 hS1 => ?_)
  rw [e] at hP1
  exact kk H1 locs1 cells slots ls (cy_wl_set hR hq hP1) hS1 hc0 hs0 hl
theorem rr_newab (C : cy_M G own cc nL rt L U ini tb Fn K T) {n : Int32} (N w : Nat) (harr : Cond.arrayClass .byte ∈ lw_all) (hd : decode cc pc = .ok (.newarray .byte, 2)) (hn : n = nI N) (hN : N < 2 ^ 20) (hNw : N ≤ 12 * w) (hw1 : 1 ≤ w) (hu : w ≤ u) (kk : ∀ a : Nat, h a = none → G.2.1 ≤ a → K (u - w) (cy_up h a (aB G N (fun _ => 0))) (pc + 2) lv (.ref a :: st)) : K u h pc lv (.int n :: st) := by
  obtain ⟨p, l, e, R, s, m, args, below, meth, c, ⟨hx, hb, hml, hr, hlk, ho, hst, hin0⟩, ⟨hw, hE, htb, hLf, hLl, hUc, hUs⟩, rfl, rfl⟩ := C
  intro H locs cells slots ls hR hS hc0 hs0 hl
  subst hn
  exact va_newa (D := G.1) (atype := .byte) (a0 := (N, .inl (fun _ => 0))) hx hb (hw _ harr) rfl hE.1 (cy_wl_P hR) (cy_wl_D hR) hS (fun q hq => Nat.le_trans hE.2.2.2.2.2.2.2.2.2 hq) (fun _ => rfl) (nI_pos (by omega)) (nI_clamp (by omega)) (by show N * 1 ≤ 536870912; omega) (by omega) (by omega) hd (fun q cA H1 hK1 hP1 hD1 hS1 => by
    have e1 : s.vm.findClass ("[" ++ (FieldType.byte).toString) = some (G.2.2.2.1 3) := (hE.1.2 3 _ rfl).2
    have e2 : s.vm.findClass ("[" ++ (FieldType.byte).toString) = some cA := (hK1.2 5 (cA, .byte) rfl).2
    have e3 : cA = G.2.2.2.1 3 := Option.some.inj (e2.symm.trans e1)
    subst e3
    exact kk q (cy_fresh (H1 := H1) hR hD1).1 (cy_fresh (H1 := H1) hR hD1).2 H1 locs (cells + 1) (slots + N) ls (cy_wl_app hR (cy_fresh (H1 := H1) hR hD1).2 hP1) hS1 (by omega) (by omega) hl)
theorem rr_bald (C : cy_M G own cc nL rt L U ini tb Fn K T) {i : Int32} {a n : Nat} {f : Nat → Int32} (j : Nat) (hd : decode cc pc = .ok (.baload, 1)) (he : cy_kn G h a (aB G n f)) (hi : i = nI j) (hj : j < n) (hn : n < 2 ^ 31) (kk : K u h (pc + 1) lv (.int (f j) :: st)) : K u h pc lv (.int i :: .ref a :: st) := by
  obtain ⟨p, l, e, R, s, m, args, below, meth, c, ⟨hx, hb, hml, hr, hlk, ho, hst, hin0⟩, ⟨hw, hE, htb, hLf, hLl, hUc, hUs⟩, rfl, rfl⟩ := C
  intro H locs cells slots ls hR hS hc0 hs0 hl
  subst hi
  have e := nI_clamp (n := j) (by omega)
  refine va_bald (D := G.1) (tys := cy_ty G) hx hb hE.1 (cy_one (cy_known hE hR hS he)) 0 3 rfl rfl (vp_in_nI hj hn) hd ?_
  rw [e]
  exact kk H locs cells slots ls hR hS hc0 hs0 hl
theorem rr_bast (C : cy_M G own cc nL rt L U ini tb Fn K T) {i x : Int32} {a n : Nat} {f : Nat → Int32} (j : Nat) (hd : decode cc pc = .ok (.bastore, 1)) (he : h a = some (aB G n f)) (hi : i = nI j) (hj : j < n) (hn : n < 2 ^ 31) (kk : K u (cy_up h a (aB G n (upd f j (vp_nar .byte x)))) (pc + 1) lv st) : K u h pc lv (.int x :: .int i :: .ref a :: st) := by
  obtain ⟨p, l, e, R, s, m, args, below, meth, c, ⟨hx, hb, hml, hr, hlk, ho, hst, hin0⟩, ⟨hw, hE, htb, hLf, hLl, hUc, hUs⟩, rfl, rfl⟩ := C
  intro H locs cells slots ls hR hS hc0 hs0 hl
  subst hi
  have e := nI_clamp (n := j) (by omega)
  obtain ⟨q0, hq⟩ := cy_wl_at hR he
  refine va_bast (D := G.1) (tys := cy_ty G) hx hb hE.1 (cy_wl_P hR) (cy_wl_D hR) hS q0 3 hq rfl (vp_in_nI hj hn) hd (fun H1 locs1 hP1 hD1 hS1 => ?_)
  rw [e] at hP1
  exact kk H1 locs1 cells slots ls (cy_wl_set hR hq hP1) hS1 hc0 hs0 hl
theorem rr_alen (C : cy_M G own cc nL rt L U ini tb Fn K T) {a : Nat} (t : Nat) {ty : FieldType} {x : vp_A} (hd : decode cc pc = .ok (.arraylength, 1)) (he : cy_kn G h a (.inl (G.2.2.2.1 t, x))) (ht : (cy_ty G)[t]? = some (G.2.2.2.1 t, ty)) (kk : K u h (pc + 1) lv (.int (nI x.1) :: st)) : K u h pc lv (.ref a :: st) := by
  obtain ⟨p, l, e, R, s, m, args, below, meth, c, ⟨hx, hb, hml, hr, hlk, ho, hst, hin0⟩, ⟨hw, hE, htb, hLf, hLl, hUc, hUs⟩, rfl, rfl⟩ := C
  intro H locs cells slots ls hR hS hc0 hs0 hl
  exact va_alen (D := G.1) hx hb hE.1 (cy_one (cy_known hE hR hS he)) 0 t rfl ht rfl hd (kk H locs cells slots ls hR hS hc0 hs0 hl)
theorem rr_aald (C : cy_M G own cc nL rt L U ini tb Fn K T) {i : Int32} {a n : Nat} {f : Nat → Option Nat} (j : Nat) (hd : decode cc pc = .ok (.aaload, 1)) (he : cy_kn G h a (aO G n f)) (hi : i = nI j) (hj : j < n) (hn : n < 2 ^ 31) (kk : K u h (pc + 1) lv (va_rf (f j) :: st)) : K u h pc lv (.int i :: .ref a :: st) := by
  obtain ⟨p, l, e, R, s, m, args, below, meth, c, ⟨hx, hb, hml, hr, hlk, ho, hst, hin0⟩, ⟨hw, hE, htb, hLf, hLl, hUc, hUs⟩, rfl, rfl⟩ := C
  intro H locs cells slots ls hR hS hc0 hs0 hl
  subst hi
  have e := nI_clamp (n := j) (by omega)
  refine va_aldq (D := G.1) (tys := cy_ty G) hx hb hE.1 (cy_one (cy_known hE hR hS he)) 0 4 rfl rfl (vp_in_nI hj hn) hd ?_
  rw [e]
  exact kk H locs cells slots ls hR hS hc0 hs0 hl
theorem rr_aast (C : cy_M G own cc nL rt L U ini tb Fn K T) {i : Int32} {a n v ci : Nat} {vs : List Value} {r : vw_C} {f : Nat → Option Nat} (j : Nat) (hd : decode cc pc = .ok (.aastore, 1)) (he : h a = some (aO G n f)) (hv : h v = some (.inr (ci, vs))) (hcl : cy_cl[ci]? = some r) (hca : Cond.castable r.1 "java/lang/Object" ∈ lw_tbl) (hi : i = nI j) (hj : j < n) (hn : n < 2 ^ 31) (kk : K u (cy_up h a (aO G n (va_up f j (some v)))) (pc + 1) lv st) : K u h pc lv (.ref v :: .int i :: .ref a :: st) := by
  obtain ⟨p, l, e, R, s, m, args, below, meth, c, ⟨hx, hb, hml, hr, hlk, ho, hst, hin0⟩, ⟨hw, hE, htb, hLf, hLl, hUc, hUs⟩, rfl, rfl⟩ := C
  intro H locs cells slots ls hR hS hc0 hs0 hl
  subst hi
  have e := nI_clamp (n := j) (by omega)
  obtain ⟨q0, hq⟩ := cy_wl_at hR he
  obtain ⟨q1, hq1⟩ := cy_wl_at hR hv
  refine va_astqO (D := G.1) (tys := cy_ty G) hx hb hE.1 (cy_wl_P hR) (cy_wl_D hR) hS q0 4 q1 ci hq rfl (hE.2.1 _ hca rfl) hq1 hcl (vp_in_nI hj hn) hd (fun H1 locs1 hP1 hD1 hS1 => ?_)
  rw [e] at hP1
  exact kk H1 locs1 cells slots ls (cy_wl_set hR hq hP1) hS1 hc0 hs0 hl
theorem rr_newq (C : cy_M G own cc nL rt L U ini tb Fn K T) {n : Int32} {index : Nat} (N w : Nat) (hlink : Cond.classLink own index "java/lang/Object" ∈ lw_all) (hd : decode cc pc = .ok (.anewarray index, 3)) (hn : n = nI N) (hN : N < 2 ^ 20) (hNw : N ≤ 12 * w) (hw1 : 1 ≤ w) (hu : w ≤ u) (kk : ∀ a : Nat, h a = none → G.2.1 ≤ a → K (u - w) (cy_up h a (aO G N (fun _ => none))) (pc + 3) lv (.ref a :: st)) : K u h pc lv (.int n :: st) := by
  obtain ⟨p, l, e, R, s, m, args, below, meth, c, ⟨hx, hb, hml, hr, hlk, ho, hst, hin0⟩, ⟨hw, hE, htb, hLf, hLl, hUc, hUs⟩, rfl, rfl⟩ := C
  intro H locs cells slots ls hR hS hc0 hs0 hl
  subst hn
  exact va_newq (D := G.1) hx hb ho (hw _ hlink) hE.2.2.2.1 hE.1 (cy_wl_P hR) (cy_wl_D hR) hS (fun q hq => Nat.le_trans hE.2.2.2.2.2.2.2.2.2 hq) (nI_pos (by omega)) (nI_clamp (by omega)) (by omega) (by omega) (by omega) hd (fun q cA H1 hK1 hP1 hD1 hS1 => by
    obtain ⟨_, _, _, _, _, e1⟩ := (hE.1.2 4 _ rfl).2
    obtain ⟨_, _, _, _, _, e2⟩ := (hK1.2 5 (cA, .object "java/lang/Object") rfl).2
    have e3 : cA = G.2.2.2.1 4 := Option.some.inj (e2.symm.trans e1)
    subst e3
    exact kk q (cy_fresh (H1 := H1) hR hD1).1 (cy_fresh (H1 := H1) hR hD1).2 H1 locs (cells + 1) (slots + N) ls (cy_wl_app hR (cy_fresh (H1 := H1) hR hD1).2 hP1) hS1 (by omega) (by omega) hl)
theorem rr_checkcast (C : cy_M G own cc nL rt L U ini tb Fn K T) {nm : String} {Tt : u_T} {N ci index a : Nat} {fs : List Value} (hcl : cy_cl[ci]? = some (nm, Tt, N)) (hlink : Cond.classLink own index nm ∈ lw_all) (hd : decode cc pc = .ok (.checkcast index, 3)) (he : cy_kn G h a (.inr (ci, fs))) (kk : K u h (pc + 3) lv (.ref a :: st)) : K u h pc lv (.ref a :: st) := by
  obtain ⟨p, l, e, R, s, m, args, below, meth, c, ⟨hx, hb, hml, hr, hlk, ho, hst, hin0⟩, ⟨hw, hE, htb, hLf, hLl, hUc, hUs⟩, rfl, rfl⟩ := C
  intro H locs cells slots ls hR hS hc0 hs0 hl
  exact va_castS hx hb ho (hw _ hlink) (hE.1.1 ci _ hcl).2 (cy_cell hE hcl (cy_known hE hR hS he)) hd (kk H locs cells slots ls hR hS hc0 hs0 hl)
theorem rr_inst (C : cy_M G own cc nL rt L U ini tb Fn K T) {nm : String} {Tt : u_T} {N ci index a : Nat} {fs : List Value} (hcl : cy_cl[ci]? = some (nm, Tt, N)) (hlink : Cond.classLink own index nm ∈ lw_all) (hd : decode cc pc = .ok (.instanceof index, 3)) (he : cy_kn G h a (.inr (ci, fs))) (kk : K u h (pc + 3) lv (.int 1 :: st)) : K u h pc lv (.ref a :: st) := by
  obtain ⟨p, l, e, R, s, m, args, below, meth, c, ⟨hx, hb, hml, hr, hlk, ho, hst, hin0⟩, ⟨hw, hE, htb, hLf, hLl, hUc, hUs⟩, rfl, rfl⟩ := C
  intro H locs cells slots ls hR hS hc0 hs0 hl
  exact va_instS hx hb ho (hw _ hlink) (hE.1.1 ci _ hcl).2 (cy_cell hE hcl (cy_known hE hR hS he)) hd (kk H locs cells slots ls hR hS hc0 hs0 hl)
theorem rr_ldcS (C : cy_M G own cc nL rt L U ini tb Fn K T) {tx : String} {index q : Nat} (hZ : ∀ s : State, cy_Env G s → vk_R own index tx q s) (hd : decode cc pc = .ok (.ldc index, 2)) (kk : K u h (pc + 2) lv (.ref q :: st)) : K u h pc lv st := by
  obtain ⟨p, l, e, R, s, m, args, below, meth, c, ⟨hx, hb, hml, hr, hlk, ho, hst, hin0⟩, ⟨hw, hE, htb, hLf, hLl, hUc, hUs⟩, rfl, rfl⟩ := C
  intro H locs cells slots ls hR hS hc0 hs0 hl
  exact va_ldcS hx hb ho (hZ s hE) hd (kk H locs cells slots ls hR hS hc0 hs0 hl)
theorem rr_objInit (C : cy_M G own cc nL rt L U ini tb Fn K T) {a index : Nat} (hlink : Cond.methodLink own index Lib.objectInit ∈ lw_all) (hinst : Cond.instanceMethod Lib.objectInit ∈ lw_all) (hcode : Cond.code Lib.objectInit ⟨#[0xb1]⟩ 1 none ∈ lw_all) (hd : decode cc pc = .ok (.invokespecial index, 3)) (hL : 1 ≤ L) (hcat : (st.map fun v => v.category).sum ≤ 8) (kk : K u h (pc + 3) lv st) : K u h pc lv (.ref a :: st) := by
  obtain ⟨p, l, e, R, s, m, args, below, meth, c, ⟨hx, hb, hml, hr, hlk, ho, hst, hin0⟩, ⟨hw, hE, htb, hLf, hLl, hUc, hUs⟩, rfl, rfl⟩ := C
  intro H locs cells slots ls hR hS hc0 hs0 hl
  refine W.objInit (g := F0 m pc ls (.ref a :: st)) hx hb ho (hw _ hlink) (hw _ hinst) (hw _ hcode) rfl (by rw [hml]; exact hl.1) rfl hd (by omega) ?_ (kk H locs cells slots ls hR hS hc0 hs0 hl)
  have h8 : 2 * (F0 m pc ls st).monitorRoom + (st.map fun v => v.category).sum ≤ 8 := lv_room hcat
  have h9 : (F0 m pc ls (.ref a :: st)).monitorRoom = (F0 m pc ls st).monitorRoom := rfl
  omega
theorem rr_mmin (C : cy_M G own cc nL rt L U ini tb Fn K T) {x y : Int32} {index : Nat} (hlink : Cond.methodLink own index Lib.Math.min.name ∈ lw_all) (hstat : Cond.static Lib.Math.min.name ∈ lw_all) (hini : Cond.initialized "java/lang/Math" ∈ lw_all) (hcode : Cond.code Lib.Math.min.name Lib.Math.min.code 2 (some .int) ∈ lw_all) (hd : decode cc pc = .ok (.invokestatic index, 3)) (hL : 1 ≤ L) (hcat : (st.map fun v => v.category).sum ≤ 8) (kk : K u h (pc + 3) lv (.int (if y < x then y else x) :: st)) : K u h pc lv (.int y :: .int x :: st) := by
  obtain ⟨p, l, e, R, s, m, args, below, meth, c, ⟨hx, hb, hml, hr, hlk, ho, hst, hin0⟩, ⟨hw, hE, htb, hLf, hLl, hUc, hUs⟩, rfl, rfl⟩ := C
  intro H locs cells slots ls hR hS hc0 hs0 hl
  exact va_mmin hx hb (hml.trans hl.1.symm) ho (hw _ hlink) (hw _ hstat) (hw _ hini) (hw _ hcode) (by omega) (by omega) (by omega) (by omega) hd (kk H locs cells slots ls hR hS hc0 hs0 hl)
theorem rr_mmax (C : cy_M G own cc nL rt L U ini tb Fn K T) {x y : Int32} {index : Nat} (hlink : Cond.methodLink own index Lib.Math.max.name ∈ lw_all) (hstat : Cond.static Lib.Math.max.name ∈ lw_all) (hini : Cond.initialized "java/lang/Math" ∈ lw_all) (hcode : Cond.code Lib.Math.max.name Lib.Math.max.code 2 (some .int) ∈ lw_all) (hd : decode cc pc = .ok (.invokestatic index, 3)) (hL : 1 ≤ L) (hcat : (st.map fun v => v.category).sum ≤ 8) (kk : K u h (pc + 3) lv (.int (if x < y then y else x) :: st)) : K u h pc lv (.int y :: .int x :: st) := by
  obtain ⟨p, l, e, R, s, m, args, below, meth, c, ⟨hx, hb, hml, hr, hlk, ho, hst, hin0⟩, ⟨hw, hE, htb, hLf, hLl, hUc, hUs⟩, rfl, rfl⟩ := C
  intro H locs cells slots ls hR hS hc0 hs0 hl
  exact va_mmax hx hb (hml.trans hl.1.symm) ho (hw _ hlink) (hw _ hstat) (hw _ hini) (hw _ hcode) (by omega) (by omega) (by omega) (by omega) hd (kk H locs cells slots ls hR hS hc0 hs0 hl)
end KHEAP
