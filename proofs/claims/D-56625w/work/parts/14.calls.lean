/-! CALLS, THROWS, COPIES over K -/
abbrev qV (v : Value) (P : Hp → Prop) : Option Value → Hp → Prop := fun r h1 => r = some v ∧ P h1
abbrev qN (P : Hp → Prop) : Option Value → Hp → Prop := fun r h1 => r = none ∧ P h1
abbrev qE {α : Type} (f : α → Value) (P : α → Hp → Prop) : Option Value → Hp → Prop := fun r h1 => ∃ x : α, r = some (f x) ∧ P x h1
abbrev xF : String → Hp → Prop := fun _ _ => False
/-- how an answer goes on -/
theorem kV {K : KT1} {u pc : Nat} {lv : LV} {st : List Value} {v : Value} {P : Hp → Prop} (k : ∀ h1, P h1 → K u h1 pc lv (v :: st)) : ∀ (r : Option Value) (h1 : Hp), qV v P r h1 → K u h1 pc lv (r.toList ++ st) := by
  intro r h1 hq
  obtain ⟨rfl, hp⟩ := hq
  exact k h1 hp
theorem kN {K : KT1} {u pc : Nat} {lv : LV} {st : List Value} {P : Hp → Prop} (k : ∀ h1, P h1 → K u h1 pc lv st) : ∀ (r : Option Value) (h1 : Hp), qN P r h1 → K u h1 pc lv (r.toList ++ st) := by
  intro r h1 hq
  obtain ⟨rfl, hp⟩ := hq
  exact k h1 hp
theorem kE {K : KT1} {u pc : Nat} {lv : LV} {st : List Value} {α : Type} {f : α → Value} {P : α → Hp → Prop} (k : ∀ x h1, P x h1 → K u h1 pc lv (f x :: st)) : ∀ (r : Option Value) (h1 : Hp), qE f P r h1 → K u h1 pc lv (r.toList ++ st) := by
  intro r h1 hq
  obtain ⟨x, rfl, hp⟩ := hq
  exact k x h1 hp
/-- nothing has changed -/
theorem kVr {K : KT1} {u pc : Nat} {lv : LV} {st : List Value} {v : Value} {h : Hp} (k : K u h pc lv (v :: st)) : ∀ (r : Option Value) (h1 : Hp), qV v (fun h1 => h1 = h) r h1 → K u h1 pc lv (r.toList ++ st) := kV (fun _ e => e ▸ k)
theorem kNr {K : KT1} {u pc : Nat} {lv : LV} {st : List Value} {h : Hp} (k : K u h pc lv st) : ∀ (r : Option Value) (h1 : Hp), qN (fun h1 => h1 = h) r h1 → K u h1 pc lv (r.toList ++ st) := kN (fun _ e => e ▸ k)
theorem xo {T : KT2} {u pc : Nat} {lv : LV} {st : List Value} : ∀ (E : String) (h1 : Hp), xF E h1 → T u h1 pc lv st E := fun _ _ hf => hf.elim
section KRUN
variable {p : Program} {l : Launch} {e : Env} {R : Room} {s : State} {m : MethodId} {args : Array Value} {below : List Frame} {meth : Method} {c : Code} {H : Heap} {locs : List Loc} {cells slots : Nat} {Qf : State → Prop}
variable {G : GT} {U' pc : Nat} {ls : Array Slot} {rest st0 : List Value} {a : Array Value} {Q : Option Value → Hp → Prop} {X : String → Hp → Prop}
theorem cy_run (hr : vx_Run p l e R s m args below meth c H locs cells slots U' (12 * U') (F0 m pc ls st0) rest (cy_QC G Q a) (cy_XC G X) (cy_FA G)) (hS : va_S (cy_FA G) s.heap H locs)
    (kx : ∀ (E : String) (ce : Cell) (q : Nat) (h1 : Hp) (H1 : Heap) (locs1 : List Loc), cy_Rep G H1 h1 → X E h1 → va_S (cy_FA G) s.heap H1 locs1 → H1[q]? = some ce → ce.vm = .none → s.vm.findClass E = some ce.cls → vx_W p l e R s m args below meth c H1 locs1 (cells + U') (slots + 12 * U') Qf (F0 m pc ls rest) q)
    (kk : ∀ (r : Option Value) (h1 : Hp) (H1 : Heap) (locs1 : List Loc), cy_Rep G H1 h1 → Q r h1 → va_S (cy_FA G) s.heap H1 locs1 → W p l e R s m args below meth c H1 locs1 (cells + U') (slots + 12 * U') Qf (F0 m (pc + 3) ls (r.toList ++ rest))) : W p l e R s m args below meth c H locs cells slots Qf (F0 m pc ls st0) := by
  intro T hT X
  rcases hr T hT X with ⟨v, st₀, t, T', L, h0, X', hL, e1, e2, ⟨⟨r, h1, hv, hp, hb⟩, hF⟩, st⟩ | ⟨q, st₀, t, T', L, E, ce, h0, X', hL, e1, e2, ⟨⟨h1, hp, hb⟩, hF⟩, hce, hcv, hcl, st⟩
  · cases hv
    obtain ⟨k1, k2, k3⟩ := vx_keep h0 e1 hS (fun _ _ h => h) (fun _ h => h) hL hF
    obtain ⟨t2, a1, b1⟩ := kk v h1 T'.heap (locs ++ L) (by rw [e1]; exact hp) hb k3 T' rfl X'
    exact ⟨t2, st t2 a1, b1⟩
  · obtain ⟨k1, k2, k3⟩ := vx_keep h0 e1 hS (fun _ _ h => h) (fun _ h => h) hL hF
    obtain ⟨t2, a1, b1⟩ := kx E ce q h1 T'.heap (locs ++ L) (by rw [e1]; exact hp) hb k3 (by rw [e1]; exact hce) hcv hcl T' rfl X'
    exact ⟨t2, st.trans a1, b1⟩
theorem cy_run5 (hr : vx_Run5 p l e R s m args below meth c H locs cells slots U' (12 * U') (F0 m pc ls st0) rest (cy_QC G Q a) (cy_XC G X) (cy_FA G)) (hS : va_S (cy_FA G) s.heap H locs)
    (kx : ∀ (E : String) (ce : Cell) (q : Nat) (h1 : Hp) (H1 : Heap) (locs1 : List Loc), cy_Rep G H1 h1 → X E h1 → va_S (cy_FA G) s.heap H1 locs1 → H1[q]? = some ce → ce.vm = .none → s.vm.findClass E = some ce.cls → vx_W p l e R s m args below meth c H1 locs1 (cells + U') (slots + 12 * U') Qf (F0 m pc ls rest) q)
    (kk : ∀ (r : Option Value) (h1 : Hp) (H1 : Heap) (locs1 : List Loc), cy_Rep G H1 h1 → Q r h1 → va_S (cy_FA G) s.heap H1 locs1 → W p l e R s m args below meth c H1 locs1 (cells + U') (slots + 12 * U') Qf (F0 m (pc + 5) ls (r.toList ++ rest))) : W p l e R s m args below meth c H locs cells slots Qf (F0 m pc ls st0) := by
  intro T hT X
  rcases hr T hT X with ⟨v, st₀, t, T', L, h0, X', hL, e1, e2, ⟨⟨r, h1, hv, hp, hb⟩, hF⟩, st⟩ | ⟨q, st₀, t, T', L, E, ce, h0, X', hL, e1, e2, ⟨⟨h1, hp, hb⟩, hF⟩, hce, hcv, hcl, st⟩
  · cases hv
    obtain ⟨k1, k2, k3⟩ := vx_keep h0 e1 hS (fun _ _ h => h) (fun _ h => h) hL hF
    obtain ⟨t2, a1, b1⟩ := kk v h1 T'.heap (locs ++ L) (by rw [e1]; exact hp) hb k3 T' rfl X'
    exact ⟨t2, st t2 a1, b1⟩
  · obtain ⟨k1, k2, k3⟩ := vx_keep h0 e1 hS (fun _ _ h => h) (fun _ h => h) hL hF
    obtain ⟨t2, a1, b1⟩ := kx E ce q h1 T'.heap (locs ++ L) (by rw [e1]; exact hp) hb k3 (by rw [e1]; exact hce) hcv hcl T' rfl X'
    exact ⟨t2, st.trans a1, b1⟩
end KRUN
section KCALL
variable {G : GT} {own : String} {cc : ByteArray} {nL : Nat} {rt : Option FieldType} {L U : Nat} {ini : Bool} {tb : List ExceptionTableEntry} {Fn : List Frame → Array Value → State → State → Prop} {K : KT1} {T : KT2}
variable {u : Nat} {h : Hp} {pc : Nat} {lv : LV} {st stk : List Value}
variable {x y : MethodName} {bytes : ByteArray} {maxL : Nat} {ret : Option FieldType} {L' U' index n ci b : Nat} {as fs : List Value} {Tt : u_T} {N : Nat} {Q : Option Value → Hp → Prop} {X : String → Hp → Prop}
theorem rr_callV (C : cy_M G own cc nL rt L U ini tb Fn K T) (hcl : cy_cl[ci]? = some (y.cls, Tt, N)) (h1 : Cond.methodLink own index y ∈ lw_all) (h2 : Cond.instanceMethod y ∈ lw_all) (h3 : Cond.selects y.cls y y ∈ lw_all) (h4 : Cond.initialized y.cls ∈ lw_all) (h5 : Cond.code y bytes maxL ret ∈ lw_all)
    (hd0 : y.cls = y.cls ∧ y.cls ≠ "java/lang/invoke/MethodHandle" ∧ y.cls ≠ "java/lang/invoke/VarHandle" ∧ (parseMethodDescriptor y.desc).map (fun d => d.parameters.length) = some n) (hmx : maxL ≤ 45)
    (hd : decode cc pc = .ok (.invokevirtual index, 3)) (hcon : cy_Con G y bytes maxL ret L' U' (.ref b :: as) h Q X) (he : cy_kn G h b (.inr (ci, fs))) (hn : as.length = n) (hstk : as.reverse ++ .ref b :: st = stk) (hL : L' < L) (hu : U' ≤ u) (hcat : (st.map fun v => v.category).sum ≤ 8)
    (kx : ∀ (E : String) (h1 : Hp), X E h1 → T (u - U') h1 pc lv st E) (kk : ∀ (r : Option Value) (h1 : Hp), Q r h1 → K (u - U') h1 (pc + 3) lv (r.toList ++ st)) : K u h pc lv stk := by
  subst hstk
  obtain ⟨p, l, e, R, s, m, args, below, meth, c, ⟨hx, hb, hml, hr, hlk, ho, hst, hin0⟩, ⟨hw, hE, htb, hLf, hLl, hUc, hUs⟩, rfl, rfl⟩ := C
  intro H locs cells slots ls hR hS hc0 hs0 hl
  exact cy_run (vx_runV (As := as) (rest := st) ⟨hx, hb, hml, ho, hw⟩ (hcon l hst) (cwV n hw (lw_V h1 h2 h3 h4 h5) rfl rfl rfl hd0 ⟨by show L' + 1 ≤ _; omega, by show _ + 64 * L' ≤ _; omega⟩) ⟨cy_PC_blind, cy_cell hE hcl (cy_known hE hR hS he), fun V hV hW => ⟨rfl, hE.moved hW hV hS, by rw [hV]; exact hR⟩⟩ rfl hn hl.1 rfl (lv_room hcat) hd ⟨by omega, by omega⟩) hS
    (fun E ce q h1 H1 locs1 hR1 hX hS1 c1 c2 c3 => kx E h1 hX H1 locs1 _ _ ls q ce hR1 hS1 (by omega) (by omega) hl c1 c2 c3)
    (fun r h1 H1 locs1 hR1 hQ hS1 => kk r h1 hQ H1 locs1 _ _ ls hR1 hS1 (by omega) (by omega) hl)
theorem rr_callS (C : cy_M G own cc nL rt L U ini tb Fn K T) (h1 : Cond.methodLink own index y ∈ lw_all) (h2 : Cond.static y ∈ lw_all) (h4 : Cond.initialized y.cls ∈ lw_all) (h5 : Cond.code y bytes maxL ret ∈ lw_all)
    (hd0 : y.cls ≠ "java/lang/invoke/MethodHandle" ∧ y.cls ≠ "java/lang/invoke/VarHandle" ∧ (parseMethodDescriptor y.desc).map (fun d => d.parameters.length) = some n) (hmx : maxL ≤ 45)
    (hd : decode cc pc = .ok (.invokestatic index, 3)) (hcon : cy_Con G y bytes maxL ret L' U' as h Q X) (hn : as.length = n) (hstk : as.reverse ++ st = stk) (hL : L' < L) (hu : U' ≤ u) (hcat : (st.map fun v => v.category).sum ≤ 8)
    (kx : ∀ (E : String) (h1 : Hp), X E h1 → T (u - U') h1 pc lv st E) (kk : ∀ (r : Option Value) (h1 : Hp), Q r h1 → K (u - U') h1 (pc + 3) lv (r.toList ++ st)) : K u h pc lv stk := by
  subst hstk
  obtain ⟨p, l, e, R, s, m, args, below, meth, c, ⟨hx, hb, hml, hr, hlk, ho, hst, hin0⟩, ⟨hw, hE, htb, hLf, hLl, hUc, hUs⟩, rfl, rfl⟩ := C
  intro H locs cells slots ls hR hS hc0 hs0 hl
  exact cy_run (vx_runS (As := as) (rest := st) ⟨hx, hb, hml, ho, hw⟩ (hcon l hst) (va_cwS n hw (lw_S h1 h2 h4 h5) rfl rfl rfl hd0 ⟨by show L' + 1 ≤ _; omega, by show _ + 64 * L' ≤ _; omega⟩) ⟨cy_PC_blind, fun V hV hW => ⟨rfl, hE.moved hW hV hS, by rw [hV]; exact hR⟩⟩ rfl hn hl.1 rfl (lv_room hcat) hd ⟨by omega, by omega⟩) hS
    (fun E ce q h1 H1 locs1 hR1 hX hS1 c1 c2 c3 => kx E h1 hX H1 locs1 _ _ ls q ce hR1 hS1 (by omega) (by omega) hl c1 c2 c3)
    (fun r h1 H1 locs1 hR1 hQ hS1 => kk r h1 hQ H1 locs1 _ _ ls hR1 hS1 (by omega) (by omega) hl)
theorem rr_callI (C : cy_M G own cc nL rt L U ini tb Fn K T) (h1 : Cond.methodLink own index y ∈ lw_all) (h2 : Cond.instanceMethod y ∈ lw_all) (h4 : Cond.initialized y.cls ∈ lw_all) (h5 : Cond.code y bytes maxL none ∈ lw_all)
    (hd0 : y.cls ≠ "java/lang/invoke/MethodHandle" ∧ y.cls ≠ "java/lang/invoke/VarHandle" ∧ (parseMethodDescriptor y.desc).map (fun d => d.parameters.length) = some n) (hy : y.name = "<init>") (hmx : maxL ≤ 45)
    (hd : decode cc pc = .ok (.invokespecial index, 3)) (hcon : cy_Con G y bytes maxL none L' U' (.ref b :: as) h Q X) (hn : as.length = n) (hstk : as.reverse ++ .ref b :: st = stk) (hL : L' < L) (hu : U' ≤ u) (hcat : (st.map fun v => v.category).sum ≤ 8)
    (kx : ∀ (E : String) (h1 : Hp), X E h1 → T (u - U') h1 pc lv st E) (kk : ∀ (r : Option Value) (h1 : Hp), Q r h1 → K (u - U') h1 (pc + 3) lv (r.toList ++ st)) : K u h pc lv stk := by
  subst hstk
  obtain ⟨p, l, e, R, s, m, args, below, meth, c, ⟨hx, hb, hml, hr, hlk, ho, hst, hin0⟩, ⟨hw, hE, htb, hLf, hLl, hUc, hUs⟩, rfl, rfl⟩ := C
  intro H locs cells slots ls hR hS hc0 hs0 hl
  exact cy_run (vx_runI (As := as) (rest := st) ⟨hx, hb, hml, ho, hw⟩ (hcon l hst) (cwI n hw (lw_meth h5) rfl rfl rfl (hw _ h4) (hw _ h1) (hw _ h2) hy hd0 ⟨by show L' + 1 ≤ _; omega, by show _ + 64 * L' ≤ _; omega⟩) ⟨cy_PC_blind, fun V hV hW => ⟨rfl, hE.moved hW hV hS, by rw [hV]; exact hR⟩⟩ rfl hn hl.1 rfl (lv_room hcat) hd ⟨by omega, by omega⟩) hS
    (fun E ce q h1 H1 locs1 hR1 hX hS1 c1 c2 c3 => kx E h1 hX H1 locs1 _ _ ls q ce hR1 hS1 (by omega) (by omega) hl c1 c2 c3)
    (fun r h1 H1 locs1 hR1 hQ hS1 => kk r h1 hQ H1 locs1 _ _ ls hR1 hS1 (by omega) (by omega) hl)
/-- a private constructor of a nest mate -/
theorem rr_callIN {host : String} (C : cy_M G own cc nL rt L U ini tb Fn K T) (h1 : Cond.methodLinkNest own index y host ∈ lw_tbl) (h2 : Cond.instanceMethod y ∈ lw_all) (h4 : Cond.initialized y.cls ∈ lw_all) (h5 : Cond.code y bytes maxL none ∈ lw_all)
    (hd0 : y.cls ≠ "java/lang/invoke/MethodHandle" ∧ y.cls ≠ "java/lang/invoke/VarHandle" ∧ (parseMethodDescriptor y.desc).map (fun d => d.parameters.length) = some n) (hy : y.name = "<init>") (hmx : maxL ≤ 45)
    (hd : decode cc pc = .ok (.invokespecial index, 3)) (hcon : cy_Con G y bytes maxL none L' U' (.ref b :: as) h Q X) (hn : as.length = n) (hstk : as.reverse ++ .ref b :: st = stk) (hL : L' < L) (hu : U' ≤ u) (hcat : (st.map fun v => v.category).sum ≤ 8)
    (kx : ∀ (E : String) (h1 : Hp), X E h1 → T (u - U') h1 pc lv st E) (kk : ∀ (r : Option Value) (h1 : Hp), Q r h1 → K (u - U') h1 (pc + 3) lv (r.toList ++ st)) : K u h pc lv stk := by
  subst hstk
  obtain ⟨p, l, e, R, s, m, args, below, meth, c, ⟨hx, hb, hml, hr, hlk, ho, hst, hin0⟩, ⟨hw, hE, htb, hLf, hLl, hUc, hUs⟩, rfl, rfl⟩ := C
  intro H locs cells slots ls hR hS hc0 hs0 hl
  exact cy_run (vx_runIN (As := as) (rest := st) ⟨hx, hb, hml, ho, hw⟩ (hcon l hst) ⟨va_cnB n hw (lw_meth h5) rfl rfl rfl (hE.2.1 _ h1 rfl) (hw _ h4) hd0 ⟨by show L' + 1 ≤ _; omega, by show _ + 64 * L' ≤ _; omega⟩, hy, hw _ h2⟩ ⟨cy_PC_blind, fun V hV hW => ⟨rfl, hE.moved hW hV hS, by rw [hV]; exact hR⟩⟩ rfl hn hl.1 rfl (lv_room hcat) hd ⟨by omega, by omega⟩) hS
    (fun E ce q h1 H1 locs1 hR1 hX hS1 c1 c2 c3 => kx E h1 hX H1 locs1 _ _ ls q ce hR1 hS1 (by omega) (by omega) hl c1 c2 c3)
    (fun r h1 H1 locs1 hR1 hQ hS1 => kk r h1 hQ H1 locs1 _ _ ls hR1 hS1 (by omega) (by omega) hl)
theorem rr_callF {count : Nat} (C : cy_M G own cc nL rt L U ini tb Fn K T) (hcl : cy_cl[ci]? = some (y.cls, Tt, N)) (h1 : Cond.methodLink own index x ∈ lw_all) (h3 : Cond.selects y.cls x y ∈ lw_all) (h2 : Cond.instanceMethod y ∈ lw_all) (h4 : Cond.initialized y.cls ∈ lw_all) (h5 : Cond.code y bytes maxL ret ∈ lw_all) (hF : ∀ s : State, cy_Env G s → va_Fw y.cls x y s)
    (hd0 : x.cls ≠ "java/lang/invoke/MethodHandle" ∧ x.cls ≠ "java/lang/invoke/VarHandle" ∧ (parseMethodDescriptor x.desc).map (fun d => d.parameters.length) = some n) (hmx : maxL ≤ 45)
    (hd : decode cc pc = .ok (.invokeinterface index count, 5)) (hcon : cy_Con G y bytes maxL ret L' U' (.ref b :: as) h Q X) (he : cy_kn G h b (.inr (ci, fs))) (hn : as.length = n) (hstk : as.reverse ++ .ref b :: st = stk) (hL : L' < L) (hu : U' ≤ u) (hcat : (st.map fun v => v.category).sum ≤ 8)
    (kx : ∀ (E : String) (h1 : Hp), X E h1 → T (u - U') h1 pc lv st E) (kk : ∀ (r : Option Value) (h1 : Hp), Q r h1 → K (u - U') h1 (pc + 5) lv (r.toList ++ st)) : K u h pc lv stk := by
  subst hstk
  obtain ⟨p, l, e, R, s, m, args, below, meth, c, ⟨hx, hb, hml, hr, hlk, ho, hst, hin0⟩, ⟨hw, hE, htb, hLf, hLl, hUc, hUs⟩, rfl, rfl⟩ := C
  intro H locs cells slots ls hR hS hc0 hs0 hl
  have hws : GoodIn lw_all (va_wsF own index y.cls x y (ws_ y bytes maxL ret)) := by
    refine lw_app ?_ (lw_meth h5)
    intro w hw
    simp only [List.mem_cons, List.not_mem_nil, or_false] at hw
    rcases hw with e | e | e | e
    · rw [e]; exact h1
    · rw [e]; exact h3
    · rw [e]; exact h2
    · rw [e]; exact h4
  exact cy_run5 (vx_runF (As := as) (rest := st) (hE.1.1 ci _ hcl).2 ⟨hx, hb, hml, ho, hw⟩ (hcon l hst) (va_cwF n hw hws rfl rfl rfl (hF s hE) hd0 ⟨by show L' + 1 ≤ _; omega, by show _ + 64 * L' ≤ _; omega⟩) ⟨cy_PC_blind, cy_cell hE hcl (cy_known hE hR hS he), fun V hV hW => ⟨rfl, hE.moved hW hV hS, by rw [hV]; exact hR⟩⟩ rfl hn hl.1 rfl (lv_room hcat) hd ⟨by omega, by omega⟩) hS
    (fun E ce q h1 H1 locs1 hR1 hX hS1 c1 c2 c3 => kx E h1 hX H1 locs1 _ _ ls q ce hR1 hS1 (by omega) (by omega) hl c1 c2 c3)
    (fun r h1 H1 locs1 hR1 hQ hS1 => kk r h1 hQ H1 locs1 _ _ ls hR1 hS1 (by omega) (by omega) hl)
/-- caught by the row t of the table -/
theorem rr_catch {E name : String} {pre suf : List ExceptionTableEntry} {t : ExceptionTableEntry} (C : cy_M G own cc nL rt L U ini tb Fn K T) (htb : tb = pre ++ t :: suf) (hpass : ∀ z ∈ pre, covers z pc = false ∨ (z.catchType ≠ 0 ∧ ∃ nm : String, Cond.classLink own z.catchType nm ∈ lw_all ∧ (E, nm) ∈ cy_NC)) (hx : covers t pc = true) (h0 : t.catchType ≠ 0) (hlink : Cond.classLink own t.catchType name ∈ lw_all) (hcast : Cond.castable E name ∈ lw_tbl)
    (k : ∀ q : Nat, K u h t.handlerPc lv [.ref q]) : T u h pc lv st E := by
  obtain ⟨p, l, e, R, s, m, args, below, meth, c, ⟨-, -, -, -, -, ho, -⟩, ⟨hw, hE, htb2, -⟩, rfl, rfl⟩ := C
  intro H locs cells slots ls q ce hR hS hc hs hl c1 c2 c3
  refine vx_catch ho pre t suf (htb2.trans htb) (fun z hz => ?_) hx h0 (hw _ hlink) (va_Nw.use rfl (hE.2.1 _ hcast rfl)) c1 c2 c3 (k q H locs cells slots ls hR hS hc hs hl)
  rcases hpass z hz with h | ⟨h, nm, h1, h2⟩
  · exact Or.inl h
  · exact Or.inr ⟨h, nm, hw _ h1, hE.2.2.2.2.2.2.1.2.2 _ h2⟩
theorem rr_athrow {q : Nat} : True := trivial
end KCALL
section KTHROW
variable {G : GT} {own : String} {cc : ByteArray} {nL : Nat} {rt : Option FieldType} {L U : Nat} {ini : Bool} {Q : Option Value → Hp → Prop} {X : String → Hp → Prop} {K : KT1} {T : KT2}
variable {u : Nat} {h : Hp} {pc : Nat} {lv : LV} {st : List Value}
theorem rr_throw0 {cls : String} {names : List String} {ik ic : Nat} (C : cy_M G own cc nL rt L U ini [] (cy_Fin G U Q X) K T) (hcls : Bundle.fit cls = true) (hnames : ∀ n ∈ names, Bundle.fit n = true) (hk : Cond.classLink own ik cls ∈ lw_all) (hini : Cond.initialized cls ∈ lw_all)
    (w1 : ∀ w ∈ (vx_at0 own ic cls names).filter goodWord, w ∈ lw_all) (w2 : ∀ w ∈ (vx_at0 own ic cls names).filter (fun w => !goodWord w), w ∈ lw_tbl ∧ cy_ew w = true)
    (hgood : ∀ w ∈ Cond.classLink own ik cls :: Cond.initialized cls :: vx_at0 own ic cls names, vx_ot w = true)
    (d0 : decode cc pc = .ok (.new ik, 3)) (d3 : decode cc (pc + 3) = .ok (.dup, 1)) (d4 : decode cc (pc + 4) = .ok (.invokespecial ic, 3)) (d7 : decode cc (pc + 7) = .ok (.athrow, 1))
    (hL : names.length + 8 ≤ L) (hu : 1 ≤ u) (hcat : (st.map fun v => v.category).sum ≤ 8) (hx : X cls h) : K u h pc lv st := by
  obtain ⟨p, l, e, R, s, m, args, below, meth, c, ⟨hxx, hb, hml, hr, hlk, ho, hst, hin0⟩, ⟨hw, hE, htb, hLf, hLl, hUc, hUs⟩, rfl, rfl⟩ := C
  intro H locs cells slots ls hR hS hc0 hs0 hl
  refine vx_throw0 hxx hb hst ho hcls hnames (hw _ hk) (hw _ hini) (fun w hm => ?_) hgood hE.2.2.2.2.2.2.1.1 hE.2.2.2.2.2.2.1.2.1 hS (hl.1.trans hml.symm) d0 d3 d4 d7 (fun z hz => by rw [htb] at hz; cases hz) (by omega) (by omega) (by omega) (by omega) hlk (fun t _ hz hk => ?_) hS.2.2 (by omega) (by omega)
  · by_cases hg : goodWord w = true
    · exact hw _ (w1 w (List.mem_filter.mpr ⟨hm, hg⟩))
    · obtain ⟨g1, g2⟩ := w2 w (List.mem_filter.mpr ⟨hm, by simpa using hg⟩)
      exact va_Nw.use (cy_ew_tab g2) (hE.2.1 w g1 g2)
  · refine ⟨⟨h, fun a e ha => ⟨(hR a e ha).1, (hR a e ha).2.kept (hk a (hR a e ha).2.lt)⟩, hx⟩, Nat.le_trans hS.1 hz, fun q h1 h2 => ?_⟩
    rw [hk q (Nat.lt_of_lt_of_le h1 hS.1)]
    exact hS.2.1 q h1 h2
end KTHROW
section KCOPY
variable {G : GT} {own : String} {cc : ByteArray} {nL : Nat} {rt : Option FieldType} {L U : Nat} {ini : Bool} {tb : List ExceptionTableEntry} {Fn : List Frame → Array Value → State → State → Prop} {K : KT1} {T : KT2}
variable {u : Nat} {h : Hp} {pc : Nat} {lv : LV} {st : List Value}
theorem cy_ac_words : (nativeFrameWords "java/lang/System" "arraycopy" 5) + 11 + 8 ≤ 64 := by decide +kernel
/-- System.arraycopy of bytes, both known now -/
theorem rr_copyb (C : cy_M G own cc nL rt L U ini tb Fn K T) {index a a0 n0 n1 sp dp n : Nat} {f g : Nat → Int32} {isp idp inn : Int32} (hlink : Cond.methodLink own index arraycopyName ∈ lw_all) (hd : decode cc pc = .ok (.invokestatic index, 3)) (h0 : h a0 = some (aB G n0 f)) (h1 : h a = some (aB G n1 g)) (e1 : isp = nI sp) (e2 : idp = nI dp) (e3 : inn = nI n) (l1 : sp + n ≤ n0) (l2 : dp + n ≤ n1) (b1 : n0 < 2 ^ 31) (b2 : n1 < 2 ^ 31)
    (hfit : ∀ i, i < n → fits .byte (.int (f (sp + i))) = true) (hL : 1 ≤ L) (hcat : (st.map fun v => v.category).sum ≤ 8) (kk : K u (cy_up h a (aB G n1 (va_cpy f g sp dp n))) (pc + 3) lv st) : K u h pc lv (.int inn :: .int idp :: .ref a :: .int isp :: .ref a0 :: st) := by
  subst e1; subst e2; subst e3
  obtain ⟨p, l, e, R, s, m, args, below, meth, c, ⟨hx, hb, hml, hr, hlk, ho, hst, hin0⟩, ⟨hw, hE, htb, hLf, hLl, hUc, hUs⟩, rfl, rfl⟩ := C
  intro H locs cells slots ls hR hS hc0 hs0 hl
  obtain ⟨q0, hq0⟩ := cy_wl_at hR h0
  obtain ⟨q1, hq1⟩ := cy_wl_at hR h1
  have c1 := nI_clamp (n := sp) (by omega)
  have c2 := nI_clamp (n := dp) (by omega)
  have c3 := nI_clamp (n := n) (by omega)
  have hw8 := cy_ac_words
  refine va_copyi (D := G.1) (tys := cy_ty G) (ty := .byte) hx hb (hml.trans hl.1.symm) ho (hw _ hlink) (hw _ q407) (hw _ q406) (hw _ q49) hE.1 (cy_wl_P hR) (cy_wl_D hR) hS q0 q1 3 3 hq0 hq1 rfl rfl rfl (nI_pos (by omega)) (nI_pos (by omega)) (nI_pos (by omega)) (by rw [c1, c3]; exact l1) (by rw [c2, c3]; exact l2) (by rw [c1, c3]; exact hfit) (by omega) (by omega) hd (fun H1 locs1 hP1 hD1 hS1 => ?_)
  rw [c1, c2, c3] at hP1
  exact kk H1 locs1 cells slots ls (cy_wl_set hR hq1 hP1) hS1 hc0 hs0 hl
/-- System.arraycopy of references to objects of one class -/
theorem rr_copyq (C : cy_M G own cc nL rt L U ini tb Fn K T) {index a a0 n0 n1 sp dp n ci : Nat} {f g : Nat → Option Nat} {r : vw_C} {isp idp inn : Int32} (hlink : Cond.methodLink own index arraycopyName ∈ lw_all) (hd : decode cc pc = .ok (.invokestatic index, 3)) (h0 : h a0 = some (aO G n0 f)) (h1 : h a = some (aO G n1 g)) (e1 : isp = nI sp) (e2 : idp = nI dp) (e3 : inn = nI n) (l1 : sp + n ≤ n0) (l2 : dp + n ≤ n1) (b1 : n0 < 2 ^ 31) (b2 : n1 < 2 ^ 31)
    (hcl : cy_cl[ci]? = some r) (hca : Cond.castable r.1 "java/lang/Object" ∈ lw_tbl) (hel : ∀ i, i < n → ∀ y : Nat, f (sp + i) = some y → ∃ fs, h y = some (.inr (ci, fs))) (hL : 1 ≤ L) (hcat : (st.map fun v => v.category).sum ≤ 8) (kk : K u (cy_up h a (aO G n1 (va_cpy f g sp dp n))) (pc + 3) lv st) : K u h pc lv (.int inn :: .int idp :: .ref a :: .int isp :: .ref a0 :: st) := by
  subst e1; subst e2; subst e3
  obtain ⟨p, l, e, R, s, m, args, below, meth, c, ⟨hx, hb, hml, hr, hlk, ho, hst, hin0⟩, ⟨hw, hE, htb, hLf, hLl, hUc, hUs⟩, rfl, rfl⟩ := C
  intro H locs cells slots ls hR hS hc0 hs0 hl
  obtain ⟨q0, hq0⟩ := cy_wl_at hR h0
  obtain ⟨q1, hq1⟩ := cy_wl_at hR h1
  have c1 := nI_clamp (n := sp) (by omega)
  have c2 := nI_clamp (n := dp) (by omega)
  have c3 := nI_clamp (n := n) (by omega)
  have hw8 := cy_ac_words
  refine va_copyq (D := G.1) (tys := cy_ty G) (C := r.1) hx hb (hml.trans hl.1.symm) ho (hw _ hlink) (hw _ q407) (hw _ q406) (hw _ q49) hE.1 (cy_wl_P hR) (cy_wl_D hR) hS q0 q1 4 4 hq0 hq1 rfl rfl (nI_pos (by omega)) (nI_pos (by omega)) (nI_pos (by omega)) (by rw [c1, c3]; exact l1) (by rw [c2, c3]; exact l2) (fun i hi y hy => ?_) (vb_asgC (hE.2.1 _ hca rfl)) (by omega) (by omega) hd (fun H1 locs1 hP1 hD1 hS1 => ?_)
  · rw [c1] at hy
    rw [c3] at hi
    obtain ⟨fs, hfs⟩ := hel i hi y hy
    exact cy_cell hE hcl (hR y _ hfs).2
  · rw [c1, c2, c3] at hP1
    exact kk H1 locs1 cells slots ls (cy_wl_set hR hq1 hP1) hS1 hc0 hs0 hl
end KCOPY
