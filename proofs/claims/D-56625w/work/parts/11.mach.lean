/-! the environment, the judgement K, contracts -/
set_option maxRecDepth 100000
def cy_ew : Cond → Bool
  | .fieldLinkNest .. => true
  | .methodLinkNest .. => true
  | .castable .. => true
  | .declares .. => true
  | _ => false
theorem cy_ew_tab {w : Cond} (h : cy_ew w = true) : w.onTables = true := by
  cases w <;> first | rfl | (simp [cy_ew] at h)
theorem cy_ew_warm {w : Cond} (h : cy_ew w = true) {s U : State} (hW : s.WarmedH U.vm) (hZ : va_Nw w s) : va_Nw w U := by
  cases w <;> first | exact va_Nw.warmF hW hZ | exact va_Nw.warmM hW hZ | exact va_Nw.warmC hW hZ | exact va_Nw.warmD hW hZ | (simp [cy_ew] at h)
/-- the static fields: 0..3 the states, 4..8 the bars, 9 RESTS, 10 the empty elements, 11, 12 the digits -/
def cy_SZ (G : GT) : List (String × String × String × Value) := [("State", "WAITING", "LState;", .ref (G.2.2.2.2 0)), ("State", "RUNNING", "LState;", .ref (G.2.2.2.2 1)), ("State", "RESTING", "LState;", .ref (G.2.2.2.2 2)), ("State", "STOPPED", "LState;", .ref (G.2.2.2.2 3)), ("Bar", "NONE", "LBar;", .ref (G.2.2.2.2 4)), ("Bar", "WITHDRAWN", "LBar;", .ref (G.2.2.2.2 5)), ("Bar", "LICENCE", "LBar;", .ref (G.2.2.2.2 6)), ("Bar", "ROOM", "LBar;", .ref (G.2.2.2.2 7)), ("Bar", "REST", "LBar;", .ref (G.2.2.2.2 8)), ("CrateYard", "RESTS", "[I", .ref (G.2.2.2.2 9)), ("java/util/ArrayList", "DEFAULTCAPACITY_EMPTY_ELEMENTDATA", "[Ljava/lang/Object;", .ref (G.2.2.2.2 10)), ("java/lang/Integer", "DigitOnes", "[B", .ref (G.2.2.2.2 11)), ("java/lang/Integer", "DigitTens", "[B", .ref (G.2.2.2.2 12)), ("java/lang/String", "COMPACT_STRINGS", "Z", .int 1)]
def cy_NC : List (String × String) := [(RJ15, RJ10), (RJ6, RJ10), (RJ6, RJ15), (RJ18, RJ10), (RJ18, RJ15), (RJ6, RJ18), (RJ10, RJ18), (RJ17, RJ10), (RJ17, RJ18)]
theorem cy_Nc_moved {C T : String} {u U : State} (hvm : u.vm.Alike U.vm) (h : va_Nc C T u) : va_Nc C T U := by
  obtain ⟨c, t, h1, h2, h3⟩ := h
  exact ⟨c, t, by rw [hvm.findClass]; exact h1, by rw [hvm.findClass]; exact h2, by first | (rw [hvm.assignable]; exact h3) | (rw [← hvm.assignable]; exact h3)⟩
def cy_Env (G : GT) (s : State) : Prop :=
  va_K G.1 cy_cl (cy_ty G) s ∧ (∀ w ∈ lw_tbl, cy_ew w = true → va_Nw w s) ∧
  (va_Fw RJ2 ⟨"java/util/List", "iterator", "()Ljava/util/Iterator;"⟩ yJ2_iterator s ∧ va_Fw RJ2 ⟨"java/util/List", "add", "(Ljava/lang/Object;)Z"⟩ yJ2_add s ∧ va_Fw RJ2 ⟨"java/util/List", "size", "()I"⟩ yJ2_size s ∧ va_Fw RJ2 ⟨"java/util/List", "get", "(I)Ljava/lang/Object;"⟩ yJ2_get s ∧ va_Fw RJ16 ⟨"java/util/Iterator", "hasNext", "()Z"⟩ yJ16_hasNext s ∧ va_Fw RJ16 ⟨"java/util/Iterator", "next", "()Ljava/lang/Object;"⟩ yJ16_next s) ∧
  va_AO "java/lang/Object" s ∧
  (∀ q ∈ cy_SZ G, va_Z q.1 q.2.1 q.2.2.1 q.2.2.2 (cy_FA G) s s.heap) ∧
  (∀ (a : Nat) (e : va_E), G.2.2.1 a = some e → a < G.2.1 ∧ va_at G.1 cy_cl (a, e) s.heap) ∧
  (vx_Zq Bundle.tN "UNASSIGNED_STACK" Bundle.steD (cy_FA G) s s.heap ∧ vx_Zq Bundle.tN "SUPPRESSED_SENTINEL" Bundle.listD (cy_FA G) s s.heap ∧ ∀ q ∈ cy_NC, va_Nc q.1 q.2 s) ∧
  (vk_R RX12 173 "!" (G.2.2.2.2 13) s ∧ vk_R RX12 175 "" (G.2.2.2.2 14) s ∧ vk_R RX3 229 "" (G.2.2.2.2 14) s) ∧
  va_Mi "[Ljava/lang/Object;" (G.2.2.2.2 15) s ∧ G.2.1 ≤ s.heap.size
theorem cy_Env.moved {G : GT} {s U : State} {H : Heap} {locs : List Loc} (hE : cy_Env G s) (hW : s.WarmedH U.vm) (hU : U.heap = H) (hS : va_S (cy_FA G) s.heap H locs) : cy_Env G U := by
  obtain ⟨h1, h2, ⟨f1, f2, f3, f4, f5, f6⟩, h3, h4, h5, ⟨x1, x2, x3⟩, ⟨t1, t2, t3⟩, h6, h7⟩ := hE
  subst hU
  have hk : ∀ a : Nat, a < s.heap.size → ¬ cy_FA G a → U.heap[a]? = s.heap[a]? := hS.2.1
  refine ⟨va_K.moved hW.alike h1, fun w hw he => cy_ew_warm he hW (h2 w hw he), ⟨va_Fw.moved (by decide) hW.alike f1, va_Fw.moved (by decide) hW.alike f2, va_Fw.moved (by decide) hW.alike f3, va_Fw.moved (by decide) hW.alike f4, va_Fw.moved (by decide) hW.alike f5, va_Fw.moved (by decide) hW.alike f6⟩, va_AO.moved hW.alike h3, fun q hq => (va_Z.moved hW.alike (h4 q hq)).kept hk, fun a e ha => ?_, ⟨(vx_Zq.moved hW.alike x1).kept hk, (vx_Zq.moved hW.alike x2).kept hk, fun q hq => cy_Nc_moved hW.alike (x3 q hq)⟩, ⟨vk_R.warm hW t1, vk_R.warm hW t2, vk_R.warm hW t3⟩, va_Mi.moved hW.alike h6, Nat.le_trans h7 hS.1⟩
  obtain ⟨g1, g2⟩ := h5 a e ha
  exact ⟨g1, g2.kept (hk a g2.lt (Nat.not_le.mpr g1))⟩
theorem cy_Env.same {G : GT} {s U : State} (hE : cy_Env G s) (hv : s.vm = U.vm) (hh : U.heap = s.heap) : cy_Env G U :=
  hE.moved (by rw [← hv]; exact State.WarmedH.refl s) hh va_S.rf
abbrev cy_R (L U : Nat) : Room := { frames := L, cells := U, slots := 12 * U, locals := 64 * L }
/-- K: everything but units, known heap, place, locals and stack is hidden -/
def cy_K (G : GT) (nL U : Nat) (p : Program) (l : Launch) (e : Env) (R : Room) (s : State) (m : MethodId) (args : Array Value) (below : List Frame) (meth : Method) (c : Code) (Qf : State → Prop) (u : Nat) (h : Hp) (pc : Nat) (lv : LV) (st : List Value) : Prop :=
  ∀ (H : Heap) (locs : List Loc) (cells slots : Nat) (ls : Array Slot), cy_Rep G H h → va_S (cy_FA G) s.heap H locs → cells + u ≤ U → slots + 12 * u ≤ 12 * U → cy_L ls nL lv → W p l e R s m args below meth c H locs cells slots Qf (F0 m pc ls st)
/-- the same, with an object of class E thrown there -/
def cy_T (G : GT) (nL U : Nat) (p : Program) (l : Launch) (e : Env) (R : Room) (s : State) (m : MethodId) (args : Array Value) (below : List Frame) (meth : Method) (c : Code) (Qf : State → Prop) (u : Nat) (h : Hp) (pc : Nat) (lv : LV) (st : List Value) (E : String) : Prop :=
  ∀ (H : Heap) (locs : List Loc) (cells slots : Nat) (ls : Array Slot) (q : Nat) (ce : Cell), cy_Rep G H h → va_S (cy_FA G) s.heap H locs → cells + u ≤ U → slots + 12 * u ≤ 12 * U → cy_L ls nL lv → H[q]? = some ce → ce.vm = .none → s.vm.findClass E = some ce.cls → vx_W p l e R s m args below meth c H locs cells slots Qf (F0 m pc ls st) q
abbrev KT1 : Type := Nat → Hp → Nat → LV → List Value → Prop
abbrev KT2 : Type := Nat → Hp → Nat → LV → List Value → String → Prop
def cy_M (G : GT) (own : String) (cc : ByteArray) (nL : Nat) (rt : Option FieldType) (L U : Nat) (ini : Bool) (tb : List ExceptionTableEntry) (Fn : List Frame → Array Value → State → State → Prop) (K : KT1) (T : KT2) : Prop :=
  ∃ (p : Program) (l : Launch) (e : Env) (R : Room) (s : State) (m : MethodId) (args : Array Value) (below : List Frame) (meth : Method) (c : Code),
    (p.tables.exec = Jvm.exec ∧ c.code = cc ∧ c.maxLocals = nL ∧ meth.sig.returnType = rt ∧ meth.locks = false ∧ s.vm.findClass own = some m.cls ∧ l.stackTraces = false ∧ (ini = true → meth.name = "<init>")) ∧
    ((∀ w ∈ lw_all, w.before args s = true) ∧ cy_Env G s ∧ c.exceptionTable.toList = tb ∧ L ≤ R.frames ∧ 64 * L ≤ R.locals ∧ U ≤ R.cells ∧ 12 * U ≤ R.slots) ∧
    K = cy_K G nL U p l e R s m args below meth c (Fn below args s) ∧ T = cy_T G nL U p l e R s m args below meth c (Fn below args s)
abbrev cy_QC (G : GT) (Q : Option Value → Hp → Prop) : Array Value → State → Outcome → State → Prop := fun _ st oc t => (∃ (r : Option Value) (h1 : Hp), oc = .returned r ∧ cy_Rep G t.heap h1 ∧ Q r h1) ∧ va_F (cy_FA G) st t
abbrev cy_XC (G : GT) (X : String → Hp → Prop) : String → State → State → Prop := fun E st t => (∃ h1 : Hp, cy_Rep G t.heap h1 ∧ X E h1) ∧ va_F (cy_FA G) st t
abbrev cy_PC (G : GT) (as : List Value) (h : Hp) : Array Value → State → Prop := fun a st => a = as.toArray ∧ cy_Env G st ∧ cy_Rep G st.heap h
abbrev cy_Fin (G : GT) (U : Nat) (Q : Option Value → Hp → Prop) (X : String → Hp → Prop) : List Frame → Array Value → State → State → Prop := fun below args s => vx_MQ below (cy_QC G Q) (cy_XC G X) args s U (12 * U) (cy_FA G)
/-- a contract, at these arguments and this known heap -/
def cy_Con (G : GT) (y : MethodName) (cc : ByteArray) (nL : Nat) (rt : Option FieldType) (L U : Nat) (as : List Value) (h : Hp) (Q : Option Value → Hp → Prop) (X : String → Hp → Prop) : Prop :=
  ∀ l : Launch, l.stackTraces = false → vx_Met l y (ws_ y cc nL rt) (cy_R L U) (cy_PC G as h) (cy_QC G Q) (cy_XC G X) U (12 * U) (cy_FA G)
theorem cy_PC_blind {G : GT} {as : List Value} {h : Hp} : FrameBlind (cy_PC G as h) := fun _ _ _ _ q => ⟨q.1, q.2.1.same rfl rfl, q.2.2⟩
def cy_args : Nat → List Value → LV
  | n, [] => List.replicate n none
  | n, v :: vs => match v.category with
    | 2 => some v :: none :: cy_args (n - 2) vs
    | _ => some v :: cy_args (n - 1) vs
theorem cy_args_mem : ∀ (vs : List Value) (n k i : Nat) (v : Value), (cy_args n vs)[i]? = some (some v) → (i + k, v) ∈ lv_args k vs := by
  intro vs
  induction vs with
  | nil =>
    intro n k i v h
    rw [cy_args, List.getElem?_replicate] at h
    split at h <;> cases h
  | cons w vs ih =>
    intro n k i v h
    rw [cy_args] at h
    rw [lv_args]
    rcases lv_cat w with hc | hc
    · rw [hc] at h
      rw [if_neg (by rw [hc]; decide)]
      cases i with
      | zero =>
        cases h
        rw [Nat.zero_add]
        exact List.mem_cons_self
      | succ i =>
        have h2 := ih (n - 1) (k + 1) i v h
        rw [show i + 1 + k = i + (k + 1) by omega]
        exact List.mem_cons_of_mem _ h2
    · rw [hc] at h
      rw [if_pos hc]
      cases i with
      | zero =>
        cases h
        rw [Nat.zero_add]
        exact List.mem_cons_self
      | succ i =>
        cases i with
        | zero => cases h
        | succ i =>
          have h2 := ih (n - 2) (k + 2) i v h
          rw [show i + 1 + 1 + k = i + (k + 2) by omega]
          exact List.mem_cons_of_mem _ h2
theorem cy_intro {G : GT} {y : MethodName} {cc : ByteArray} {nL : Nat} {rt : Option FieldType} {L U : Nat} {as : List Value} {h : Hp} {Q : Option Value → Hp → Prop} {X : String → Hp → Prop} {lv0 : LV} (hy : plainName y.cls = true) (hlv : cy_args nL as = lv0) (hlen : (lg_sl as).length ≤ nL)
    (body : ∀ (K : KT1) (T : KT2), cy_M G y.cls cc nL rt L U (y.name == "<init>") [] (cy_Fin G U Q X) K T → K U h 0 lv0 []) : cy_Con G y cc nL rt L U as h Q X := by
  subst hlv
  intro l hl
  refine vx_ofW (cc := cc) (maxL := nL) (ret := rt) hy rfl ?_
  intro p e s m args below meth c s₁ B hml htab hv
  obtain ⟨rfl, hE, hR⟩ := hv
  have hts := atoms_spec (ws := ws_ y cc nL rt) B.pre
  have hk := body _ _ ⟨p, l, e, cy_R L U, s, m, as.toArray, below, meth, c, ⟨B.exec, B.bytes, hml, B.returns, B.notSynchronized, findClass_of_methodNamed B.named, hl, fun hi => by rw [(name_of_methodNamed B.named B.method).1]; simpa using hi⟩, ⟨fun w hw => hts w (List.mem_cons_of_mem _ hw), hE, List.eq_nil_iff_forall_not_mem.mpr htab, Nat.le_refl _, Nat.le_refl _, Nat.le_refl _, Nat.le_refl _⟩, rfl, rfl⟩
  have hl0 := lv_entry as (n := nL) hlen
  rw [lg_entry_eq]
  generalize (lg_sl as ++ List.replicate (nL - (lg_sl as).length) Slot.unset).toArray = ls at hl0 ⊢
  exact hk s.heap [] 0 0 ls hR va_S.rf (by omega) (by omega) ⟨hl0.1, hl0.2.1, fun i v hv => hl0.2.2 (i, v) (cy_args_mem as nL 0 i v hv)⟩
section KR
variable {G : GT} {own : String} {cc : ByteArray} {nL : Nat} {rt : Option FieldType} {L U : Nat} {ini : Bool} {tb : List ExceptionTableEntry} {Fn : List Frame → Array Value → State → State → Prop} {K : KT1} {T : KT2}
variable {u : Nat} {h : Hp} {pc : Nat} {lv : LV} {st : List Value}
/-- an instruction that touches neither heap nor locals -/
theorem rr_lift {pc' : Nat} {st' : List Value} (C : cy_M G own cc nL rt L U ini tb Fn K T)
    (f : ∀ {p : Program} {l : Launch} {e : Env} {R : Room} {s : State} {m : MethodId} {args : Array Value} {below : List Frame} {meth : Method} {c : Code} {H : Heap} {locs : List Loc} {cells slots : Nat} {ls : Array Slot} {Qf : State → Prop}, p.tables.exec = Jvm.exec → c.code = cc → cy_L ls nL lv → s.vm.findClass own = some m.cls → (∀ w ∈ lw_all, w.before args s = true) → W p l e R s m args below meth c H locs cells slots Qf (F0 m pc' ls st') → W p l e R s m args below meth c H locs cells slots Qf (F0 m pc ls st))
    (k : K u h pc' lv st') : K u h pc lv st := by
  obtain ⟨p, l, e, R, s, m, args, below, meth, c, ⟨hx, hb, -, -, -, ho, -⟩, ⟨hw, -⟩, rfl, rfl⟩ := C
  intro H locs cells slots ls hR hS hc hs hl
  exact f hx hb hl ho hw (k H locs cells slots ls hR hS hc hs hl)
/-- two ways on -/
theorem rr_lift2 {pc1 pc2 : Nat} {st' : List Value} {P1 P2 : Prop} (C : cy_M G own cc nL rt L U ini tb Fn K T)
    (f : ∀ {p : Program} {l : Launch} {e : Env} {R : Room} {s : State} {m : MethodId} {args : Array Value} {below : List Frame} {meth : Method} {c : Code} {H : Heap} {locs : List Loc} {cells slots : Nat} {ls : Array Slot} {Qf : State → Prop}, p.tables.exec = Jvm.exec → c.code = cc → (P1 → W p l e R s m args below meth c H locs cells slots Qf (F0 m pc1 ls st')) → (P2 → W p l e R s m args below meth c H locs cells slots Qf (F0 m pc2 ls st')) → W p l e R s m args below meth c H locs cells slots Qf (F0 m pc ls st))
    (k1 : P1 → K u h pc1 lv st') (k2 : P2 → K u h pc2 lv st') : K u h pc lv st := by
  obtain ⟨p, l, e, R, s, m, args, below, meth, c, ⟨hx, hb, -⟩, -, rfl, rfl⟩ := C
  intro H locs cells slots ls hR hS hc hs hl
  exact f hx hb (fun q => k1 q H locs cells slots ls hR hS hc hs hl) (fun q => k2 q H locs cells slots ls hR hS hc hs hl)
/-- less is known -/
theorem rr_forget {h' : Hp} (C : cy_M G own cc nL rt L U ini tb Fn K T) (hs : ∀ a e, h' a = some e → h a = some e) (k : K u h' pc lv st) : K u h pc lv st := by
  obtain ⟨p, l, e, R, s, m, args, below, meth, c, -, -, rfl, rfl⟩ := C
  intro H locs cells slots ls hR hS hc hs' hl
  exact k H locs cells slots ls (hR.sub hs) hS hc hs' hl
/-- fewer units -/
theorem rr_less {u' : Nat} (C : cy_M G own cc nL rt L U ini tb Fn K T) (hu : u' ≤ u) (k : K u' h pc lv st) : K u h pc lv st := by
  obtain ⟨p, l, e, R, s, m, args, below, meth, c, -, -, rfl, rfl⟩ := C
  intro H locs cells slots ls hR hS hc hs' hl
  exact k H locs cells slots ls hR hS (by omega) (by omega) hl
/-- fewer locals -/
theorem rr_locals {lv' : LV} (C : cy_M G own cc nL rt L U ini tb Fn K T) (hs : ∀ (i : Nat) (v : Value), lv'[i]? = some (some v) → lv[i]? = some (some v)) (k : K u h pc lv' st) : K u h pc lv st := by
  obtain ⟨p, l, e, R, s, m, args, below, meth, c, -, -, rfl, rfl⟩ := C
  intro H locs cells slots ls hR hS hc hs' hl
  exact k H locs cells slots ls hR hS hc hs' ⟨hl.1, hl.2.1, fun i v hv => hl.2.2 i v (hs i v hv)⟩
/-- units used up to a bound -/
theorem rr_store1 {pc' i : Nat} {v : Value} {st' : List Value} (C : cy_M G own cc nL rt L U ini tb Fn K T) (hi : i < lv.length) (hok : cy_ok lv i = true)
    (f : ∀ {p : Program} {l : Launch} {e : Env} {R : Room} {s : State} {m : MethodId} {args : Array Value} {below : List Frame} {meth : Method} {c : Code} {H : Heap} {locs : List Loc} {cells slots : Nat} {ls : Array Slot} {Qf : State → Prop}, p.tables.exec = Jvm.exec → c.code = cc → cy_L ls nL lv → lv_has ls nL (cy_prs lv) → (∀ ls' : Array Slot, lv_has ls' nL ((i, v) :: (cy_prs lv).filter (fun q => !(q.1 == i) && !(q.1 + 1 == i && q.2.category == 2))) → W p l e R s m args below meth c H locs cells slots Qf (F0 m pc' ls' st')) → W p l e R s m args below meth c H locs cells slots Qf (F0 m pc ls st))
    (k : K u h pc' (lv.set i (some v)) st') : K u h pc lv st := by
  obtain ⟨p, l, e, R, s, m, args, below, meth, c, ⟨hx, hb, -⟩, -, rfl, rfl⟩ := C
  intro H locs cells slots ls hR hS hc hs hl
  exact f hx hb hl hl.has (fun ls' h' => k H locs cells slots ls' hR hS hc hs (cy_L.set1 hi hok h'))
theorem rr_store2 {pc' i : Nat} {v : Value} {st' : List Value} (C : cy_M G own cc nL rt L U ini tb Fn K T) (hi : i + 1 < lv.length) (hok : cy_ok lv i = true)
    (f : ∀ {p : Program} {l : Launch} {e : Env} {R : Room} {s : State} {m : MethodId} {args : Array Value} {below : List Frame} {meth : Method} {c : Code} {H : Heap} {locs : List Loc} {cells slots : Nat} {ls : Array Slot} {Qf : State → Prop}, p.tables.exec = Jvm.exec → c.code = cc → cy_L ls nL lv → lv_has ls nL (cy_prs lv) → (∀ ls' : Array Slot, lv_has ls' nL ((i, v) :: (cy_prs lv).filter (fun q => !(q.1 == i) && (!(q.1 == i + 1) && !(q.1 + 1 == i && q.2.category == 2)))) → W p l e R s m args below meth c H locs cells slots Qf (F0 m pc' ls' st')) → W p l e R s m args below meth c H locs cells slots Qf (F0 m pc ls st))
    (k : K u h pc' ((lv.set i (some v)).set (i + 1) none) st') : K u h pc lv st := by
  obtain ⟨p, l, e, R, s, m, args, below, meth, c, ⟨hx, hb, -⟩, -, rfl, rfl⟩ := C
  intro H locs cells slots ls hR hS hc hs hl
  exact f hx hb hl hl.has (fun ls' h' => k H locs cells slots ls' hR hS hc hs (cy_L.set2 hi hok h'))
end KR
