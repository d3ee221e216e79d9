/-! CrateYard: what is asked -/
set_option maxRecDepth 100000
def cd1 (a : Bool) : Nat := if a then 0 else 1
def cd2 (a b : Bool) : Nat := if a then (if b then 0 else 2) else 1
def cd3 (a b c : Bool) : Nat := if a then (if b then (if c then 0 else 3) else 2) else 1
def cy_nm (e1 e2 e3 : String) : Nat → String
  | 1 => e1
  | 2 => e2
  | _ => e3
/-- it answers (code 0), or throws by its code -/
abbrev qC (c : Nat) (v : Value) (P : Hp → Prop) : Option Value → Hp → Prop := fun r h1 => c = 0 ∧ r = some v ∧ P h1
abbrev xC (c : Nat) (nm : Nat → String) (h : Hp) : String → Hp → Prop := fun E h1 => c ≠ 0 ∧ E = nm c ∧ h1 = h
theorem xc1 {a : Bool} {nm : Nat → String} {h : Hp} (ha : a = false) : xC (cd1 a) nm h (nm 1) h := by subst ha; exact ⟨by decide, rfl, rfl⟩
theorem xc21 {a b : Bool} {nm : Nat → String} {h : Hp} (ha : a = false) : xC (cd2 a b) nm h (nm 1) h := by subst ha; exact ⟨Nat.one_ne_zero, rfl, rfl⟩
theorem xc22 {a b : Bool} {nm : Nat → String} {h : Hp} (ha : a = true) (hb : b = false) : xC (cd2 a b) nm h (nm 2) h := by subst ha; subst hb; exact ⟨by decide, rfl, rfl⟩
theorem xc31 {a b c : Bool} {nm : Nat → String} {h : Hp} (ha : a = false) : xC (cd3 a b c) nm h (nm 1) h := by subst ha; exact ⟨Nat.one_ne_zero, rfl, rfl⟩
theorem xc32 {a b c : Bool} {nm : Nat → String} {h : Hp} (ha : a = true) (hb : b = false) : xC (cd3 a b c) nm h (nm 2) h := by subst ha; subst hb; exact ⟨Nat.succ_ne_zero 1, rfl, rfl⟩
theorem xc33 {a b c : Bool} {nm : Nat → String} {h : Hp} (ha : a = true) (hb : b = true) (hc : c = false) : xC (cd3 a b c) nm h (nm 3) h := by subst ha; subst hb; subst hc; exact ⟨by decide, rfl, rfl⟩
theorem qc1 {a : Bool} (ha : a = true) : cd1 a = 0 := by subst ha; rfl
theorem qc2 {a b : Bool} (ha : a = true) (hb : b = true) : cd2 a b = 0 := by subst ha; subst hb; rfl
theorem qc3 {a b c : Bool} (ha : a = true) (hb : b = true) (hc : c = true) : cd3 a b c = 0 := by subst ha; subst hb; subst hc; rfl
def kn (k : Int32) : Nat := k.toNatClampNeg
theorem kn_nI {j : Nat} (h : j < 2 ^ 31) : kn (nI j) = j := nI_clamp h
theorem rr_forgetT {G : GT} {own : String} {cc : ByteArray} {nL : Nat} {rt : Option FieldType} {L U : Nat} {ini : Bool} {tb : List ExceptionTableEntry} {Fn : List Frame → Array Value → State → State → Prop} {K : KT1} {T : KT2} {u : Nat} {h h' : Hp} {pc : Nat} {lv : LV} {st : List Value} {E : String} (C : cy_M G own cc nL rt L U ini tb Fn K T) (hs : cy_le h' h) (k : T u h' pc lv st E) : T u h pc lv st E := by
  obtain ⟨p, l, e, R, s, m, args, below, meth, c, -, -, rfl, rfl⟩ := C
  intro H locs cells slots ls q ce hR hS hc hs' hl h1 h2 h3
  exact k H locs cells slots ls q ce (hR.sub hs) hS hc hs' hl h1 h2 h3
/-- how many of the first n -/
def cy_cn (p : Nat → Bool) : Nat → Nat
  | 0 => 0
  | n + 1 => cy_cn p n + (if p n then 1 else 0)
theorem cy_cn_le (p : Nat → Bool) : ∀ n, cy_cn p n ≤ n := by
  intro n
  induction n with
  | zero => exact Nat.le_refl 0
  | succ n ih => rw [cy_cn]; split <;> omega
theorem nI_cn {p : Nat → Bool} {n : Nat} : nI (cy_cn p n) + bI (p n) = nI (cy_cn p (n + 1)) := by
  rw [cy_cn]
  cases p n
  · exact nI_add _ 0
  · exact nI_add _ 1
/-- the first from k on, or k + d -/
def cy_fst (p : Nat → Bool) : Nat → Nat → Nat
  | k, 0 => k
  | k, d + 1 => if p k then k else cy_fst p (k + 1) d
theorem cy_fst_le (p : Nat → Bool) : ∀ d k, k ≤ cy_fst p k d ∧ cy_fst p k d ≤ k + d := by
  intro d
  induction d with
  | zero => intro k; exact ⟨Nat.le_refl k, Nat.le_refl k⟩
  | succ d ih =>
    intro k
    rw [cy_fst]
    split
    · omega
    · have := ih (k + 1); omega
section QUERY
variable {G : GT} {I : Nat → Nat → Int32} {J : Nat → Nat → Nat} {st : Int64} {h : Hp}
theorem ct_X1_now (hY : cy_Y G I J st h) : cy_Con G yX1_now cX1_now 1 (some .int) 0 0 [.ref (J 1 0)] h (qV (.int (I 1 0)) (fun h1 => h1 = h)) xF := by
  refine cy_in (own := RX1) (lv0 := [some (.ref (J 1 0))]) (by decide) rfl rfl rfl (Nat.le_of_ble_eq_true rfl) (fun K T C => ?_)
  refine rr_aload_n C 0 dX1_now_0 rfl rfl ?_
  refine gf_X1_155 C dX1_now_1 (Or.inl hY.yard) ?_
  exact rr_ireturn C dX1_now_4 ⟨rfl, rfl⟩
theorem ct_X1_licensed (hY : cy_Y G I J st h) : cy_Con G yX1_licensed cX1_licensed 1 (some .int) 0 0 [.ref (J 1 0)] h (qV (.int (I 1 2)) (fun h1 => h1 = h)) xF := by
  refine cy_in (own := RX1) (lv0 := [some (.ref (J 1 0))]) (by decide) rfl rfl rfl (Nat.le_of_ble_eq_true rfl) (fun K T C => ?_)
  refine rr_aload_n C 0 dX1_licensed_0 rfl rfl ?_
  refine gf_X1_46 C dX1_licensed_1 (Or.inl hY.yard) ?_
  refine gf_X1_205 C dX1_licensed_4 (Or.inl hY.park) ?_
  exact rr_ireturn C dX1_licensed_7 ⟨rfl, rfl⟩
theorem ct_X1_starts (hY : cy_Y G I J st h) : cy_Con G yX1_starts cX1_starts 1 (some .long) 0 0 [.ref (J 1 0)] h (qV (.long st) (fun h1 => h1 = h)) xF := by
  refine cy_in (own := RX1) (lv0 := [some (.ref (J 1 0))]) (by decide) rfl rfl rfl (Nat.le_of_ble_eq_true rfl) (fun K T C => ?_)
  refine rr_aload_n C 0 dX1_starts_0 rfl rfl ?_
  refine gf_X1_265 C dX1_starts_1 (Or.inl hY.yard) ?_
  exact rr_lreturn C dX1_starts_4 ⟨rfl, rfl⟩
theorem ct_X1_layersOf (hG : cy_G G) (hY : cy_Y G I J st h) {k : Int32} : cy_Con G yX1_layersOf cX1_layersOf 2 (some .int) 20 1 [.ref (J 1 0), .int k] h (qC (cd1 (cy_ix k (J 0 1))) (.int (cy_lay J (kn k))) (fun h1 => h1 = h)) (xC (cd1 (cy_ix k (J 0 1))) (cy_nm RJ10 "" "") h) := by
  have r0 := hY.2.2.2.1
  refine cy_in (own := RX1) (lv0 := [some (.ref (J 1 0)), some (.int k)]) (by decide) rfl rfl rfl (Nat.le_of_ble_eq_true rfl) (fun K T C => ?_)
  refine rr_aload_n C 0 dX1_layersOf_0 rfl rfl ?_
  refine rr_iload_n C 1 dX1_layersOf_1 rfl rfl ?_
  refine cvx_X1_98 C dX1_layersOf_2 (ct_X1_requireImage hG hY) (Or.inl hY.yard) (xK fun hb => rr_out C (xc1 hb)) (kE (fun j h1 e1 => ?_))
  obtain ⟨⟨hj, rfl⟩, e1⟩ := e1
  rw [e1]
  refine cv_X1_106 C dX1_layersOf_5 (ct_lay hY hj) (Or.inl (hY.image hj)) (kVr ?_)
  exact rr_ireturn C dX1_layersOf_8 ⟨qc1 (cy_ix_j hj (by omega)), by rw [kn_nI (by omega)], rfl⟩
theorem ct_X1_isOut (hG : cy_G G) (hY : cy_Y G I J st h) {k : Int32} : cy_Con G yX1_isOut cX1_isOut 2 (some .boolean) 20 1 [.ref (J 1 0), .int k] h (qC (cd1 (cy_ix k (J 0 0))) (.int (bI (cy_out (I 2 (kn k)) (I 3 (kn k)) (I 1 0)))) (fun h1 => h1 = h)) (xC (cd1 (cy_ix k (J 0 0))) (cy_nm RJ10 "" "") h) := by
  have r0 := hY.2.2.2.1
  refine cy_in (own := RX1) (lv0 := [some (.ref (J 1 0)), some (.int k)]) (by decide) rfl rfl rfl (Nat.le_of_ble_eq_true rfl) (fun K T C => ?_)
  refine rr_aload_n C 0 dX1_isOut_0 rfl rfl ?_
  refine rr_iload_n C 1 dX1_isOut_1 rfl rfl ?_
  refine cvx_X1_102 C dX1_isOut_2 (ct_X1_requireLayer hG hY) (Or.inl hY.yard) (xK fun hb => rr_out C (xc1 hb)) (kE (fun j h1 e1 => ?_))
  obtain ⟨⟨hj, rfl⟩, e1⟩ := e1
  rw [e1]
  refine rr_aload_n C 0 dX1_isOut_5 rfl rfl ?_
  refine gf_X1_155 C dX1_isOut_6 (Or.inl hY.yard) ?_
  refine cv_X1_272 C dX1_isOut_9 (ct_X5_isOut (hY.layer hj)) (Or.inl (hY.layer hj)) (kVr ?_)
  exact rr_zreturn C dX1_isOut_12 (by cases cy_out _ _ _ <;> rfl) ⟨qc1 (cy_ix_j hj (by omega)), by rw [kn_nI (by omega)], rfl⟩
theorem ct_X1_stateOf (hG : cy_G G) (hY : cy_Y G I J st h) {k : Int32} : cy_Con G yX1_stateOf cX1_stateOf 2 (some (.object "State")) 20 1 [.ref (J 1 0), .int k] h (qC (cd1 (cy_ix k (J 0 3))) (.ref (G.2.2.2.2 (J 13 (kn k)))) (fun h1 => h1 = h)) (xC (cd1 (cy_ix k (J 0 3))) (cy_nm RJ10 "" "") h) := by
  have r0 := hY.2.2.2.1
  refine cy_in (own := RX1) (lv0 := [some (.ref (J 1 0)), some (.int k)]) (by decide) rfl rfl rfl (Nat.le_of_ble_eq_true rfl) (fun K T C => ?_)
  refine rr_aload_n C 0 dX1_stateOf_0 rfl rfl ?_
  refine rr_iload_n C 1 dX1_stateOf_1 rfl rfl ?_
  refine cvx_X1_218 C dX1_stateOf_2 (ct_X1_require hG hY) (Or.inl hY.yard) (xK fun hb => rr_out C (xc1 hb)) (kE (fun j h1 e1 => ?_))
  obtain ⟨⟨hj, rfl⟩, e1⟩ := e1
  rw [e1]
  refine gf_X1_225 C dX1_stateOf_5 (Or.inl (hY.cont hj)) ?_
  exact rr_areturn C dX1_stateOf_8 (by first | exact Or.inl ⟨_, rfl⟩ | exact Or.inr ⟨_, rfl⟩) ⟨qc1 (cy_ix_j hj (by omega)), by rw [kn_nI (by omega)], rfl⟩
theorem ct_X1_isStale (hG : cy_G G) (hY : cy_Y G I J st h) {k : Int32} : cy_Con G yX1_isStale cX1_isStale 2 (some .boolean) 20 1 [.ref (J 1 0), .int k] h (qC (cd1 (cy_ix k (J 0 3))) (.int (bI (cy_stale I J (kn k)))) (fun h1 => h1 = h)) (xC (cd1 (cy_ix k (J 0 3))) (cy_nm RJ10 "" "") h) := by
  have r0 := hY.2.2.2.1
  refine cy_in (own := RX1) (lv0 := [some (.ref (J 1 0)), some (.int k)]) (by decide) rfl rfl rfl (Nat.le_of_ble_eq_true rfl) (fun K T C => ?_)
  refine rr_aload_n C 0 dX1_isStale_0 rfl rfl ?_
  refine rr_iload_n C 1 dX1_isStale_1 rfl rfl ?_
  refine cvx_X1_218 C dX1_isStale_2 (ct_X1_require hG hY) (Or.inl hY.yard) (xK fun hb => rr_out C (xc1 hb)) (kE (fun j h1 e1 => ?_))
  obtain ⟨⟨hj, rfl⟩, e1⟩ := e1
  rw [e1]
  refine cv_X1_148 C dX1_isStale_5 (ct_X12_isStale hG hY hj) (Or.inl (hY.cont hj)) (kVr ?_)
  exact rr_zreturn C dX1_isStale_8 (by cases cy_stale _ _ _ <;> rfl) ⟨qc1 (cy_ix_j hj (by omega)), by rw [kn_nI (by omega)], rfl⟩
theorem ct_X1_hostOf (hG : cy_G G) (hY : cy_Y G I J st h) (hok : cy_okJ J) {k : Int32} : cy_Con G yX1_hostOf cX1_hostOf 3 (some .int) 20 2 [.ref (J 1 0), .int k] h (qC (cd2 (cy_ix k (J 0 3)) (decide (J 13 (kn k) = 1))) (.int (nI (J 14 (kn k) - 1))) (fun h1 => h1 = h)) (xC (cd2 (cy_ix k (J 0 3)) (decide (J 13 (kn k) = 1))) (cy_nm RJ10 RJ17 "") h) := by
  have r0 := hY.2.2.2.1
  refine cy_in (own := RX1) (lv0 := [some (.ref (J 1 0)), some (.int k), none]) (by decide) rfl rfl rfl (Nat.le_of_ble_eq_true rfl) (fun K T C => ?_)
  refine rr_aload_n C 0 dX1_hostOf_0 rfl rfl ?_
  refine rr_iload_n C 1 dX1_hostOf_1 rfl rfl ?_
  refine cvx_X1_218 C dX1_hostOf_2 (ct_X1_require hG hY) (Or.inl hY.yard) (xK fun hb => rr_out C (xc21 hb)) (kE (fun j h1 e1 => ?_))
  obtain ⟨⟨hj, rfl⟩, e1⟩ := e1
  rw [e1]
  have hk := kn_nI (show j < 2 ^ 31 by omega)
  refine rr_astore_n C 2 dX1_hostOf_5 rfl (Nat.le_of_ble_eq_true rfl) rfl (Nat.le_of_ble_eq_true rfl) ?_
  refine rr_aload_n C 2 dX1_hostOf_6 rfl rfl ?_
  refine gs_X1_161 C dX1_hostOf_7 ?_
  refine cv_X1_167 C dX1_hostOf_10 (ct_X12_is hG hY hj (t := 1) (by decide)) (Or.inl (hY.cont hj)) (kVr ?_)
  refine csx_X1_275 C dX1_hostOf_13 ct_X1_requireElement (xK fun hb => rr_out C (xc22 (cy_ix_j hj (by omega)) (by rw [hk]; exact hb))) (kB fun hb => ?_)
  have hrun := of_decide_eq_true hb
  obtain ⟨b, hb14⟩ : ∃ b, J 14 j = b + 1 := ⟨J 14 j - 1, by have := hok j hj hrun; omega⟩
  have hbh : b < J 0 4 := by have := (hY.2.2.2.2.2 j hj).2.2; omega
  have hc2 : h (J 8 j) = some (.inr (5, [.int (nI j), .int (I 12 j), .ref (J 6 (J 12 j)), .ref (J 16 j), .ref (G.2.2.2.2 (J 13 j)), .ref (J 9 b), .int (I 15 j), .int (I 16 j), .int (I 17 j), .int (I 18 j), .ref (J 1 0)])) := by
    have := hY.cont hj
    simp only [eCont, hb14] at this
    exact this
  refine rr_aload_n C 2 dX1_hostOf_16 rfl rfl ?_
  refine gf_X1_278 C dX1_hostOf_17 (Or.inl hc2) ?_
  refine gf_X1_282 C dX1_hostOf_20 (Or.inl (hY.host hbh)) ?_
  exact rr_ireturn C dX1_hostOf_23 ⟨qc2 (cy_ix_j hj (by omega)) (by rw [hk]; exact hb), by rw [hk, hb14]; rfl, rfl⟩
theorem ct_X1_restsUntil (hG : cy_G G) (hY : cy_Y G I J st h) {k : Int32} : cy_Con G yX1_restsUntil cX1_restsUntil 3 (some .int) 20 2 [.ref (J 1 0), .int k] h (qC (cd2 (cy_ix k (J 0 3)) (decide (J 13 (kn k) = 2))) (.int (I 18 (kn k))) (fun h1 => h1 = h)) (xC (cd2 (cy_ix k (J 0 3)) (decide (J 13 (kn k) = 2))) (cy_nm RJ10 RJ17 "") h) := by
  have r0 := hY.2.2.2.1
  refine cy_in (own := RX1) (lv0 := [some (.ref (J 1 0)), some (.int k), none]) (by decide) rfl rfl rfl (Nat.le_of_ble_eq_true rfl) (fun K T C => ?_)
  refine rr_aload_n C 0 dX1_restsUntil_0 rfl rfl ?_
  refine rr_iload_n C 1 dX1_restsUntil_1 rfl rfl ?_
  refine cvx_X1_218 C dX1_restsUntil_2 (ct_X1_require hG hY) (Or.inl hY.yard) (xK fun hb => rr_out C (xc21 hb)) (kE (fun j h1 e1 => ?_))
  obtain ⟨⟨hj, rfl⟩, e1⟩ := e1
  rw [e1]
  have hk := kn_nI (show j < 2 ^ 31 by omega)
  refine rr_astore_n C 2 dX1_restsUntil_5 rfl (Nat.le_of_ble_eq_true rfl) rfl (Nat.le_of_ble_eq_true rfl) ?_
  refine rr_aload_n C 2 dX1_restsUntil_6 rfl rfl ?_
  refine gs_X1_235 C dX1_restsUntil_7 ?_
  refine cv_X1_167 C dX1_restsUntil_10 (ct_X12_is hG hY hj (t := 2) (by decide)) (Or.inl (hY.cont hj)) (kVr ?_)
  refine csx_X1_275 C dX1_restsUntil_13 ct_X1_requireElement (xK fun hb => rr_out C (xc22 (cy_ix_j hj (by omega)) (by rw [hk]; exact hb))) (kB fun hb => ?_)
  refine rr_aload_n C 2 dX1_restsUntil_16 rfl rfl ?_
  refine gf_X1_238 C dX1_restsUntil_17 (Or.inl (hY.cont hj)) ?_
  exact rr_ireturn C dX1_restsUntil_20 ⟨qc2 (cy_ix_j hj (by omega)) (by rw [hk]; exact hb), by rw [hk], rfl⟩
theorem ct_X1_layersIn (hG : cy_G G) (hY : cy_Y G I J st h) {k : Int32} : cy_Con G yX1_layersIn cX1_layersIn 3 (some .int) 20 2 [.ref (J 1 0), .int k] h (qC (cd2 (cy_ix k (J 0 3)) (decide (J 13 (kn k) = 1))) (.int (I 15 (kn k))) (fun h1 => h1 = h)) (xC (cd2 (cy_ix k (J 0 3)) (decide (J 13 (kn k) = 1))) (cy_nm RJ10 RJ17 "") h) := by
  have r0 := hY.2.2.2.1
  refine cy_in (own := RX1) (lv0 := [some (.ref (J 1 0)), some (.int k), none]) (by decide) rfl rfl rfl (Nat.le_of_ble_eq_true rfl) (fun K T C => ?_)
  refine rr_aload_n C 0 dX1_layersIn_0 rfl rfl ?_
  refine rr_iload_n C 1 dX1_layersIn_1 rfl rfl ?_
  refine cvx_X1_218 C dX1_layersIn_2 (ct_X1_require hG hY) (Or.inl hY.yard) (xK fun hb => rr_out C (xc21 hb)) (kE (fun j h1 e1 => ?_))
  obtain ⟨⟨hj, rfl⟩, e1⟩ := e1
  rw [e1]
  have hk := kn_nI (show j < 2 ^ 31 by omega)
  refine rr_astore_n C 2 dX1_layersIn_5 rfl (Nat.le_of_ble_eq_true rfl) rfl (Nat.le_of_ble_eq_true rfl) ?_
  refine rr_aload_n C 2 dX1_layersIn_6 rfl rfl ?_
  refine gs_X1_161 C dX1_layersIn_7 ?_
  refine cv_X1_167 C dX1_layersIn_10 (ct_X12_is hG hY hj (t := 1) (by decide)) (Or.inl (hY.cont hj)) (kVr ?_)
  refine csx_X1_275 C dX1_layersIn_13 ct_X1_requireElement (xK fun hb => rr_out C (xc22 (cy_ix_j hj (by omega)) (by rw [hk]; exact hb))) (kB fun hb => ?_)
  refine rr_aload_n C 2 dX1_layersIn_16 rfl rfl ?_
  refine gf_X1_171 C dX1_layersIn_17 (Or.inl (hY.cont hj)) ?_
  exact rr_ireturn C dX1_layersIn_20 ⟨qc2 (cy_ix_j hj (by omega)) (by rw [hk]; exact hb), by rw [hk], rfl⟩
/-- the bar that is told: 4 none, .., 8 rest -/
def cy_bo (I : Nat → Nat → Int32) (J : Nat → Nat → Nat) (i : Nat) : Nat := if J 13 i = 2 then 8 else if J 13 i = 0 then cy_bar I J (I 1 1) (I 1 2) (I 6) (I 7) (J 0 4) i else 4
theorem ct_X1_barOf (hG : cy_G G) (hY : cy_Y G I J st h) {k : Int32} : cy_Con G yX1_barOf cX1_barOf 3 (some (.object "Bar")) 20 4 [.ref (J 1 0), .int k] h (qC (cd1 (cy_ix k (J 0 3))) (.ref (G.2.2.2.2 (cy_bo I J (kn k)))) (fun h1 => h1 = h)) (xC (cd1 (cy_ix k (J 0 3))) (cy_nm RJ10 "" "") h) := by
  have r0 := hY.2.2.2.1
  refine cy_in (own := RX1) (lv0 := [some (.ref (J 1 0)), some (.int k), none]) (by decide) rfl rfl rfl (Nat.le_of_ble_eq_true rfl) (fun K T C => ?_)
  refine rr_aload_n C 0 dX1_barOf_0 rfl rfl ?_
  refine rr_iload_n C 1 dX1_barOf_1 rfl rfl ?_
  refine cvx_X1_218 C dX1_barOf_2 (ct_X1_require hG hY) (Or.inl hY.yard) (xK fun hb => rr_out C (xc1 hb)) (kE (fun j h1 e1 => ?_))
  obtain ⟨⟨hj, rfl⟩, e1⟩ := e1
  rw [e1]
  have hk := kn_nI (show j < 2 ^ 31 by omega)
  have hc := qc1 (cy_ix_j hj (show J 0 3 < 2 ^ 31 by omega))
  refine rr_astore_n C 2 dX1_barOf_5 rfl (Nat.le_of_ble_eq_true rfl) rfl (Nat.le_of_ble_eq_true rfl) ?_
  refine rr_aload_n C 2 dX1_barOf_6 rfl rfl ?_
  refine gs_X1_235 C dX1_barOf_7 ?_
  refine cv_X1_167 C dX1_barOf_10 (ct_X12_is hG hY hj (t := 2) (by decide)) (Or.inl (hY.cont hj)) (kVr ?_)
  refine rr_if_eq C 20 dX1_barOf_13 (by decide) (fun c13 => ?_) (fun c13 => ?_)
  · have n2 : ¬ J 13 j = 2 := of_decide_eq_false (bI_eq0 c13)
    refine rr_aload_n C 2 dX1_barOf_20 rfl rfl ?_
    refine gs_X1_208 C dX1_barOf_21 ?_
    refine cv_X1_167 C dX1_barOf_24 (ct_X12_is hG hY hj (t := 0) (by decide)) (Or.inl (hY.cont hj)) (kVr ?_)
    refine rr_if_eq C 41 dX1_barOf_27 (by decide) (fun c27 => ?_) (fun c27 => ?_)
    · have n0 : ¬ J 13 j = 0 := of_decide_eq_false (bI_eq0 c27)
      refine gs_X1_256 C dX1_barOf_41 ?_
      exact rr_areturn C dX1_barOf_44 (by first | exact Or.inl ⟨_, rfl⟩ | exact Or.inr ⟨_, rfl⟩) ⟨hc, by rw [hk, cy_bo, if_neg n2, if_neg n0], rfl⟩
    · have n0 : J 13 j = 0 := of_decide_eq_true (bI_ne0 c27)
      refine rr_aload_n C 2 dX1_barOf_30 rfl rfl ?_
      refine rr_aload_n C 0 dX1_barOf_31 rfl rfl ?_
      refine gf_X1_46 C dX1_barOf_32 (Or.inl hY.yard) ?_
      refine cv_X1_252 C dX1_barOf_35 (ct_X12_bar hG hY hj (hY.pk hG)) (Or.inl (hY.cont hj)) (kVr ?_)
      refine rr_goto C 44 dX1_barOf_38 (by decide) ?_
      exact rr_areturn C dX1_barOf_44 (by first | exact Or.inl ⟨_, rfl⟩ | exact Or.inr ⟨_, rfl⟩) ⟨hc, by rw [hk, cy_bo, if_neg n2, if_pos n0], rfl⟩
  · have n2 : J 13 j = 2 := of_decide_eq_true (bI_ne0 c13)
    refine gs_X1_285 C dX1_barOf_16 ?_
    exact rr_areturn C dX1_barOf_19 (by first | exact Or.inl ⟨_, rfl⟩ | exact Or.inr ⟨_, rfl⟩) ⟨hc, by rw [hk, cy_bo, if_pos n2], rfl⟩
theorem ct_X1_freeCores (hG : cy_G G) (hY : cy_Y G I J st h) {k : Int32} : cy_Con G yX1_freeCores cX1_freeCores 3 (some .int) 20 1 [.ref (J 1 0), .int k] h (qC (cd1 (cy_ix k (J 0 4))) (.int (I 6 (kn k))) (fun h1 => h1 = h)) (xC (cd1 (cy_ix k (J 0 4))) (cy_nm RJ10 "" "") h) := by
  have r0 := hY.2.2.2.1
  refine cy_in (own := RX1) (lv0 := [some (.ref (J 1 0)), some (.int k), none]) (by decide) rfl rfl rfl (Nat.le_of_ble_eq_true rfl) (fun K T C => ?_)
  refine rr_aload_n C 0 dX1_freeCores_0 rfl rfl ?_
  refine rr_iload_n C 1 dX1_freeCores_1 rfl rfl ?_
  refine cvx_X1_288 C dX1_freeCores_2 (ct_X1_requireHost hG hY) (Or.inl hY.yard) (xK fun hb => rr_out C (xc1 hb)) (kE (fun j h1 e1 => ?_))
  obtain ⟨⟨hj, rfl⟩, e1⟩ := e1
  rw [e1]
  refine rr_astore_n C 2 dX1_freeCores_5 rfl (Nat.le_of_ble_eq_true rfl) rfl (Nat.le_of_ble_eq_true rfl) ?_
  refine rr_aload_n C 2 dX1_freeCores_6 rfl rfl ?_
  refine gf_X1_292 C dX1_freeCores_7 (Or.inl (hY.host hj)) ?_
  exact rr_ireturn C dX1_freeCores_10 ⟨qc1 (cy_ix_j hj (by omega)), by rw [kn_nI (by omega)], rfl⟩
theorem ct_X1_freeMemory (hG : cy_G G) (hY : cy_Y G I J st h) {k : Int32} : cy_Con G yX1_freeMemory cX1_freeMemory 3 (some .int) 20 1 [.ref (J 1 0), .int k] h (qC (cd1 (cy_ix k (J 0 4))) (.int (I 7 (kn k))) (fun h1 => h1 = h)) (xC (cd1 (cy_ix k (J 0 4))) (cy_nm RJ10 "" "") h) := by
  have r0 := hY.2.2.2.1
  refine cy_in (own := RX1) (lv0 := [some (.ref (J 1 0)), some (.int k), none]) (by decide) rfl rfl rfl (Nat.le_of_ble_eq_true rfl) (fun K T C => ?_)
  refine rr_aload_n C 0 dX1_freeMemory_0 rfl rfl ?_
  refine rr_iload_n C 1 dX1_freeMemory_1 rfl rfl ?_
  refine cvx_X1_288 C dX1_freeMemory_2 (ct_X1_requireHost hG hY) (Or.inl hY.yard) (xK fun hb => rr_out C (xc1 hb)) (kE (fun j h1 e1 => ?_))
  obtain ⟨⟨hj, rfl⟩, e1⟩ := e1
  rw [e1]
  refine rr_astore_n C 2 dX1_freeMemory_5 rfl (Nat.le_of_ble_eq_true rfl) rfl (Nat.le_of_ble_eq_true rfl) ?_
  refine rr_aload_n C 2 dX1_freeMemory_6 rfl rfl ?_
  refine gf_X1_303 C dX1_freeMemory_7 (Or.inl (hY.host hj)) ?_
  exact rr_ireturn C dX1_freeMemory_10 ⟨qc1 (cy_ix_j hj (by omega)), by rw [kn_nI (by omega)], rfl⟩
theorem ct_X1_uses (hG : cy_G G) (hY : cy_Y G I J st h) {x : Int32} : cy_Con G yX1_uses cX1_uses 6 (some .int) 20 2 [.ref (J 1 0), .int x] h (qC (cd1 (cy_ix x (J 0 0))) (.int (nI (cy_cn (fun k => !decide (cy_lay J k &&& cy_bit (kn x) = 0)) (J 0 1)))) (fun h1 => h1 = h)) (xC (cd1 (cy_ix x (J 0 0))) (cy_nm RJ10 "" "") h) := by
  have r0 := hY.2.2.2.1
  have hla := hY.list (i := 1) (by decide)
  have hcap := hY.cap (i := 1) (by decide)
  have hnc := (hY.2.2.1 1 (by decide)).1
  refine cy_in (own := RX1) (lv0 := [some (.ref (J 1 0)), some (.int x), none, none, none, none]) (by decide) rfl rfl rfl (Nat.le_of_ble_eq_true rfl) (fun K T C => ?_)
  refine rr_aload_n C 0 dX1_uses_0 rfl rfl ?_
  refine rr_iload_n C 1 dX1_uses_1 rfl rfl ?_
  refine cvx_X1_102 C dX1_uses_2 (ct_X1_requireLayer hG hY) (Or.inl hY.yard) (xK fun hb => rr_out C (xc1 hb)) (kE (fun j h1 e1 => ?_))
  obtain ⟨⟨hj, rfl⟩, e1⟩ := e1
  rw [e1]
  rw [kn_nI (show j < 2 ^ 31 by omega)] at C
  refine rr_astore_n C 2 dX1_uses_5 rfl (Nat.le_of_ble_eq_true rfl) rfl (Nat.le_of_ble_eq_true rfl) ?_
  refine rr_iconst C 0 dX1_uses_6 (by decide) ?_
  refine rr_istore_n C 3 dX1_uses_7 rfl (Nat.le_of_ble_eq_true rfl) rfl (Nat.le_of_ble_eq_true rfl) ?_
  refine rr_aload_n C 0 dX1_uses_8 rfl rfl ?_
  refine gf_X1_34 C dX1_uses_9 (Or.inl hY.yard) ?_
  refine cf_X1_122 C dX1_uses_12 (ct_J2_iterator hla) (Or.inl hla) (kE (fun q h1 e1 => ?_))
  obtain ⟨⟨hq, hz⟩, rfl⟩ := e1
  refine rr_astore C dX1_uses_17 (Nat.le_of_ble_eq_true rfl) rfl (Nat.le_of_ble_eq_true rfl) ?_
  have loop : ∀ (d k : Nat) (lr : Value) (x5 : Option Value), k + d = J 0 1 → K 0 (cy_up h q (.inr (8, [.int (nI k), lr, .int (I 0 1), .ref (J 2 1)]))) 19 [some (.ref (J 1 0)), some (.int (nI j)), some (.ref (J 5 j)), some (.int (nI (cy_cn (fun k => !decide (cy_lay J k &&& cy_bit j = 0)) k))), some (.ref q), x5] [] := by
    intro d
    induction d with
    | zero =>
      intro k lr x5 hk
      have hkn : k = J 0 1 := by omega
      subst hkn
      refine rr_aload C dX1_uses_19 rfl ?_
      refine cf_X1_126 C dX1_uses_21 (ct_hn0 cy_up_eq (cy_up_old hq hla)) (Or.inl cy_up_eq) (kVr ?_)
      refine rr_if_eq C 65 dX1_uses_26 (by decide) (fun _ => ?_) (fun c => absurd rfl c)
      refine rr_forget C (cy_up_sub hq) ?_
      refine rr_iload_n C 3 dX1_uses_65 rfl rfl ?_
      exact rr_ireturn C dX1_uses_66 ⟨qc1 (cy_ix_j hj (by omega)), rfl, rfl⟩
    | succ d ih =>
      intro k lr x5 hk
      have hkl := hY.image (i := k) (by omega)
      refine rr_aload C dX1_uses_19 rfl ?_
      refine cf_X1_126 C dX1_uses_21 (ct_hn1 cy_up_eq (cy_up_old hq hla) (n := J 0 1) (by omega) (by omega)) (Or.inl cy_up_eq) (kVr ?_)
      refine rr_if_eq C 65 dX1_uses_26 (by decide) (fun c => absurd c (by decide)) (fun _ => ?_)
      refine rr_aload C dX1_uses_29 rfl ?_
      refine cf_X1_132 C dX1_uses_31 (ct_nx cy_up_eq (cy_up_old hq hla) ((hY.kn hG (by decide)).up hq) (by omega) hnc hcap (hY.el (i := 1) (by decide) (by omega))) (Or.inl cy_up_eq) (kV (fun h1 e1 => ?_))
      subst e1
      rw [cy_up_up]
      refine cc_X1_66 C dX1_uses_36 (Or.inl (cy_up_old hq hkl)) ?_
      have k60 : ∀ b : Bool, (!decide (cy_lay J k &&& cy_bit j = 0)) = b → K 0 (cy_up h q (.inr (8, [.int (nI (k + 1)), .int (nI k), .int (I 0 1), .ref (J 2 1)]))) 60 [some (.ref (J 1 0)), some (.int (nI j)), some (.ref (J 5 j)), some (.int (nI (cy_cn (fun k => !decide (cy_lay J k &&& cy_bit j = 0)) k))), some (.ref q), some (.ref (J 6 k))] [.int (bI b), .int (nI (cy_cn (fun k => !decide (cy_lay J k &&& cy_bit j = 0)) k))] := by
        intro b hb
        subst hb
        refine rr_iadd C dX1_uses_60 ?_
        rw [nI_cn (p := fun k => !decide (cy_lay J k &&& cy_bit j = 0))]
        refine rr_istore_n C 3 dX1_uses_61 rfl (Nat.le_of_ble_eq_true rfl) rfl (Nat.le_of_ble_eq_true rfl) ?_
        refine rr_goto C 19 dX1_uses_62 (by decide) ?_
        exact ih (k + 1) _ _ (by omega)
      refine rr_astore C dX1_uses_39 (Nat.le_of_ble_eq_true rfl) rfl (Nat.le_of_ble_eq_true rfl) ?_
      refine rr_iload_n C 3 dX1_uses_41 rfl rfl ?_
      refine rr_aload C dX1_uses_42 rfl ?_
      refine cv_X1_106 C dX1_uses_44 (ct_lay (hY.mono (cy_up_sub hq)) (by omega)) (Or.inl (cy_up_old hq hkl)) (kVr ?_)
      refine rr_aload_n C 2 dX1_uses_47 rfl rfl ?_
      refine gf_X1_109 C dX1_uses_48 (Or.inl (cy_up_old hq (hY.layer hj))) ?_
      refine rr_iand C dX1_uses_51 ?_
      refine rr_if_eq C 59 dX1_uses_52 (by decide) (fun c52 => ?_) (fun c52 => ?_)
      · refine rr_iconst C 0 dX1_uses_59 (by decide) ?_
        exact k60 false (by simp [c52])
      · refine rr_iconst C 1 dX1_uses_55 (by decide) ?_
        refine rr_goto C 60 dX1_uses_56 (by decide) ?_
        exact k60 true (by simp [c52])
  refine rr_less C (u' := 0) (Nat.zero_le _) ?_
  exact loop (J 0 1) 0 _ _ (by omega)
/-- what is left of host j by its containers -/
def cy_fb (I : Nat → Nat → Int32) (J : Nat → Nat → Nat) (j : Nat) : Nat → Int32
  | 0 => I 4 j
  | n + 1 => cy_fb I J j n - (if J 14 n = j + 1 then I 13 n else 0)
theorem ct_X1_freeByContainers (hG : cy_G G) (hY : cy_Y G I J st h) {x : Int32} : cy_Con G yX1_freeByContainers cX1_freeByContainers 6 (some .int) 20 2 [.ref (J 1 0), .int x] h (qC (cd1 (cy_ix x (J 0 4))) (.int (cy_fb I J (kn x) (J 0 3))) (fun h1 => h1 = h)) (xC (cd1 (cy_ix x (J 0 4))) (cy_nm RJ10 "" "") h) := by
  have r0 := hY.2.2.2.1
  have hla := hY.list (i := 3) (by decide)
  have hcap := hY.cap (i := 3) (by decide)
  have hnc := (hY.2.2.1 3 (by decide)).1
  refine cy_in (own := RX1) (lv0 := [some (.ref (J 1 0)), some (.int x), none, none, none, none]) (by decide) rfl rfl rfl (Nat.le_of_ble_eq_true rfl) (fun K T C => ?_)
  refine rr_aload_n C 0 dX1_freeByContainers_0 rfl rfl ?_
  refine rr_iload_n C 1 dX1_freeByContainers_1 rfl rfl ?_
  refine cvx_X1_288 C dX1_freeByContainers_2 (ct_X1_requireHost hG hY) (Or.inl hY.yard) (xK fun hb => rr_out C (xc1 hb)) (kE (fun j h1 e1 => ?_))
  obtain ⟨⟨hj, rfl⟩, e1⟩ := e1
  rw [e1]
  rw [kn_nI (show j < 2 ^ 31 by omega)] at C
  refine rr_astore_n C 2 dX1_freeByContainers_5 rfl (Nat.le_of_ble_eq_true rfl) rfl (Nat.le_of_ble_eq_true rfl) ?_
  refine rr_aload_n C 2 dX1_freeByContainers_6 rfl rfl ?_
  refine gf_X1_296 C dX1_freeByContainers_7 (Or.inl (hY.host hj)) ?_
  refine cv_X1_79 C dX1_freeByContainers_10 (ct_X7_cores (hY.hneed hj)) (Or.inl (hY.hneed hj)) (kVr ?_)
  refine rr_istore_n C 3 dX1_freeByContainers_13 rfl (Nat.le_of_ble_eq_true rfl) rfl (Nat.le_of_ble_eq_true rfl) ?_
  refine rr_aload_n C 0 dX1_freeByContainers_14 rfl rfl ?_
  refine gf_X1_40 C dX1_freeByContainers_15 (Or.inl hY.yard) ?_
  refine cf_X1_122 C dX1_freeByContainers_18 (ct_J2_iterator hla) (Or.inl hla) (kE (fun q h1 e1 => ?_))
  obtain ⟨⟨hq, hz⟩, rfl⟩ := e1
  refine rr_astore C dX1_freeByContainers_23 (Nat.le_of_ble_eq_true rfl) rfl (Nat.le_of_ble_eq_true rfl) ?_
  have loop : ∀ (d k : Nat) (lr : Value) (x5 : Option Value), k + d = J 0 3 → K 0 (cy_up h q (.inr (8, [.int (nI k), lr, .int (I 0 3), .ref (J 2 3)]))) 25 [some (.ref (J 1 0)), some (.int (nI j)), some (.ref (J 9 j)), some (.int (cy_fb I J j k)), some (.ref q), x5] [] := by
    intro d
    induction d with
    | zero =>
      intro k lr x5 hk
      have hkn : k = J 0 3 := by omega
      subst hkn
      refine rr_aload C dX1_freeByContainers_25 rfl ?_
      refine cf_X1_126 C dX1_freeByContainers_27 (ct_hn0 cy_up_eq (cy_up_old hq hla)) (Or.inl cy_up_eq) (kVr ?_)
      refine rr_if_eq C 74 dX1_freeByContainers_32 (by decide) (fun _ => ?_) (fun c => absurd rfl c)
      refine rr_forget C (cy_up_sub hq) ?_
      refine rr_iload_n C 3 dX1_freeByContainers_74 rfl rfl ?_
      exact rr_ireturn C dX1_freeByContainers_75 ⟨qc1 (cy_ix_j hj (by omega)), rfl, rfl⟩
    | succ d ih =>
      intro k lr x5 hk
      have hkl := hY.cont (i := k) (by omega)
      refine rr_aload C dX1_freeByContainers_25 rfl ?_
      refine cf_X1_126 C dX1_freeByContainers_27 (ct_hn1 cy_up_eq (cy_up_old hq hla) (n := J 0 3) (by omega) (by omega)) (Or.inl cy_up_eq) (kVr ?_)
      refine rr_if_eq C 74 dX1_freeByContainers_32 (by decide) (fun c => absurd c (by decide)) (fun _ => ?_)
      refine rr_aload C dX1_freeByContainers_35 rfl ?_
      refine cf_X1_132 C dX1_freeByContainers_37 (ct_nx cy_up_eq (cy_up_old hq hla) ((hY.kn hG (by decide)).up hq) (by omega) hnc hcap (hY.el (i := 3) (by decide) (by omega))) (Or.inl cy_up_eq) (kV (fun h1 e1 => ?_))
      subst e1
      rw [cy_up_up]
      refine cc_X1_73 C dX1_freeByContainers_42 (Or.inl (cy_up_old hq hkl)) ?_
      refine rr_astore C dX1_freeByContainers_45 (Nat.le_of_ble_eq_true rfl) rfl (Nat.le_of_ble_eq_true rfl) ?_
      refine rr_iload_n C 3 dX1_freeByContainers_47 rfl rfl ?_
      refine rr_aload C dX1_freeByContainers_48 rfl ?_
      refine gf_X1_278 C dX1_freeByContainers_50 (Or.inl (cy_up_old hq hkl)) ?_
      refine rr_aload_n C 2 dX1_freeByContainers_53 rfl rfl ?_
      refine rr_acmp_ne C (cy_o (J 9) (J 14 k)) (some (J 9 j)) 68 dX1_freeByContainers_54 (by decide) rfl rfl (fun c54 => ?_) (fun c54 => ?_)
      · have hn : ¬ J 14 k = j + 1 := fun z => c54 (by rw [z]; rfl)
        refine rr_iconst C 0 dX1_freeByContainers_68 (by decide) ?_
        refine rr_isub C dX1_freeByContainers_69 ?_
        refine rr_istore_n C 3 dX1_freeByContainers_70 rfl (Nat.le_of_ble_eq_true rfl) rfl (Nat.le_of_ble_eq_true rfl) ?_
        refine rr_goto C 25 dX1_freeByContainers_71 (by decide) ?_
        have h2 := ih (k + 1) (.int (nI k)) (some (.ref (J 8 k))) (by omega)
        rw [cy_fb, if_neg hn] at h2
        exact h2
      · have hn : J 14 k = j + 1 := by
          cases hp : J 14 k with
          | zero => rw [hp] at c54; cases c54
          | succ p =>
            rw [hp] at c54
            have hpl : p < J 0 4 := by have := (hY.2.2.2.2.2 k (by omega)).2.2; omega
            have := (hY.2.1 8 p 8 j (J 9 p) _ _ (if_pos hpl) (by rw [Option.some.inj c54]; exact if_pos hj)).2
            omega
        refine rr_aload C dX1_freeByContainers_57 rfl ?_
        refine gf_X1_300 C dX1_freeByContainers_59 (Or.inl (cy_up_old hq hkl)) ?_
        refine cv_X1_79 C dX1_freeByContainers_62 (ct_X7_cores (cy_up_old hq (hY.cneed (i := k) (by omega)))) (Or.inl (cy_up_old hq (hY.cneed (i := k) (by omega)))) (kVr ?_)
        refine rr_goto C 69 dX1_freeByContainers_65 (by decide) ?_
        refine rr_isub C dX1_freeByContainers_69 ?_
        refine rr_istore_n C 3 dX1_freeByContainers_70 rfl (Nat.le_of_ble_eq_true rfl) rfl (Nat.le_of_ble_eq_true rfl) ?_
        refine rr_goto C 25 dX1_freeByContainers_71 (by decide) ?_
        have h2 := ih (k + 1) (.int (nI k)) (some (.ref (J 8 k))) (by omega)
        rw [cy_fb, if_pos hn] at h2
        exact h2
  refine rr_less C (u' := 0) (Nat.zero_le _) ?_
  exact loop (J 0 3) 0 _ _ (by omega)
theorem ct_X1_count (hG : cy_G G) (hY : cy_Y G I J st h) {t : Nat} (ht : t < 4) : cy_Con G yX1_count cX1_count 5 (some .int) 3 1 [.ref (J 1 0), .ref (G.2.2.2.2 t)] h (qV (.int (nI (cy_cn (fun k => decide (J 13 k = t)) (J 0 3)))) (fun h1 => h1 = h)) xF := by
  have r0 := hY.2.2.2.1
  have hla := hY.list (i := 3) (by decide)
  have hcap := hY.cap (i := 3) (by decide)
  have hnc := (hY.2.2.1 3 (by decide)).1
  refine cy_in (own := RX1) (lv0 := [some (.ref (J 1 0)), some (.ref (G.2.2.2.2 t)), none, none, none]) (by decide) rfl rfl rfl (Nat.le_of_ble_eq_true rfl) (fun K T C => ?_)
  refine rr_iconst C 0 dX1_count_0 (by decide) ?_
  refine rr_istore_n C 2 dX1_count_1 rfl (Nat.le_of_ble_eq_true rfl) rfl (Nat.le_of_ble_eq_true rfl) ?_
  refine rr_aload_n C 0 dX1_count_2 rfl rfl ?_
  refine gf_X1_40 C dX1_count_3 (Or.inl hY.yard) ?_
  refine cf_X1_122 C dX1_count_6 (ct_J2_iterator hla) (Or.inl hla) (kE (fun q h1 e1 => ?_))
  obtain ⟨⟨hq, hz⟩, rfl⟩ := e1
  refine rr_astore_n C 3 dX1_count_11 rfl (Nat.le_of_ble_eq_true rfl) rfl (Nat.le_of_ble_eq_true rfl) ?_
  have loop : ∀ (d k : Nat) (lr : Value) (x4 : Option Value), k + d = J 0 3 → K 0 (cy_up h q (.inr (8, [.int (nI k), lr, .int (I 0 3), .ref (J 2 3)]))) 12 [some (.ref (J 1 0)), some (.ref (G.2.2.2.2 t)), some (.int (nI (cy_cn (fun k => decide (J 13 k = t)) k))), some (.ref q), x4] [] := by
    intro d
    induction d with
    | zero =>
      intro k lr x4 hk
      have hkn : k = J 0 3 := by omega
      subst hkn
      refine rr_aload_n C 3 dX1_count_12 rfl rfl ?_
      refine cf_X1_126 C dX1_count_13 (ct_hn0 cy_up_eq (cy_up_old hq hla)) (Or.inl cy_up_eq) (kVr ?_)
      refine rr_if_eq C 52 dX1_count_18 (by decide) (fun _ => ?_) (fun c => absurd rfl c)
      refine rr_forget C (cy_up_sub hq) ?_
      refine rr_iload_n C 2 dX1_count_52 rfl rfl ?_
      exact rr_ireturn C dX1_count_53 ⟨rfl, rfl⟩
    | succ d ih =>
      intro k lr x4 hk
      have hkl := hY.cont (i := k) (by omega)
      refine rr_aload_n C 3 dX1_count_12 rfl rfl ?_
      refine cf_X1_126 C dX1_count_13 (ct_hn1 cy_up_eq (cy_up_old hq hla) (n := J 0 3) (by omega) (by omega)) (Or.inl cy_up_eq) (kVr ?_)
      refine rr_if_eq C 52 dX1_count_18 (by decide) (fun c => absurd c (by decide)) (fun _ => ?_)
      refine rr_aload_n C 3 dX1_count_21 rfl rfl ?_
      refine cf_X1_132 C dX1_count_22 (ct_nx cy_up_eq (cy_up_old hq hla) ((hY.kn hG (by decide)).up hq) (by omega) hnc hcap (hY.el (i := 3) (by decide) (by omega))) (Or.inl cy_up_eq) (kV (fun h1 e1 => ?_))
      subst e1
      rw [cy_up_up]
      refine cc_X1_73 C dX1_count_27 (Or.inl (cy_up_old hq hkl)) ?_
      have k47 : ∀ b : Bool, decide (J 13 k = t) = b → K 0 (cy_up h q (.inr (8, [.int (nI (k + 1)), .int (nI k), .int (I 0 3), .ref (J 2 3)]))) 47 [some (.ref (J 1 0)), some (.ref (G.2.2.2.2 t)), some (.int (nI (cy_cn (fun k => decide (J 13 k = t)) k))), some (.ref q), some (.ref (J 8 k))] [.int (bI b), .int (nI (cy_cn (fun k => decide (J 13 k = t)) k))] := by
        intro b hb
        subst hb
        refine rr_iadd C dX1_count_47 ?_
        rw [nI_cn (p := fun k => decide (J 13 k = t))]
        refine rr_istore_n C 2 dX1_count_48 rfl (Nat.le_of_ble_eq_true rfl) rfl (Nat.le_of_ble_eq_true rfl) ?_
        refine rr_goto C 12 dX1_count_49 (by decide) ?_
        exact ih (k + 1) _ _ (by omega)
      refine rr_astore C dX1_count_30 (Nat.le_of_ble_eq_true rfl) rfl (Nat.le_of_ble_eq_true rfl) ?_
      refine rr_iload_n C 2 dX1_count_32 rfl rfl ?_
      refine rr_aload C dX1_count_33 rfl ?_
      refine rr_aload_n C 1 dX1_count_35 rfl rfl ?_
      refine cv_X1_167 C dX1_count_36 (ct_X12_is hG (hY.mono (cy_up_sub hq)) (by omega) ht) (Or.inl (cy_up_old hq hkl)) (kVr ?_)
      refine rr_if_eq C 46 dX1_count_39 (by decide) (fun c39 => ?_) (fun c39 => ?_)
      · refine rr_iconst C 0 dX1_count_46 (by decide) ?_
        exact k47 false (bI_eq0 c39)
      · refine rr_iconst C 1 dX1_count_42 (by decide) ?_
        refine rr_goto C 47 dX1_count_43 (by decide) ?_
        exact k47 true (bI_ne0 c39)
  refine rr_less C (u' := 0) (Nat.zero_le _) ?_
  exact loop (J 0 3) 0 _ _ (by omega)
theorem ct_X1_isOpen (hG : cy_G G) (hY : cy_Y G I J st h) {t hr : Int32} : cy_Con G yX1_isOpen cX1_isOpen 3 (some .boolean) 20 3 [.ref (J 1 0), .int t, .int hr] h (qC (cd1 (cy_bt t 0 3 && cy_bt hr 0 999)) (.int (bI (cy_hop I J t hr))) (fun h1 => h1 = h)) (xC (cd1 (cy_bt t 0 3 && cy_bt hr 0 999)) (cy_nm RJ18 "" "") h) := by
  refine cy_in (own := RX1) (lv0 := [some (.ref (J 1 0)), some (.int t), some (.int hr)]) (by decide) rfl rfl rfl (Nat.le_of_ble_eq_true rfl) (fun K T C => ?_)
  refine rr_iconst C 2 dX1_isOpen_0 (by decide) ?_
  refine rr_newaz C 2 1 q721 dX1_isOpen_1 (by decide) (by decide) (by decide) (by decide) (by omega) (fun q hq hz => ?_)
  refine rr_dup C dX1_isOpen_3 rfl ?_
  refine rr_iconst C 0 dX1_isOpen_4 (by decide) ?_
  refine rr_iload_n C 1 dX1_isOpen_5 rfl rfl ?_
  refine cs_X1_191 C dX1_isOpen_6 ct_X1_isTenant (kVr ?_)
  refine rr_zast C 0 dX1_isOpen_9 cy_up_eq rfl (by decide) (by decide) ?_
  rw [cy_up_up, vp_nar_bI]
  refine rr_dup C dX1_isOpen_10 rfl ?_
  refine rr_iconst C 1 dX1_isOpen_11 (by decide) ?_
  refine rr_iload_n C 2 dX1_isOpen_12 rfl rfl ?_
  refine rr_iconst C 0 dX1_isOpen_13 (by decide) ?_
  refine rr_sipush C 999 dX1_isOpen_14 (by decide) ?_
  refine cs_X1_75 C dX1_isOpen_17 ct_X1_isIn (kVr ?_)
  refine rr_zast C 1 dX1_isOpen_20 cy_up_eq rfl (by decide) (by decide) ?_
  rw [cy_up_up, vp_nar_bI]
  refine csx_X1_144 C dX1_isOpen_21 (ct_X1_requireArguments (fun k => if k = 0 then cy_bt t 0 3 else cy_bt hr 0 999) cy_up_eq (by decide) (fun k hk => by match k, hk with | 0, _ => rfl | 1, _ => rfl)) (xK fun hb => rr_forgetT C (cy_up_sub hq) (rr_out C (xc1 (by simpa [cy_al] using hb)))) (kB fun hb => ?_)
  refine rr_forget C (cy_up_sub hq) ?_
  refine rr_aload_n C 0 dX1_isOpen_24 rfl rfl ?_
  refine rr_iload_n C 1 dX1_isOpen_25 rfl rfl ?_
  refine rr_iload_n C 2 dX1_isOpen_26 rfl rfl ?_
  refine cv_X1_245 C dX1_isOpen_27 (ct_X1_hasOpen hG hY) (Or.inl hY.yard) (kVr ?_)
  exact rr_zreturn C dX1_isOpen_30 (by cases cy_hop _ _ _ _ <;> rfl) ⟨qc1 (by simpa [cy_al] using hb), rfl, rfl⟩
theorem ct_X1_nextOpen (hG : cy_G G) (hY : cy_Y G I J st h) {t : Int32} {H : Nat} (hH : H ≤ 999) (hh : I 1 0 = nI H) : cy_Con G yX1_nextOpen cX1_nextOpen 3 (some .int) 20 30 [.ref (J 1 0), .int t] h (qC (cd2 (cy_bt t 0 3) (decide (cy_fst (fun x => cy_hop I J t (nI x)) (H + 1) 24 < H + 25))) (.int (nI (cy_fst (fun x => cy_hop I J t (nI x)) (H + 1) 24))) (fun h1 => h1 = h)) (xC (cd2 (cy_bt t 0 3) (decide (cy_fst (fun x => cy_hop I J t (nI x)) (H + 1) 24 < H + 25))) (cy_nm RJ18 RJ17 "") h) := by
  refine cy_in (own := RX1) (lv0 := [some (.ref (J 1 0)), some (.int t), none]) (by decide) rfl rfl rfl (Nat.le_of_ble_eq_true rfl) (fun K T C => ?_)
  refine rr_iconst C 1 dX1_nextOpen_0 (by decide) ?_
  refine rr_newaz C 1 1 q721 dX1_nextOpen_1 (by decide) (by decide) (by decide) (by decide) (by omega) (fun q hq hz => ?_)
  refine rr_dup C dX1_nextOpen_3 rfl ?_
  refine rr_iconst C 0 dX1_nextOpen_4 (by decide) ?_
  refine rr_iload_n C 1 dX1_nextOpen_5 rfl rfl ?_
  refine cs_X1_191 C dX1_nextOpen_6 ct_X1_isTenant (kVr ?_)
  refine rr_zast C 0 dX1_nextOpen_9 cy_up_eq rfl (by decide) (by decide) ?_
  rw [cy_up_up, vp_nar_bI]
  refine csx_X1_144 C dX1_nextOpen_10 (ct_X1_requireArguments (fun k => cy_bt t 0 3) cy_up_eq (by decide) (fun k hk => by match k, hk with | 0, _ => rfl)) (xK fun hb => rr_forgetT C (cy_up_sub hq) (rr_out C (xc21 (by simpa [cy_al] using hb)))) (kB fun hb => ?_)
  have hb : cy_bt t 0 3 = true := by simpa [cy_al] using hb
  refine rr_forget C (cy_up_sub hq) ?_
  refine rr_aload_n C 0 dX1_nextOpen_13 rfl rfl ?_
  refine gf_X1_155 C dX1_nextOpen_14 (Or.inl hY.yard) ?_
  refine rr_iconst C 1 dX1_nextOpen_17 (by decide) ?_
  refine rr_iadd C dX1_nextOpen_18 ?_
  rw [hh, nI_1]
  refine rr_istore_n C 2 dX1_nextOpen_19 rfl (Nat.le_of_ble_eq_true rfl) rfl (Nat.le_of_ble_eq_true rfl) ?_
  have e24 : nI H + 24 = nI (H + 24) := nI_add H 24
  have fin : ∀ (u N : Nat), cy_fst (fun x => cy_hop I J t (nI x)) (H + 1) 24 = N → N ≤ H + 25 → 1 ≤ u → K u h 46 [some (.ref (J 1 0)), some (.int t), some (.int (nI N))] [] := by
    intro u N hN hNl hu
    have k62 : ∀ b : Bool, decide (N < H + 25) = b → K u h 62 [some (.ref (J 1 0)), some (.int t), some (.int (nI N))] [.int (bI b)] := by
      intro b hb2
      refine csx_X1_275 C dX1_nextOpen_62 ct_X1_requireElement (xK fun hb3 => rr_out C (xc22 hb (by rw [hN, hb2]; exact hb3))) (kB fun hb3 => ?_)
      refine rr_iload_n C 2 dX1_nextOpen_65 rfl rfl ?_
      exact rr_ireturn C dX1_nextOpen_66 ⟨qc2 hb (by rw [hN, hb2]; exact hb3), by rw [hN], rfl⟩
    refine rr_iload_n C 2 dX1_nextOpen_46 rfl rfl ?_
    refine rr_aload_n C 0 dX1_nextOpen_47 rfl rfl ?_
    refine gf_X1_155 C dX1_nextOpen_48 (Or.inl hY.yard) ?_
    refine rr_bipush C 24 dX1_nextOpen_51 (by decide) ?_
    refine rr_iadd C dX1_nextOpen_53 ?_
    rw [hh, e24]
    refine rr_icmp_gt C 61 dX1_nextOpen_54 (by decide) (fun c54 => ?_) (fun c54 => ?_)
    · have hlt : ¬ N < H + 25 := fun z => (nI_nlt (show N ≤ H + 24 by omega) (by omega)) c54
      refine rr_iconst C 0 dX1_nextOpen_61 (by decide) ?_
      exact k62 false (decide_eq_false hlt)
    · have hlt : N < H + 25 := by
        rcases Nat.lt_or_ge N (H + 25) with z | z
        · exact z
        · exact absurd (nI_lt (show H + 24 < N by omega) (by omega)) c54
      refine rr_iconst C 1 dX1_nextOpen_57 (by decide) ?_
      refine rr_goto C 62 dX1_nextOpen_58 (by decide) ?_
      exact k62 true (decide_eq_true hlt)
  have loop : ∀ (d k : Nat), k + d = H + 25 → H + 1 ≤ k → cy_fst (fun x => cy_hop I J t (nI x)) k d = cy_fst (fun x => cy_hop I J t (nI x)) (H + 1) 24 → K (d + 1) h 20 [some (.ref (J 1 0)), some (.int t), some (.int (nI k))] [] := by
    intro d
    induction d with
    | zero =>
      intro k hk hk1 he
      have hkn : k = H + 25 := by omega
      subst hkn
      refine rr_iload_n C 2 dX1_nextOpen_20 rfl rfl ?_
      refine rr_aload_n C 0 dX1_nextOpen_21 rfl rfl ?_
      refine gf_X1_155 C dX1_nextOpen_22 (Or.inl hY.yard) ?_
      refine rr_bipush C 24 dX1_nextOpen_25 (by decide) ?_
      refine rr_iadd C dX1_nextOpen_27 ?_
      rw [hh, e24]
      refine rr_icmp_gt C 46 dX1_nextOpen_28 (by decide) (fun _ => ?_) (fun c => absurd (nI_lt (show H + 24 < H + 25 by omega) (by omega)) c)
      exact fin _ _ he.symm (Nat.le_refl _) (by omega)
    | succ d ih =>
      intro k hk hk1 he
      refine rr_iload_n C 2 dX1_nextOpen_20 rfl rfl ?_
      refine rr_aload_n C 0 dX1_nextOpen_21 rfl rfl ?_
      refine gf_X1_155 C dX1_nextOpen_22 (Or.inl hY.yard) ?_
      refine rr_bipush C 24 dX1_nextOpen_25 (by decide) ?_
      refine rr_iadd C dX1_nextOpen_27 ?_
      rw [hh, e24]
      refine rr_icmp_gt C 46 dX1_nextOpen_28 (by decide) (fun c => absurd c (nI_nlt (by omega) (by omega))) (fun _ => ?_)
      refine rr_aload_n C 0 dX1_nextOpen_31 rfl rfl ?_
      refine rr_iload_n C 1 dX1_nextOpen_32 rfl rfl ?_
      refine rr_iload_n C 2 dX1_nextOpen_33 rfl rfl ?_
      refine cv_X1_245 C dX1_nextOpen_34 (ct_X1_hasOpen hG hY) (Or.inl hY.yard) (kVr ?_)
      refine rr_if_ne C 46 dX1_nextOpen_37 (by decide) (fun c37 => ?_) (fun c37 => ?_)
      · have c37 := bI_ne0 c37
        have hk' : cy_fst (fun x => cy_hop I J t (nI x)) k (d + 1) = k := by rw [cy_fst, if_pos c37]
        exact fin _ k (he.symm.trans hk') (by omega) (by omega)
      · have c37 := bI_eq0 c37
        refine rr_iinc C (nI (k + 1)) dX1_nextOpen_40 rfl (nI_1 k) (Nat.le_of_ble_eq_true rfl) rfl (Nat.le_of_ble_eq_true rfl) ?_
        refine rr_goto C 20 dX1_nextOpen_43 (by decide) ?_
        refine rr_less C (u' := d + 1) (by omega) (ih (k + 1) (by omega) (by omega) ?_)
        rw [← he, cy_fst, if_neg (by rw [c37]; decide)]
  refine rr_less C (u' := 24 + 1) (by omega) ?_
  exact loop 24 (H + 1) (by omega) (Nat.le_refl _) rfl
end QUERY
