/-! the model: its world; its small methods -/
set_option maxRecDepth 100000
/-- the kinds and the lengths of its rows -/
def cy_kd : Nat → Option (Nat × Nat)
  | 3 => some (1, 12)
  | 4 => some (0, 12)
  | 6 => some (0, 8)
  | 7 => some (0, 8)
  | 9 => some (0, 4)
  | 10 => some (0, 4)
  | 12 => some (0, 6)
  | 13 => some (0, 6)
  | 14 => some (0, 6)
  | 17 => some (0, 12)
  | 18 => some (0, 12)
  | 19 => some (0, 12)
  | 20 => some (0, 12)
  | 21 => some (2, 12)
  | 22 => some (0, 12)
  | 23 => some (0, 12)
  | 24 => some (0, 12)
  | 25 => some (0, 12)
  | 26 => some (0, 12)
  | 28 => some (0, 4)
  | 29 => some (0, 4)
  | _ => none
abbrev eM (A : Nat → Nat) (M : Nat → Nat → Int32) (st : Int64) : va_E := .inr (11, [.int (M 0 0), .int (M 1 0), .int (M 2 0), .ref (A 3), .ref (A 4), .int (M 5 0), .ref (A 6), .ref (A 7), .int (M 8 0), .ref (A 9), .ref (A 10), .int (M 11 0), .ref (A 12), .ref (A 13), .ref (A 14), .int (M 15 0), .int (M 16 0), .ref (A 17), .ref (A 18), .ref (A 19), .ref (A 20), .ref (A 21), .ref (A 22), .ref (A 23), .ref (A 24), .ref (A 25), .ref (A 26), .long st, .ref (A 28), .ref (A 29)])
def cy_Mo (G : GT) (A : Nat → Nat) (M : Nat → Nat → Int32) (st : Int64) (h : Hp) : Prop :=
  h (A 0) = some (eM A M st) ∧ (∀ r kd n, cy_kd r = some (kd, n) → h (A r) = some (.inl (G.2.2.2.1 kd, n, .inl (M r)))) ∧ ∀ r r' p p', cy_kd r = some p → cy_kd r' = some p' → A r = A r' → r = r'
/-- the model's own places -/
def cy_own (A : Nat → Nat) (a : Nat) : Prop := a = A 0 ∨ ∃ r p, cy_kd r = some p ∧ a = A r
/-- what is not the model's stays -/
def cy_FrA (A : Nat → Nat) (h h1 : Hp) : Prop := ∀ a e, ¬ cy_own A a → h a = some e → h1 a = some e
section MODEL
variable {G : GT} {A : Nat → Nat} {M : Nat → Nat → Int32} {st : Int64} {h h1 h2 : Hp}
theorem cy_FrA.rf : cy_FrA A h h := fun _ _ _ q => q
theorem cy_FrA.tr (a : cy_FrA A h h1) (b : cy_FrA A h1 h2) : cy_FrA A h h2 := fun x e n q => b x e n (a x e n q)
theorem cy_FrA.up {a : Nat} {e : va_E} (ha : cy_own A a) : cy_FrA A h (cy_up h a e) := fun x e2 n q => by
  rw [cy_up_ne (fun z => n (by rw [z]; exact ha))]
  exact q
theorem cy_FrA.le (a : cy_le h h1) : cy_FrA A h h1 := fun x e _ q => a x e q
theorem cy_own.obj : cy_own A (A 0) := Or.inl rfl
theorem cy_own.row {r : Nat} {p : Nat × Nat} (hr : cy_kd r = some p) : cy_own A (A r) := Or.inr ⟨r, p, hr, rfl⟩
theorem cy_Mo.obj (hM : cy_Mo G A M st h) : h (A 0) = some (eM A M st) := hM.1
theorem cy_Mo.row (hM : cy_Mo G A M st h) {r kd n : Nat} (hr : cy_kd r = some (kd, n)) : h (A r) = some (.inl (G.2.2.2.1 kd, n, .inl (M r))) := hM.2.1 r kd n hr
theorem cy_Mo.mono (hM : cy_Mo G A M st h) (hl : cy_le h h1) : cy_Mo G A M st h1 := ⟨hl _ _ hM.1, fun r kd n q => hl _ _ (hM.2.1 r kd n q), hM.2.2⟩
/-- what keeps the model's places keeps its world -/
theorem cy_Mo.keep (hM : cy_Mo G A M st h) (hl : ∀ a e, cy_own A a → h a = some e → h1 a = some e) : cy_Mo G A M st h1 := ⟨hl _ _ cy_own.obj hM.1, fun r kd n q => hl _ _ (cy_own.row q) (hM.2.1 r kd n q), hM.2.2⟩
theorem cy_Mo.fr (hM : cy_Mo G A M st h) (hF : cy_Fr h h1) : cy_Mo G A M st h1 := ⟨hF _ _ hM.1 rfl, fun r kd n q => hF _ _ (hM.2.1 r kd n q) rfl, hM.2.2⟩
theorem cy_Mo.sc {M' : Nat → Nat → Int32} {st' : Int64} (hM : cy_Mo G A M st h) (hr : ∀ r p, cy_kd r = some p → M' r = M r) : cy_Mo G A M' st' (cy_up h (A 0) (eM A M' st')) := by
  refine ⟨cy_up_eq, fun r kd n q => ?_, hM.2.2⟩
  have := hM.row q
  rw [cy_up_ne (fun z => by rw [z, hM.1] at this; cases this), hr r _ q]
  exact this
theorem cy_Mo.ar (hM : cy_Mo G A M st h) {r kd n : Nat} (hr : cy_kd r = some (kd, n)) (j : Nat) (v : Int32) (h0 : ∀ r', r' = 0 ∨ r' = 1 ∨ r' = 2 ∨ r' = 5 ∨ r' = 8 ∨ r' = 11 ∨ r' = 15 ∨ r' = 16 → r' ≠ r := by (intro r' q; omega)) : cy_Mo G A (u2 M r j v) st (cy_up h (A r) (.inl (G.2.2.2.1 kd, n, .inl (upd (M r) j v)))) := by
  have hrow := hM.row hr
  have hsc : ∀ r', (r' = 0 ∨ r' = 1 ∨ r' = 2 ∨ r' = 5 ∨ r' = 8 ∨ r' = 11 ∨ r' = 15 ∨ r' = 16) → u2 M r j v r' = M r' := fun r' q => u2_row (h0 r' q)
  refine ⟨?_, fun r' kd' n' q => ?_, hM.2.2⟩
  · rw [cy_up_ne (fun z => by rw [← z, hM.1] at hrow; cases hrow), hM.1, eM, eM]
    rw [hsc 0 (by decide), hsc 1 (by decide), hsc 2 (by decide), hsc 5 (by decide), hsc 8 (by decide), hsc 11 (by decide), hsc 15 (by decide), hsc 16 (by decide)]
  · by_cases hrr : r' = r
    · subst hrr
      rw [hr] at q
      cases q
      rw [cy_up_eq]
      congr 5
      funext z
      simp [u2, upd]
    · rw [cy_up_ne (fun z => hrr (hM.2.2 _ _ _ _ q hr z)), u2_row hrr]
      exact hM.row q
theorem u2_u2 {α : Type} {I : Nat → Nat → α} {r i : Nat} {v w : α} : u2 (u2 I r i v) r i w = u2 I r i w := by
  funext r' i'
  unfold u2
  split
  · split <;> rfl
  · rfl
/-- what the latest call threw is recorded -/
theorem cy_Mo.thr (hM : cy_Mo G A M st h) (v : Int32) : cy_Mo G A (u2 M 0 0 v) st (cy_up h (A 0) (eM A (u2 M 0 0 v) st)) := hM.sc (fun r p q => u2_row (fun z => by rw [z] at q; cases q))
theorem ct_X3_in {v lo hi : Int32} : cy_Con G yX3_in cX3_in 3 (some .boolean) 0 0 [.int v, .int lo, .int hi] h (qV (.int (bI (cy_bt v lo hi))) (fun h1 => h1 = h)) xF := by
  refine cy_in (own := RX3) (lv0 := [some (.int v), some (.int lo), some (.int hi)]) (by decide) rfl rfl rfl (Nat.le_of_ble_eq_true rfl) (fun K T C => ?_)
  refine rr_iload_n C 0 dX3_in_0 rfl rfl ?_
  refine rr_iload_n C 1 dX3_in_1 rfl rfl ?_
  refine rr_icmp_lt C 14 dX3_in_2 (by decide) (fun c2 => ?_) (fun c2 => ?_)
  · refine rr_iconst C 0 dX3_in_14 (by decide) ?_
    exact rr_zreturn C dX3_in_15 rfl ⟨by rw [cy_bt, decide_eq_true c2]; rfl, rfl⟩
  · refine rr_iload_n C 0 dX3_in_5 rfl rfl ?_
    refine rr_iload_n C 2 dX3_in_6 rfl rfl ?_
    refine rr_icmp_gt C 14 dX3_in_7 (by decide) (fun c7 => ?_) (fun c7 => ?_)
    · refine rr_iconst C 0 dX3_in_14 (by decide) ?_
      exact rr_zreturn C dX3_in_15 rfl ⟨by rw [cy_bt, decide_eq_true c7, Bool.and_comm]; rfl, rfl⟩
    · refine rr_iconst C 1 dX3_in_10 (by decide) ?_
      refine rr_goto C 15 dX3_in_11 (by decide) ?_
      exact rr_zreturn C dX3_in_15 rfl ⟨by rw [cy_bt, decide_eq_false c2, decide_eq_false c7]; rfl, rfl⟩
theorem cy_bt_ix {k : Int32} {n : Nat} (hn : n < 2 ^ 31) : cy_bt k 0 (nI n - 1) = cy_ix k n := by
  unfold cy_bt cy_ix
  congr 1
  cases n with
  | zero =>
    by_cases hk : k < 0
    · rw [decide_eq_true (show k < nI 0 from hk), decide_eq_false (show ¬ nI 0 - 1 < k from fun z => by
        have h1 : (nI 0 - 1).toInt < k.toInt := Int32.lt_iff_toInt_lt.mp z
        have h2 : k.toInt < (0 : Int32).toInt := Int32.lt_iff_toInt_lt.mp hk
        have h3 : (nI 0 - 1).toInt = -1 := by decide
        have h4 : (0 : Int32).toInt = 0 := by decide
        omega)]
      rfl
    · rw [decide_eq_false (show ¬ k < nI 0 from hk), decide_eq_true (show nI 0 - 1 < k from Int32.lt_iff_toInt_lt.mpr (by
        have h2 : ¬ k.toInt < (0 : Int32).toInt := fun z => hk (Int32.lt_iff_toInt_lt.mpr z)
        have h3 : (nI 0 - 1).toInt = -1 := by decide
        have h4 : (0 : Int32).toInt = 0 := by decide
        omega))]
      rfl
  | succ m =>
    rw [nI_pred]
    have h1 := nI_toInt (n := m) (by omega)
    have h2 := nI_toInt (n := m + 1) hn
    by_cases hk : k < nI (m + 1)
    · rw [decide_eq_true hk, decide_eq_false (show ¬ nI m < k from fun z => by
        have a1 := Int32.lt_iff_toInt_lt.mp z
        have a2 := Int32.lt_iff_toInt_lt.mp hk
        omega)]
      rfl
    · rw [decide_eq_false hk, decide_eq_true (show nI m < k from Int32.lt_iff_toInt_lt.mpr (by
        have a2 : ¬ k.toInt < (nI (m + 1)).toInt := fun z => hk (Int32.lt_iff_toInt_lt.mpr z)
        omega))]
      rfl
theorem ct_X3_noLayer (hM : cy_Mo G A M st h) {n : Nat} (hn : n < 2 ^ 31) (e : M 2 0 = nI n) {k : Int32} : cy_Con G yX3_noLayer cX3_noLayer 2 (some .boolean) 1 0 [.ref (A 0), .int k] h (qV (.int (bI (!cy_ix k n))) (fun h1 => h1 = h)) xF := by
  refine cy_in (own := RX3) (lv0 := [some (.ref (A 0)), some (.int k)]) (by decide) rfl rfl rfl (Nat.le_of_ble_eq_true rfl) (fun K T C => ?_)
  refine rr_iload_n C 1 dX3_noLayer_0 rfl rfl ?_
  refine rr_iconst C 0 dX3_noLayer_1 (by decide) ?_
  refine rr_aload_n C 0 dX3_noLayer_2 rfl rfl ?_
  refine gf_X3_82 C dX3_noLayer_3 (Or.inl hM.obj) ?_
  refine rr_iconst C 1 dX3_noLayer_6 (by decide) ?_
  refine rr_isub C dX3_noLayer_7 ?_
  refine cs_X3_85 C dX3_noLayer_8 ct_X3_in (kVr ?_)
  rw [e, cy_bt_ix hn]
  refine rr_if_ne C 18 dX3_noLayer_11 (by decide) (fun c11 => ?_) (fun c11 => ?_)
  · refine rr_iconst C 0 dX3_noLayer_18 (by decide) ?_
    exact rr_zreturn C dX3_noLayer_19 rfl ⟨by rw [bI_ne0 c11]; rfl, rfl⟩
  · refine rr_iconst C 1 dX3_noLayer_14 (by decide) ?_
    refine rr_goto C 19 dX3_noLayer_15 (by decide) ?_
    exact rr_zreturn C dX3_noLayer_19 rfl ⟨by rw [bI_eq0 c11]; rfl, rfl⟩
theorem ct_X3_noImage (hM : cy_Mo G A M st h) {n : Nat} (hn : n < 2 ^ 31) (e : M 5 0 = nI n) {k : Int32} : cy_Con G yX3_noImage cX3_noImage 2 (some .boolean) 1 0 [.ref (A 0), .int k] h (qV (.int (bI (!cy_ix k n))) (fun h1 => h1 = h)) xF := by
  refine cy_in (own := RX3) (lv0 := [some (.ref (A 0)), some (.int k)]) (by decide) rfl rfl rfl (Nat.le_of_ble_eq_true rfl) (fun K T C => ?_)
  refine rr_iload_n C 1 dX3_noImage_0 rfl rfl ?_
  refine rr_iconst C 0 dX3_noImage_1 (by decide) ?_
  refine rr_aload_n C 0 dX3_noImage_2 rfl rfl ?_
  refine gf_X3_89 C dX3_noImage_3 (Or.inl hM.obj) ?_
  refine rr_iconst C 1 dX3_noImage_6 (by decide) ?_
  refine rr_isub C dX3_noImage_7 ?_
  refine cs_X3_85 C dX3_noImage_8 ct_X3_in (kVr ?_)
  rw [e, cy_bt_ix hn]
  refine rr_if_ne C 18 dX3_noImage_11 (by decide) (fun c11 => ?_) (fun c11 => ?_)
  · refine rr_iconst C 0 dX3_noImage_18 (by decide) ?_
    exact rr_zreturn C dX3_noImage_19 rfl ⟨by rw [bI_ne0 c11]; rfl, rfl⟩
  · refine rr_iconst C 1 dX3_noImage_14 (by decide) ?_
    refine rr_goto C 19 dX3_noImage_15 (by decide) ?_
    exact rr_zreturn C dX3_noImage_19 rfl ⟨by rw [bI_eq0 c11]; rfl, rfl⟩
theorem ct_X3_noHost (hM : cy_Mo G A M st h) {n : Nat} (hn : n < 2 ^ 31) (e : M 8 0 = nI n) {k : Int32} : cy_Con G yX3_noHost cX3_noHost 2 (some .boolean) 1 0 [.ref (A 0), .int k] h (qV (.int (bI (!cy_ix k n))) (fun h1 => h1 = h)) xF := by
  refine cy_in (own := RX3) (lv0 := [some (.ref (A 0)), some (.int k)]) (by decide) rfl rfl rfl (Nat.le_of_ble_eq_true rfl) (fun K T C => ?_)
  refine rr_iload_n C 1 dX3_noHost_0 rfl rfl ?_
  refine rr_iconst C 0 dX3_noHost_1 (by decide) ?_
  refine rr_aload_n C 0 dX3_noHost_2 rfl rfl ?_
  refine gf_X3_92 C dX3_noHost_3 (Or.inl hM.obj) ?_
  refine rr_iconst C 1 dX3_noHost_6 (by decide) ?_
  refine rr_isub C dX3_noHost_7 ?_
  refine cs_X3_85 C dX3_noHost_8 ct_X3_in (kVr ?_)
  rw [e, cy_bt_ix hn]
  refine rr_if_ne C 18 dX3_noHost_11 (by decide) (fun c11 => ?_) (fun c11 => ?_)
  · refine rr_iconst C 0 dX3_noHost_18 (by decide) ?_
    exact rr_zreturn C dX3_noHost_19 rfl ⟨by rw [bI_ne0 c11]; rfl, rfl⟩
  · refine rr_iconst C 1 dX3_noHost_14 (by decide) ?_
    refine rr_goto C 19 dX3_noHost_15 (by decide) ?_
    exact rr_zreturn C dX3_noHost_19 rfl ⟨by rw [bI_eq0 c11]; rfl, rfl⟩
theorem ct_X3_noContainer (hM : cy_Mo G A M st h) {n : Nat} (hn : n < 2 ^ 31) (e : M 16 0 = nI n) {k : Int32} : cy_Con G yX3_noContainer cX3_noContainer 2 (some .boolean) 1 0 [.ref (A 0), .int k] h (qV (.int (bI (!cy_ix k n))) (fun h1 => h1 = h)) xF := by
  refine cy_in (own := RX3) (lv0 := [some (.ref (A 0)), some (.int k)]) (by decide) rfl rfl rfl (Nat.le_of_ble_eq_true rfl) (fun K T C => ?_)
  refine rr_iload_n C 1 dX3_noContainer_0 rfl rfl ?_
  refine rr_iconst C 0 dX3_noContainer_1 (by decide) ?_
  refine rr_aload_n C 0 dX3_noContainer_2 rfl rfl ?_
  refine gf_X3_95 C dX3_noContainer_3 (Or.inl hM.obj) ?_
  refine rr_iconst C 1 dX3_noContainer_6 (by decide) ?_
  refine rr_isub C dX3_noContainer_7 ?_
  refine cs_X3_85 C dX3_noContainer_8 ct_X3_in (kVr ?_)
  rw [e, cy_bt_ix hn]
  refine rr_if_ne C 18 dX3_noContainer_11 (by decide) (fun c11 => ?_) (fun c11 => ?_)
  · refine rr_iconst C 0 dX3_noContainer_18 (by decide) ?_
    exact rr_zreturn C dX3_noContainer_19 rfl ⟨by rw [bI_ne0 c11]; rfl, rfl⟩
  · refine rr_iconst C 1 dX3_noContainer_14 (by decide) ?_
    refine rr_goto C 19 dX3_noContainer_15 (by decide) ?_
    exact rr_zreturn C dX3_noContainer_19 rfl ⟨by rw [bI_eq0 c11]; rfl, rfl⟩
theorem ct_X3_thrown (hM : cy_Mo G A M st h) : cy_Con G yX3_thrown cX3_thrown 1 (some .int) 0 0 [.ref (A 0)] h (qV (.int (M 0 0)) (fun h1 => h1 = h)) xF := by
  refine cy_in (own := RX3) (lv0 := [some (.ref (A 0))]) (by decide) rfl rfl rfl (Nat.le_of_ble_eq_true rfl) (fun K T C => ?_)
  refine rr_aload_n C 0 dX3_thrown_0 rfl rfl ?_
  refine gf_X3_79 C dX3_thrown_1 (Or.inl hM.obj) ?_
  exact rr_ireturn C dX3_thrown_4 ⟨rfl, rfl⟩
/-- nothing is thrown yet: a condition that holds is recorded -/
theorem ct_X3_fails (hM : cy_Mo G A M st h) (h0 : M 0 0 = 0) {b : Bool} {x : Int32} (hx : ¬ x = 0) : cy_Con G yX3_fails cX3_fails 3 (some .boolean) 0 0 [.ref (A 0), .int (bI b), .int x] h (qV (.int (bI b)) (fun h1 => h1 = if b then cy_up h (A 0) (eM A (u2 M 0 0 x) st) else h)) xF := by
  refine cy_in (own := RX3) (lv0 := [some (.ref (A 0)), some (.int (bI b)), some (.int x)]) (by decide) rfl rfl rfl (Nat.le_of_ble_eq_true rfl) (fun K T C => ?_)
  cases b with
  | false =>
    refine rr_iload_n C 1 dX3_fails_0 rfl rfl ?_
    refine rr_if_eq C 16 dX3_fails_1 (by decide) (fun _ => ?_) (fun c => absurd rfl c)
    refine rr_aload_n C 0 dX3_fails_16 rfl rfl ?_
    refine gf_X3_79 C dX3_fails_17 (Or.inl hM.obj) ?_
    rw [h0]
    refine rr_if_eq C 27 dX3_fails_20 (by decide) (fun _ => ?_) (fun c => absurd rfl c)
    refine rr_iconst C 0 dX3_fails_27 (by decide) ?_
    exact rr_zreturn C dX3_fails_28 rfl ⟨rfl, rfl⟩
  | true =>
    refine rr_iload_n C 1 dX3_fails_0 rfl rfl ?_
    refine rr_if_eq C 16 dX3_fails_1 (by decide) (fun c => absurd c (by decide)) (fun _ => ?_)
    refine rr_aload_n C 0 dX3_fails_4 rfl rfl ?_
    refine gf_X3_79 C dX3_fails_5 (Or.inl hM.obj) ?_
    rw [h0]
    refine rr_if_ne C 16 dX3_fails_8 (by decide) (fun c => absurd rfl c) (fun _ => ?_)
    refine rr_aload_n C 0 dX3_fails_11 rfl rfl ?_
    refine rr_iload_n C 2 dX3_fails_12 rfl rfl ?_
    refine pf_X3_79 C dX3_fails_13 hM.obj ?_
    refine rr_aload_n C 0 dX3_fails_16 rfl rfl ?_
    refine gf_X3_79 C dX3_fails_17 (Or.inl cy_up_eq) ?_
    refine rr_if_eq C 27 dX3_fails_20 (by decide) (fun c => absurd c hx) (fun _ => ?_)
    refine rr_iconst C 1 dX3_fails_23 (by decide) ?_
    refine rr_goto C 28 dX3_fails_24 (by decide) ?_
    exact rr_zreturn C dX3_fails_28 rfl ⟨rfl, rfl⟩
end MODEL
