/-! the model: what is asked (printed by gen/mq.py) -/
set_option maxRecDepth 100000
/-- a model's answer: some value, the given one where nothing is thrown -/
abbrev qMi (c : Nat) (v : Int32) (P : Hp → Prop) : Option Value → Hp → Prop := fun r h1 => ∃ x, r = some (.int x) ∧ (c = 0 → x = v) ∧ P h1
abbrev qMr (c : Nat) (v : Nat) (P : Hp → Prop) : Option Value → Hp → Prop := fun r h1 => ∃ x, r = some (.ref x) ∧ (c = 0 → x = v) ∧ P h1
abbrev qMf (c : Nat) (v : UInt32) (P : Hp → Prop) : Option Value → Hp → Prop := fun r h1 => ∃ x, r = some (.float x) ∧ (c = 0 → x = v) ∧ P h1
abbrev qMd (c : Nat) (v : UInt64) (P : Hp → Prop) : Option Value → Hp → Prop := fun r h1 => ∃ x, r = some (.double x) ∧ (c = 0 → x = v) ∧ P h1
abbrev qMl (c : Nat) (v : Int64) (P : Hp → Prop) : Option Value → Hp → Prop := fun r h1 => ∃ x, r = some (.long x) ∧ (c = 0 → x = v) ∧ P h1
abbrev cy_MT (G : GT) (A : Nat → Nat) (M : Nat → Nat → Int32) (st : Int64) (h : Hp) (c : Nat) : Hp → Prop := fun h1 => ∃ M1, (cy_Mo G A M1 st h1 ∧ cy_FrA A h h1) ∧ M1 0 0 = nI c ∧ ∀ r, r ≠ 0 → r ≠ 28 → r ≠ 29 → M1 r = M r
section MQ
variable {G : GT} {A : Nat → Nat} {M : Nat → Nat → Int32} {st : Int64} {h : Hp} {I : Nat → Nat → Int32} {J : Nat → Nat → Nat}
theorem cy_MT.of {h1 h2 : Hp} {v : Int32} {c : Nat} (hF : cy_FrA A h h1) (e2 : cy_Mo G A (u2 (u2 M 0 0 0) 0 0 v) st h2 ∧ cy_FrA A h1 h2) (hv : v = nI c) : cy_MT G A M st h c h2 := by
  refine ⟨_, ⟨e2.1, hF.tr e2.2⟩, ?_, fun r h0 _ _ => ?_⟩
  · rw [u2_eq, hv]
  · rw [u2_row h0, u2_row h0]
theorem cy_MT.z {h1 : Hp} (hF : cy_FrA A h h1) (e2 : cy_Mo G A (u2 M 0 0 0) st h1) : cy_MT G A M st h 0 h1 := ⟨_, ⟨e2, hF⟩, by rw [u2_eq]; rfl, fun r h0 _ _ => u2_row h0⟩
theorem ct_X3_failsT (hM : cy_Mo G A M st h) (h0 : M 0 0 = 0) {x : Int32} (hx : ¬ x = 0) : cy_Con G yX3_fails cX3_fails 3 (some .boolean) 0 0 [.ref (A 0), .int 1, .int x] h (qV (.int 1) (fun h1 => cy_Mo G A (u2 M 0 0 x) st h1 ∧ cy_FrA A h h1)) xF := by
  refine cy_in (own := RX3) (lv0 := [some (.ref (A 0)), some (.int 1), some (.int x)]) (by decide) rfl rfl rfl (Nat.le_of_ble_eq_true rfl) (fun K T C => ?_)
  refine rr_iload_n C 1 dX3_fails_0 rfl rfl ?_
  refine rr_if_eq C 16 dX3_fails_1 (by decide) (fun c => absurd c (by decide)) (fun _ => ?_)
  refine rr_aload_n C 0 dX3_fails_4 rfl rfl ?_
  refine gf_X3_79 C dX3_fails_5 (Or.inl hM.obj) ?_
  rw [h0]
  refine rr_if_ne C 16 dX3_fails_8 (by decide) (fun c => absurd rfl c) (fun _ => ?_)
  refine rr_aload_n C 0 dX3_fails_11 rfl rfl ?_
  refine rr_iload_n C 2 dX3_fails_12 rfl rfl ?_
  refine pf_X3_79 C dX3_fails_13 hM.obj ?_
  refine rr_aload_n C 0 dX3_fails_16 rfl rfl ?_
  refine gf_X3_79 C dX3_fails_17 (Or.inl cy_up_eq) ?_
  refine rr_if_eq C 27 dX3_fails_20 (by decide) (fun c => absurd c hx) (fun _ => ?_)
  refine rr_iconst C 1 dX3_fails_23 (by decide) ?_
  refine rr_goto C 28 dX3_fails_24 (by decide) ?_
  exact rr_zreturn C dX3_fails_28 rfl ⟨rfl, hM.thr x, cy_FrA.up cy_own.obj⟩
theorem ct_X3_failsF (hM : cy_Mo G A M st h) (h0 : M 0 0 = 0) {x : Int32} (hx : ¬ x = 0) : cy_Con G yX3_fails cX3_fails 3 (some .boolean) 0 0 [.ref (A 0), .int 0, .int x] h (qV (.int 0) (fun h1 => h1 = h)) xF := ct_X3_fails hM h0 (b := false) hx
theorem ct_X3_layersOf (hM : cy_Mo G A M st h) (hR : cy_Rl I J M) (hr : cy_Yr G J) {k : Int32} : cy_Con G yX3_layersOf cX3_layersOf 2 (some .int) 5 0 [.ref (A 0), .int k] h (qMi (cd1 (cy_ix k (J 0 1))) (cy_lay J (kn k)) (cy_MT G A M st h (cd1 (cy_ix k (J 0 1))))) xF := by
  have r0 := hr.2.1
  cases hix : cy_ix k (J 0 1) with
  | false =>
    refine cy_in (own := RX3) (lv0 := [some (.ref (A 0)), some (.int k)]) (by decide) rfl rfl rfl (Nat.le_of_ble_eq_true rfl) (fun K T C => ?_)
    refine rr_aload_n C 0 dX3_layersOf_0 rfl rfl ?_
    refine rr_iconst C 0 dX3_layersOf_1 (by decide) ?_
    refine pf_X3_79 C dX3_layersOf_2 hM.obj ?_
    refine kG (P := fun h1 => cy_Mo G A (u2 M 0 0 0) st h1 ∧ cy_FrA A h h1) ⟨hM.thr 0, cy_FrA.up cy_own.obj⟩ (fun h1 e1 => ?_)
    obtain ⟨hM0, hF0⟩ := e1
    have hR0 := hR.thr 0
    have h00 : u2 M 0 0 0 0 0 = 0 := u2_eq
    refine rr_aload_n C 0 dX3_layersOf_5 rfl rfl ?_
    refine rr_aload_n C 0 dX3_layersOf_6 rfl rfl ?_
    refine rr_iload_n C 1 dX3_layersOf_7 rfl rfl ?_
    refine cv_X3_113 C dX3_layersOf_8 (ct_X3_noImage hM0 (n := J 0 1) (by omega) hR0.nIm) (Or.inl hM0.obj) (kVr ?_)
    rw [hix]
    refine rr_iconst C 1 dX3_layersOf_11 (by decide) ?_
    refine cv_X3_109 C dX3_layersOf_12 (ct_X3_failsT hM0 h00 (by decide)) (Or.inl hM0.obj) (kV (fun h2 e2 => ?_))
    refine rr_if_eq C 22 dX3_layersOf_15 (by decide) (fun c => absurd c (by decide)) (fun _ => ?_)
    refine rr_iconst C 0 dX3_layersOf_18 (by decide) ?_
    refine rr_goto C 27 dX3_layersOf_19 (by decide) ?_
    exact rr_ireturn C dX3_layersOf_27 ⟨0, rfl, fun c => absurd c (by decide), cy_MT.of hF0 e2 rfl⟩
  | true =>
    obtain ⟨j, hj, rfl⟩ := cy_ix_t (by omega) hix
    have kj := kn_nI (show j < 2 ^ 31 by omega)
    refine cy_in (own := RX3) (lv0 := [some (.ref (A 0)), some (.int (nI j))]) (by decide) rfl rfl rfl (Nat.le_of_ble_eq_true rfl) (fun K T C => ?_)
    refine rr_aload_n C 0 dX3_layersOf_0 rfl rfl ?_
    refine rr_iconst C 0 dX3_layersOf_1 (by decide) ?_
    refine pf_X3_79 C dX3_layersOf_2 hM.obj ?_
    refine kG (P := fun h1 => cy_Mo G A (u2 M 0 0 0) st h1 ∧ cy_FrA A h h1) ⟨hM.thr 0, cy_FrA.up cy_own.obj⟩ (fun h1 e1 => ?_)
    obtain ⟨hM0, hF0⟩ := e1
    have hR0 := hR.thr 0
    have h00 : u2 M 0 0 0 0 0 = 0 := u2_eq
    refine rr_aload_n C 0 dX3_layersOf_5 rfl rfl ?_
    refine rr_aload_n C 0 dX3_layersOf_6 rfl rfl ?_
    refine rr_iload_n C 1 dX3_layersOf_7 rfl rfl ?_
    refine cv_X3_113 C dX3_layersOf_8 (ct_X3_noImage hM0 (n := J 0 1) (by omega) hR0.nIm) (Or.inl hM0.obj) (kVr ?_)
    rw [hix]
    refine rr_iconst C 1 dX3_layersOf_11 (by decide) ?_
    refine cv_X3_109 C dX3_layersOf_12 (ct_X3_failsF hM0 h00 (by decide)) (Or.inl hM0.obj) (kVr ?_)
    refine rr_if_eq C 22 dX3_layersOf_15 (by decide) (fun _ => ?_) (fun c => absurd rfl c)
    refine rr_aload_n C 0 dX3_layersOf_22 rfl rfl ?_
    refine rr_iload_n C 1 dX3_layersOf_23 rfl rfl ?_
    refine cv_X3_105 C dX3_layersOf_24 (ct_X3_set hM0 hR0 hr hj) (Or.inl hM0.obj) (kVr ?_)
    exact rr_ireturn C dX3_layersOf_27 ⟨_, rfl, fun _ => by rw [kj], cy_MT.z hF0 hM0⟩
theorem ct_X3_isOut (hM : cy_Mo G A M st h) (hR : cy_Rl I J M) (hr : cy_Yr G J) {k : Int32} : cy_Con G yX3_isOut cX3_isOut 2 (some .boolean) 5 0 [.ref (A 0), .int k] h (qMi (cd1 (cy_ix k (J 0 0))) (bI (cy_out (I 2 (kn k)) (I 3 (kn k)) (I 1 0))) (cy_MT G A M st h (cd1 (cy_ix k (J 0 0))))) xF := by
  have r0 := hr.2.1
  cases hix : cy_ix k (J 0 0) with
  | false =>
    refine cy_in (own := RX3) (lv0 := [some (.ref (A 0)), some (.int k)]) (by decide) rfl rfl rfl (Nat.le_of_ble_eq_true rfl) (fun K T C => ?_)
    refine rr_aload_n C 0 dX3_isOut_0 rfl rfl ?_
    refine rr_iconst C 0 dX3_isOut_1 (by decide) ?_
    refine pf_X3_79 C dX3_isOut_2 hM.obj ?_
    refine kG (P := fun h1 => cy_Mo G A (u2 M 0 0 0) st h1 ∧ cy_FrA A h h1) ⟨hM.thr 0, cy_FrA.up cy_own.obj⟩ (fun h1 e1 => ?_)
    obtain ⟨hM0, hF0⟩ := e1
    have hR0 := hR.thr 0
    have h00 : u2 M 0 0 0 0 0 = 0 := u2_eq
    refine rr_aload_n C 0 dX3_isOut_5 rfl rfl ?_
    refine rr_aload_n C 0 dX3_isOut_6 rfl rfl ?_
    refine rr_iload_n C 1 dX3_isOut_7 rfl rfl ?_
    refine cv_X3_116 C dX3_isOut_8 (ct_X3_noLayer hM0 (n := J 0 0) (by omega) hR0.nL) (Or.inl hM0.obj) (kVr ?_)
    rw [hix]
    refine rr_iconst C 1 dX3_isOut_11 (by decide) ?_
    refine cv_X3_109 C dX3_isOut_12 (ct_X3_failsT hM0 h00 (by decide)) (Or.inl hM0.obj) (kV (fun h2 e2 => ?_))
    refine rr_if_ne C 30 dX3_isOut_15 (by decide) (fun _ => ?_) (fun c => absurd c (by decide))
    refine rr_iconst C 0 dX3_isOut_30 (by decide) ?_
    exact rr_zreturn C dX3_isOut_31 rfl ⟨0, rfl, fun c => absurd c (by decide), cy_MT.of hF0 e2 rfl⟩
  | true =>
    obtain ⟨j, hj, rfl⟩ := cy_ix_t (by omega) hix
    have kj := kn_nI (show j < 2 ^ 31 by omega)
    refine cy_in (own := RX3) (lv0 := [some (.ref (A 0)), some (.int (nI j))]) (by decide) rfl rfl rfl (Nat.le_of_ble_eq_true rfl) (fun K T C => ?_)
    refine rr_aload_n C 0 dX3_isOut_0 rfl rfl ?_
    refine rr_iconst C 0 dX3_isOut_1 (by decide) ?_
    refine pf_X3_79 C dX3_isOut_2 hM.obj ?_
    refine kG (P := fun h1 => cy_Mo G A (u2 M 0 0 0) st h1 ∧ cy_FrA A h h1) ⟨hM.thr 0, cy_FrA.up cy_own.obj⟩ (fun h1 e1 => ?_)
    obtain ⟨hM0, hF0⟩ := e1
    have hR0 := hR.thr 0
    have h00 : u2 M 0 0 0 0 0 = 0 := u2_eq
    refine rr_aload_n C 0 dX3_isOut_5 rfl rfl ?_
    refine rr_aload_n C 0 dX3_isOut_6 rfl rfl ?_
    refine rr_iload_n C 1 dX3_isOut_7 rfl rfl ?_
    refine cv_X3_116 C dX3_isOut_8 (ct_X3_noLayer hM0 (n := J 0 0) (by omega) hR0.nL) (Or.inl hM0.obj) (kVr ?_)
    rw [hix]
    refine rr_iconst C 1 dX3_isOut_11 (by decide) ?_
    refine cv_X3_109 C dX3_isOut_12 (ct_X3_failsF hM0 h00 (by decide)) (Or.inl hM0.obj) (kVr ?_)
    refine rr_if_ne C 30 dX3_isOut_15 (by decide) (fun c => absurd rfl c) (fun _ => ?_)
    refine rr_aload_n C 0 dX3_isOut_18 rfl rfl ?_
    refine rr_iload_n C 1 dX3_isOut_19 rfl rfl ?_
    refine cv_X3_101 C dX3_isOut_20 (ct_X3_isOutNow hM0 hR0 hr hj) (Or.inl hM0.obj) (kVr ?_)
    refine rr_if_eq C 30 dX3_isOut_23 (by decide) (fun c23 => ?_) (fun c23 => ?_)
    · refine rr_iconst C 0 dX3_isOut_30 (by decide) ?_
      exact rr_zreturn C dX3_isOut_31 rfl ⟨0, rfl, fun _ => by rw [kj, bI_eq0 c23]; rfl, cy_MT.z hF0 hM0⟩
    · refine rr_iconst C 1 dX3_isOut_26 (by decide) ?_
      refine rr_goto C 31 dX3_isOut_27 (by decide) ?_
      exact rr_zreturn C dX3_isOut_31 rfl ⟨1, rfl, fun _ => by rw [kj, bI_ne0 c23]; rfl, cy_MT.z hF0 hM0⟩
theorem ct_X3_isStale (hM : cy_Mo G A M st h) (hR : cy_Rl I J M) (hr : cy_Yr G J) {k : Int32} : cy_Con G yX3_isStale cX3_isStale 2 (some .boolean) 5 0 [.ref (A 0), .int k] h (qMi (cd1 (cy_ix k (J 0 3))) (bI (cy_stale I J (kn k))) (cy_MT G A M st h (cd1 (cy_ix k (J 0 3))))) xF := by
  have r0 := hr.2.1
  cases hix : cy_ix k (J 0 3) with
  | false =>
    refine cy_in (own := RX3) (lv0 := [some (.ref (A 0)), some (.int k)]) (by decide) rfl rfl rfl (Nat.le_of_ble_eq_true rfl) (fun K T C => ?_)
    refine rr_aload_n C 0 dX3_isStale_0 rfl rfl ?_
    refine rr_iconst C 0 dX3_isStale_1 (by decide) ?_
    refine pf_X3_79 C dX3_isStale_2 hM.obj ?_
    refine kG (P := fun h1 => cy_Mo G A (u2 M 0 0 0) st h1 ∧ cy_FrA A h h1) ⟨hM.thr 0, cy_FrA.up cy_own.obj⟩ (fun h1 e1 => ?_)
    obtain ⟨hM0, hF0⟩ := e1
    have hR0 := hR.thr 0
    have h00 : u2 M 0 0 0 0 0 = 0 := u2_eq
    refine rr_aload_n C 0 dX3_isStale_5 rfl rfl ?_
    refine rr_aload_n C 0 dX3_isStale_6 rfl rfl ?_
    refine rr_iload_n C 1 dX3_isStale_7 rfl rfl ?_
    refine cv_X3_162 C dX3_isStale_8 (ct_X3_noContainer hM0 (n := J 0 3) (by omega) hR0.nC) (Or.inl hM0.obj) (kVr ?_)
    rw [hix]
    refine rr_iconst C 1 dX3_isStale_11 (by decide) ?_
    refine cv_X3_109 C dX3_isStale_12 (ct_X3_failsT hM0 h00 (by decide)) (Or.inl hM0.obj) (kV (fun h2 e2 => ?_))
    refine rr_if_ne C 30 dX3_isStale_15 (by decide) (fun _ => ?_) (fun c => absurd c (by decide))
    refine rr_iconst C 0 dX3_isStale_30 (by decide) ?_
    exact rr_zreturn C dX3_isStale_31 rfl ⟨0, rfl, fun c => absurd c (by decide), cy_MT.of hF0 e2 rfl⟩
  | true =>
    obtain ⟨j, hj, rfl⟩ := cy_ix_t (by omega) hix
    have kj := kn_nI (show j < 2 ^ 31 by omega)
    refine cy_in (own := RX3) (lv0 := [some (.ref (A 0)), some (.int (nI j))]) (by decide) rfl rfl rfl (Nat.le_of_ble_eq_true rfl) (fun K T C => ?_)
    refine rr_aload_n C 0 dX3_isStale_0 rfl rfl ?_
    refine rr_iconst C 0 dX3_isStale_1 (by decide) ?_
    refine pf_X3_79 C dX3_isStale_2 hM.obj ?_
    refine kG (P := fun h1 => cy_Mo G A (u2 M 0 0 0) st h1 ∧ cy_FrA A h h1) ⟨hM.thr 0, cy_FrA.up cy_own.obj⟩ (fun h1 e1 => ?_)
    obtain ⟨hM0, hF0⟩ := e1
    have hR0 := hR.thr 0
    have h00 : u2 M 0 0 0 0 0 = 0 := u2_eq
    refine rr_aload_n C 0 dX3_isStale_5 rfl rfl ?_
    refine rr_aload_n C 0 dX3_isStale_6 rfl rfl ?_
    refine rr_iload_n C 1 dX3_isStale_7 rfl rfl ?_
    refine cv_X3_162 C dX3_isStale_8 (ct_X3_noContainer hM0 (n := J 0 3) (by omega) hR0.nC) (Or.inl hM0.obj) (kVr ?_)
    rw [hix]
    refine rr_iconst C 1 dX3_isStale_11 (by decide) ?_
    refine cv_X3_109 C dX3_isStale_12 (ct_X3_failsF hM0 h00 (by decide)) (Or.inl hM0.obj) (kVr ?_)
    refine rr_if_ne C 30 dX3_isStale_15 (by decide) (fun c => absurd rfl c) (fun _ => ?_)
    refine rr_aload_n C 0 dX3_isStale_18 rfl rfl ?_
    refine rr_iload_n C 1 dX3_isStale_19 rfl rfl ?_
    refine cv_X3_123 C dX3_isStale_20 (ct_X3_isStaleNow hM0 hR0 hr hj) (Or.inl hM0.obj) (kVr ?_)
    refine rr_if_eq C 30 dX3_isStale_23 (by decide) (fun c23 => ?_) (fun c23 => ?_)
    · refine rr_iconst C 0 dX3_isStale_30 (by decide) ?_
      exact rr_zreturn C dX3_isStale_31 rfl ⟨0, rfl, fun _ => by rw [kj, bI_eq0 c23]; rfl, cy_MT.z hF0 hM0⟩
    · refine rr_iconst C 1 dX3_isStale_26 (by decide) ?_
      refine rr_goto C 31 dX3_isStale_27 (by decide) ?_
      exact rr_zreturn C dX3_isStale_31 rfl ⟨1, rfl, fun _ => by rw [kj, bI_ne0 c23]; rfl, cy_MT.z hF0 hM0⟩
theorem ct_X3_stateOf (hM : cy_Mo G A M st h) (hR : cy_Rl I J M) (hr : cy_Yr G J) {k : Int32} : cy_Con G yX3_stateOf cX3_stateOf 2 (some (.object "State")) 5 0 [.ref (A 0), .int k] h (qMr (cd1 (cy_ix k (J 0 3))) (G.2.2.2.2 (J 13 (kn k))) (cy_MT G A M st h (cd1 (cy_ix k (J 0 3))))) xF := by
  have r0 := hr.2.1
  cases hix : cy_ix k (J 0 3) with
  | false =>
    refine cy_in (own := RX3) (lv0 := [some (.ref (A 0)), some (.int k)]) (by decide) rfl rfl rfl (Nat.le_of_ble_eq_true rfl) (fun K T C => ?_)
    refine rr_aload_n C 0 dX3_stateOf_0 rfl rfl ?_
    refine rr_iconst C 0 dX3_stateOf_1 (by decide) ?_
    refine pf_X3_79 C dX3_stateOf_2 hM.obj ?_
    refine kG (P := fun h1 => cy_Mo G A (u2 M 0 0 0) st h1 ∧ cy_FrA A h h1) ⟨hM.thr 0, cy_FrA.up cy_own.obj⟩ (fun h1 e1 => ?_)
    obtain ⟨hM0, hF0⟩ := e1
    have hR0 := hR.thr 0
    have h00 : u2 M 0 0 0 0 0 = 0 := u2_eq
    refine rr_aload_n C 0 dX3_stateOf_5 rfl rfl ?_
    refine rr_aload_n C 0 dX3_stateOf_6 rfl rfl ?_
    refine rr_iload_n C 1 dX3_stateOf_7 rfl rfl ?_
    refine cv_X3_162 C dX3_stateOf_8 (ct_X3_noContainer hM0 (n := J 0 3) (by omega) hR0.nC) (Or.inl hM0.obj) (kVr ?_)
    rw [hix]
    refine rr_iconst C 1 dX3_stateOf_11 (by decide) ?_
    refine cv_X3_109 C dX3_stateOf_12 (ct_X3_failsT hM0 h00 (by decide)) (Or.inl hM0.obj) (kV (fun h2 e2 => ?_))
    refine rr_if_eq C 24 dX3_stateOf_15 (by decide) (fun c => absurd c (by decide)) (fun _ => ?_)
    refine gs_X3_147 C dX3_stateOf_18 ?_
    refine rr_goto C 33 dX3_stateOf_21 (by decide) ?_
    exact rr_areturn C dX3_stateOf_33 (by first | exact Or.inl ⟨_, rfl⟩ | exact Or.inr ⟨_, rfl⟩) ⟨_, rfl, fun c => absurd c (by decide), cy_MT.of hF0 e2 rfl⟩
  | true =>
    obtain ⟨j, hj, rfl⟩ := cy_ix_t (by omega) hix
    have kj := kn_nI (show j < 2 ^ 31 by omega)
    refine cy_in (own := RX3) (lv0 := [some (.ref (A 0)), some (.int (nI j))]) (by decide) rfl rfl rfl (Nat.le_of_ble_eq_true rfl) (fun K T C => ?_)
    refine rr_aload_n C 0 dX3_stateOf_0 rfl rfl ?_
    refine rr_iconst C 0 dX3_stateOf_1 (by decide) ?_
    refine pf_X3_79 C dX3_stateOf_2 hM.obj ?_
    refine kG (P := fun h1 => cy_Mo G A (u2 M 0 0 0) st h1 ∧ cy_FrA A h h1) ⟨hM.thr 0, cy_FrA.up cy_own.obj⟩ (fun h1 e1 => ?_)
    obtain ⟨hM0, hF0⟩ := e1
    have hR0 := hR.thr 0
    have h00 : u2 M 0 0 0 0 0 = 0 := u2_eq
    refine rr_aload_n C 0 dX3_stateOf_5 rfl rfl ?_
    refine rr_aload_n C 0 dX3_stateOf_6 rfl rfl ?_
    refine rr_iload_n C 1 dX3_stateOf_7 rfl rfl ?_
    refine cv_X3_162 C dX3_stateOf_8 (ct_X3_noContainer hM0 (n := J 0 3) (by omega) hR0.nC) (Or.inl hM0.obj) (kVr ?_)
    rw [hix]
    refine rr_iconst C 1 dX3_stateOf_11 (by decide) ?_
    refine cv_X3_109 C dX3_stateOf_12 (ct_X3_failsF hM0 h00 (by decide)) (Or.inl hM0.obj) (kVr ?_)
    refine rr_if_eq C 24 dX3_stateOf_15 (by decide) (fun _ => ?_) (fun c => absurd rfl c)
    refine rr_aload_n C 0 dX3_stateOf_24 rfl rfl ?_
    refine gf_X3_54 C dX3_stateOf_25 (Or.inl hM0.obj) ?_
    refine rr_iload_n C 1 dX3_stateOf_28 rfl rfl ?_
    refine rr_cald C j dX3_stateOf_29 (Or.inl (hM0.row rfl)) rfl (by omega) (by decide) ?_
    rw [hR0.sta j hj]
    refine cs_X3_165 C dX3_stateOf_30 (ct_X3_told (hr.2.2.2 j hj).2.1) (kVr ?_)
    exact rr_areturn C dX3_stateOf_33 (by first | exact Or.inl ⟨_, rfl⟩ | exact Or.inr ⟨_, rfl⟩) ⟨_, rfl, fun _ => by rw [kj], cy_MT.z hF0 hM0⟩
theorem ct_X3_freeCores (hM : cy_Mo G A M st h) (hR : cy_Rl I J M) (hr : cy_Yr G J) (hok : cy_okJ J) {k : Int32} : cy_Con G yX3_freeCores cX3_freeCores 2 (some .int) 5 0 [.ref (A 0), .int k] h (qMi (cd1 (cy_ix k (J 0 4))) (I 4 (kn k) - cy_sm (cy_on J (kn k)) (I 13) (J 0 3)) (cy_MT G A M st h (cd1 (cy_ix k (J 0 4))))) xF := by
  have r0 := hr.2.1
  cases hix : cy_ix k (J 0 4) with
  | false =>
    refine cy_in (own := RX3) (lv0 := [some (.ref (A 0)), some (.int k)]) (by decide) rfl rfl rfl (Nat.le_of_ble_eq_true rfl) (fun K T C => ?_)
    refine rr_aload_n C 0 dX3_freeCores_0 rfl rfl ?_
    refine rr_iconst C 0 dX3_freeCores_1 (by decide) ?_
    refine pf_X3_79 C dX3_freeCores_2 hM.obj ?_
    refine kG (P := fun h1 => cy_Mo G A (u2 M 0 0 0) st h1 ∧ cy_FrA A h h1) ⟨hM.thr 0, cy_FrA.up cy_own.obj⟩ (fun h1 e1 => ?_)
    obtain ⟨hM0, hF0⟩ := e1
    have hR0 := hR.thr 0
    have h00 : u2 M 0 0 0 0 0 = 0 := u2_eq
    refine rr_aload_n C 0 dX3_freeCores_5 rfl rfl ?_
    refine rr_aload_n C 0 dX3_freeCores_6 rfl rfl ?_
    refine rr_iload_n C 1 dX3_freeCores_7 rfl rfl ?_
    refine cv_X3_220 C dX3_freeCores_8 (ct_X3_noHost hM0 (n := J 0 4) (by omega) hR0.nH) (Or.inl hM0.obj) (kVr ?_)
    rw [hix]
    refine rr_iconst C 1 dX3_freeCores_11 (by decide) ?_
    refine cv_X3_109 C dX3_freeCores_12 (ct_X3_failsT hM0 h00 (by decide)) (Or.inl hM0.obj) (kV (fun h2 e2 => ?_))
    refine rr_if_eq C 22 dX3_freeCores_15 (by decide) (fun c => absurd c (by decide)) (fun _ => ?_)
    refine rr_iconst C 0 dX3_freeCores_18 (by decide) ?_
    refine rr_goto C 34 dX3_freeCores_19 (by decide) ?_
    exact rr_ireturn C dX3_freeCores_34 ⟨0, rfl, fun c => absurd c (by decide), cy_MT.of hF0 e2 rfl⟩
  | true =>
    obtain ⟨j, hj, rfl⟩ := cy_ix_t (by omega) hix
    have kj := kn_nI (show j < 2 ^ 31 by omega)
    refine cy_in (own := RX3) (lv0 := [some (.ref (A 0)), some (.int (nI j))]) (by decide) rfl rfl rfl (Nat.le_of_ble_eq_true rfl) (fun K T C => ?_)
    refine rr_aload_n C 0 dX3_freeCores_0 rfl rfl ?_
    refine rr_iconst C 0 dX3_freeCores_1 (by decide) ?_
    refine pf_X3_79 C dX3_freeCores_2 hM.obj ?_
    refine kG (P := fun h1 => cy_Mo G A (u2 M 0 0 0) st h1 ∧ cy_FrA A h h1) ⟨hM.thr 0, cy_FrA.up cy_own.obj⟩ (fun h1 e1 => ?_)
    obtain ⟨hM0, hF0⟩ := e1
    have hR0 := hR.thr 0
    have h00 : u2 M 0 0 0 0 0 = 0 := u2_eq
    refine rr_aload_n C 0 dX3_freeCores_5 rfl rfl ?_
    refine rr_aload_n C 0 dX3_freeCores_6 rfl rfl ?_
    refine rr_iload_n C 1 dX3_freeCores_7 rfl rfl ?_
    refine cv_X3_220 C dX3_freeCores_8 (ct_X3_noHost hM0 (n := J 0 4) (by omega) hR0.nH) (Or.inl hM0.obj) (kVr ?_)
    rw [hix]
    refine rr_iconst C 1 dX3_freeCores_11 (by decide) ?_
    refine cv_X3_109 C dX3_freeCores_12 (ct_X3_failsF hM0 h00 (by decide)) (Or.inl hM0.obj) (kVr ?_)
    refine rr_if_eq C 22 dX3_freeCores_15 (by decide) (fun _ => ?_) (fun c => absurd rfl c)
    refine rr_aload_n C 0 dX3_freeCores_22 rfl rfl ?_
    refine gf_X3_23 C dX3_freeCores_23 (Or.inl hM0.obj) ?_
    refine rr_iload_n C 1 dX3_freeCores_26 rfl rfl ?_
    refine rr_iald C j dX3_freeCores_27 (Or.inl (hM0.row rfl)) rfl (by omega) (by decide) ?_
    rw [hR0.hc j hj]
    refine rr_aload_n C 0 dX3_freeCores_28 rfl rfl ?_
    refine rr_iload_n C 1 dX3_freeCores_29 rfl rfl ?_
    refine cv_X3_144 C dX3_freeCores_30 (ct_X3_coresIn hM0 hR0 hr (cy_on J j) (cy_on_c hR0 hr hok hj)) (Or.inl hM0.obj) (kVr ?_)
    refine rr_isub C dX3_freeCores_33 ?_
    exact rr_ireturn C dX3_freeCores_34 ⟨_, rfl, fun _ => by rw [kj], cy_MT.z hF0 hM0⟩
theorem ct_X3_freeMemory (hM : cy_Mo G A M st h) (hR : cy_Rl I J M) (hr : cy_Yr G J) (hok : cy_okJ J) {k : Int32} : cy_Con G yX3_freeMemory cX3_freeMemory 2 (some .int) 5 0 [.ref (A 0), .int k] h (qMi (cd1 (cy_ix k (J 0 4))) (I 5 (kn k) - cy_sm (cy_on J (kn k)) (I 14) (J 0 3)) (cy_MT G A M st h (cd1 (cy_ix k (J 0 4))))) xF := by
  have r0 := hr.2.1
  cases hix : cy_ix k (J 0 4) with
  | false =>
    refine cy_in (own := RX3) (lv0 := [some (.ref (A 0)), some (.int k)]) (by decide) rfl rfl rfl (Nat.le_of_ble_eq_true rfl) (fun K T C => ?_)
    refine rr_aload_n C 0 dX3_freeMemory_0 rfl rfl ?_
    refine rr_iconst C 0 dX3_freeMemory_1 (by decide) ?_
    refine pf_X3_79 C dX3_freeMemory_2 hM.obj ?_
    refine kG (P := fun h1 => cy_Mo G A (u2 M 0 0 0) st h1 ∧ cy_FrA A h h1) ⟨hM.thr 0, cy_FrA.up cy_own.obj⟩ (fun h1 e1 => ?_)
    obtain ⟨hM0, hF0⟩ := e1
    have hR0 := hR.thr 0
    have h00 : u2 M 0 0 0 0 0 = 0 := u2_eq
    refine rr_aload_n C 0 dX3_freeMemory_5 rfl rfl ?_
    refine rr_aload_n C 0 dX3_freeMemory_6 rfl rfl ?_
    refine rr_iload_n C 1 dX3_freeMemory_7 rfl rfl ?_
    refine cv_X3_220 C dX3_freeMemory_8 (ct_X3_noHost hM0 (n := J 0 4) (by omega) hR0.nH) (Or.inl hM0.obj) (kVr ?_)
    rw [hix]
    refine rr_iconst C 1 dX3_freeMemory_11 (by decide) ?_
    refine cv_X3_109 C dX3_freeMemory_12 (ct_X3_failsT hM0 h00 (by decide)) (Or.inl hM0.obj) (kV (fun h2 e2 => ?_))
    refine rr_if_eq C 22 dX3_freeMemory_15 (by decide) (fun c => absurd c (by decide)) (fun _ => ?_)
    refine rr_iconst C 0 dX3_freeMemory_18 (by decide) ?_
    refine rr_goto C 34 dX3_freeMemory_19 (by decide) ?_
    exact rr_ireturn C dX3_freeMemory_34 ⟨0, rfl, fun c => absurd c (by decide), cy_MT.of hF0 e2 rfl⟩
  | true =>
    obtain ⟨j, hj, rfl⟩ := cy_ix_t (by omega) hix
    have kj := kn_nI (show j < 2 ^ 31 by omega)
    refine cy_in (own := RX3) (lv0 := [some (.ref (A 0)), some (.int (nI j))]) (by decide) rfl rfl rfl (Nat.le_of_ble_eq_true rfl) (fun K T C => ?_)
    refine rr_aload_n C 0 dX3_freeMemory_0 rfl rfl ?_
    refine rr_iconst C 0 dX3_freeMemory_1 (by decide) ?_
    refine pf_X3_79 C dX3_freeMemory_2 hM.obj ?_
    refine kG (P := fun h1 => cy_Mo G A (u2 M 0 0 0) st h1 ∧ cy_FrA A h h1) ⟨hM.thr 0, cy_FrA.up cy_own.obj⟩ (fun h1 e1 => ?_)
    obtain ⟨hM0, hF0⟩ := e1
    have hR0 := hR.thr 0
    have h00 : u2 M 0 0 0 0 0 = 0 := u2_eq
    refine rr_aload_n C 0 dX3_freeMemory_5 rfl rfl ?_
    refine rr_aload_n C 0 dX3_freeMemory_6 rfl rfl ?_
    refine rr_iload_n C 1 dX3_freeMemory_7 rfl rfl ?_
    refine cv_X3_220 C dX3_freeMemory_8 (ct_X3_noHost hM0 (n := J 0 4) (by omega) hR0.nH) (Or.inl hM0.obj) (kVr ?_)
    rw [hix]
    refine rr_iconst C 1 dX3_freeMemory_11 (by decide) ?_
    refine cv_X3_109 C dX3_freeMemory_12 (ct_X3_failsF hM0 h00 (by decide)) (Or.inl hM0.obj) (kVr ?_)
    refine rr_if_eq C 22 dX3_freeMemory_15 (by decide) (fun _ => ?_) (fun c => absurd rfl c)
    refine rr_aload_n C 0 dX3_freeMemory_22 rfl rfl ?_
    refine gf_X3_26 C dX3_freeMemory_23 (Or.inl hM0.obj) ?_
    refine rr_iload_n C 1 dX3_freeMemory_26 rfl rfl ?_
    refine rr_iald C j dX3_freeMemory_27 (Or.inl (hM0.row rfl)) rfl (by omega) (by decide) ?_
    rw [hR0.hm j hj]
    refine rr_aload_n C 0 dX3_freeMemory_28 rfl rfl ?_
    refine rr_iload_n C 1 dX3_freeMemory_29 rfl rfl ?_
    refine cv_X3_169 C dX3_freeMemory_30 (ct_X3_memoryIn hM0 hR0 hr (cy_on J j) (cy_on_m hR0 hr hok hj)) (Or.inl hM0.obj) (kVr ?_)
    refine rr_isub C dX3_freeMemory_33 ?_
    exact rr_ireturn C dX3_freeMemory_34 ⟨_, rfl, fun _ => by rw [kj], cy_MT.z hF0 hM0⟩
theorem ct_X3_freeByContainers (hM : cy_Mo G A M st h) (hR : cy_Rl I J M) (hr : cy_Yr G J) (hok : cy_okJ J) {k : Int32} : cy_Con G yX3_freeByContainers cX3_freeByContainers 2 (some .int) 6 0 [.ref (A 0), .int k] h (qMi (cd1 (cy_ix k (J 0 4))) (I 4 (kn k) - cy_sm (cy_on J (kn k)) (I 13) (J 0 3)) (cy_MT G A M st h (cd1 (cy_ix k (J 0 4))))) xF := by
  refine cy_in (own := RX3) (lv0 := [some (.ref (A 0)), some (.int k)]) (by decide) rfl rfl rfl (Nat.le_of_ble_eq_true rfl) (fun K T C => ?_)
  refine rr_aload_n C 0 dX3_freeByContainers_0 rfl rfl ?_
  refine rr_iload_n C 1 dX3_freeByContainers_1 rfl rfl ?_
  refine cv_X3_223 C dX3_freeByContainers_2 (ct_X3_freeCores hM hR hr hok) (Or.inl hM.obj) (fun r h1 q => ?_)
  obtain ⟨x, rfl, hx, hp⟩ := q
  exact rr_ireturn C dX3_freeByContainers_5 ⟨x, rfl, hx, hp⟩
theorem ct_X3_hostOf (hM : cy_Mo G A M st h) (hR : cy_Rl I J M) (hr : cy_Yr G J) (hok : cy_okJ J) {k : Int32} : cy_Con G yX3_hostOf cX3_hostOf 2 (some .int) 5 0 [.ref (A 0), .int k] h (qMi (cd2 (cy_ix k (J 0 3)) (decide (J 13 (kn k) = 1))) (nI (J 14 (kn k) - 1)) (cy_MT G A M st h (cd2 (cy_ix k (J 0 3)) (decide (J 13 (kn k) = 1))))) xF := by
  have r0 := hr.2.1
  cases hix : cy_ix k (J 0 3) with
  | false =>
    refine cy_in (own := RX3) (lv0 := [some (.ref (A 0)), some (.int k)]) (by decide) rfl rfl rfl (Nat.le_of_ble_eq_true rfl) (fun K T C => ?_)
    refine rr_aload_n C 0 dX3_hostOf_0 rfl rfl ?_
    refine rr_iconst C 0 dX3_hostOf_1 (by decide) ?_
    refine pf_X3_79 C dX3_hostOf_2 hM.obj ?_
    refine kG (P := fun h1 => cy_Mo G A (u2 M 0 0 0) st h1 ∧ cy_FrA A h h1) ⟨hM.thr 0, cy_FrA.up cy_own.obj⟩ (fun h1 e1 => ?_)
    obtain ⟨hM0, hF0⟩ := e1
    have hR0 := hR.thr 0
    have h00 : u2 M 0 0 0 0 0 = 0 := u2_eq
    refine rr_aload_n C 0 dX3_hostOf_5 rfl rfl ?_
    refine rr_aload_n C 0 dX3_hostOf_6 rfl rfl ?_
    refine rr_iload_n C 1 dX3_hostOf_7 rfl rfl ?_
    refine cv_X3_162 C dX3_hostOf_8 (ct_X3_noContainer hM0 (n := J 0 3) (by omega) hR0.nC) (Or.inl hM0.obj) (kVr ?_)
    rw [hix]
    refine rr_iconst C 1 dX3_hostOf_11 (by decide) ?_
    refine cv_X3_109 C dX3_hostOf_12 (ct_X3_failsT hM0 h00 (by decide)) (Or.inl hM0.obj) (kV (fun h2 e2 => ?_))
    refine rr_if_ne C 42 dX3_hostOf_15 (by decide) (fun _ => ?_) (fun c => absurd c (by decide))
    refine rr_iconst C 0 dX3_hostOf_42 (by decide) ?_
    refine rr_goto C 52 dX3_hostOf_43 (by decide) ?_
    exact rr_ireturn C dX3_hostOf_52 ⟨0, rfl, fun c => absurd c Nat.one_ne_zero, cy_MT.of hF0 e2 rfl⟩
  | true =>
    obtain ⟨j, hj, rfl⟩ := cy_ix_t (by omega) hix
    have kj := kn_nI (show j < 2 ^ 31 by omega)
    rw [kj]
    cases hst : decide (J 13 j = 1) with
    | false =>
      refine cy_in (own := RX3) (lv0 := [some (.ref (A 0)), some (.int (nI j))]) (by decide) rfl rfl rfl (Nat.le_of_ble_eq_true rfl) (fun K T C => ?_)
      refine rr_aload_n C 0 dX3_hostOf_0 rfl rfl ?_
      refine rr_iconst C 0 dX3_hostOf_1 (by decide) ?_
      refine pf_X3_79 C dX3_hostOf_2 hM.obj ?_
      refine kG (P := fun h1 => cy_Mo G A (u2 M 0 0 0) st h1 ∧ cy_FrA A h h1) ⟨hM.thr 0, cy_FrA.up cy_own.obj⟩ (fun h1 e1 => ?_)
      obtain ⟨hM0, hF0⟩ := e1
      have hR0 := hR.thr 0
      have h00 : u2 M 0 0 0 0 0 = 0 := u2_eq
      refine rr_aload_n C 0 dX3_hostOf_5 rfl rfl ?_
      refine rr_aload_n C 0 dX3_hostOf_6 rfl rfl ?_
      refine rr_iload_n C 1 dX3_hostOf_7 rfl rfl ?_
      refine cv_X3_162 C dX3_hostOf_8 (ct_X3_noContainer hM0 (n := J 0 3) (by omega) hR0.nC) (Or.inl hM0.obj) (kVr ?_)
      rw [hix]
      refine rr_iconst C 1 dX3_hostOf_11 (by decide) ?_
      refine cv_X3_109 C dX3_hostOf_12 (ct_X3_failsF hM0 h00 (by decide)) (Or.inl hM0.obj) (kVr ?_)
      refine rr_if_ne C 42 dX3_hostOf_15 (by decide) (fun c => absurd rfl c) (fun _ => ?_)
      refine rr_aload_n C 0 dX3_hostOf_18 rfl rfl ?_
      refine rr_aload_n C 0 dX3_hostOf_19 rfl rfl ?_
      refine gf_X3_54 C dX3_hostOf_20 (Or.inl hM0.obj) ?_
      refine rr_iload_n C 1 dX3_hostOf_23 rfl rfl ?_
      refine rr_cald C j dX3_hostOf_24 (Or.inl (hM0.row rfl)) rfl (by omega) (by decide) ?_
      rw [hR0.sta j hj]
      refine rr_bipush C 114 dX3_hostOf_25 (by decide) ?_
      refine rr_icmp_eq C 34 dX3_hostOf_27 (by decide) (fun c => absurd (cy_chr_r.mp c) (of_decide_eq_false hst)) (fun _ => ?_)
      refine rr_iconst C 1 dX3_hostOf_30 (by decide) ?_
      refine rr_goto C 35 dX3_hostOf_31 (by decide) ?_
      refine rr_iconst C 2 dX3_hostOf_35 (by decide) ?_
      refine cv_X3_109 C dX3_hostOf_36 (ct_X3_failsT hM0 h00 (by decide)) (Or.inl hM0.obj) (kV (fun h2 e2 => ?_))
      refine rr_if_eq C 46 dX3_hostOf_39 (by decide) (fun c => absurd c (by decide)) (fun _ => ?_)
      refine rr_iconst C 0 dX3_hostOf_42 (by decide) ?_
      refine rr_goto C 52 dX3_hostOf_43 (by decide) ?_
      exact rr_ireturn C dX3_hostOf_52 ⟨0, rfl, fun c => absurd c (by decide), cy_MT.of hF0 e2 rfl⟩
    | true =>
      have hst' := of_decide_eq_true hst
      refine cy_in (own := RX3) (lv0 := [some (.ref (A 0)), some (.int (nI j))]) (by decide) rfl rfl rfl (Nat.le_of_ble_eq_true rfl) (fun K T C => ?_)
      refine rr_aload_n C 0 dX3_hostOf_0 rfl rfl ?_
      refine rr_iconst C 0 dX3_hostOf_1 (by decide) ?_
      refine pf_X3_79 C dX3_hostOf_2 hM.obj ?_
      refine kG (P := fun h1 => cy_Mo G A (u2 M 0 0 0) st h1 ∧ cy_FrA A h h1) ⟨hM.thr 0, cy_FrA.up cy_own.obj⟩ (fun h1 e1 => ?_)
      obtain ⟨hM0, hF0⟩ := e1
      have hR0 := hR.thr 0
      have h00 : u2 M 0 0 0 0 0 = 0 := u2_eq
      refine rr_aload_n C 0 dX3_hostOf_5 rfl rfl ?_
      refine rr_aload_n C 0 dX3_hostOf_6 rfl rfl ?_
      refine rr_iload_n C 1 dX3_hostOf_7 rfl rfl ?_
      refine cv_X3_162 C dX3_hostOf_8 (ct_X3_noContainer hM0 (n := J 0 3) (by omega) hR0.nC) (Or.inl hM0.obj) (kVr ?_)
      rw [hix]
      refine rr_iconst C 1 dX3_hostOf_11 (by decide) ?_
      refine cv_X3_109 C dX3_hostOf_12 (ct_X3_failsF hM0 h00 (by decide)) (Or.inl hM0.obj) (kVr ?_)
      refine rr_if_ne C 42 dX3_hostOf_15 (by decide) (fun c => absurd rfl c) (fun _ => ?_)
      refine rr_aload_n C 0 dX3_hostOf_18 rfl rfl ?_
      refine rr_aload_n C 0 dX3_hostOf_19 rfl rfl ?_
      refine gf_X3_54 C dX3_hostOf_20 (Or.inl hM0.obj) ?_
      refine rr_iload_n C 1 dX3_hostOf_23 rfl rfl ?_
      refine rr_cald C j dX3_hostOf_24 (Or.inl (hM0.row rfl)) rfl (by omega) (by decide) ?_
      rw [hR0.sta j hj]
      refine rr_bipush C 114 dX3_hostOf_25 (by decide) ?_
      refine rr_icmp_eq C 34 dX3_hostOf_27 (by decide) (fun _ => ?_) (fun c => absurd (cy_chr_r.mpr hst') c)
      refine rr_iconst C 0 dX3_hostOf_34 (by decide) ?_
      refine rr_iconst C 2 dX3_hostOf_35 (by decide) ?_
      refine cv_X3_109 C dX3_hostOf_36 (ct_X3_failsF hM0 h00 (by decide)) (Or.inl hM0.obj) (kVr ?_)
      refine rr_if_eq C 46 dX3_hostOf_39 (by decide) (fun _ => ?_) (fun c => absurd rfl c)
      refine rr_aload_n C 0 dX3_hostOf_46 rfl rfl ?_
      refine gf_X3_58 C dX3_hostOf_47 (Or.inl hM0.obj) ?_
      refine rr_iload_n C 1 dX3_hostOf_50 rfl rfl ?_
      refine rr_iald C j dX3_hostOf_51 (Or.inl (hM0.row rfl)) rfl (by omega) (by decide) ?_
      rw [hR0.host j hj hst']
      exact rr_ireturn C dX3_hostOf_52 ⟨_, rfl, fun _ => rfl, cy_MT.z hF0 hM0⟩
theorem ct_X3_restsUntil (hM : cy_Mo G A M st h) (hR : cy_Rl I J M) (hr : cy_Yr G J) {k : Int32} : cy_Con G yX3_restsUntil cX3_restsUntil 2 (some .int) 5 0 [.ref (A 0), .int k] h (qMi (cd2 (cy_ix k (J 0 3)) (decide (J 13 (kn k) = 2))) (I 18 (kn k)) (cy_MT G A M st h (cd2 (cy_ix k (J 0 3)) (decide (J 13 (kn k) = 2))))) xF := by
  have r0 := hr.2.1
  cases hix : cy_ix k (J 0 3) with
  | false =>
    refine cy_in (own := RX3) (lv0 := [some (.ref (A 0)), some (.int k)]) (by decide) rfl rfl rfl (Nat.le_of_ble_eq_true rfl) (fun K T C => ?_)
    refine rr_aload_n C 0 dX3_restsUntil_0 rfl rfl ?_
    refine rr_iconst C 0 dX3_restsUntil_1 (by decide) ?_
    refine pf_X3_79 C dX3_restsUntil_2 hM.obj ?_
    refine kG (P := fun h1 => cy_Mo G A (u2 M 0 0 0) st h1 ∧ cy_FrA A h h1) ⟨hM.thr 0, cy_FrA.up cy_own.obj⟩ (fun h1 e1 => ?_)
    obtain ⟨hM0, hF0⟩ := e1
    have hR0 := hR.thr 0
    have h00 : u2 M 0 0 0 0 0 = 0 := u2_eq
    refine rr_aload_n C 0 dX3_restsUntil_5 rfl rfl ?_
    refine rr_aload_n C 0 dX3_restsUntil_6 rfl rfl ?_
    refine rr_iload_n C 1 dX3_restsUntil_7 rfl rfl ?_
    refine cv_X3_162 C dX3_restsUntil_8 (ct_X3_noContainer hM0 (n := J 0 3) (by omega) hR0.nC) (Or.inl hM0.obj) (kVr ?_)
    rw [hix]
    refine rr_iconst C 1 dX3_restsUntil_11 (by decide) ?_
    refine cv_X3_109 C dX3_restsUntil_12 (ct_X3_failsT hM0 h00 (by decide)) (Or.inl hM0.obj) (kV (fun h2 e2 => ?_))
    refine rr_if_ne C 42 dX3_restsUntil_15 (by decide) (fun _ => ?_) (fun c => absurd c (by decide))
    refine rr_iconst C 0 dX3_restsUntil_42 (by decide) ?_
    refine rr_goto C 52 dX3_restsUntil_43 (by decide) ?_
    exact rr_ireturn C dX3_restsUntil_52 ⟨0, rfl, fun c => absurd c Nat.one_ne_zero, cy_MT.of hF0 e2 rfl⟩
  | true =>
    obtain ⟨j, hj, rfl⟩ := cy_ix_t (by omega) hix
    have kj := kn_nI (show j < 2 ^ 31 by omega)
    rw [kj]
    cases hst : decide (J 13 j = 2) with
    | false =>
      refine cy_in (own := RX3) (lv0 := [some (.ref (A 0)), some (.int (nI j))]) (by decide) rfl rfl rfl (Nat.le_of_ble_eq_true rfl) (fun K T C => ?_)
      refine rr_aload_n C 0 dX3_restsUntil_0 rfl rfl ?_
      refine rr_iconst C 0 dX3_restsUntil_1 (by decide) ?_
      refine pf_X3_79 C dX3_restsUntil_2 hM.obj ?_
      refine kG (P := fun h1 => cy_Mo G A (u2 M 0 0 0) st h1 ∧ cy_FrA A h h1) ⟨hM.thr 0, cy_FrA.up cy_own.obj⟩ (fun h1 e1 => ?_)
      obtain ⟨hM0, hF0⟩ := e1
      have hR0 := hR.thr 0
      have h00 : u2 M 0 0 0 0 0 = 0 := u2_eq
      refine rr_aload_n C 0 dX3_restsUntil_5 rfl rfl ?_
      refine rr_aload_n C 0 dX3_restsUntil_6 rfl rfl ?_
      refine rr_iload_n C 1 dX3_restsUntil_7 rfl rfl ?_
      refine cv_X3_162 C dX3_restsUntil_8 (ct_X3_noContainer hM0 (n := J 0 3) (by omega) hR0.nC) (Or.inl hM0.obj) (kVr ?_)
      rw [hix]
      refine rr_iconst C 1 dX3_restsUntil_11 (by decide) ?_
      refine cv_X3_109 C dX3_restsUntil_12 (ct_X3_failsF hM0 h00 (by decide)) (Or.inl hM0.obj) (kVr ?_)
      refine rr_if_ne C 42 dX3_restsUntil_15 (by decide) (fun c => absurd rfl c) (fun _ => ?_)
      refine rr_aload_n C 0 dX3_restsUntil_18 rfl rfl ?_
      refine rr_aload_n C 0 dX3_restsUntil_19 rfl rfl ?_
      refine gf_X3_54 C dX3_restsUntil_20 (Or.inl hM0.obj) ?_
      refine rr_iload_n C 1 dX3_restsUntil_23 rfl rfl ?_
      refine rr_cald C j dX3_restsUntil_24 (Or.inl (hM0.row rfl)) rfl (by omega) (by decide) ?_
      rw [hR0.sta j hj]
      refine rr_bipush C 115 dX3_restsUntil_25 (by decide) ?_
      refine rr_icmp_eq C 34 dX3_restsUntil_27 (by decide) (fun c => absurd (cy_chr_s.mp c) (of_decide_eq_false hst)) (fun _ => ?_)
      refine rr_iconst C 1 dX3_restsUntil_30 (by decide) ?_
      refine rr_goto C 35 dX3_restsUntil_31 (by decide) ?_
      refine rr_iconst C 2 dX3_restsUntil_35 (by decide) ?_
      refine cv_X3_109 C dX3_restsUntil_36 (ct_X3_failsT hM0 h00 (by decide)) (Or.inl hM0.obj) (kV (fun h2 e2 => ?_))
      refine rr_if_eq C 46 dX3_restsUntil_39 (by decide) (fun c => absurd c (by decide)) (fun _ => ?_)
      refine rr_iconst C 0 dX3_restsUntil_42 (by decide) ?_
      refine rr_goto C 52 dX3_restsUntil_43 (by decide) ?_
      exact rr_ireturn C dX3_restsUntil_52 ⟨0, rfl, fun c => absurd c (by decide), cy_MT.of hF0 e2 rfl⟩
    | true =>
      have hst' := of_decide_eq_true hst
      refine cy_in (own := RX3) (lv0 := [some (.ref (A 0)), some (.int (nI j))]) (by decide) rfl rfl rfl (Nat.le_of_ble_eq_true rfl) (fun K T C => ?_)
      refine rr_aload_n C 0 dX3_restsUntil_0 rfl rfl ?_
      refine rr_iconst C 0 dX3_restsUntil_1 (by decide) ?_
      refine pf_X3_79 C dX3_restsUntil_2 hM.obj ?_
      refine kG (P := fun h1 => cy_Mo G A (u2 M 0 0 0) st h1 ∧ cy_FrA A h h1) ⟨hM.thr 0, cy_FrA.up cy_own.obj⟩ (fun h1 e1 => ?_)
      obtain ⟨hM0, hF0⟩ := e1
      have hR0 := hR.thr 0
      have h00 : u2 M 0 0 0 0 0 = 0 := u2_eq
      refine rr_aload_n C 0 dX3_restsUntil_5 rfl rfl ?_
      refine rr_aload_n C 0 dX3_restsUntil_6 rfl rfl ?_
      refine rr_iload_n C 1 dX3_restsUntil_7 rfl rfl ?_
      refine cv_X3_162 C dX3_restsUntil_8 (ct_X3_noContainer hM0 (n := J 0 3) (by omega) hR0.nC) (Or.inl hM0.obj) (kVr ?_)
      rw [hix]
      refine rr_iconst C 1 dX3_restsUntil_11 (by decide) ?_
      refine cv_X3_109 C dX3_restsUntil_12 (ct_X3_failsF hM0 h00 (by decide)) (Or.inl hM0.obj) (kVr ?_)
      refine rr_if_ne C 42 dX3_restsUntil_15 (by decide) (fun c => absurd rfl c) (fun _ => ?_)
      refine rr_aload_n C 0 dX3_restsUntil_18 rfl rfl ?_
      refine rr_aload_n C 0 dX3_restsUntil_19 rfl rfl ?_
      refine gf_X3_54 C dX3_restsUntil_20 (Or.inl hM0.obj) ?_
      refine rr_iload_n C 1 dX3_restsUntil_23 rfl rfl ?_
      refine rr_cald C j dX3_restsUntil_24 (Or.inl (hM0.row rfl)) rfl (by omega) (by decide) ?_
      rw [hR0.sta j hj]
      refine rr_bipush C 115 dX3_restsUntil_25 (by decide) ?_
      refine rr_icmp_eq C 34 dX3_restsUntil_27 (by decide) (fun _ => ?_) (fun c => absurd (cy_chr_s.mpr hst') c)
      refine rr_iconst C 0 dX3_restsUntil_34 (by decide) ?_
      refine rr_iconst C 2 dX3_restsUntil_35 (by decide) ?_
      refine cv_X3_109 C dX3_restsUntil_36 (ct_X3_failsF hM0 h00 (by decide)) (Or.inl hM0.obj) (kVr ?_)
      refine rr_if_eq C 46 dX3_restsUntil_39 (by decide) (fun _ => ?_) (fun c => absurd rfl c)
      refine rr_aload_n C 0 dX3_restsUntil_46 rfl rfl ?_
      refine gf_X3_67 C dX3_restsUntil_47 (Or.inl hM0.obj) ?_
      refine rr_iload_n C 1 dX3_restsUntil_50 rfl rfl ?_
      refine rr_iald C j dX3_restsUntil_51 (Or.inl (hM0.row rfl)) rfl (by omega) (by decide) ?_
      rw [hR0.unt j hj]
      exact rr_ireturn C dX3_restsUntil_52 ⟨_, rfl, fun _ => rfl, cy_MT.z hF0 hM0⟩
theorem ct_X3_layersIn (hM : cy_Mo G A M st h) (hR : cy_Rl I J M) (hr : cy_Yr G J) {k : Int32} : cy_Con G yX3_layersIn cX3_layersIn 2 (some .int) 5 0 [.ref (A 0), .int k] h (qMi (cd2 (cy_ix k (J 0 3)) (decide (J 13 (kn k) = 1))) (I 15 (kn k)) (cy_MT G A M st h (cd2 (cy_ix k (J 0 3)) (decide (J 13 (kn k) = 1))))) xF := by
  have r0 := hr.2.1
  cases hix : cy_ix k (J 0 3) with
  | false =>
    refine cy_in (own := RX3) (lv0 := [some (.ref (A 0)), some (.int k)]) (by decide) rfl rfl rfl (Nat.le_of_ble_eq_true rfl) (fun K T C => ?_)
    refine rr_aload_n C 0 dX3_layersIn_0 rfl rfl ?_
    refine rr_iconst C 0 dX3_layersIn_1 (by decide) ?_
    refine pf_X3_79 C dX3_layersIn_2 hM.obj ?_
    refine kG (P := fun h1 => cy_Mo G A (u2 M 0 0 0) st h1 ∧ cy_FrA A h h1) ⟨hM.thr 0, cy_FrA.up cy_own.obj⟩ (fun h1 e1 => ?_)
    obtain ⟨hM0, hF0⟩ := e1
    have hR0 := hR.thr 0
    have h00 : u2 M 0 0 0 0 0 = 0 := u2_eq
    refine rr_aload_n C 0 dX3_layersIn_5 rfl rfl ?_
    refine rr_aload_n C 0 dX3_layersIn_6 rfl rfl ?_
    refine rr_iload_n C 1 dX3_layersIn_7 rfl rfl ?_
    refine cv_X3_162 C dX3_layersIn_8 (ct_X3_noContainer hM0 (n := J 0 3) (by omega) hR0.nC) (Or.inl hM0.obj) (kVr ?_)
    rw [hix]
    refine rr_iconst C 1 dX3_layersIn_11 (by decide) ?_
    refine cv_X3_109 C dX3_layersIn_12 (ct_X3_failsT hM0 h00 (by decide)) (Or.inl hM0.obj) (kV (fun h2 e2 => ?_))
    refine rr_if_ne C 42 dX3_layersIn_15 (by decide) (fun _ => ?_) (fun c => absurd c (by decide))
    refine rr_iconst C 0 dX3_layersIn_42 (by decide) ?_
    refine rr_goto C 52 dX3_layersIn_43 (by decide) ?_
    exact rr_ireturn C dX3_layersIn_52 ⟨0, rfl, fun c => absurd c Nat.one_ne_zero, cy_MT.of hF0 e2 rfl⟩
  | true =>
    obtain ⟨j, hj, rfl⟩ := cy_ix_t (by omega) hix
    have kj := kn_nI (show j < 2 ^ 31 by omega)
    rw [kj]
    cases hst : decide (J 13 j = 1) with
    | false =>
      refine cy_in (own := RX3) (lv0 := [some (.ref (A 0)), some (.int (nI j))]) (by decide) rfl rfl rfl (Nat.le_of_ble_eq_true rfl) (fun K T C => ?_)
      refine rr_aload_n C 0 dX3_layersIn_0 rfl rfl ?_
      refine rr_iconst C 0 dX3_layersIn_1 (by decide) ?_
      refine pf_X3_79 C dX3_layersIn_2 hM.obj ?_
      refine kG (P := fun h1 => cy_Mo G A (u2 M 0 0 0) st h1 ∧ cy_FrA A h h1) ⟨hM.thr 0, cy_FrA.up cy_own.obj⟩ (fun h1 e1 => ?_)
      obtain ⟨hM0, hF0⟩ := e1
      have hR0 := hR.thr 0
      have h00 : u2 M 0 0 0 0 0 = 0 := u2_eq
      refine rr_aload_n C 0 dX3_layersIn_5 rfl rfl ?_
      refine rr_aload_n C 0 dX3_layersIn_6 rfl rfl ?_
      refine rr_iload_n C 1 dX3_layersIn_7 rfl rfl ?_
      refine cv_X3_162 C dX3_layersIn_8 (ct_X3_noContainer hM0 (n := J 0 3) (by omega) hR0.nC) (Or.inl hM0.obj) (kVr ?_)
      rw [hix]
      refine rr_iconst C 1 dX3_layersIn_11 (by decide) ?_
      refine cv_X3_109 C dX3_layersIn_12 (ct_X3_failsF hM0 h00 (by decide)) (Or.inl hM0.obj) (kVr ?_)
      refine rr_if_ne C 42 dX3_layersIn_15 (by decide) (fun c => absurd rfl c) (fun _ => ?_)
      refine rr_aload_n C 0 dX3_layersIn_18 rfl rfl ?_
      refine rr_aload_n C 0 dX3_layersIn_19 rfl rfl ?_
      refine gf_X3_54 C dX3_layersIn_20 (Or.inl hM0.obj) ?_
      refine rr_iload_n C 1 dX3_layersIn_23 rfl rfl ?_
      refine rr_cald C j dX3_layersIn_24 (Or.inl (hM0.row rfl)) rfl (by omega) (by decide) ?_
      rw [hR0.sta j hj]
      refine rr_bipush C 114 dX3_layersIn_25 (by decide) ?_
      refine rr_icmp_eq C 34 dX3_layersIn_27 (by decide) (fun c => absurd (cy_chr_r.mp c) (of_decide_eq_false hst)) (fun _ => ?_)
      refine rr_iconst C 1 dX3_layersIn_30 (by decide) ?_
      refine rr_goto C 35 dX3_layersIn_31 (by decide) ?_
      refine rr_iconst C 2 dX3_layersIn_35 (by decide) ?_
      refine cv_X3_109 C dX3_layersIn_36 (ct_X3_failsT hM0 h00 (by decide)) (Or.inl hM0.obj) (kV (fun h2 e2 => ?_))
      refine rr_if_eq C 46 dX3_layersIn_39 (by decide) (fun c => absurd c (by decide)) (fun _ => ?_)
      refine rr_iconst C 0 dX3_layersIn_42 (by decide) ?_
      refine rr_goto C 52 dX3_layersIn_43 (by decide) ?_
      exact rr_ireturn C dX3_layersIn_52 ⟨0, rfl, fun c => absurd c (by decide), cy_MT.of hF0 e2 rfl⟩
    | true =>
      have hst' := of_decide_eq_true hst
      refine cy_in (own := RX3) (lv0 := [some (.ref (A 0)), some (.int (nI j))]) (by decide) rfl rfl rfl (Nat.le_of_ble_eq_true rfl) (fun K T C => ?_)
      refine rr_aload_n C 0 dX3_layersIn_0 rfl rfl ?_
      refine rr_iconst C 0 dX3_layersIn_1 (by decide) ?_
      refine pf_X3_79 C dX3_layersIn_2 hM.obj ?_
      refine kG (P := fun h1 => cy_Mo G A (u2 M 0 0 0) st h1 ∧ cy_FrA A h h1) ⟨hM.thr 0, cy_FrA.up cy_own.obj⟩ (fun h1 e1 => ?_)
      obtain ⟨hM0, hF0⟩ := e1
      have hR0 := hR.thr 0
      have h00 : u2 M 0 0 0 0 0 = 0 := u2_eq
      refine rr_aload_n C 0 dX3_layersIn_5 rfl rfl ?_
      refine rr_aload_n C 0 dX3_layersIn_6 rfl rfl ?_
      refine rr_iload_n C 1 dX3_layersIn_7 rfl rfl ?_
      refine cv_X3_162 C dX3_layersIn_8 (ct_X3_noContainer hM0 (n := J 0 3) (by omega) hR0.nC) (Or.inl hM0.obj) (kVr ?_)
      rw [hix]
      refine rr_iconst C 1 dX3_layersIn_11 (by decide) ?_
      refine cv_X3_109 C dX3_layersIn_12 (ct_X3_failsF hM0 h00 (by decide)) (Or.inl hM0.obj) (kVr ?_)
      refine rr_if_ne C 42 dX3_layersIn_15 (by decide) (fun c => absurd rfl c) (fun _ => ?_)
      refine rr_aload_n C 0 dX3_layersIn_18 rfl rfl ?_
      refine rr_aload_n C 0 dX3_layersIn_19 rfl rfl ?_
      refine gf_X3_54 C dX3_layersIn_20 (Or.inl hM0.obj) ?_
      refine rr_iload_n C 1 dX3_layersIn_23 rfl rfl ?_
      refine rr_cald C j dX3_layersIn_24 (Or.inl (hM0.row rfl)) rfl (by omega) (by decide) ?_
      rw [hR0.sta j hj]
      refine rr_bipush C 114 dX3_layersIn_25 (by decide) ?_
      refine rr_icmp_eq C 34 dX3_layersIn_27 (by decide) (fun _ => ?_) (fun c => absurd (cy_chr_r.mpr hst') c)
      refine rr_iconst C 0 dX3_layersIn_34 (by decide) ?_
      refine rr_iconst C 2 dX3_layersIn_35 (by decide) ?_
      refine cv_X3_109 C dX3_layersIn_36 (ct_X3_failsF hM0 h00 (by decide)) (Or.inl hM0.obj) (kVr ?_)
      refine rr_if_eq C 46 dX3_layersIn_39 (by decide) (fun _ => ?_) (fun c => absurd rfl c)
      refine rr_aload_n C 0 dX3_layersIn_46 rfl rfl ?_
      refine gf_X3_61 C dX3_layersIn_47 (Or.inl hM0.obj) ?_
      refine rr_iload_n C 1 dX3_layersIn_50 rfl rfl ?_
      refine rr_iald C j dX3_layersIn_51 (Or.inl (hM0.row rfl)) rfl (by omega) (by decide) ?_
      rw [hR0.wi j hj]
      exact rr_ireturn C dX3_layersIn_52 ⟨_, rfl, fun _ => rfl, cy_MT.z hF0 hM0⟩
theorem ct_X3_now (hM : cy_Mo G A M st h) (hR : cy_Rl I J M) (hr : cy_Yr G J) : cy_Con G yX3_now cX3_now 1 (some .int) 5 0 [.ref (A 0)] h (qMi 0 (I 1 0) (cy_MT G A M st h 0)) xF := by
  refine cy_in (own := RX3) (lv0 := [some (.ref (A 0))]) (by decide) rfl rfl rfl (Nat.le_of_ble_eq_true rfl) (fun K T C => ?_)
  refine rr_aload_n C 0 dX3_now_0 rfl rfl ?_
  refine rr_iconst C 0 dX3_now_1 (by decide) ?_
  refine pf_X3_79 C dX3_now_2 hM.obj ?_
  refine kG (P := fun h1 => cy_Mo G A (u2 M 0 0 0) st h1 ∧ cy_FrA A h h1) ⟨hM.thr 0, cy_FrA.up cy_own.obj⟩ (fun h1 e1 => ?_)
  obtain ⟨hM0, hF0⟩ := e1
  have hR0 := hR.thr 0
  have h00 : u2 M 0 0 0 0 0 = 0 := u2_eq
  refine rr_aload_n C 0 dX3_now_5 rfl rfl ?_
  refine gf_X3_98 C dX3_now_6 (Or.inl hM0.obj) ?_
  exact rr_ireturn C dX3_now_9 ⟨_, rfl, fun _ => hR0.hour, cy_MT.z hF0 hM0⟩
theorem ct_X3_starts (hM : cy_Mo G A M st h) (hR : cy_Rl I J M) (hr : cy_Yr G J) : cy_Con G yX3_starts cX3_starts 1 (some .long) 5 0 [.ref (A 0)] h (qMl 0 st (cy_MT G A M st h 0)) xF := by
  refine cy_in (own := RX3) (lv0 := [some (.ref (A 0))]) (by decide) rfl rfl rfl (Nat.le_of_ble_eq_true rfl) (fun K T C => ?_)
  refine rr_aload_n C 0 dX3_starts_0 rfl rfl ?_
  refine rr_iconst C 0 dX3_starts_1 (by decide) ?_
  refine pf_X3_79 C dX3_starts_2 hM.obj ?_
  refine kG (P := fun h1 => cy_Mo G A (u2 M 0 0 0) st h1 ∧ cy_FrA A h h1) ⟨hM.thr 0, cy_FrA.up cy_own.obj⟩ (fun h1 e1 => ?_)
  obtain ⟨hM0, hF0⟩ := e1
  have hR0 := hR.thr 0
  have h00 : u2 M 0 0 0 0 0 = 0 := u2_eq
  refine rr_aload_n C 0 dX3_starts_5 rfl rfl ?_
  refine gf_X3_213 C dX3_starts_6 (Or.inl hM0.obj) ?_
  exact rr_lreturn C dX3_starts_9 ⟨_, rfl, fun _ => rfl, cy_MT.z hF0 hM0⟩
theorem ct_X3_licensed (hM : cy_Mo G A M st h) (hR : cy_Rl I J M) (hr : cy_Yr G J) : cy_Con G yX3_licensed cX3_licensed 1 (some .int) 5 0 [.ref (A 0)] h (qMi 0 (cy_sm (fun i => decide (J 13 i = 1)) (I 13) (J 0 3)) (cy_MT G A M st h 0)) xF := by
  refine cy_in (own := RX3) (lv0 := [some (.ref (A 0))]) (by decide) rfl rfl rfl (Nat.le_of_ble_eq_true rfl) (fun K T C => ?_)
  refine rr_aload_n C 0 dX3_licensed_0 rfl rfl ?_
  refine rr_iconst C 0 dX3_licensed_1 (by decide) ?_
  refine pf_X3_79 C dX3_licensed_2 hM.obj ?_
  refine kG (P := fun h1 => cy_Mo G A (u2 M 0 0 0) st h1 ∧ cy_FrA A h h1) ⟨hM.thr 0, cy_FrA.up cy_own.obj⟩ (fun h1 e1 => ?_)
  obtain ⟨hM0, hF0⟩ := e1
  have hR0 := hR.thr 0
  have h00 : u2 M 0 0 0 0 0 = 0 := u2_eq
  refine rr_aload_n C 0 dX3_licensed_5 rfl rfl ?_
  refine rr_iconst C (-1) dX3_licensed_6 (by decide) ?_
  refine cv_X3_144 C dX3_licensed_7 (ct_X3_coresIn hM0 hR0 hr (fun i => decide (J 13 i = 1)) (fun i hi => by rw [decide_eq_true (show (-1 : Int32) = -1 from rfl), Bool.true_or, Bool.and_true])) (Or.inl hM0.obj) (kVr ?_)
  exact rr_ireturn C dX3_licensed_10 ⟨_, rfl, fun _ => rfl, cy_MT.z hF0 hM0⟩
end MQ
