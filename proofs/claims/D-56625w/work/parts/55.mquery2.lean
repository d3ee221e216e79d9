/-! the model: uses, bars, openings, shares, laid anew (printed by gen/mq2.py) -/
set_option maxRecDepth 100000
theorem cy_shr_b (x : Int32) {j : Nat} (hj : j < 12) : (x >>> (nI j &&& 31)) &&& 1 = bI (!decide (x &&& cy_bit j = 0)) := by
  have h1 := cy_shr_t x hj
  by_cases hz : x &&& cy_bit j = 0
  · rw [decide_eq_true hz]
    rw [cy_bit_t x hj] at hz
    rw [← Int32.toBitVec_inj, Int32.toBitVec_and, cy_shr_bv x hj, show (1 : Int32).toBitVec = BitVec.twoPow 32 0 by decide, BitVec.and_twoPow, BitVec.getLsbD_sshiftRight]
    simp only [Nat.add_zero, show ¬ (32 ≤ 0) by omega, decide_false, Bool.not_false, Bool.true_and, show j < 32 by omega, if_true]
    rw [hz]
    decide
  · rw [decide_eq_false hz]
    exact h1.mpr hz
theorem cy_bar_congr {I : Nat → Nat → Int32} {J : Nat → Nat → Nat} {lic tak : Int32} {fc fm fc' fm' : Nat → Int32} {n i : Nat} (h : ∀ k, k < n → fc k = fc' k ∧ fm k = fm' k) : cy_bar I J lic tak fc fm n i = cy_bar I J lic tak fc' fm' n i := by
  unfold cy_bar
  rw [cy_be_congr _ _ n h]
/-- free room is what the running ones leave -/
def cy_free (I : Nat → Nat → Int32) (J : Nat → Nat → Nat) : Prop := ∀ i, i < J 0 4 → I 6 i = I 4 i - cy_sm (cy_on J i) (I 13) (J 0 3) ∧ I 7 i = I 5 i - cy_sm (cy_on J i) (I 14) (J 0 3)
abbrev cy_run1 (J : Nat → Nat → Nat) : Nat → Bool := fun i => decide (J 13 i = 1)
section MQ2
variable {G : GT} {A : Nat → Nat} {M : Nat → Nat → Int32} {st : Int64} {h : Hp} {I : Nat → Nat → Int32} {J : Nat → Nat → Nat}
theorem cy_all_c : ∀ i, i < J 0 3 → cy_run1 J i = (decide (J 13 i = 1) && (decide ((-1 : Int32) = -1) || decide (M 22 i = -1))) := fun i hi => by
  rw [decide_eq_true (show (-1 : Int32) = -1 from rfl), Bool.true_or, Bool.and_true]
theorem ct_X3_uses (hM : cy_Mo G A M st h) (hR : cy_Rl I J M) (hr : cy_Yr G J) {x : Int32} : cy_Con G yX3_uses cX3_uses 4 (some .int) 5 0 [.ref (A 0), .int x] h (qMi (cd1 (cy_ix x (J 0 0))) (nI (cy_cn (fun k => !decide (cy_lay J k &&& cy_bit (kn x) = 0)) (J 0 1))) (cy_MT G A M st h (cd1 (cy_ix x (J 0 0))))) xF := by
  have r0 := hr.2.1
  cases hix : cy_ix x (J 0 0) with
  | false =>
    refine cy_in (own := RX3) (lv0 := [some (.ref (A 0)), some (.int x), none, none]) (by decide) rfl rfl rfl (Nat.le_of_ble_eq_true rfl) (fun K T C => ?_)
    refine rr_aload_n C 0 dX3_uses_0 rfl rfl ?_
    refine rr_iconst C 0 dX3_uses_1 (by decide) ?_
    refine pf_X3_79 C dX3_uses_2 hM.obj ?_
    refine kG (P := fun h1 => cy_Mo G A (u2 M 0 0 0) st h1 ∧ cy_FrA A h h1) ⟨hM.thr 0, cy_FrA.up cy_own.obj⟩ (fun h1 e1 => ?_)
    obtain ⟨hM0, hF0⟩ := e1
    have hR0 := hR.thr 0
    have h00 : u2 M 0 0 0 0 0 = 0 := u2_eq
    refine rr_aload_n C 0 dX3_uses_5 rfl rfl ?_
    refine rr_aload_n C 0 dX3_uses_6 rfl rfl ?_
    refine rr_iload_n C 1 dX3_uses_7 rfl rfl ?_
    refine cv_X3_116 C dX3_uses_8 (ct_X3_noLayer hM0 (n := J 0 0) (by omega) hR0.nL) (Or.inl hM0.obj) (kVr ?_)
    rw [hix]
    refine rr_iconst C 1 dX3_uses_11 (by decide) ?_
    refine cv_X3_109 C dX3_uses_12 (ct_X3_failsT hM0 h00 (by decide)) (Or.inl hM0.obj) (kV (fun h2 e2 => ?_))
    refine rr_if_eq C 20 dX3_uses_15 (by decide) (fun c => absurd c (by decide)) (fun _ => ?_)
    refine rr_iconst C 0 dX3_uses_18 (by decide) ?_
    exact rr_ireturn C dX3_uses_19 ⟨0, rfl, fun c => absurd c (by decide), cy_MT.of hF0 e2 rfl⟩
  | true =>
    obtain ⟨j, hj, rfl⟩ := cy_ix_t (by omega) hix
    have kj := kn_nI (show j < 2 ^ 31 by omega)
    rw [kj]
    refine cy_in (own := RX3) (lv0 := [some (.ref (A 0)), some (.int (nI j)), none, none]) (by decide) rfl rfl rfl (Nat.le_of_ble_eq_true rfl) (fun K T C => ?_)
    refine rr_aload_n C 0 dX3_uses_0 rfl rfl ?_
    refine rr_iconst C 0 dX3_uses_1 (by decide) ?_
    refine pf_X3_79 C dX3_uses_2 hM.obj ?_
    refine kG (P := fun h1 => cy_Mo G A (u2 M 0 0 0) st h1 ∧ cy_FrA A h h1) ⟨hM.thr 0, cy_FrA.up cy_own.obj⟩ (fun h1 e1 => ?_)
    obtain ⟨hM0, hF0⟩ := e1
    have hR0 := hR.thr 0
    have h00 : u2 M 0 0 0 0 0 = 0 := u2_eq
    refine rr_aload_n C 0 dX3_uses_5 rfl rfl ?_
    refine rr_aload_n C 0 dX3_uses_6 rfl rfl ?_
    refine rr_iload_n C 1 dX3_uses_7 rfl rfl ?_
    refine cv_X3_116 C dX3_uses_8 (ct_X3_noLayer hM0 (n := J 0 0) (by omega) hR0.nL) (Or.inl hM0.obj) (kVr ?_)
    rw [hix]
    refine rr_iconst C 1 dX3_uses_11 (by decide) ?_
    refine cv_X3_109 C dX3_uses_12 (ct_X3_failsF hM0 h00 (by decide)) (Or.inl hM0.obj) (kVr ?_)
    refine rr_if_eq C 20 dX3_uses_15 (by decide) (fun _ => ?_) (fun c => absurd rfl c)
    refine rr_iconst C 0 dX3_uses_20 (by decide) ?_
    refine rr_istore_n C 2 dX3_uses_21 rfl (Nat.le_of_ble_eq_true rfl) rfl (Nat.le_of_ble_eq_true rfl) ?_
    refine rr_iconst C 0 dX3_uses_22 (by decide) ?_
    refine rr_istore_n C 3 dX3_uses_23 rfl (Nat.le_of_ble_eq_true rfl) rfl (Nat.le_of_ble_eq_true rfl) ?_
    have loop : ∀ (d k : Nat), k + d = J 0 1 → K 0 h1 24 [some (.ref (A 0)), some (.int (nI j)), some (.int (nI (cy_cn (fun k => !decide (cy_lay J k &&& cy_bit j = 0)) k))), some (.int (nI k))] [] := by
      intro d
      induction d with
      | zero =>
        intro k hk
        have hkn : k = J 0 1 := by omega
        subst hkn
        refine rr_iload_n C 3 dX3_uses_24 rfl rfl ?_
        refine rr_aload_n C 0 dX3_uses_25 rfl rfl ?_
        refine gf_X3_89 C dX3_uses_26 (Or.inl hM0.obj) ?_
        rw [hR0.nIm]
        refine rr_icmp_ge C 50 dX3_uses_29 (by decide) (fun _ => ?_) (fun c => absurd (nI_le (Nat.le_refl _) (by omega)) c)
        refine rr_iload_n C 2 dX3_uses_50 rfl rfl ?_
        exact rr_ireturn C dX3_uses_51 ⟨_, rfl, fun _ => rfl, cy_MT.z hF0 hM0⟩
      | succ d ih =>
        intro k hk
        refine rr_iload_n C 3 dX3_uses_24 rfl rfl ?_
        refine rr_aload_n C 0 dX3_uses_25 rfl rfl ?_
        refine gf_X3_89 C dX3_uses_26 (Or.inl hM0.obj) ?_
        rw [hR0.nIm]
        refine rr_icmp_ge C 50 dX3_uses_29 (by decide) (fun c => absurd c (nI_ge (by omega) (by omega))) (fun _ => ?_)
        refine rr_iload_n C 2 dX3_uses_32 rfl rfl ?_
        refine rr_aload_n C 0 dX3_uses_33 rfl rfl ?_
        refine rr_iload_n C 3 dX3_uses_34 rfl rfl ?_
        refine cv_X3_105 C dX3_uses_35 (ct_X3_set hM0 hR0 hr (i := k) (by omega)) (Or.inl hM0.obj) (kVr ?_)
        refine rr_iload_n C 1 dX3_uses_38 rfl rfl ?_
        refine rr_ishr C dX3_uses_39 ?_
        refine rr_iconst C 1 dX3_uses_40 (by decide) ?_
        refine rr_iand C dX3_uses_41 ?_
        rw [cy_shr_b _ (show j < 12 by omega)]
        refine rr_iadd C dX3_uses_42 ?_
        rw [nI_cn (p := fun k => !decide (cy_lay J k &&& cy_bit j = 0))]
        refine rr_istore_n C 2 dX3_uses_43 rfl (Nat.le_of_ble_eq_true rfl) rfl (Nat.le_of_ble_eq_true rfl) ?_
        refine rr_iinc C (nI (k + 1)) dX3_uses_44 rfl (nI_1 k) (Nat.le_of_ble_eq_true rfl) rfl (Nat.le_of_ble_eq_true rfl) ?_
        refine rr_goto C 24 dX3_uses_47 (by decide) ?_
        exact ih (k + 1) (by omega)
    exact loop (J 0 1) 0 (by omega)
theorem ct_X3_barOf (hM : cy_Mo G A M st h) (hR : cy_Rl I J M) (hr : cy_Yr G J) (hok : cy_okJ J) (hfr : cy_free I J) (htk : I 1 2 = cy_sm (cy_run1 J) (I 13) (J 0 3)) {x : Int32} : cy_Con G yX3_barOf cX3_barOf 2 (some (.object "Bar")) 5 0 [.ref (A 0), .int x] h (qMr (cd1 (cy_ix x (J 0 3))) (G.2.2.2.2 (cy_bo I J (kn x))) (cy_MT G A M st h (cd1 (cy_ix x (J 0 3))))) xF := by
  have r0 := hr.2.1
  cases hix : cy_ix x (J 0 3) with
  | false =>
    refine cy_in (own := RX3) (lv0 := [some (.ref (A 0)), some (.int x)]) (by decide) rfl rfl rfl (Nat.le_of_ble_eq_true rfl) (fun K T C => ?_)
    refine rr_aload_n C 0 dX3_barOf_0 rfl rfl ?_
    refine rr_iconst C 0 dX3_barOf_1 (by decide) ?_
    refine pf_X3_79 C dX3_barOf_2 hM.obj ?_
    refine kG (P := fun h1 => cy_Mo G A (u2 M 0 0 0) st h1 ∧ cy_FrA A h h1) ⟨hM.thr 0, cy_FrA.up cy_own.obj⟩ (fun h1 e1 => ?_)
    obtain ⟨hM0, hF0⟩ := e1
    have hR0 := hR.thr 0
    have h00 : u2 M 0 0 0 0 0 = 0 := u2_eq
    refine rr_aload_n C 0 dX3_barOf_5 rfl rfl ?_
    refine rr_aload_n C 0 dX3_barOf_6 rfl rfl ?_
    refine rr_iload_n C 1 dX3_barOf_7 rfl rfl ?_
    refine cv_X3_162 C dX3_barOf_8 (ct_X3_noContainer hM0 (n := J 0 3) (by omega) hR0.nC) (Or.inl hM0.obj) (kVr ?_)
    rw [hix]
    refine rr_iconst C 1 dX3_barOf_11 (by decide) ?_
    refine cv_X3_109 C dX3_barOf_12 (ct_X3_failsT hM0 h00 (by decide)) (Or.inl hM0.obj) (kV (fun h2 e2 => ?_))
    refine rr_if_eq C 22 dX3_barOf_15 (by decide) (fun c => absurd c (by decide)) (fun _ => ?_)
    refine gs_X3_190 C dX3_barOf_18 ?_
    exact rr_areturn C dX3_barOf_21 (by first | exact Or.inl ⟨_, rfl⟩ | exact Or.inr ⟨_, rfl⟩) ⟨_, rfl, fun c => absurd c (by decide), cy_MT.of hF0 e2 rfl⟩
  | true =>
    obtain ⟨j, hj, rfl⟩ := cy_ix_t (by omega) hix
    have kj := kn_nI (show j < 2 ^ 31 by omega)
    rw [kj]
    refine cy_in (own := RX3) (lv0 := [some (.ref (A 0)), some (.int (nI j))]) (by decide) rfl rfl rfl (Nat.le_of_ble_eq_true rfl) (fun K T C => ?_)
    refine rr_aload_n C 0 dX3_barOf_0 rfl rfl ?_
    refine rr_iconst C 0 dX3_barOf_1 (by decide) ?_
    refine pf_X3_79 C dX3_barOf_2 hM.obj ?_
    refine kG (P := fun h1 => cy_Mo G A (u2 M 0 0 0) st h1 ∧ cy_FrA A h h1) ⟨hM.thr 0, cy_FrA.up cy_own.obj⟩ (fun h1 e1 => ?_)
    obtain ⟨hM0, hF0⟩ := e1
    have hR0 := hR.thr 0
    have h00 : u2 M 0 0 0 0 0 = 0 := u2_eq
    refine rr_aload_n C 0 dX3_barOf_5 rfl rfl ?_
    refine rr_aload_n C 0 dX3_barOf_6 rfl rfl ?_
    refine rr_iload_n C 1 dX3_barOf_7 rfl rfl ?_
    refine cv_X3_162 C dX3_barOf_8 (ct_X3_noContainer hM0 (n := J 0 3) (by omega) hR0.nC) (Or.inl hM0.obj) (kVr ?_)
    rw [hix]
    refine rr_iconst C 1 dX3_barOf_11 (by decide) ?_
    refine cv_X3_109 C dX3_barOf_12 (ct_X3_failsF hM0 h00 (by decide)) (Or.inl hM0.obj) (kVr ?_)
    refine rr_if_eq C 22 dX3_barOf_15 (by decide) (fun _ => ?_) (fun c => absurd rfl c)
    refine rr_aload_n C 0 dX3_barOf_22 rfl rfl ?_
    refine rr_iconst C 0 dX3_barOf_23 (by decide) ?_
    refine cv_X3_193 C dX3_barOf_24 (ct_X3_takeRoom hM0 hR0 hr hok (b := false) (I 6) (I 7) hfr) (Or.inl hM0.obj) (kN (fun h2 e2 => ?_))
    obtain ⟨M2, hM2, hF2, hrest, hl⟩ := e2
    have hR2 := hR0.cong (fun r _ a b => hrest r a b)
    have hMT : cy_MT G A M st h 0 h2 := ⟨M2, ⟨hM2, hF0.tr hF2⟩, by rw [hrest 0 (by decide) (by decide), u2_eq]; rfl, fun r a b c => by rw [hrest r b c, u2_row a]⟩
    refine rr_aload_n C 0 dX3_barOf_27 rfl rfl ?_
    refine gf_X3_54 C dX3_barOf_28 (Or.inl hM2.obj) ?_
    refine rr_iload_n C 1 dX3_barOf_31 rfl rfl ?_
    refine rr_cald C j dX3_barOf_32 (Or.inl (hM2.row rfl)) rfl (by omega) (by decide) ?_
    rw [hR2.sta j hj]
    refine rr_bipush C 115 dX3_barOf_33 (by decide) ?_
    refine rr_icmp_ne C 44 dX3_barOf_35 (by decide) (fun c35 => ?_) (fun c35 => ?_)
    · refine rr_aload_n C 0 dX3_barOf_44 rfl rfl ?_
      refine gf_X3_54 C dX3_barOf_45 (Or.inl hM2.obj) ?_
      refine rr_iload_n C 1 dX3_barOf_48 rfl rfl ?_
      refine rr_cald C j dX3_barOf_49 (Or.inl (hM2.row rfl)) rfl (by omega) (by decide) ?_
      rw [hR2.sta j hj]
      refine rr_bipush C 119 dX3_barOf_50 (by decide) ?_
      refine rr_icmp_ne C 68 dX3_barOf_52 (by decide) (fun c52 => ?_) (fun c52 => ?_)
      · refine gs_X3_190 C dX3_barOf_68 ?_
        exact rr_areturn C dX3_barOf_71 (by first | exact Or.inl ⟨_, rfl⟩ | exact Or.inr ⟨_, rfl⟩) ⟨_, rfl, fun _ => by rw [cy_bo, if_neg (fun z => c35 (cy_chr_s.mpr z)), if_neg (fun z => c52 (cy_chr_w.mpr z))], hMT⟩
      · refine rr_aload_n C 0 dX3_barOf_55 rfl rfl ?_
        refine rr_iload_n C 1 dX3_barOf_56 rfl rfl ?_
        refine rr_aload_n C 0 dX3_barOf_57 rfl rfl ?_
        refine rr_iconst C (-1) dX3_barOf_58 (by decide) ?_
        refine cv_X3_144 C dX3_barOf_59 (ct_X3_coresIn hM2 hR2 hr (cy_run1 J) cy_all_c) (Or.inl hM2.obj) (kVr ?_)
        refine cv_X3_197 C dX3_barOf_62 (ct_X3_barWith hM2 hR2 hr hj) (Or.inl hM2.obj) (kVr ?_)
        refine rr_goto C 71 dX3_barOf_65 (by decide) ?_
        exact rr_areturn C dX3_barOf_71 (by first | exact Or.inl ⟨_, rfl⟩ | exact Or.inr ⟨_, rfl⟩) ⟨_, rfl, fun _ => by rw [cy_bo, if_neg (fun z => c35 (cy_chr_s.mpr z)), if_pos (cy_chr_w.mp c52), ← htk, cy_bar_congr hl], hMT⟩
    · refine gs_X3_217 C dX3_barOf_38 ?_
      refine rr_goto C 71 dX3_barOf_41 (by decide) ?_
      exact rr_areturn C dX3_barOf_71 (by first | exact Or.inl ⟨_, rfl⟩ | exact Or.inr ⟨_, rfl⟩) ⟨_, rfl, fun _ => by rw [cy_bo, if_pos (cy_chr_s.mp c35)], hMT⟩
theorem ct_X3_isOpen (hM : cy_Mo G A M st h) (hR : cy_Rl I J M) (hr : cy_Yr G J) {t x : Int32} : cy_Con G yX3_isOpen cX3_isOpen 3 (some .boolean) 5 0 [.ref (A 0), .int t, .int x] h (qMi (cd1 (cy_bt t 0 3 && cy_bt x 0 999)) (bI (cy_hop I J t x)) (cy_MT G A M st h (cd1 (cy_bt t 0 3 && cy_bt x 0 999)))) xF := by
  have r0 := hr.2.1
  have k1 : ∀ K T, cy_M G RX3 cX3_isOpen 3 (some .boolean) 5 0 (yX3_isOpen.name == "<init>") [] (cy_Fin G 0 (qMi (cd1 (cy_bt t 0 3 && cy_bt x 0 999)) (bI (cy_hop I J t x)) (cy_MT G A M st h (cd1 (cy_bt t 0 3 && cy_bt x 0 999)))) xF) K T → ∀ h1, cy_Mo G A (u2 M 0 0 0) st h1 → cy_FrA A h h1 → ∀ b : Bool, (!(cy_bt t 0 3 && cy_bt x 0 999)) = b → K 0 h1 31 [some (.ref (A 0)), some (.int t), some (.int x)] [.int (bI b), .ref (A 0)] := by
    intro K T C h1 hM0 hF0 b hb
    have hR0 := hR.thr 0
    have h00 : u2 M 0 0 0 0 0 = 0 := u2_eq
    cases b with
    | true =>
      have hb2 : (cy_bt t 0 3 && cy_bt x 0 999) = false := by rw [← Bool.not_not (cy_bt t 0 3 && cy_bt x 0 999), hb]; rfl
      rw [hb2] at C
      refine rr_iconst C 1 dX3_isOpen_31 (by decide) ?_
      refine cv_X3_109 C dX3_isOpen_32 (ct_X3_failsT hM0 h00 (by decide)) (Or.inl hM0.obj) (kV (fun h2 e2 => ?_))
      refine rr_if_ne C 51 dX3_isOpen_35 (by decide) (fun _ => ?_) (fun c => absurd c (by decide))
      refine rr_iconst C 0 dX3_isOpen_51 (by decide) ?_
      exact rr_zreturn C dX3_isOpen_52 rfl ⟨0, rfl, fun c => absurd c (by decide), cy_MT.of hF0 e2 rfl⟩
    | false =>
      have hb2 : (cy_bt t 0 3 && cy_bt x 0 999) = true := by rw [← Bool.not_not (cy_bt t 0 3 && cy_bt x 0 999), hb]; rfl
      rw [hb2] at C
      refine rr_iconst C 1 dX3_isOpen_31 (by decide) ?_
      refine cv_X3_109 C dX3_isOpen_32 (ct_X3_failsF hM0 h00 (by decide)) (Or.inl hM0.obj) (kVr ?_)
      refine rr_if_ne C 51 dX3_isOpen_35 (by decide) (fun c => absurd rfl c) (fun _ => ?_)
      refine rr_aload_n C 0 dX3_isOpen_38 rfl rfl ?_
      refine rr_iload_n C 1 dX3_isOpen_39 rfl rfl ?_
      refine rr_iload_n C 2 dX3_isOpen_40 rfl rfl ?_
      refine cv_X3_207 C dX3_isOpen_41 (ct_X3_isOpenAt hM0 hR0 hr) (Or.inl hM0.obj) (kVr ?_)
      refine rr_if_eq C 51 dX3_isOpen_44 (by decide) (fun c44 => ?_) (fun c44 => ?_)
      · refine rr_iconst C 0 dX3_isOpen_51 (by decide) ?_
        exact rr_zreturn C dX3_isOpen_52 rfl ⟨0, rfl, fun _ => by rw [bI_eq0 c44]; rfl, cy_MT.z hF0 hM0⟩
      · refine rr_iconst C 1 dX3_isOpen_47 (by decide) ?_
        refine rr_goto C 52 dX3_isOpen_48 (by decide) ?_
        exact rr_zreturn C dX3_isOpen_52 rfl ⟨1, rfl, fun _ => by rw [bI_ne0 c44]; rfl, cy_MT.z hF0 hM0⟩
  refine cy_in (own := RX3) (lv0 := [some (.ref (A 0)), some (.int t), some (.int x)]) (by decide) rfl rfl rfl (Nat.le_of_ble_eq_true rfl) (fun K T C => ?_)
  refine rr_aload_n C 0 dX3_isOpen_0 rfl rfl ?_
  refine rr_iconst C 0 dX3_isOpen_1 (by decide) ?_
  refine pf_X3_79 C dX3_isOpen_2 hM.obj ?_
  refine kG (P := fun h1 => cy_Mo G A (u2 M 0 0 0) st h1 ∧ cy_FrA A h h1) ⟨hM.thr 0, cy_FrA.up cy_own.obj⟩ (fun h1 e1 => ?_)
  obtain ⟨hM0, hF0⟩ := e1
  have hR0 := hR.thr 0
  have h00 : u2 M 0 0 0 0 0 = 0 := u2_eq
  refine rr_aload_n C 0 dX3_isOpen_5 rfl rfl ?_
  refine rr_iload_n C 1 dX3_isOpen_6 rfl rfl ?_
  refine rr_iconst C 0 dX3_isOpen_7 (by decide) ?_
  refine rr_iconst C 3 dX3_isOpen_8 (by decide) ?_
  refine cs_X3_85 C dX3_isOpen_9 ct_X3_in (kVr ?_)
  refine rr_if_eq C 26 dX3_isOpen_12 (by decide) (fun c12 => ?_) (fun c12 => ?_)
  · refine rr_iconst C 1 dX3_isOpen_26 (by decide) ?_
    refine rr_goto C 31 dX3_isOpen_27 (by decide) ?_
    exact k1 K T C h1 hM0 hF0 true (by rw [bI_eq0 c12]; rfl)
  · refine rr_iload_n C 2 dX3_isOpen_15 rfl rfl ?_
    refine rr_iconst C 0 dX3_isOpen_16 (by decide) ?_
    refine rr_sipush C 999 dX3_isOpen_17 (by decide) ?_
    refine cs_X3_85 C dX3_isOpen_20 ct_X3_in (kVr ?_)
    refine rr_if_ne C 30 dX3_isOpen_23 (by decide) (fun c23 => ?_) (fun c23 => ?_)
    · refine rr_iconst C 0 dX3_isOpen_30 (by decide) ?_
      exact k1 K T C h1 hM0 hF0 false (by rw [bI_ne0 c12, bI_ne0 c23]; rfl)
    · refine rr_iconst C 1 dX3_isOpen_26 (by decide) ?_
      refine rr_goto C 31 dX3_isOpen_27 (by decide) ?_
      exact k1 K T C h1 hM0 hF0 true (by rw [bI_eq0 c23, Bool.and_false]; rfl)
theorem ct_X3_nextOpen (hM : cy_Mo G A M st h) (hR : cy_Rl I J M) (hr : cy_Yr G J) {t : Int32} {H : Nat} (hH : H ≤ 999) (hh : I 1 0 = nI H) : cy_Con G yX3_nextOpen cX3_nextOpen 3 (some .int) 5 0 [.ref (A 0), .int t] h (qMi (cd2 (cy_bt t 0 3) (decide (cy_fst (fun x => cy_hop I J t (nI x)) (H + 1) 24 < H + 25))) (nI (cy_fst (fun x => cy_hop I J t (nI x)) (H + 1) 24)) (cy_MT G A M st h (cd2 (cy_bt t 0 3) (decide (cy_fst (fun x => cy_hop I J t (nI x)) (H + 1) 24 < H + 25))))) xF := by
  have r0 := hr.2.1
  cases hbt : cy_bt t 0 3 with
  | false =>
    refine cy_in (own := RX3) (lv0 := [some (.ref (A 0)), some (.int t), none]) (by decide) rfl rfl rfl (Nat.le_of_ble_eq_true rfl) (fun K T C => ?_)
    refine rr_aload_n C 0 dX3_nextOpen_0 rfl rfl ?_
    refine rr_iconst C 0 dX3_nextOpen_1 (by decide) ?_
    refine pf_X3_79 C dX3_nextOpen_2 hM.obj ?_
    refine kG (P := fun h1 => cy_Mo G A (u2 M 0 0 0) st h1 ∧ cy_FrA A h h1) ⟨hM.thr 0, cy_FrA.up cy_own.obj⟩ (fun h1 e1 => ?_)
    obtain ⟨hM0, hF0⟩ := e1
    have hR0 := hR.thr 0
    have h00 : u2 M 0 0 0 0 0 = 0 := u2_eq
    refine rr_aload_n C 0 dX3_nextOpen_5 rfl rfl ?_
    refine rr_iload_n C 1 dX3_nextOpen_6 rfl rfl ?_
    refine rr_iconst C 0 dX3_nextOpen_7 (by decide) ?_
    refine rr_iconst C 3 dX3_nextOpen_8 (by decide) ?_
    refine cs_X3_85 C dX3_nextOpen_9 ct_X3_in (kVr ?_)
    rw [hbt]
    refine rr_if_ne C 19 dX3_nextOpen_12 (by decide) (fun c => absurd rfl c) (fun _ => ?_)
    refine rr_iconst C 1 dX3_nextOpen_15 (by decide) ?_
    refine rr_goto C 20 dX3_nextOpen_16 (by decide) ?_
    refine rr_iconst C 1 dX3_nextOpen_20 (by decide) ?_
    refine cv_X3_109 C dX3_nextOpen_21 (ct_X3_failsT hM0 h00 (by decide)) (Or.inl hM0.obj) (kV (fun h2 e2 => ?_))
    refine rr_if_eq C 29 dX3_nextOpen_24 (by decide) (fun c => absurd c (by decide)) (fun _ => ?_)
    refine rr_iconst C 0 dX3_nextOpen_27 (by decide) ?_
    exact rr_ireturn C dX3_nextOpen_28 ⟨0, rfl, fun c => absurd c Nat.one_ne_zero, cy_MT.of hF0 e2 rfl⟩
  | true =>
    refine cy_in (own := RX3) (lv0 := [some (.ref (A 0)), some (.int t), none]) (by decide) rfl rfl rfl (Nat.le_of_ble_eq_true rfl) (fun K T C => ?_)
    refine rr_aload_n C 0 dX3_nextOpen_0 rfl rfl ?_
    refine rr_iconst C 0 dX3_nextOpen_1 (by decide) ?_
    refine pf_X3_79 C dX3_nextOpen_2 hM.obj ?_
    refine kG (P := fun h1 => cy_Mo G A (u2 M 0 0 0) st h1 ∧ cy_FrA A h h1) ⟨hM.thr 0, cy_FrA.up cy_own.obj⟩ (fun h1 e1 => ?_)
    obtain ⟨hM0, hF0⟩ := e1
    have hR0 := hR.thr 0
    have h00 : u2 M 0 0 0 0 0 = 0 := u2_eq
    have hour : u2 M 0 0 0 1 0 = nI H := hR0.hour.trans hh
    refine rr_aload_n C 0 dX3_nextOpen_5 rfl rfl ?_
    refine rr_iload_n C 1 dX3_nextOpen_6 rfl rfl ?_
    refine rr_iconst C 0 dX3_nextOpen_7 (by decide) ?_
    refine rr_iconst C 3 dX3_nextOpen_8 (by decide) ?_
    refine cs_X3_85 C dX3_nextOpen_9 ct_X3_in (kVr ?_)
    rw [hbt]
    refine rr_if_ne C 19 dX3_nextOpen_12 (by decide) (fun _ => ?_) (fun c => absurd c (by decide))
    refine rr_iconst C 0 dX3_nextOpen_19 (by decide) ?_
    refine rr_iconst C 1 dX3_nextOpen_20 (by decide) ?_
    refine cv_X3_109 C dX3_nextOpen_21 (ct_X3_failsF hM0 h00 (by decide)) (Or.inl hM0.obj) (kVr ?_)
    refine rr_if_eq C 29 dX3_nextOpen_24 (by decide) (fun _ => ?_) (fun c => absurd rfl c)
    refine rr_aload_n C 0 dX3_nextOpen_29 rfl rfl ?_
    refine gf_X3_98 C dX3_nextOpen_30 (Or.inl hM0.obj) ?_
    rw [hour]
    refine rr_iconst C 1 dX3_nextOpen_33 (by decide) ?_
    refine rr_iadd C dX3_nextOpen_34 ?_
    rw [nI_1]
    refine rr_istore_n C 2 dX3_nextOpen_35 rfl (Nat.le_of_ble_eq_true rfl) rfl (Nat.le_of_ble_eq_true rfl) ?_
    have e24 : nI H + 24 = nI (H + 24) := nI_add H 24
    have loop : ∀ (d k : Nat), k + d = H + 25 → H + 1 ≤ k → cy_fst (fun x => cy_hop I J t (nI x)) k d = cy_fst (fun x => cy_hop I J t (nI x)) (H + 1) 24 → K 0 h1 36 [some (.ref (A 0)), some (.int t), some (.int (nI k))] [] := by
      intro d
      induction d with
      | zero =>
        intro k hk hk1 he
        have hkn : k = H + 25 := by omega
        subst hkn
        refine rr_iload_n C 2 dX3_nextOpen_36 rfl rfl ?_
        refine rr_aload_n C 0 dX3_nextOpen_37 rfl rfl ?_
        refine gf_X3_98 C dX3_nextOpen_38 (Or.inl hM0.obj) ?_
        rw [hour]
        refine rr_bipush C 24 dX3_nextOpen_41 (by decide) ?_
        refine rr_iadd C dX3_nextOpen_43 ?_
        rw [e24]
        refine rr_icmp_gt C 64 dX3_nextOpen_44 (by decide) (fun _ => ?_) (fun c => absurd (nI_lt (show H + 24 < H + 25 by omega) (by omega)) c)
        refine rr_aload_n C 0 dX3_nextOpen_64 rfl rfl ?_
        refine rr_iconst C 1 dX3_nextOpen_65 (by decide) ?_
        refine rr_iconst C 2 dX3_nextOpen_66 (by decide) ?_
        refine cv_X3_109 C dX3_nextOpen_67 (ct_X3_failsT hM0 h00 (by decide)) (Or.inl hM0.obj) (kV (fun h2 e2 => ?_))
        refine rr_pop C dX3_nextOpen_70 rfl ?_
        refine rr_iconst C 0 dX3_nextOpen_71 (by decide) ?_
        have hc : decide (cy_fst (fun x => cy_hop I J t (nI x)) (H + 1) 24 < H + 25) = false := decide_eq_false (by rw [← he]; exact Nat.lt_irrefl _)
        exact rr_ireturn C dX3_nextOpen_72 ⟨0, rfl, fun c => absurd (show cd2 true false = 0 by rw [hc] at c; exact c) (by decide), by rw [hc]; exact cy_MT.of hF0 e2 rfl⟩
      | succ d ih =>
        intro k hk hk1 he
        refine rr_iload_n C 2 dX3_nextOpen_36 rfl rfl ?_
        refine rr_aload_n C 0 dX3_nextOpen_37 rfl rfl ?_
        refine gf_X3_98 C dX3_nextOpen_38 (Or.inl hM0.obj) ?_
        rw [hour]
        refine rr_bipush C 24 dX3_nextOpen_41 (by decide) ?_
        refine rr_iadd C dX3_nextOpen_43 ?_
        rw [e24]
        refine rr_icmp_gt C 64 dX3_nextOpen_44 (by decide) (fun c => absurd c (nI_nlt (by omega) (by omega))) (fun _ => ?_)
        refine rr_aload_n C 0 dX3_nextOpen_47 rfl rfl ?_
        refine rr_iload_n C 1 dX3_nextOpen_48 rfl rfl ?_
        refine rr_iload_n C 2 dX3_nextOpen_49 rfl rfl ?_
        refine cv_X3_207 C dX3_nextOpen_50 (ct_X3_isOpenAt hM0 hR0 hr) (Or.inl hM0.obj) (kVr ?_)
        refine rr_if_eq C 58 dX3_nextOpen_53 (by decide) (fun c53 => ?_) (fun c53 => ?_)
        · have c53 := bI_eq0 c53
          refine rr_iinc C (nI (k + 1)) dX3_nextOpen_58 rfl (nI_1 k) (Nat.le_of_ble_eq_true rfl) rfl (Nat.le_of_ble_eq_true rfl) ?_
          refine rr_goto C 36 dX3_nextOpen_61 (by decide) ?_
          refine ih (k + 1) (by omega) (by omega) ?_
          rw [← he, cy_fst, if_neg (by rw [c53]; decide)]
        · have hk' : cy_fst (fun x => cy_hop I J t (nI x)) k (d + 1) = k := by rw [cy_fst, if_pos (bI_ne0 c53)]
          have hc : decide (cy_fst (fun x => cy_hop I J t (nI x)) (H + 1) 24 < H + 25) = true := decide_eq_true (by rw [← he, hk']; omega)
          refine rr_iload_n C 2 dX3_nextOpen_56 rfl rfl ?_
          exact rr_ireturn C dX3_nextOpen_57 ⟨_, rfl, fun _ => by rw [← he, hk'], by rw [hc]; exact cy_MT.z hF0 hM0⟩
    exact loop 24 (H + 1) (by omega) (Nat.le_refl _) rfl
theorem ct_X3_runningShare (hM : cy_Mo G A M st h) (hR : cy_Rl I J M) (hr : cy_Yr G J) : cy_Con G yX3_runningShare cX3_runningShare 2 (some .float) 5 0 [.ref (A 0)] h (qMf (cd1 (!decide (J 0 3 - cy_ct J 3 = 0))) (cy_rs (cy_ct J 1) (J 0 3 - cy_ct J 3)) (cy_MT G A M st h (cd1 (!decide (J 0 3 - cy_ct J 3 = 0))))) xF := by
  have r0 := hr.2.1
  have h1' := cy_ct_le J 1
  have h3' := cy_ct_le J 3
  refine cy_in (own := RX3) (lv0 := [some (.ref (A 0)), none]) (by decide) rfl rfl rfl (Nat.le_of_ble_eq_true rfl) (fun K T C => ?_)
  refine rr_aload_n C 0 dX3_runningShare_0 rfl rfl ?_
  refine rr_iconst C 0 dX3_runningShare_1 (by decide) ?_
  refine pf_X3_79 C dX3_runningShare_2 hM.obj ?_
  refine kG (P := fun h1 => cy_Mo G A (u2 M 0 0 0) st h1 ∧ cy_FrA A h h1) ⟨hM.thr 0, cy_FrA.up cy_own.obj⟩ (fun h1 e1 => ?_)
  obtain ⟨hM0, hF0⟩ := e1
  have hR0 := hR.thr 0
  have h00 : u2 M 0 0 0 0 0 = 0 := u2_eq
  refine rr_aload_n C 0 dX3_runningShare_5 rfl rfl ?_
  refine gf_X3_95 C dX3_runningShare_6 (Or.inl hM0.obj) ?_
  rw [hR0.nC]
  refine rr_aload_n C 0 dX3_runningShare_9 rfl rfl ?_
  refine rr_bipush C 120 dX3_runningShare_10 (by decide) ?_
  refine cv_X3_242 C dX3_runningShare_12 (ct_X3_count hM0 hR0 hr (x := 120) (t := 3) (fun i hi => cy_chr_x (hr.2.2.2 i hi).2.1)) (Or.inl hM0.obj) (kVr ?_)
  refine rr_isub C dX3_runningShare_15 ?_
  rw [nI_sub h3']
  refine rr_istore_n C 1 dX3_runningShare_16 rfl (Nat.le_of_ble_eq_true rfl) rfl (Nat.le_of_ble_eq_true rfl) ?_
  refine rr_aload_n C 0 dX3_runningShare_17 rfl rfl ?_
  refine rr_iload_n C 1 dX3_runningShare_18 rfl rfl ?_
  refine rr_if_ne C 26 dX3_runningShare_19 (by decide) (fun c19 => ?_) (fun c19 => ?_)
  · have hne : ¬ J 0 3 - cy_ct J 3 = 0 := fun z => c19 (by rw [z]; rfl)
    have hc : (!decide (J 0 3 - cy_ct J 3 = 0)) = true := by rw [decide_eq_false hne]; rfl
    refine rr_iconst C 0 dX3_runningShare_26 (by decide) ?_
    refine rr_iconst C 1 dX3_runningShare_27 (by decide) ?_
    refine cv_X3_109 C dX3_runningShare_28 (ct_X3_failsF hM0 h00 (by decide)) (Or.inl hM0.obj) (kVr ?_)
    refine rr_if_eq C 38 dX3_runningShare_31 (by decide) (fun _ => ?_) (fun c => absurd rfl c)
    refine rr_aload_n C 0 dX3_runningShare_38 rfl rfl ?_
    refine rr_bipush C 114 dX3_runningShare_39 (by decide) ?_
    refine cv_X3_242 C dX3_runningShare_41 (ct_X3_count hM0 hR0 hr (x := 114) (t := 1) (fun i hi => cy_chr_r)) (Or.inl hM0.obj) (kVr ?_)
    refine rr_i2f C dX3_runningShare_44 ?_
    refine rr_iload_n C 1 dX3_runningShare_45 rfl rfl ?_
    refine rr_i2f C dX3_runningShare_46 ?_
    refine rr_fdiv C dX3_runningShare_47 (cy_rs_n (cy_ct J 1) (by omega) (J 0 3 - cy_ct J 3) (by omega) hne) ?_
    exact rr_freturn C dX3_runningShare_48 ⟨_, rfl, fun _ => rfl, by rw [hc]; exact cy_MT.z hF0 hM0⟩
  · have he : J 0 3 - cy_ct J 3 = 0 := (nI_eq (b := 0) (by omega) (by omega)).mp c19
    have hc : (!decide (J 0 3 - cy_ct J 3 = 0)) = false := by rw [decide_eq_true he]; rfl
    refine rr_iconst C 1 dX3_runningShare_22 (by decide) ?_
    refine rr_goto C 27 dX3_runningShare_23 (by decide) ?_
    refine rr_iconst C 1 dX3_runningShare_27 (by decide) ?_
    refine cv_X3_109 C dX3_runningShare_28 (ct_X3_failsT hM0 h00 (by decide)) (Or.inl hM0.obj) (kV (fun h2 e2 => ?_))
    refine rr_if_eq C 38 dX3_runningShare_31 (by decide) (fun c => absurd c (by decide)) (fun _ => ?_)
    refine rr_fconst0 C dX3_runningShare_34 ?_
    refine rr_goto C 48 dX3_runningShare_35 (by decide) ?_
    exact rr_freturn C dX3_runningShare_48 ⟨0, rfl, fun c => absurd (show cd1 false = 0 by rw [hc] at c; exact c) (by decide), by rw [hc]; exact cy_MT.of hF0 e2 rfl⟩
theorem ct_X3_meanCores (hM : cy_Mo G A M st h) (hR : cy_Rl I J M) (hr : cy_Yr G J) {t : Nat} (ht : t < 193) (hI : cy_sm (cy_run1 J) (I 13) (J 0 3) = nI t) : cy_Con G yX3_meanCores cX3_meanCores 1 (some .double) 5 0 [.ref (A 0)] h (qMd (cd1 (!decide (cy_ct J 1 = 0))) (cy_mc t (cy_ct J 1)) (cy_MT G A M st h (cd1 (!decide (cy_ct J 1 = 0))))) xF := by
  have r0 := hr.2.1
  have h1' := cy_ct_le J 1
  refine cy_in (own := RX3) (lv0 := [some (.ref (A 0))]) (by decide) rfl rfl rfl (Nat.le_of_ble_eq_true rfl) (fun K T C => ?_)
  refine rr_aload_n C 0 dX3_meanCores_0 rfl rfl ?_
  refine rr_iconst C 0 dX3_meanCores_1 (by decide) ?_
  refine pf_X3_79 C dX3_meanCores_2 hM.obj ?_
  refine kG (P := fun h1 => cy_Mo G A (u2 M 0 0 0) st h1 ∧ cy_FrA A h h1) ⟨hM.thr 0, cy_FrA.up cy_own.obj⟩ (fun h1 e1 => ?_)
  obtain ⟨hM0, hF0⟩ := e1
  have hR0 := hR.thr 0
  have h00 : u2 M 0 0 0 0 0 = 0 := u2_eq
  refine rr_aload_n C 0 dX3_meanCores_5 rfl rfl ?_
  refine rr_aload_n C 0 dX3_meanCores_6 rfl rfl ?_
  refine rr_bipush C 114 dX3_meanCores_7 (by decide) ?_
  refine cv_X3_242 C dX3_meanCores_9 (ct_X3_count hM0 hR0 hr (x := 114) (t := 1) (fun i hi => cy_chr_r)) (Or.inl hM0.obj) (kVr ?_)
  refine rr_if_ne C 19 dX3_meanCores_12 (by decide) (fun c12 => ?_) (fun c12 => ?_)
  · have hne : ¬ cy_ct J 1 = 0 := fun z => c12 (by rw [z]; rfl)
    have hc : (!decide (cy_ct J 1 = 0)) = true := by rw [decide_eq_false hne]; rfl
    refine rr_iconst C 0 dX3_meanCores_19 (by decide) ?_
    refine rr_iconst C 1 dX3_meanCores_20 (by decide) ?_
    refine cv_X3_109 C dX3_meanCores_21 (ct_X3_failsF hM0 h00 (by decide)) (Or.inl hM0.obj) (kVr ?_)
    refine rr_if_eq C 31 dX3_meanCores_24 (by decide) (fun _ => ?_) (fun c => absurd rfl c)
    refine rr_aload_n C 0 dX3_meanCores_31 rfl rfl ?_
    refine rr_iconst C (-1) dX3_meanCores_32 (by decide) ?_
    refine cv_X3_144 C dX3_meanCores_33 (ct_X3_coresIn hM0 hR0 hr (cy_run1 J) cy_all_c) (Or.inl hM0.obj) (kVr ?_)
    rw [hI]
    refine rr_i2d C dX3_meanCores_36 ?_
    refine rr_aload_n C 0 dX3_meanCores_37 rfl rfl ?_
    refine rr_bipush C 114 dX3_meanCores_38 (by decide) ?_
    refine cv_X3_242 C dX3_meanCores_40 (ct_X3_count hM0 hR0 hr (x := 114) (t := 1) (fun i hi => cy_chr_r)) (Or.inl hM0.obj) (kVr ?_)
    refine rr_i2d C dX3_meanCores_43 ?_
    refine rr_ddiv C dX3_meanCores_44 (cy_mc_n t ht (cy_ct J 1) (by omega) hne) ?_
    exact rr_dreturn C dX3_meanCores_45 ⟨_, rfl, fun _ => rfl, by rw [hc]; exact cy_MT.z hF0 hM0⟩
  · have he : cy_ct J 1 = 0 := (nI_eq (b := 0) (by omega) (by omega)).mp c12
    have hc : (!decide (cy_ct J 1 = 0)) = false := by rw [decide_eq_true he]; rfl
    refine rr_iconst C 1 dX3_meanCores_15 (by decide) ?_
    refine rr_goto C 20 dX3_meanCores_16 (by decide) ?_
    refine rr_iconst C 1 dX3_meanCores_20 (by decide) ?_
    refine cv_X3_109 C dX3_meanCores_21 (ct_X3_failsT hM0 h00 (by decide)) (Or.inl hM0.obj) (kV (fun h2 e2 => ?_))
    refine rr_if_eq C 31 dX3_meanCores_24 (by decide) (fun c => absurd c (by decide)) (fun _ => ?_)
    refine rr_dconst0 C dX3_meanCores_27 ?_
    refine rr_goto C 45 dX3_meanCores_28 (by decide) ?_
    exact rr_dreturn C dX3_meanCores_45 ⟨0, rfl, fun c => absurd (show cd1 false = 0 by rw [hc] at c; exact c) (by decide), by rw [hc]; exact cy_MT.of hF0 e2 rfl⟩
end MQ2
