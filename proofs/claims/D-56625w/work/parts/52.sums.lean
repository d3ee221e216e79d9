/-! the model: sums, openings, room -/
set_option maxRecDepth 100000
section SUMS
variable {G : GT} {A : Nat → Nat} {M : Nat → Nat → Int32} {st : Int64} {h : Hp} {I : Nat → Nat → Int32} {J : Nat → Nat → Nat}
theorem ct_X3_isOpenAt (hM : cy_Mo G A M st h) (hR : cy_Rl I J M) (hr : cy_Yr G J) {t hr' : Int32} : cy_Con G yX3_isOpenAt cX3_isOpenAt 5 (some .boolean) 0 0 [.ref (A 0), .int t, .int hr'] h (qV (.int (bI (cy_hop I J t hr'))) (fun h1 => h1 = h)) xF := by
  have r0 := hr.2.1
  refine cy_in (own := RX3) (lv0 := [some (.ref (A 0)), some (.int t), some (.int hr'), none, none]) (by decide) rfl rfl rfl (Nat.le_of_ble_eq_true rfl) (fun K T C => ?_)
  have loop : ∀ (d k : Nat), k + d = J 0 2 → K 0 h 5 [some (.ref (A 0)), some (.int t), some (.int hr'), some (.int (bI (cy_any (fun k => cy_opn (I 8 k) (I 9 k) (I 11 k) t hr') k))), some (.int (nI k))] [] := by
    intro d
    induction d with
    | zero =>
      intro k hk
      have hkn : k = J 0 2 := by omega
      subst hkn
      refine rr_iload C dX3_isOpenAt_5 rfl ?_
      refine rr_aload_n C 0 dX3_isOpenAt_7 rfl rfl ?_
      refine gf_X3_141 C dX3_isOpenAt_8 (Or.inl hM.obj) ?_
      rw [hR.nW]
      refine rr_icmp_ge C 69 dX3_isOpenAt_11 (by decide) (fun _ => ?_) (fun c => absurd (nI_le (Nat.le_refl _) (by omega)) c)
      refine rr_iload_n C 3 dX3_isOpenAt_69 rfl rfl ?_
      exact rr_zreturn C dX3_isOpenAt_70 (by cases cy_any _ _ <;> rfl) ⟨rfl, rfl⟩
    | succ d ih =>
      intro k hk
      refine rr_iload C dX3_isOpenAt_5 rfl ?_
      refine rr_aload_n C 0 dX3_isOpenAt_7 rfl rfl ?_
      refine gf_X3_141 C dX3_isOpenAt_8 (Or.inl hM.obj) ?_
      rw [hR.nW]
      refine rr_icmp_ge C 69 dX3_isOpenAt_11 (by decide) (fun c => absurd c (nI_ge (by omega) (by omega))) (fun _ => ?_)
      have nx : ∀ b : Bool, cy_any (fun k => cy_opn (I 8 k) (I 9 k) (I 11 k) t hr') (k + 1) = b → K 0 h 62 [some (.ref (A 0)), some (.int t), some (.int hr'), some (.int (bI (cy_any (fun k => cy_opn (I 8 k) (I 9 k) (I 11 k) t hr') k))), some (.int (nI k))] [.int (bI b)] := by
        intro b hb
        subst hb
        refine rr_istore_n C 3 dX3_isOpenAt_62 rfl (Nat.le_of_ble_eq_true rfl) rfl (Nat.le_of_ble_eq_true rfl) ?_
        refine rr_iinc C (nI (k + 1)) dX3_isOpenAt_63 rfl (nI_1 k) (Nat.le_of_ble_eq_true rfl) rfl (Nat.le_of_ble_eq_true rfl) ?_
        refine rr_goto C 5 dX3_isOpenAt_66 (by decide) ?_
        exact ih (k + 1) (by omega)
      have ea : cy_any (fun k => cy_opn (I 8 k) (I 9 k) (I 11 k) t hr') (k + 1) = (cy_any (fun k => cy_opn (I 8 k) (I 9 k) (I 11 k) t hr') k || cy_opn (I 8 k) (I 9 k) (I 11 k) t hr') := by
        rfl
      refine rr_iload_n C 3 dX3_isOpenAt_14 rfl rfl ?_
      refine rr_if_ne C 57 dX3_isOpenAt_15 (by decide) (fun c15 => ?_) (fun c15 => ?_)
      · refine rr_iconst C 1 dX3_isOpenAt_57 (by decide) ?_
        refine rr_goto C 62 dX3_isOpenAt_58 (by decide) ?_
        exact nx true (by rw [ea, bI_ne0 c15]; rfl)
      · have hf := bI_eq0 c15
        rw [hf, Bool.false_or] at ea
        refine rr_aload_n C 0 dX3_isOpenAt_18 rfl rfl ?_
        refine gf_X3_35 C dX3_isOpenAt_19 (Or.inl hM.obj) ?_
        refine rr_iload C dX3_isOpenAt_22 rfl ?_
        refine rr_iald C k dX3_isOpenAt_24 (Or.inl (hM.row rfl)) rfl (by omega) (by decide) ?_
        rw [hR.w3 k (by omega)]
        refine rr_iload_n C 1 dX3_isOpenAt_25 rfl rfl ?_
        refine rr_icmp_ne C 61 dX3_isOpenAt_26 (by decide) (fun c26 => ?_) (fun c26 => ?_)
        · refine rr_iconst C 0 dX3_isOpenAt_61 (by decide) ?_
          exact nx false (by rw [ea, cy_opn, decide_eq_false c26]; rfl)
        · refine rr_iload_n C 2 dX3_isOpenAt_29 rfl rfl ?_
          refine rr_bipush C 24 dX3_isOpenAt_30 (by decide) ?_
          refine rr_irem C dX3_isOpenAt_32 (by decide) ?_
          refine rr_bipush C 24 dX3_isOpenAt_33 (by decide) ?_
          refine rr_iadd C dX3_isOpenAt_35 ?_
          refine rr_aload_n C 0 dX3_isOpenAt_36 rfl rfl ?_
          refine gf_X3_29 C dX3_isOpenAt_37 (Or.inl hM.obj) ?_
          refine rr_iload C dX3_isOpenAt_40 rfl ?_
          refine rr_iald C k dX3_isOpenAt_42 (Or.inl (hM.row rfl)) rfl (by omega) (by decide) ?_
          rw [hR.w1 k (by omega)]
          refine rr_isub C dX3_isOpenAt_43 ?_
          refine rr_bipush C 24 dX3_isOpenAt_44 (by decide) ?_
          refine rr_irem C dX3_isOpenAt_46 (by decide) ?_
          refine rr_aload_n C 0 dX3_isOpenAt_47 rfl rfl ?_
          refine gf_X3_32 C dX3_isOpenAt_48 (Or.inl hM.obj) ?_
          refine rr_iload C dX3_isOpenAt_51 rfl ?_
          refine rr_iald C k dX3_isOpenAt_53 (Or.inl (hM.row rfl)) rfl (by omega) (by decide) ?_
          rw [hR.w2 k (by omega)]
          have eo : cy_opn (I 8 k) (I 9 k) (I 11 k) t hr' = decide (hr' - hr' / 24 * 24 + 24 - I 8 k - (hr' - hr' / 24 * 24 + 24 - I 8 k) / 24 * 24 < I 9 k) := by
            rw [cy_opn, decide_eq_true c26, Bool.true_and]
            unfold cy_rem
            rw [show hr' - hr' / 24 * 24 - I 8 k + 24 = hr' - hr' / 24 * 24 + 24 - I 8 k by rw [Int32.sub_eq_add_neg, Int32.sub_eq_add_neg (hr' - hr' / 24 * 24 + 24), Int32.add_assoc, Int32.add_comm (-I 8 k), ← Int32.add_assoc]]
          refine rr_icmp_ge C 61 dX3_isOpenAt_54 (by decide) (fun c54 => ?_) (fun c54 => ?_)
          · refine rr_iconst C 0 dX3_isOpenAt_61 (by decide) ?_
            exact nx false (by rw [ea, eo, decide_eq_false (Int32.not_lt.mpr c54)])
          · refine rr_iconst C 1 dX3_isOpenAt_57 (by decide) ?_
            refine rr_goto C 62 dX3_isOpenAt_58 (by decide) ?_
            exact nx true (by rw [ea, eo, decide_eq_true (Int32.not_le.mp c54)])
  refine rr_iconst C 0 dX3_isOpenAt_0 (by decide) ?_
  refine rr_istore_n C 3 dX3_isOpenAt_1 rfl (Nat.le_of_ble_eq_true rfl) rfl (Nat.le_of_ble_eq_true rfl) ?_
  refine rr_iconst C 0 dX3_isOpenAt_2 (by decide) ?_
  refine rr_istore C dX3_isOpenAt_3 (Nat.le_of_ble_eq_true rfl) rfl (Nat.le_of_ble_eq_true rfl) ?_
  exact loop (J 0 2) 0 (by omega)
theorem ct_X3_coresIn (hM : cy_Mo G A M st h) (hR : cy_Rl I J M) (hr : cy_Yr G J) {x : Int32} (p : Nat → Bool) (hp : ∀ i, i < J 0 3 → p i = (decide (J 13 i = 1) && (decide (x = -1) || decide (M 22 i = x)))) : cy_Con G yX3_coresIn cX3_coresIn 4 (some .int) 0 0 [.ref (A 0), .int x] h (qV (.int (cy_sm p (I 13) (J 0 3))) (fun h1 => h1 = h)) xF := by
  have r0 := hr.2.1
  refine cy_in (own := RX3) (lv0 := [some (.ref (A 0)), some (.int x), none, none]) (by decide) rfl rfl rfl (Nat.le_of_ble_eq_true rfl) (fun K T C => ?_)
  have loop : ∀ (d k : Nat), k + d = J 0 3 → K 0 h 4 [some (.ref (A 0)), some (.int x), some (.int (cy_sm p (I 13) k)), some (.int (nI k))] [] := by
    intro d
    induction d with
    | zero =>
      intro k hk
      have hkn : k = J 0 3 := by omega
      subst hkn
      refine rr_iload_n C 3 dX3_coresIn_4 rfl rfl ?_
      refine rr_aload_n C 0 dX3_coresIn_5 rfl rfl ?_
      refine gf_X3_95 C dX3_coresIn_6 (Or.inl hM.obj) ?_
      rw [hR.nC]
      refine rr_icmp_ge C 57 dX3_coresIn_9 (by decide) (fun _ => ?_) (fun c => absurd (nI_le (Nat.le_refl _) (by omega)) c)
      refine rr_iload_n C 2 dX3_coresIn_57 rfl rfl ?_
      exact rr_ireturn C dX3_coresIn_58 ⟨rfl, rfl⟩
    | succ d ih =>
      intro k hk
      have hpk := hp k (by omega)
      refine rr_iload_n C 3 dX3_coresIn_4 rfl rfl ?_
      refine rr_aload_n C 0 dX3_coresIn_5 rfl rfl ?_
      refine gf_X3_95 C dX3_coresIn_6 (Or.inl hM.obj) ?_
      rw [hR.nC]
      refine rr_icmp_ge C 57 dX3_coresIn_9 (by decide) (fun c => absurd c (nI_ge (by omega) (by omega))) (fun _ => ?_)
      have nx : ∀ b : Bool, p k = b → K 0 h 49 [some (.ref (A 0)), some (.int x), some (.int (cy_sm p (I 13) k)), some (.int (nI k))] [.int (if b then I 13 k else 0), .int (cy_sm p (I 13) k)] := by
        intro b hb
        subst hb
        refine rr_iadd C dX3_coresIn_49 ?_
        refine rr_istore_n C 2 dX3_coresIn_50 rfl (Nat.le_of_ble_eq_true rfl) rfl (Nat.le_of_ble_eq_true rfl) ?_
        refine rr_iinc C (nI (k + 1)) dX3_coresIn_51 rfl (nI_1 k) (Nat.le_of_ble_eq_true rfl) rfl (Nat.le_of_ble_eq_true rfl) ?_
        refine rr_goto C 4 dX3_coresIn_54 (by decide) ?_
        exact ih (k + 1) (by omega)
      have k39 : p k = true → K 0 h 39 [some (.ref (A 0)), some (.int x), some (.int (cy_sm p (I 13) k)), some (.int (nI k))] [.int (cy_sm p (I 13) k)] := by
        intro hb
        refine rr_aload_n C 0 dX3_coresIn_39 rfl rfl ?_
        refine gf_X3_48 C dX3_coresIn_40 (Or.inl hM.obj) ?_
        refine rr_iload_n C 3 dX3_coresIn_43 rfl rfl ?_
        refine rr_iald C k dX3_coresIn_44 (Or.inl (hM.row rfl)) rfl (by omega) (by decide) ?_
        rw [hR.nc k (by omega)]
        refine rr_goto C 49 dX3_coresIn_45 (by decide) ?_
        exact nx true hb
      refine rr_iload_n C 2 dX3_coresIn_12 rfl rfl ?_
      refine rr_aload_n C 0 dX3_coresIn_13 rfl rfl ?_
      refine gf_X3_54 C dX3_coresIn_14 (Or.inl hM.obj) ?_
      refine rr_iload_n C 3 dX3_coresIn_17 rfl rfl ?_
      refine rr_cald C k dX3_coresIn_18 (Or.inl (hM.row rfl)) rfl (by omega) (by decide) ?_
      rw [hR.sta k (by omega)]
      refine rr_bipush C 114 dX3_coresIn_19 (by decide) ?_
      refine rr_icmp_ne C 48 dX3_coresIn_21 (by decide) (fun c21 => ?_) (fun c21 => ?_)
      · refine rr_iconst C 0 dX3_coresIn_48 (by decide) ?_
        exact nx false (by rw [hpk, decide_eq_false (fun z => c21 (cy_chr_r.mpr z))]; rfl)
      · have hrun := cy_chr_r.mp c21
        rw [decide_eq_true hrun, Bool.true_and] at hpk
        refine rr_iload_n C 1 dX3_coresIn_24 rfl rfl ?_
        refine rr_iconst C (-1) dX3_coresIn_25 (by decide) ?_
        refine rr_icmp_eq C 39 dX3_coresIn_26 (by decide) (fun c26 => ?_) (fun c26 => ?_)
        · exact k39 (by rw [hpk, decide_eq_true c26]; rfl)
        · rw [decide_eq_false c26, Bool.false_or] at hpk
          refine rr_aload_n C 0 dX3_coresIn_29 rfl rfl ?_
          refine gf_X3_58 C dX3_coresIn_30 (Or.inl hM.obj) ?_
          refine rr_iload_n C 3 dX3_coresIn_33 rfl rfl ?_
          refine rr_iald C k dX3_coresIn_34 (Or.inl (hM.row rfl)) rfl (by omega) (by decide) ?_
          refine rr_iload_n C 1 dX3_coresIn_35 rfl rfl ?_
          refine rr_icmp_ne C 48 dX3_coresIn_36 (by decide) (fun c36 => ?_) (fun c36 => ?_)
          · refine rr_iconst C 0 dX3_coresIn_48 (by decide) ?_
            exact nx false (by rw [hpk, decide_eq_false c36])
          · exact k39 (by rw [hpk, decide_eq_true c36])
  refine rr_iconst C 0 dX3_coresIn_0 (by decide) ?_
  refine rr_istore_n C 2 dX3_coresIn_1 rfl (Nat.le_of_ble_eq_true rfl) rfl (Nat.le_of_ble_eq_true rfl) ?_
  refine rr_iconst C 0 dX3_coresIn_2 (by decide) ?_
  refine rr_istore_n C 3 dX3_coresIn_3 rfl (Nat.le_of_ble_eq_true rfl) rfl (Nat.le_of_ble_eq_true rfl) ?_
  exact loop (J 0 3) 0 (by omega)
theorem ct_X3_memoryIn (hM : cy_Mo G A M st h) (hR : cy_Rl I J M) (hr : cy_Yr G J) {x : Int32} (p : Nat → Bool) (hp : ∀ i, i < J 0 3 → p i = (decide (J 13 i = 1) && decide (M 22 i = x))) : cy_Con G yX3_memoryIn cX3_memoryIn 4 (some .int) 0 0 [.ref (A 0), .int x] h (qV (.int (cy_sm p (I 14) (J 0 3))) (fun h1 => h1 = h)) xF := by
  have r0 := hr.2.1
  refine cy_in (own := RX3) (lv0 := [some (.ref (A 0)), some (.int x), none, none]) (by decide) rfl rfl rfl (Nat.le_of_ble_eq_true rfl) (fun K T C => ?_)
  have loop : ∀ (d k : Nat), k + d = J 0 3 → K 0 h 4 [some (.ref (A 0)), some (.int x), some (.int (cy_sm p (I 14) k)), some (.int (nI k))] [] := by
    intro d
    induction d with
    | zero =>
      intro k hk
      have hkn : k = J 0 3 := by omega
      subst hkn
      refine rr_iload_n C 3 dX3_memoryIn_4 rfl rfl ?_
      refine rr_aload_n C 0 dX3_memoryIn_5 rfl rfl ?_
      refine gf_X3_95 C dX3_memoryIn_6 (Or.inl hM.obj) ?_
      rw [hR.nC]
      refine rr_icmp_ge C 52 dX3_memoryIn_9 (by decide) (fun _ => ?_) (fun c => absurd (nI_le (Nat.le_refl _) (by omega)) c)
      refine rr_iload_n C 2 dX3_memoryIn_52 rfl rfl ?_
      exact rr_ireturn C dX3_memoryIn_53 ⟨rfl, rfl⟩
    | succ d ih =>
      intro k hk
      have hpk := hp k (by omega)
      refine rr_iload_n C 3 dX3_memoryIn_4 rfl rfl ?_
      refine rr_aload_n C 0 dX3_memoryIn_5 rfl rfl ?_
      refine gf_X3_95 C dX3_memoryIn_6 (Or.inl hM.obj) ?_
      rw [hR.nC]
      refine rr_icmp_ge C 52 dX3_memoryIn_9 (by decide) (fun c => absurd c (nI_ge (by omega) (by omega))) (fun _ => ?_)
      have nx : ∀ b : Bool, p k = b → K 0 h 44 [some (.ref (A 0)), some (.int x), some (.int (cy_sm p (I 14) k)), some (.int (nI k))] [.int (if b then I 14 k else 0), .int (cy_sm p (I 14) k)] := by
        intro b hb
        subst hb
        refine rr_iadd C dX3_memoryIn_44 ?_
        refine rr_istore_n C 2 dX3_memoryIn_45 rfl (Nat.le_of_ble_eq_true rfl) rfl (Nat.le_of_ble_eq_true rfl) ?_
        refine rr_iinc C (nI (k + 1)) dX3_memoryIn_46 rfl (nI_1 k) (Nat.le_of_ble_eq_true rfl) rfl (Nat.le_of_ble_eq_true rfl) ?_
        refine rr_goto C 4 dX3_memoryIn_49 (by decide) ?_
        exact ih (k + 1) (by omega)
      refine rr_iload_n C 2 dX3_memoryIn_12 rfl rfl ?_
      refine rr_aload_n C 0 dX3_memoryIn_13 rfl rfl ?_
      refine gf_X3_54 C dX3_memoryIn_14 (Or.inl hM.obj) ?_
      refine rr_iload_n C 3 dX3_memoryIn_17 rfl rfl ?_
      refine rr_cald C k dX3_memoryIn_18 (Or.inl (hM.row rfl)) rfl (by omega) (by decide) ?_
      rw [hR.sta k (by omega)]
      refine rr_bipush C 114 dX3_memoryIn_19 (by decide) ?_
      refine rr_icmp_ne C 43 dX3_memoryIn_21 (by decide) (fun c21 => ?_) (fun c21 => ?_)
      · refine rr_iconst C 0 dX3_memoryIn_43 (by decide) ?_
        exact nx false (by rw [hpk, decide_eq_false (fun z => c21 (cy_chr_r.mpr z))]; rfl)
      · have hrun := cy_chr_r.mp c21
        rw [decide_eq_true hrun, Bool.true_and] at hpk
        refine rr_aload_n C 0 dX3_memoryIn_24 rfl rfl ?_
        refine gf_X3_58 C dX3_memoryIn_25 (Or.inl hM.obj) ?_
        refine rr_iload_n C 3 dX3_memoryIn_28 rfl rfl ?_
        refine rr_iald C k dX3_memoryIn_29 (Or.inl (hM.row rfl)) rfl (by omega) (by decide) ?_
        refine rr_iload_n C 1 dX3_memoryIn_30 rfl rfl ?_
        refine rr_icmp_ne C 43 dX3_memoryIn_31 (by decide) (fun c31 => ?_) (fun c31 => ?_)
        · refine rr_iconst C 0 dX3_memoryIn_43 (by decide) ?_
          exact nx false (by rw [hpk, decide_eq_false c31])
        · refine rr_aload_n C 0 dX3_memoryIn_34 rfl rfl ?_
          refine gf_X3_51 C dX3_memoryIn_35 (Or.inl hM.obj) ?_
          refine rr_iload_n C 3 dX3_memoryIn_38 rfl rfl ?_
          refine rr_iald C k dX3_memoryIn_39 (Or.inl (hM.row rfl)) rfl (by omega) (by decide) ?_
          rw [hR.nm k (by omega)]
          refine rr_goto C 44 dX3_memoryIn_40 (by decide) ?_
          exact nx true (by rw [hpk, decide_eq_true c31])
  refine rr_iconst C 0 dX3_memoryIn_0 (by decide) ?_
  refine rr_istore_n C 2 dX3_memoryIn_1 rfl (Nat.le_of_ble_eq_true rfl) rfl (Nat.le_of_ble_eq_true rfl) ?_
  refine rr_iconst C 0 dX3_memoryIn_2 (by decide) ?_
  refine rr_istore_n C 3 dX3_memoryIn_3 rfl (Nat.le_of_ble_eq_true rfl) rfl (Nat.le_of_ble_eq_true rfl) ?_
  exact loop (J 0 3) 0 (by omega)
theorem ct_X3_count (hM : cy_Mo G A M st h) (hR : cy_Rl I J M) (hr : cy_Yr G J) {x : Int32} {t : Nat} (ht : ∀ i, i < J 0 3 → (cy_chr (J 13 i) = x ↔ J 13 i = t)) : cy_Con G yX3_count cX3_count 4 (some .int) 0 0 [.ref (A 0), .int x] h (qV (.int (nI (cy_ct J t))) (fun h1 => h1 = h)) xF := by
  have r0 := hr.2.1
  refine cy_in (own := RX3) (lv0 := [some (.ref (A 0)), some (.int x), none, none]) (by decide) rfl rfl rfl (Nat.le_of_ble_eq_true rfl) (fun K T C => ?_)
  have loop : ∀ (d k : Nat), k + d = J 0 3 → K 0 h 4 [some (.ref (A 0)), some (.int x), some (.int (nI (cy_cn (fun k => decide (J 13 k = t)) k))), some (.int (nI k))] [] := by
    intro d
    induction d with
    | zero =>
      intro k hk
      have hkn : k = J 0 3 := by omega
      subst hkn
      refine rr_iload_n C 3 dX3_count_4 rfl rfl ?_
      refine rr_aload_n C 0 dX3_count_5 rfl rfl ?_
      refine gf_X3_95 C dX3_count_6 (Or.inl hM.obj) ?_
      rw [hR.nC]
      refine rr_icmp_ge C 36 dX3_count_9 (by decide) (fun _ => ?_) (fun c => absurd (nI_le (Nat.le_refl _) (by omega)) c)
      refine rr_iload_n C 2 dX3_count_36 rfl rfl ?_
      exact rr_ireturn C dX3_count_37 ⟨rfl, rfl⟩
    | succ d ih =>
      intro k hk
      refine rr_iload_n C 3 dX3_count_4 rfl rfl ?_
      refine rr_aload_n C 0 dX3_count_5 rfl rfl ?_
      refine gf_X3_95 C dX3_count_6 (Or.inl hM.obj) ?_
      rw [hR.nC]
      refine rr_icmp_ge C 36 dX3_count_9 (by decide) (fun c => absurd c (nI_ge (by omega) (by omega))) (fun _ => ?_)
      have nx : ∀ b : Bool, decide (J 13 k = t) = b → K 0 h 28 [some (.ref (A 0)), some (.int x), some (.int (nI (cy_cn (fun k => decide (J 13 k = t)) k))), some (.int (nI k))] [.int (bI b), .int (nI (cy_cn (fun k => decide (J 13 k = t)) k))] := by
        intro b hb
        subst hb
        refine rr_iadd C dX3_count_28 ?_
        rw [nI_cn (p := fun k => decide (J 13 k = t))]
        refine rr_istore_n C 2 dX3_count_29 rfl (Nat.le_of_ble_eq_true rfl) rfl (Nat.le_of_ble_eq_true rfl) ?_
        refine rr_iinc C (nI (k + 1)) dX3_count_30 rfl (nI_1 k) (Nat.le_of_ble_eq_true rfl) rfl (Nat.le_of_ble_eq_true rfl) ?_
        refine rr_goto C 4 dX3_count_33 (by decide) ?_
        exact ih (k + 1) (by omega)
      refine rr_iload_n C 2 dX3_count_12 rfl rfl ?_
      refine rr_aload_n C 0 dX3_count_13 rfl rfl ?_
      refine gf_X3_54 C dX3_count_14 (Or.inl hM.obj) ?_
      refine rr_iload_n C 3 dX3_count_17 rfl rfl ?_
      refine rr_cald C k dX3_count_18 (Or.inl (hM.row rfl)) rfl (by omega) (by decide) ?_
      rw [hR.sta k (by omega)]
      refine rr_iload_n C 1 dX3_count_19 rfl rfl ?_
      refine rr_icmp_ne C 27 dX3_count_20 (by decide) (fun c20 => ?_) (fun c20 => ?_)
      · refine rr_iconst C 0 dX3_count_27 (by decide) ?_
        exact nx false (decide_eq_false (fun z => c20 ((ht k (by omega)).mpr z)))
      · refine rr_iconst C 1 dX3_count_23 (by decide) ?_
        refine rr_goto C 28 dX3_count_24 (by decide) ?_
        exact nx true (decide_eq_true ((ht k (by omega)).mp c20))
  refine rr_iconst C 0 dX3_count_0 (by decide) ?_
  refine rr_istore_n C 2 dX3_count_1 rfl (Nat.le_of_ble_eq_true rfl) rfl (Nat.le_of_ble_eq_true rfl) ?_
  refine rr_iconst C 0 dX3_count_2 (by decide) ?_
  refine rr_istore_n C 3 dX3_count_3 rfl (Nat.le_of_ble_eq_true rfl) rfl (Nat.le_of_ble_eq_true rfl) ?_
  exact loop (J 0 3) 0 (by omega)
theorem ct_X3_told {t : Nat} (ht : t < 4) : cy_Con G yX3_told cX3_told 1 (some (.object "State")) 0 0 [.int (cy_chr t)] h (qV (.ref (G.2.2.2.2 t)) (fun h1 => h1 = h)) xF := by
  refine cy_in (own := RX3) (lv0 := [some (.int (cy_chr t))]) (by decide) rfl rfl rfl (Nat.le_of_ble_eq_true rfl) (fun K T C => ?_)
  refine rr_iload_n C 0 dX3_told_0 rfl rfl ?_
  refine rr_bipush C 119 dX3_told_1 (by decide) ?_
  refine rr_icmp_ne C 12 dX3_told_3 (by decide) (fun c3 => ?_) (fun c3 => ?_)
  · refine rr_iload_n C 0 dX3_told_12 rfl rfl ?_
    refine rr_bipush C 114 dX3_told_13 (by decide) ?_
    refine rr_icmp_ne C 24 dX3_told_15 (by decide) (fun c15 => ?_) (fun c15 => ?_)
    · refine rr_iload_n C 0 dX3_told_24 rfl rfl ?_
      refine rr_bipush C 115 dX3_told_25 (by decide) ?_
      refine rr_icmp_ne C 36 dX3_told_27 (by decide) (fun c27 => ?_) (fun c27 => ?_)
      · refine gs_X3_159 C dX3_told_36 ?_
        have : t = 3 := by
          have a0 : ¬ t = 0 := fun z => c3 (cy_chr_w.mpr z)
          have a1 : ¬ t = 1 := fun z => c15 (cy_chr_r.mpr z)
          have a2 : ¬ t = 2 := fun z => c27 (cy_chr_s.mpr z)
          omega
        subst this
        exact rr_areturn C dX3_told_39 (by first | exact Or.inl ⟨_, rfl⟩ | exact Or.inr ⟨_, rfl⟩) ⟨rfl, rfl⟩
      · have := cy_chr_s.mp c27
        subst this
        refine gs_X3_156 C dX3_told_30 ?_
        refine rr_goto C 39 dX3_told_33 (by decide) ?_
        exact rr_areturn C dX3_told_39 (by first | exact Or.inl ⟨_, rfl⟩ | exact Or.inr ⟨_, rfl⟩) ⟨rfl, rfl⟩
    · have := cy_chr_r.mp c15
      subst this
      refine gs_X3_153 C dX3_told_18 ?_
      refine rr_goto C 39 dX3_told_21 (by decide) ?_
      exact rr_areturn C dX3_told_39 (by first | exact Or.inl ⟨_, rfl⟩ | exact Or.inr ⟨_, rfl⟩) ⟨rfl, rfl⟩
  · have := cy_chr_w.mp c3
    subst this
    refine gs_X3_147 C dX3_told_6 ?_
    refine rr_goto C 39 dX3_told_9 (by decide) ?_
    exact rr_areturn C dX3_told_39 (by first | exact Or.inl ⟨_, rfl⟩ | exact Or.inr ⟨_, rfl⟩) ⟨rfl, rfl⟩
end SUMS
