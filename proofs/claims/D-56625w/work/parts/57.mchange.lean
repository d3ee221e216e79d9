/-! the model: what is changed (printed by gen/mch.py) -/
set_option maxRecDepth 100000
section MCH
variable {G : GT} {A : Nat → Nat} {M : Nat → Nat → Int32} {st : Int64} {h : Hp} {I : Nat → Nat → Int32} {J : Nat → Nat → Nat}
theorem cy_Rl.lend (hR : cy_Rl I J M) (j : Nat) (t : Int32) : cy_Rl (u2 I 11 j t) J (u2 M 14 j t) := ⟨hR.hour, hR.nL, hR.nIm, hR.nH, hR.nW, hR.lic, hR.nC, hR.wd, hR.oa, hR.par, hR.ownl, hR.hc, hR.hm, hR.w1, hR.w2, by
        intro i hi
        show (if i = j then t else M 14 i) = (if i = j then t else I 11 i)
        by_cases e : i = j
        · rw [if_pos e, if_pos e]
        · rw [if_neg e, if_neg e]; exact hR.w3 i hi, hR.ten, hR.img, hR.nc, hR.nm, hR.sta, hR.host, hR.wi, hR.start, hR.unt, hR.row, hR.zL, hR.zC⟩
theorem cy_Rl.wdr (hR : cy_Rl I J M) {j : Nat} (hj : j < J 0 0) (o : Int32) : cy_Rl (u2 (u2 I 2 j 1) 3 j o) J (u2 (u2 M 3 j 1) 4 j o) := ⟨hR.hour, hR.nL, hR.nIm, hR.nH, hR.nW, hR.lic, hR.nC, by
        intro i hi
        show (if i = j then 1 else M 3 i) = (if i = j then 1 else I 2 i)
        by_cases e : i = j
        · rw [if_pos e, if_pos e]
        · rw [if_neg e, if_neg e]; exact hR.wd i hi, by
        intro i hi
        show (if i = j then o else M 4 i) = (if i = j then o else I 3 i)
        by_cases e : i = j
        · rw [if_pos e, if_pos e]
        · rw [if_neg e, if_neg e]; exact hR.oa i hi, hR.par, hR.ownl, hR.hc, hR.hm, hR.w1, hR.w2, hR.w3, hR.ten, hR.img, hR.nc, hR.nm, hR.sta, hR.host, hR.wi, hR.start, hR.unt, hR.row, by
        intro i hi
        show (if i = j then 1 else M 3 i) = 0 ∧ (if i = j then o else M 4 i) = 0
        rw [if_neg (by omega), if_neg (by omega)]
        exact hR.zL i hi, hR.zC⟩
theorem cy_Rl.bc (hR : cy_Rl I J M) {j t : Nat} (hj : j < J 0 3) (ht : t ≠ 1) : cy_Rl (bcI I J j) (bcJ J j t) (u2 M 21 j (cy_chr t)) := by
  by_cases hrun : J 13 j = 1
  · rw [bcI, bcJ, if_pos hrun, if_pos hrun]
    exact ⟨hR.hour, hR.nL, hR.nIm, hR.nH, hR.nW, hR.lic, hR.nC, hR.wd, hR.oa, hR.par, hR.ownl, hR.hc, hR.hm, hR.w1, hR.w2, hR.w3, hR.ten, hR.img, hR.nc, hR.nm, by
        intro i hi
        show (if i = j then cy_chr t else M 21 i) = cy_chr (if i = j then t else J 13 i)
        by_cases e : i = j
        · rw [if_pos e, if_pos e]
        · rw [if_neg e, if_neg e]; exact hR.sta i hi, by
        intro i hi
        show (if i = j then t else J 13 i) = 1 → M 22 i = nI ((if i = j then 0 else J 14 i) - 1)
        by_cases e : i = j
        · rw [if_pos e]; intro z; exact absurd z ht
        · rw [if_neg e, if_neg e]; exact hR.host i hi, hR.wi, hR.start, hR.unt, by
        intro i hi
        show M 26 i = (if (if i = j then t else J 13 i) = 1 then (if I 1 0 - I 16 i < 8 then (if i = j then cy_fl I j else I 17 i) else 0) else (if i = j then cy_fl I j else I 17 i))
        have h0 := hR.row i hi
        by_cases e : i = j
        · simp only [if_pos e]
          rw [if_neg ht, h0, cy_rw, e, if_pos hrun]
        · simp only [if_neg e]; exact h0, hR.zL, hR.zC⟩
  · rw [bcI, bcJ, if_neg hrun, if_neg hrun]
    exact ⟨hR.hour, hR.nL, hR.nIm, hR.nH, hR.nW, hR.lic, hR.nC, hR.wd, hR.oa, hR.par, hR.ownl, hR.hc, hR.hm, hR.w1, hR.w2, hR.w3, hR.ten, hR.img, hR.nc, hR.nm, by
        intro i hi
        show (if i = j then cy_chr t else M 21 i) = cy_chr (if i = j then t else J 13 i)
        by_cases e : i = j
        · rw [if_pos e, if_pos e]
        · rw [if_neg e, if_neg e]; exact hR.sta i hi, by
        intro i hi
        show (if i = j then t else J 13 i) = 1 → M 22 i = nI (J 14 i - 1)
        by_cases e : i = j
        · rw [if_pos e]; intro z; exact absurd z ht
        · rw [if_neg e]; exact hR.host i hi, hR.wi, hR.start, hR.unt, by
        intro i hi
        show M 26 i = (if (if i = j then t else J 13 i) = 1 then (if I 1 0 - I 16 i < 8 then I 17 i else 0) else I 17 i)
        have h0 := hR.row i hi
        by_cases e : i = j
        · simp only [if_pos e]
          rw [if_neg ht, h0, cy_rw, e, if_neg hrun]
        · simp only [if_neg e]; exact h0, hR.zL, hR.zC⟩
theorem ct_X3_lend (hM : cy_Mo G A M st h) (hR : cy_Rl I J M) (hr : cy_Yr G J) {k t : Int32} : cy_Con G yX3_lend cX3_lend 4 (some .int) 5 0 [.ref (A 0), .int k, .int t] h (qMi (cd2 (cy_ix k (J 0 2)) (cy_bt t 0 3)) (I 11 (kn k)) (fun h1 => if cd2 (cy_ix k (J 0 2)) (cy_bt t 0 3) = 0 then cy_MU G A st h (cy_Rl (u2 I 11 (kn k) t) J) h1 else cy_MT G A M st h (cd2 (cy_ix k (J 0 2)) (cy_bt t 0 3)) h1)) xF := by
  have r0 := hr.2.1
  obtain ⟨a, ha⟩ : ∃ a, a = cy_ix k (J 0 2) := ⟨_, rfl⟩
  obtain ⟨c, hc⟩ : ∃ c, c = cy_bt t 0 3 := ⟨_, rfl⟩
  rw [← ha, ← hc]
  refine cy_in (own := RX3) (lv0 := [some (.ref (A 0)), some (.int k), some (.int t), none]) (by decide) rfl rfl rfl (Nat.le_of_ble_eq_true rfl) (fun K T C => ?_)
  refine rr_aload_n C 0 dX3_lend_0 rfl rfl ?_
  refine rr_iconst C 0 dX3_lend_1 (by decide) ?_
  refine pf_X3_79 C dX3_lend_2 hM.obj ?_
  refine kG (P := fun h1 => cy_Mo G A (u2 M 0 0 0) st h1 ∧ cy_FrA A h h1) ⟨hM.thr 0, cy_FrA.up cy_own.obj⟩ (fun h1 e1 => ?_)
  obtain ⟨hM0, hF0⟩ := e1
  have hR0 := hR.thr 0
  have h00 : u2 M 0 0 0 0 0 = 0 := u2_eq
  have k54 : ∀ (x : Int32) (n : Nat) (h2 : Hp), x = nI n → cd2 a c = n → n ≠ 0 → cy_Mo G A (u2 (u2 M 0 0 0) 0 0 x) st h2 ∧ cy_FrA A h1 h2 → K 0 h2 54 [some (.ref (A 0)), some (.int k), some (.int t), none] [] := by
    intro x n h2 hx hn h0 e2
    rw [hn] at C
    refine rr_iconst C 0 dX3_lend_54 (by decide) ?_
    exact rr_ireturn C dX3_lend_55 ⟨0, rfl, fun z => absurd z h0, (if_neg h0).mpr (cy_MT.of hF0 e2 hx)⟩
  refine rr_aload_n C 0 dX3_lend_5 rfl rfl ?_
  refine rr_iload_n C 1 dX3_lend_6 rfl rfl ?_
  refine rr_iconst C 0 dX3_lend_7 (by decide) ?_
  refine rr_aload_n C 0 dX3_lend_8 rfl rfl ?_
  refine gf_X3_141 C dX3_lend_9 (Or.inl hM0.obj) ?_
  rw [hR0.nW]
  refine rr_iconst C 1 dX3_lend_12 (by decide) ?_
  refine rr_isub C dX3_lend_13 ?_
  refine cs_X3_85 C dX3_lend_14 ct_X3_in (kVr ?_)
  rw [cy_bt_ix (by omega), ← ha]
  cases a with
  | false =>
    refine rr_if_ne C 24 dX3_lend_17 (by decide) (fun c => absurd rfl c) (fun _ => ?_)
    refine rr_iconst C 1 dX3_lend_20 (by decide) ?_
    refine rr_goto C 25 dX3_lend_21 (by decide) ?_
    refine rr_iconst C 1 dX3_lend_25 (by decide) ?_
    refine cv_X3_109 C dX3_lend_26 (ct_X3_failsT hM0 h00 (by decide)) (Or.inl hM0.obj) (kV (fun h2 e2 => ?_))
    refine rr_if_ne C 54 dX3_lend_29 (by decide) (fun _ => ?_) (fun c => absurd c (by decide))
    exact k54 1 1 h2 rfl rfl (by decide) e2
  | true =>
    obtain ⟨j, hj, rfl⟩ := cy_ix_t (by omega) ha.symm
    have kj := kn_nI (show j < 2 ^ 31 by omega)
    rw [kj] at C
    refine rr_if_ne C 24 dX3_lend_17 (by decide) (fun _ => ?_) (fun c => absurd c (by decide))
    refine rr_iconst C 0 dX3_lend_24 (by decide) ?_
    refine rr_iconst C 1 dX3_lend_25 (by decide) ?_
    refine cv_X3_109 C dX3_lend_26 (ct_X3_failsF hM0 h00 (by decide)) (Or.inl hM0.obj) (kVr ?_)
    refine rr_if_ne C 54 dX3_lend_29 (by decide) (fun c => absurd rfl c) (fun _ => ?_)
    refine rr_aload_n C 0 dX3_lend_32 rfl rfl ?_
    refine rr_iload_n C 2 dX3_lend_33 rfl rfl ?_
    refine rr_iconst C 0 dX3_lend_34 (by decide) ?_
    refine rr_iconst C 3 dX3_lend_35 (by decide) ?_
    refine cs_X3_85 C dX3_lend_36 ct_X3_in (kVr ?_)
    rw [← hc]
    cases c with
    | false =>
      refine rr_if_ne C 46 dX3_lend_39 (by decide) (fun c => absurd rfl c) (fun _ => ?_)
      refine rr_iconst C 1 dX3_lend_42 (by decide) ?_
      refine rr_goto C 47 dX3_lend_43 (by decide) ?_
      refine rr_iconst C 2 dX3_lend_47 (by decide) ?_
      refine cv_X3_109 C dX3_lend_48 (ct_X3_failsT hM0 h00 (by decide)) (Or.inl hM0.obj) (kV (fun h2 e2 => ?_))
      refine rr_if_eq C 56 dX3_lend_51 (by decide) (fun c => absurd c (by decide)) (fun _ => ?_)
      exact k54 2 2 h2 rfl rfl (by decide) e2
    | true =>
      refine rr_if_ne C 46 dX3_lend_39 (by decide) (fun _ => ?_) (fun c => absurd c (by decide))
      refine rr_iconst C 0 dX3_lend_46 (by decide) ?_
      refine rr_iconst C 2 dX3_lend_47 (by decide) ?_
      refine cv_X3_109 C dX3_lend_48 (ct_X3_failsF hM0 h00 (by decide)) (Or.inl hM0.obj) (kVr ?_)
      refine rr_if_eq C 56 dX3_lend_51 (by decide) (fun _ => ?_) (fun c => absurd rfl c)
      refine rr_aload_n C 0 dX3_lend_56 rfl rfl ?_
      refine gf_X3_35 C dX3_lend_57 (Or.inl hM0.obj) ?_
      refine rr_iload_n C 1 dX3_lend_60 rfl rfl ?_
      refine rr_iald C j dX3_lend_61 (Or.inl (hM0.row rfl)) rfl (by omega) (by decide) ?_
      rw [hR0.w3 j hj]
      refine rr_istore_n C 3 dX3_lend_62 rfl (Nat.le_of_ble_eq_true rfl) rfl (Nat.le_of_ble_eq_true rfl) ?_
      refine rr_aload_n C 0 dX3_lend_63 rfl rfl ?_
      refine gf_X3_35 C dX3_lend_64 (Or.inl hM0.obj) ?_
      refine rr_iload_n C 1 dX3_lend_67 rfl rfl ?_
      refine rr_iload_n C 2 dX3_lend_68 rfl rfl ?_
      refine rr_iast C j dX3_lend_69 (hM0.row rfl) rfl (by omega) (by decide) ?_
      refine kG (P := fun h2 => cy_Mo G A (u2 (u2 M 0 0 0) 14 j t) st h2 ∧ cy_FrA A h h2) ⟨hM0.ar rfl _ _, hF0.tr (cy_FrA.up (cy_own.row (r := 14) rfl))⟩ (fun h2 e2 => ?_)
      refine rr_iload_n C 3 dX3_lend_70 rfl rfl ?_
      exact rr_ireturn C dX3_lend_71 ⟨_, rfl, fun _ => rfl, _, e2, rfl, hR0.lend j t⟩
theorem ct_X3_stop (hM : cy_Mo G A M st h) (hR : cy_Rl I J M) (hr : cy_Yr G J) {k : Int32} : cy_Con G yX3_stop cX3_stop 3 (some (.object "State")) 5 0 [.ref (A 0), .int k] h (qMr (cd2 (cy_ix k (J 0 3)) (!decide (J 13 (kn k) = 3))) (G.2.2.2.2 (J 13 (kn k))) (fun h1 => if cd2 (cy_ix k (J 0 3)) (!decide (J 13 (kn k) = 3)) = 0 then cy_MU G A st h (cy_Rl (bcI I J (kn k)) (bcJ J (kn k) 3)) h1 else cy_MT G A M st h (cd2 (cy_ix k (J 0 3)) (!decide (J 13 (kn k) = 3))) h1)) xF := by
  have r0 := hr.2.1
  obtain ⟨a, ha⟩ : ∃ a, a = cy_ix k (J 0 3) := ⟨_, rfl⟩
  obtain ⟨c, hc⟩ : ∃ c, c = !decide (J 13 (kn k) = 3) := ⟨_, rfl⟩
  rw [← ha, ← hc]
  refine cy_in (own := RX3) (lv0 := [some (.ref (A 0)), some (.int k), none]) (by decide) rfl rfl rfl (Nat.le_of_ble_eq_true rfl) (fun K T C => ?_)
  refine rr_aload_n C 0 dX3_stop_0 rfl rfl ?_
  refine rr_iconst C 0 dX3_stop_1 (by decide) ?_
  refine pf_X3_79 C dX3_stop_2 hM.obj ?_
  refine kG (P := fun h1 => cy_Mo G A (u2 M 0 0 0) st h1 ∧ cy_FrA A h h1) ⟨hM.thr 0, cy_FrA.up cy_own.obj⟩ (fun h1 e1 => ?_)
  obtain ⟨hM0, hF0⟩ := e1
  have hR0 := hR.thr 0
  have h00 : u2 M 0 0 0 0 0 = 0 := u2_eq
  have k42 : ∀ (x : Int32) (n : Nat) (h2 : Hp), x = nI n → cd2 a c = n → n ≠ 0 → cy_Mo G A (u2 (u2 M 0 0 0) 0 0 x) st h2 ∧ cy_FrA A h1 h2 → K 0 h2 42 [some (.ref (A 0)), some (.int k), none] [] := by
    intro x n h2 hx hn h0 e2
    rw [hn] at C
    refine gs_X3_147 C dX3_stop_42 ?_
    exact rr_areturn C dX3_stop_45 (by first | exact Or.inl ⟨_, rfl⟩ | exact Or.inr ⟨_, rfl⟩) ⟨_, rfl, fun z => absurd z h0, (if_neg h0).mpr (cy_MT.of hF0 e2 hx)⟩
  refine rr_aload_n C 0 dX3_stop_5 rfl rfl ?_
  refine rr_aload_n C 0 dX3_stop_6 rfl rfl ?_
  refine rr_iload_n C 1 dX3_stop_7 rfl rfl ?_
  refine cv_X3_162 C dX3_stop_8 (ct_X3_noContainer hM0 (n := J 0 3) (by omega) hR0.nC) (Or.inl hM0.obj) (kVr ?_)
  rw [← ha]
  cases a with
  | false =>
    refine rr_iconst C 1 dX3_stop_11 (by decide) ?_
    refine cv_X3_109 C dX3_stop_12 (ct_X3_failsT hM0 h00 (by decide)) (Or.inl hM0.obj) (kV (fun h2 e2 => ?_))
    refine rr_if_ne C 42 dX3_stop_15 (by decide) (fun _ => ?_) (fun c => absurd c (by decide))
    exact k42 1 1 h2 rfl rfl (by decide) e2
  | true =>
    obtain ⟨j, hj, rfl⟩ := cy_ix_t (by omega) ha.symm
    have kj := kn_nI (show j < 2 ^ 31 by omega)
    rw [kj] at C hc
    refine rr_iconst C 1 dX3_stop_11 (by decide) ?_
    refine cv_X3_109 C dX3_stop_12 (ct_X3_failsF hM0 h00 (by decide)) (Or.inl hM0.obj) (kVr ?_)
    refine rr_if_ne C 42 dX3_stop_15 (by decide) (fun c => absurd rfl c) (fun _ => ?_)
    refine rr_aload_n C 0 dX3_stop_18 rfl rfl ?_
    refine rr_aload_n C 0 dX3_stop_19 rfl rfl ?_
    refine gf_X3_54 C dX3_stop_20 (Or.inl hM0.obj) ?_
    refine rr_iload_n C 1 dX3_stop_23 rfl rfl ?_
    refine rr_cald C j dX3_stop_24 (Or.inl (hM0.row rfl)) rfl (by omega) (by decide) ?_
    rw [hR0.sta j hj]
    refine rr_bipush C 120 dX3_stop_25 (by decide) ?_
    refine rr_icmp_ne C 34 dX3_stop_27 (by decide) (fun c27 => ?_) (fun c27 => ?_)
    · have h3 : ¬ J 13 j = 3 := fun z => c27 ((cy_chr_x (hr.2.2.2 j hj).2.1).mpr z)
      have tc : c = true := by rw [hc, decide_eq_false h3]; rfl
      subst tc
      refine rr_iconst C 0 dX3_stop_34 (by decide) ?_
      refine rr_iconst C 2 dX3_stop_35 (by decide) ?_
      refine cv_X3_109 C dX3_stop_36 (ct_X3_failsF hM0 h00 (by decide)) (Or.inl hM0.obj) (kVr ?_)
      refine rr_if_eq C 46 dX3_stop_39 (by decide) (fun _ => ?_) (fun c => absurd rfl c)
      refine rr_aload_n C 0 dX3_stop_46 rfl rfl ?_
      refine gf_X3_54 C dX3_stop_47 (Or.inl hM0.obj) ?_
      refine rr_iload_n C 1 dX3_stop_50 rfl rfl ?_
      refine rr_cald C j dX3_stop_51 (Or.inl (hM0.row rfl)) rfl (by omega) (by decide) ?_
      rw [hR0.sta j hj]
      refine cs_X3_165 C dX3_stop_52 (ct_X3_told (hr.2.2.2 j hj).2.1) (kVr ?_)
      refine rr_astore_n C 2 dX3_stop_55 rfl (Nat.le_of_ble_eq_true rfl) rfl (Nat.le_of_ble_eq_true rfl) ?_
      refine rr_aload_n C 0 dX3_stop_56 rfl rfl ?_
      refine gf_X3_54 C dX3_stop_57 (Or.inl hM0.obj) ?_
      refine rr_iload_n C 1 dX3_stop_60 rfl rfl ?_
      refine rr_bipush C 120 dX3_stop_61 (by decide) ?_
      refine rr_cast C j dX3_stop_63 (hM0.row rfl) rfl (by omega) (by decide) ?_
      refine kG (P := fun h2 => cy_Mo G A (u2 (u2 M 0 0 0) 21 j 120) st h2 ∧ cy_FrA A h h2) ⟨hM0.ar rfl _ _, hF0.tr (cy_FrA.up (cy_own.row (r := 21) rfl))⟩ (fun h2 e2 => ?_)
      refine rr_aload_n C 2 dX3_stop_64 rfl rfl ?_
      exact rr_areturn C dX3_stop_65 (by first | exact Or.inl ⟨_, rfl⟩ | exact Or.inr ⟨_, rfl⟩) ⟨_, rfl, fun _ => rfl, _, e2, rfl, hR0.bc hj (t := 3) (by decide)⟩
    · have h3 := (cy_chr_x (hr.2.2.2 j hj).2.1).mp c27
      have tc : c = false := by rw [hc, decide_eq_true h3]; rfl
      subst tc
      refine rr_iconst C 1 dX3_stop_30 (by decide) ?_
      refine rr_goto C 35 dX3_stop_31 (by decide) ?_
      refine rr_iconst C 2 dX3_stop_35 (by decide) ?_
      refine cv_X3_109 C dX3_stop_36 (ct_X3_failsT hM0 h00 (by decide)) (Or.inl hM0.obj) (kV (fun h2 e2 => ?_))
      refine rr_if_eq C 46 dX3_stop_39 (by decide) (fun c => absurd c (by decide)) (fun _ => ?_)
      exact k42 2 2 h2 rfl rfl (by decide) e2
theorem ct_X3_withdraw (hM : cy_Mo G A M st h) (hR : cy_Rl I J M) (hr : cy_Yr G J) (hw : ∀ i, i < J 0 0 → I 2 i = 0 ∨ I 2 i = 1) {k n : Int32} : cy_Con G yX3_withdraw cX3_withdraw 5 (some .int) 5 0 [.ref (A 0), .int k, .int n] h (qMi (cd3 (cy_ix k (J 0 0)) (cy_bt n 0 99) (decide (I 2 (kn k) = 0))) (nI (cy_cn (fun i => decide (J 13 i = 1) && !decide (I 15 i &&& cy_bit (kn k) = 0)) (J 0 3))) (fun h1 => if cd3 (cy_ix k (J 0 0)) (cy_bt n 0 99) (decide (I 2 (kn k) = 0)) = 0 then cy_MU G A st h (cy_Rl (u2 (u2 I 2 (kn k) 1) 3 (kn k) (I 1 0 + n)) J) h1 else cy_MT G A M st h (cd3 (cy_ix k (J 0 0)) (cy_bt n 0 99) (decide (I 2 (kn k) = 0))) h1)) xF := by
  have r0 := hr.2.1
  obtain ⟨a, ha⟩ : ∃ a, a = cy_ix k (J 0 0) := ⟨_, rfl⟩
  obtain ⟨b, hb⟩ : ∃ b, b = cy_bt n 0 99 := ⟨_, rfl⟩
  obtain ⟨c, hc⟩ : ∃ c, c = decide (I 2 (kn k) = 0) := ⟨_, rfl⟩
  rw [← ha, ← hb, ← hc]
  refine cy_in (own := RX3) (lv0 := [some (.ref (A 0)), some (.int k), some (.int n), none, none]) (by decide) rfl rfl rfl (Nat.le_of_ble_eq_true rfl) (fun K T C => ?_)
  refine rr_aload_n C 0 dX3_withdraw_0 rfl rfl ?_
  refine rr_iconst C 0 dX3_withdraw_1 (by decide) ?_
  refine pf_X3_79 C dX3_withdraw_2 hM.obj ?_
  refine kG (P := fun h1 => cy_Mo G A (u2 M 0 0 0) st h1 ∧ cy_FrA A h h1) ⟨hM.thr 0, cy_FrA.up cy_own.obj⟩ (fun h1 e1 => ?_)
  obtain ⟨hM0, hF0⟩ := e1
  have hR0 := hR.thr 0
  have h00 : u2 M 0 0 0 0 0 = 0 := u2_eq
  have k55 : ∀ (x : Int32) (m : Nat) (h2 : Hp), x = nI m → cd3 a b c = m → m ≠ 0 → cy_Mo G A (u2 (u2 M 0 0 0) 0 0 x) st h2 ∧ cy_FrA A h1 h2 → K 0 h2 55 [some (.ref (A 0)), some (.int k), some (.int n), none, none] [] := by
    intro x m h2 hx hn h0 e2
    rw [hn] at C
    refine rr_iconst C 0 dX3_withdraw_55 (by decide) ?_
    exact rr_ireturn C dX3_withdraw_56 ⟨0, rfl, fun z => absurd z h0, (if_neg h0).mpr (cy_MT.of hF0 e2 hx)⟩
  refine rr_aload_n C 0 dX3_withdraw_5 rfl rfl ?_
  refine rr_aload_n C 0 dX3_withdraw_6 rfl rfl ?_
  refine rr_iload_n C 1 dX3_withdraw_7 rfl rfl ?_
  refine cv_X3_116 C dX3_withdraw_8 (ct_X3_noLayer hM0 (n := J 0 0) (by omega) hR0.nL) (Or.inl hM0.obj) (kVr ?_)
  rw [← ha]
  cases a with
  | false =>
    refine rr_iconst C 1 dX3_withdraw_11 (by decide) ?_
    refine cv_X3_109 C dX3_withdraw_12 (ct_X3_failsT hM0 h00 (by decide)) (Or.inl hM0.obj) (kV (fun h2 e2 => ?_))
    refine rr_if_ne C 55 dX3_withdraw_15 (by decide) (fun _ => ?_) (fun c => absurd c (by decide))
    exact k55 1 1 h2 rfl rfl (by decide) e2
  | true =>
    obtain ⟨j, hj, rfl⟩ := cy_ix_t (by omega) ha.symm
    have kj := kn_nI (show j < 2 ^ 31 by omega)
    rw [kj] at C hc
    refine rr_iconst C 1 dX3_withdraw_11 (by decide) ?_
    refine cv_X3_109 C dX3_withdraw_12 (ct_X3_failsF hM0 h00 (by decide)) (Or.inl hM0.obj) (kVr ?_)
    refine rr_if_ne C 55 dX3_withdraw_15 (by decide) (fun c => absurd rfl c) (fun _ => ?_)
    refine rr_aload_n C 0 dX3_withdraw_18 rfl rfl ?_
    refine rr_iload_n C 2 dX3_withdraw_19 rfl rfl ?_
    refine rr_iconst C 0 dX3_withdraw_20 (by decide) ?_
    refine rr_bipush C 99 dX3_withdraw_21 (by decide) ?_
    refine cs_X3_85 C dX3_withdraw_23 ct_X3_in (kVr ?_)
    rw [← hb]
    cases b with
    | false =>
      refine rr_if_ne C 33 dX3_withdraw_26 (by decide) (fun c => absurd rfl c) (fun _ => ?_)
      refine rr_iconst C 1 dX3_withdraw_29 (by decide) ?_
      refine rr_goto C 34 dX3_withdraw_30 (by decide) ?_
      refine rr_iconst C 2 dX3_withdraw_34 (by decide) ?_
      refine cv_X3_109 C dX3_withdraw_35 (ct_X3_failsT hM0 h00 (by decide)) (Or.inl hM0.obj) (kV (fun h2 e2 => ?_))
      refine rr_if_ne C 55 dX3_withdraw_38 (by decide) (fun _ => ?_) (fun c => absurd c (by decide))
      exact k55 2 2 h2 rfl rfl (by decide) e2
    | true =>
      refine rr_if_ne C 33 dX3_withdraw_26 (by decide) (fun _ => ?_) (fun c => absurd c (by decide))
      refine rr_iconst C 0 dX3_withdraw_33 (by decide) ?_
      refine rr_iconst C 2 dX3_withdraw_34 (by decide) ?_
      refine cv_X3_109 C dX3_withdraw_35 (ct_X3_failsF hM0 h00 (by decide)) (Or.inl hM0.obj) (kVr ?_)
      refine rr_if_ne C 55 dX3_withdraw_38 (by decide) (fun c => absurd rfl c) (fun _ => ?_)
      refine rr_aload_n C 0 dX3_withdraw_41 rfl rfl ?_
      refine rr_aload_n C 0 dX3_withdraw_42 rfl rfl ?_
      refine gf_X3_7 C dX3_withdraw_43 (Or.inl hM0.obj) ?_
      refine rr_iload_n C 1 dX3_withdraw_46 rfl rfl ?_
      refine rr_zald C j dX3_withdraw_47 (Or.inl (hM0.row rfl)) rfl (by omega) (by decide) ?_
      rw [hR0.wd j hj]
      rcases hw j hj with hw0 | hw1
      · have tc : c = true := by rw [hc, hw0]; rfl
        subst tc
        rw [hw0]
        refine rr_iconst C 3 dX3_withdraw_48 (by decide) ?_
        refine cv_X3_109 C dX3_withdraw_49 (ct_X3_failsF hM0 h00 (by decide)) (Or.inl hM0.obj) (kVr ?_)
        refine rr_if_eq C 57 dX3_withdraw_52 (by decide) (fun _ => ?_) (fun c => absurd rfl c)
        refine rr_aload_n C 0 dX3_withdraw_57 rfl rfl ?_
        refine gf_X3_7 C dX3_withdraw_58 (Or.inl hM0.obj) ?_
        refine rr_iload_n C 1 dX3_withdraw_61 rfl rfl ?_
        refine rr_iconst C 1 dX3_withdraw_62 (by decide) ?_
        refine rr_zast C j dX3_withdraw_63 (hM0.row rfl) rfl (by omega) (by decide) ?_
        refine kG (P := fun h2 => cy_Mo G A (u2 (u2 M 0 0 0) 3 j 1) st h2 ∧ cy_FrA A h h2) ⟨hM0.ar rfl _ _, hF0.tr (cy_FrA.up (cy_own.row (r := 3) rfl))⟩ (fun h2 e2 => ?_)
        obtain ⟨hM2, hF2⟩ := e2
        refine rr_aload_n C 0 dX3_withdraw_64 rfl rfl ?_
        refine gf_X3_13 C dX3_withdraw_65 (Or.inl hM2.obj) ?_
        refine rr_iload_n C 1 dX3_withdraw_68 rfl rfl ?_
        refine rr_aload_n C 0 dX3_withdraw_69 rfl rfl ?_
        refine gf_X3_98 C dX3_withdraw_70 (Or.inl hM2.obj) ?_
        refine rr_iload_n C 2 dX3_withdraw_73 rfl rfl ?_
        refine rr_iadd C dX3_withdraw_74 ?_
        refine rr_iast C j dX3_withdraw_75 (hM2.row rfl) rfl (by omega) (by decide) ?_
        refine kG (P := fun h3 => cy_Mo G A (u2 (u2 (u2 M 0 0 0) 3 j 1) 4 j (I 1 0 + n)) st h3 ∧ cy_FrA A h h3) ⟨by rw [← hR.hour]; exact hM2.ar rfl _ _, hF2.tr (cy_FrA.up (cy_own.row (r := 4) rfl))⟩ (fun h3 e3 => ?_)
        obtain ⟨hM3, hF3⟩ := e3
        have hR3 := hR0.wdr hj (I 1 0 + n)
        refine rr_iconst C 0 dX3_withdraw_76 (by decide) ?_
        refine rr_istore_n C 3 dX3_withdraw_77 rfl (Nat.le_of_ble_eq_true rfl) rfl (Nat.le_of_ble_eq_true rfl) ?_
        refine rr_iconst C 0 dX3_withdraw_78 (by decide) ?_
        refine rr_istore C dX3_withdraw_79 (Nat.le_of_ble_eq_true rfl) rfl (Nat.le_of_ble_eq_true rfl) ?_
        have loop : ∀ (d i : Nat), i + d = J 0 3 → K 0 h3 81 [some (.ref (A 0)), some (.int (nI j)), some (.int n), some (.int (nI (cy_cn (fun i => decide (J 13 i = 1) && !decide (I 15 i &&& cy_bit j = 0)) i))), some (.int (nI i))] [] := by
          intro d
          induction d with
          | zero =>
            intro i hi
            have hin : i = J 0 3 := by omega
            subst hin
            refine rr_iload C dX3_withdraw_81 rfl ?_
            refine rr_aload_n C 0 dX3_withdraw_83 rfl rfl ?_
            refine gf_X3_95 C dX3_withdraw_84 (Or.inl hM3.obj) ?_
            rw [hR3.nC]
            refine rr_icmp_ge C 131 dX3_withdraw_87 (by decide) (fun _ => ?_) (fun c => absurd (nI_le (Nat.le_refl _) (by omega)) c)
            refine rr_iload_n C 3 dX3_withdraw_131 rfl rfl ?_
            exact rr_ireturn C dX3_withdraw_132 ⟨_, rfl, fun _ => rfl, _, ⟨hM3, hF3⟩, rfl, hR3⟩
          | succ d ih =>
            intro i hi
            refine rr_iload C dX3_withdraw_81 rfl ?_
            refine rr_aload_n C 0 dX3_withdraw_83 rfl rfl ?_
            refine gf_X3_95 C dX3_withdraw_84 (Or.inl hM3.obj) ?_
            rw [hR3.nC]
            refine rr_icmp_ge C 131 dX3_withdraw_87 (by decide) (fun c => absurd c (nI_ge (by omega) (by omega))) (fun _ => ?_)
            have nx : ∀ b : Bool, (decide (J 13 i = 1) && !decide (I 15 i &&& cy_bit j = 0)) = b → K 0 h3 123 [some (.ref (A 0)), some (.int (nI j)), some (.int n), some (.int (nI (cy_cn (fun i => decide (J 13 i = 1) && !decide (I 15 i &&& cy_bit j = 0)) i))), some (.int (nI i))] [.int (bI b), .int (nI (cy_cn (fun i => decide (J 13 i = 1) && !decide (I 15 i &&& cy_bit j = 0)) i))] := by
              intro b hb
              subst hb
              refine rr_iadd C dX3_withdraw_123 ?_
              rw [nI_cn (p := fun i => decide (J 13 i = 1) && !decide (I 15 i &&& cy_bit j = 0))]
              refine rr_istore_n C 3 dX3_withdraw_124 rfl (Nat.le_of_ble_eq_true rfl) rfl (Nat.le_of_ble_eq_true rfl) ?_
              refine rr_iinc C (nI (i + 1)) dX3_withdraw_125 rfl (nI_1 i) (Nat.le_of_ble_eq_true rfl) rfl (Nat.le_of_ble_eq_true rfl) ?_
              refine rr_goto C 81 dX3_withdraw_128 (by decide) ?_
              exact ih (i + 1) (by omega)
            refine rr_iload_n C 3 dX3_withdraw_90 rfl rfl ?_
            refine rr_aload_n C 0 dX3_withdraw_91 rfl rfl ?_
            refine gf_X3_54 C dX3_withdraw_92 (Or.inl hM3.obj) ?_
            refine rr_iload C dX3_withdraw_95 rfl ?_
            refine rr_cald C i dX3_withdraw_97 (Or.inl (hM3.row rfl)) rfl (by omega) (by decide) ?_
            rw [hR3.sta i (by omega)]
            refine rr_bipush C 114 dX3_withdraw_98 (by decide) ?_
            refine rr_icmp_ne C 122 dX3_withdraw_100 (by decide) (fun c100 => ?_) (fun c100 => ?_)
            · refine rr_iconst C 0 dX3_withdraw_122 (by decide) ?_
              exact nx false (by rw [decide_eq_false (fun z => c100 (cy_chr_r.mpr z))]; rfl)
            · have hrun := cy_chr_r.mp c100
              refine rr_aload_n C 0 dX3_withdraw_103 rfl rfl ?_
              refine gf_X3_61 C dX3_withdraw_104 (Or.inl hM3.obj) ?_
              refine rr_iload C dX3_withdraw_107 rfl ?_
              refine rr_iald C i dX3_withdraw_109 (Or.inl (hM3.row rfl)) rfl (by omega) (by decide) ?_
              rw [hR3.wi i (by omega)]
              refine rr_iload_n C 1 dX3_withdraw_110 rfl rfl ?_
              refine rr_ishr C dX3_withdraw_111 ?_
              refine rr_iconst C 1 dX3_withdraw_112 (by decide) ?_
              refine rr_iand C dX3_withdraw_113 ?_
              rw [show u2 (u2 I 2 j 1) 3 j (I 1 0 + n) 15 i = I 15 i from rfl, cy_shr_b _ (show j < 12 by omega)]
              refine rr_iconst C 1 dX3_withdraw_114 (by decide) ?_
              refine rr_icmp_ne C 122 dX3_withdraw_115 (by decide) (fun c115 => ?_) (fun c115 => ?_)
              · refine rr_iconst C 0 dX3_withdraw_122 (by decide) ?_
                exact nx false (by rw [decide_eq_true hrun, Bool.true_and]; cases hd : decide (I 15 i &&& cy_bit j = 0); exact absurd (by rw [hd]; rfl) c115; rfl)
              · refine rr_iconst C 1 dX3_withdraw_118 (by decide) ?_
                refine rr_goto C 123 dX3_withdraw_119 (by decide) ?_
                exact nx true (by rw [decide_eq_true hrun, Bool.true_and]; cases hd : decide (I 15 i &&& cy_bit j = 0); rfl; exact absurd c115 (by rw [hd]; decide))
        exact loop (J 0 3) 0 (by omega)
      · have tc : c = false := by rw [hc, hw1]; rfl
        subst tc
        rw [hw1]
        refine rr_iconst C 3 dX3_withdraw_48 (by decide) ?_
        refine cv_X3_109 C dX3_withdraw_49 (ct_X3_failsT hM0 h00 (by decide)) (Or.inl hM0.obj) (kV (fun h2 e2 => ?_))
        refine rr_if_eq C 57 dX3_withdraw_52 (by decide) (fun c => absurd c (by decide)) (fun _ => ?_)
        exact k55 3 3 h2 rfl rfl (by decide) e2
theorem cy_Rl.fl (hR : cy_Rl I J M) {j : Nat} (hj : j < J 0 3) (ht : J 13 j ≠ 1) (a b : Int32) : cy_Rl (u2 (u2 I 17 j a) 18 j b) J (u2 (u2 M 26 j a) 25 j b) := ⟨hR.hour, hR.nL, hR.nIm, hR.nH, hR.nW, hR.lic, hR.nC, hR.wd, hR.oa, hR.par, hR.ownl, hR.hc, hR.hm, hR.w1, hR.w2, hR.w3, hR.ten, hR.img, hR.nc, hR.nm, hR.sta, hR.host, hR.wi, hR.start, by
        intro i hi
        show (if i = j then b else M 25 i) = (if i = j then b else I 18 i)
        by_cases e : i = j
        · rw [if_pos e, if_pos e]
        · rw [if_neg e, if_neg e]; exact hR.unt i hi, by
        intro i hi
        show (if i = j then a else M 26 i) = (if J 13 i = 1 then (if I 1 0 - I 16 i < 8 then (if i = j then a else I 17 i) else 0) else (if i = j then a else I 17 i))
        by_cases e : i = j
        · rw [if_pos e, if_neg (by rw [e]; exact ht), if_pos e]
        · simp only [if_neg e]; exact hR.row i hi, hR.zL, by
        intro i hi
        show M 23 i = 0 ∧ M 24 i = 0 ∧ (if i = j then b else M 25 i) = 0 ∧ (if i = j then a else M 26 i) = 0
        rw [if_neg (by omega), if_neg (by omega)]
        exact hR.zC i hi⟩
theorem u2_cm {α : Type} {X : Nat → Nat → α} {r s i j : Nat} {v w : α} (h : r ≠ s) : u2 (u2 X r i v) s j w = u2 (u2 X s j w) r i v := by
  funext r' i'
  unfold u2
  by_cases a : r' = s
  · have hn : ¬ r' = r := fun z => h (z.symm.trans a)
    simp only [if_pos a, if_neg hn]
  · simp only [if_neg a]
theorem cy_shl4 : ∀ m, m < 5 → (1 : Int32) <<< (nI m &&& 31) = nI (2 ^ min m 4) := by decide +kernel
theorem ct_X3_fail (hM : cy_Mo G A M st h) (hR : cy_Rl I J M) (hr : cy_Yr G J) {k : Int32} {m : Nat} (hm : m < 2 ^ 30) (hf : kn k < J 0 3 → J 13 (kn k) = 1 → cy_fl I (kn k) = nI m) : cy_Con G yX3_fail cX3_fail 3 (some .int) 5 0 [.ref (A 0), .int k] h (qMi (cd2 (cy_ix k (J 0 3)) (decide (J 13 (kn k) = 1))) (nI (2 ^ min m 4)) (fun h1 => if cd2 (cy_ix k (J 0 3)) (decide (J 13 (kn k) = 1)) = 0 then cy_MU G A st h (cy_Rl (u2 (u2 (bcI I J (kn k)) 17 (kn k) (nI (m + 1))) 18 (kn k) (I 1 0 + nI (2 ^ min m 4))) (bcJ J (kn k) 2)) h1 else cy_MT G A M st h (cd2 (cy_ix k (J 0 3)) (decide (J 13 (kn k) = 1))) h1)) xF := by
  have r0 := hr.2.1
  obtain ⟨a, ha⟩ : ∃ a, a = cy_ix k (J 0 3) := ⟨_, rfl⟩
  obtain ⟨c, hc⟩ : ∃ c, c = decide (J 13 (kn k) = 1) := ⟨_, rfl⟩
  rw [← ha, ← hc]
  refine cy_in (own := RX3) (lv0 := [some (.ref (A 0)), some (.int k), none]) (by decide) rfl rfl rfl (Nat.le_of_ble_eq_true rfl) (fun K T C => ?_)
  refine rr_aload_n C 0 dX3_fail_0 rfl rfl ?_
  refine rr_iconst C 0 dX3_fail_1 (by decide) ?_
  refine pf_X3_79 C dX3_fail_2 hM.obj ?_
  refine kG (P := fun h1 => cy_Mo G A (u2 M 0 0 0) st h1 ∧ cy_FrA A h h1) ⟨hM.thr 0, cy_FrA.up cy_own.obj⟩ (fun h1 e1 => ?_)
  obtain ⟨hM0, hF0⟩ := e1
  have hR0 := hR.thr 0
  have h00 : u2 M 0 0 0 0 0 = 0 := u2_eq
  have k42 : ∀ (x : Int32) (n : Nat) (h2 : Hp), x = nI n → cd2 a c = n → n ≠ 0 → cy_Mo G A (u2 (u2 M 0 0 0) 0 0 x) st h2 ∧ cy_FrA A h1 h2 → K 0 h2 42 [some (.ref (A 0)), some (.int k), none] [] := by
    intro x n h2 hx hn h0 e2
    rw [hn] at C
    refine rr_iconst C 0 dX3_fail_42 (by decide) ?_
    exact rr_ireturn C dX3_fail_43 ⟨0, rfl, fun z => absurd z h0, (if_neg h0).mpr (cy_MT.of hF0 e2 hx)⟩
  refine rr_aload_n C 0 dX3_fail_5 rfl rfl ?_
  refine rr_aload_n C 0 dX3_fail_6 rfl rfl ?_
  refine rr_iload_n C 1 dX3_fail_7 rfl rfl ?_
  refine cv_X3_162 C dX3_fail_8 (ct_X3_noContainer hM0 (n := J 0 3) (by omega) hR0.nC) (Or.inl hM0.obj) (kVr ?_)
  rw [← ha]
  cases a with
  | false =>
    refine rr_iconst C 1 dX3_fail_11 (by decide) ?_
    refine cv_X3_109 C dX3_fail_12 (ct_X3_failsT hM0 h00 (by decide)) (Or.inl hM0.obj) (kV (fun h2 e2 => ?_))
    refine rr_if_ne C 42 dX3_fail_15 (by decide) (fun _ => ?_) (fun c => absurd c (by decide))
    exact k42 1 1 h2 rfl rfl (by decide) e2
  | true =>
    obtain ⟨j, hj, rfl⟩ := cy_ix_t (by omega) ha.symm
    have kj := kn_nI (show j < 2 ^ 31 by omega)
    rw [kj] at C hc hf
    refine rr_iconst C 1 dX3_fail_11 (by decide) ?_
    refine cv_X3_109 C dX3_fail_12 (ct_X3_failsF hM0 h00 (by decide)) (Or.inl hM0.obj) (kVr ?_)
    refine rr_if_ne C 42 dX3_fail_15 (by decide) (fun c => absurd rfl c) (fun _ => ?_)
    refine rr_aload_n C 0 dX3_fail_18 rfl rfl ?_
    refine rr_aload_n C 0 dX3_fail_19 rfl rfl ?_
    refine gf_X3_54 C dX3_fail_20 (Or.inl hM0.obj) ?_
    refine rr_iload_n C 1 dX3_fail_23 rfl rfl ?_
    refine rr_cald C j dX3_fail_24 (Or.inl (hM0.row rfl)) rfl (by omega) (by decide) ?_
    rw [hR0.sta j hj]
    refine rr_bipush C 114 dX3_fail_25 (by decide) ?_
    refine rr_icmp_eq C 34 dX3_fail_27 (by decide) (fun c27 => ?_) (fun c27 => ?_)
    · have hrun := cy_chr_r.mp c27
      have tc : c = true := by rw [hc, decide_eq_true hrun]
      subst tc
      have hfl := hf hj hrun
      have hrow : u2 M 0 0 0 26 j = nI m := by rw [hR0.row j hj, cy_rw, if_pos hrun, hfl]
      refine rr_iconst C 0 dX3_fail_34 (by decide) ?_
      refine rr_iconst C 2 dX3_fail_35 (by decide) ?_
      refine cv_X3_109 C dX3_fail_36 (ct_X3_failsF hM0 h00 (by decide)) (Or.inl hM0.obj) (kVr ?_)
      refine rr_if_eq C 44 dX3_fail_39 (by decide) (fun _ => ?_) (fun c => absurd rfl c)
      have k67 : ∀ x : Int32, x = nI (2 ^ min m 4) → K 0 h1 67 [some (.ref (A 0)), some (.int (nI j)), none] [.int x] := by
        intro x ex
        subst ex
        refine rr_istore_n C 2 dX3_fail_67 rfl (Nat.le_of_ble_eq_true rfl) rfl (Nat.le_of_ble_eq_true rfl) ?_
        refine rr_aload_n C 0 dX3_fail_68 rfl rfl ?_
        refine gf_X3_70 C dX3_fail_69 (Or.inl hM0.obj) ?_
        refine rr_iload_n C 1 dX3_fail_72 rfl rfl ?_
        refine rr_dup2 C dX3_fail_73 rfl rfl ?_
        refine rr_iald C j dX3_fail_74 (Or.inl (hM0.row rfl)) rfl (by omega) (by decide) ?_
        rw [hrow]
        refine rr_iconst C 1 dX3_fail_75 (by decide) ?_
        refine rr_iadd C dX3_fail_76 ?_
        rw [nI_1]
        refine rr_iast C j dX3_fail_77 (hM0.row rfl) rfl (by omega) (by decide) ?_
        refine kG (P := fun h2 => cy_Mo G A (u2 (u2 M 0 0 0) 26 j (nI (m + 1))) st h2 ∧ cy_FrA A h h2) ⟨hM0.ar rfl _ _, hF0.tr (cy_FrA.up (cy_own.row (r := 26) rfl))⟩ (fun h2 e2 => ?_)
        obtain ⟨hM2, hF2⟩ := e2
        refine rr_aload_n C 0 dX3_fail_78 rfl rfl ?_
        refine gf_X3_54 C dX3_fail_79 (Or.inl hM2.obj) ?_
        refine rr_iload_n C 1 dX3_fail_82 rfl rfl ?_
        refine rr_bipush C 115 dX3_fail_83 (by decide) ?_
        refine rr_cast C j dX3_fail_85 (hM2.row rfl) rfl (by omega) (by decide) ?_
        refine kG (P := fun h3 => cy_Mo G A (u2 (u2 (u2 M 0 0 0) 26 j (nI (m + 1))) 21 j 115) st h3 ∧ cy_FrA A h h3) ⟨hM2.ar rfl _ _, hF2.tr (cy_FrA.up (cy_own.row (r := 21) rfl))⟩ (fun h3 e3 => ?_)
        obtain ⟨hM3, hF3⟩ := e3
        refine rr_aload_n C 0 dX3_fail_86 rfl rfl ?_
        refine gf_X3_67 C dX3_fail_87 (Or.inl hM3.obj) ?_
        refine rr_iload_n C 1 dX3_fail_90 rfl rfl ?_
        refine rr_aload_n C 0 dX3_fail_91 rfl rfl ?_
        refine gf_X3_98 C dX3_fail_92 (Or.inl hM3.obj) ?_
        refine rr_iload_n C 2 dX3_fail_95 rfl rfl ?_
        refine rr_iadd C dX3_fail_96 ?_
        refine rr_iast C j dX3_fail_97 (hM3.row rfl) rfl (by omega) (by decide) ?_
        refine kG (P := fun h4 => cy_Mo G A (u2 (u2 (u2 (u2 M 0 0 0) 26 j (nI (m + 1))) 21 j 115) 25 j (M 1 0 + nI (2 ^ min m 4))) st h4 ∧ cy_FrA A h h4) ⟨hM3.ar rfl _ _, hF3.tr (cy_FrA.up (cy_own.row (r := 25) rfl))⟩ (fun h4 e4 => ?_)
        refine rr_iload_n C 2 dX3_fail_98 rfl rfl ?_
        have hb := hR0.bc hj (t := 2) (by decide)
        have hbj : bcJ J j 2 0 = J 0 := bcJ_r (by decide) (by decide)
        have hfin := hb.fl (j := j) (by rw [hbj]; exact hj) (by rw [bcJ, u2_eq]; decide) (nI (m + 1)) (I 1 0 + nI (2 ^ min m 4))
        rw [← u2_cm (show (26 : Nat) ≠ 21 by decide)] at hfin
        exact rr_ireturn C dX3_fail_99 ⟨_, rfl, fun _ => rfl, _, e4, rfl, by rw [hR.hour]; exact hfin⟩
      refine rr_aload_n C 0 dX3_fail_44 rfl rfl ?_
      refine gf_X3_70 C dX3_fail_45 (Or.inl hM0.obj) ?_
      refine rr_iload_n C 1 dX3_fail_48 rfl rfl ?_
      refine rr_iald C j dX3_fail_49 (Or.inl (hM0.row rfl)) rfl (by omega) (by decide) ?_
      rw [hrow]
      refine rr_iconst C 4 dX3_fail_50 (by decide) ?_
      refine rr_icmp_le C 59 dX3_fail_51 (by decide) (fun c51 => ?_) (fun c51 => ?_)
      · have hm4 : m ≤ 4 := (nI_leI (b := 4) (by omega) (by omega)).mp c51
        refine rr_iconst C 1 dX3_fail_59 (by decide) ?_
        refine rr_aload_n C 0 dX3_fail_60 rfl rfl ?_
        refine gf_X3_70 C dX3_fail_61 (Or.inl hM0.obj) ?_
        refine rr_iload_n C 1 dX3_fail_64 rfl rfl ?_
        refine rr_iald C j dX3_fail_65 (Or.inl (hM0.row rfl)) rfl (by omega) (by decide) ?_
        rw [hrow]
        refine rr_ishl C dX3_fail_66 ?_
        exact k67 _ (cy_shl4 m (by omega))
      · have hm4 : ¬ m ≤ 4 := fun z => c51 ((nI_leI (b := 4) (by omega) (by omega)).mpr z)
        refine rr_bipush C 16 dX3_fail_54 (by decide) ?_
        refine rr_goto C 67 dX3_fail_56 (by decide) ?_
        exact k67 _ (by rw [show min m 4 = 4 by omega]; rfl)
    · have tc : c = false := by rw [hc, decide_eq_false (fun z => c27 (cy_chr_r.mpr z))]
      subst tc
      refine rr_iconst C 1 dX3_fail_30 (by decide) ?_
      refine rr_goto C 35 dX3_fail_31 (by decide) ?_
      refine rr_iconst C 2 dX3_fail_35 (by decide) ?_
      refine cv_X3_109 C dX3_fail_36 (ct_X3_failsT hM0 h00 (by decide)) (Or.inl hM0.obj) (kV (fun h2 e2 => ?_))
      refine rr_if_eq C 44 dX3_fail_39 (by decide) (fun c => absurd c (by decide)) (fun _ => ?_)
      exact k42 2 2 h2 rfl rfl (by decide) e2
end MCH
