/-! the model: what is added (printed by gen/mc.py) -/
set_option maxRecDepth 100000
/-- the model's world behind a change -/
abbrev cy_MU (G : GT) (A : Nat → Nat) (st : Int64) (h : Hp) (R : (Nat → Nat → Int32) → Prop) : Hp → Prop := fun h1 => ∃ M1, (cy_Mo G A M1 st h1 ∧ cy_FrA A h h1) ∧ M1 0 0 = 0 ∧ R M1
section MC
variable {G : GT} {A : Nat → Nat} {M : Nat → Nat → Int32} {st : Int64} {h : Hp} {I : Nat → Nat → Int32} {J : Nat → Nat → Nat}
theorem cy_Rl.adL (hR : cy_Rl I J M) (q ea cap : Nat) : cy_Rl (adLI I (J 0 0)) (adLJ J (J 0 0) q ea cap) (u2 (u2 M 0 0 0) 2 0 (M 2 0 + 1)) := ⟨hR.hour, by
        show M 2 0 + 1 = nI (J 0 0 + 1)
        rw [hR.nL, nI_1], hR.nIm, hR.nH, hR.nW, hR.lic, hR.nC, by
        intro i hi
        have hi : i < J 0 0 + 1 := hi
        show M 3 i = (if i = J 0 0 then 0 else I 2 i)
        by_cases e : i = J 0 0
        · rw [if_pos e]; exact (hR.zL i (by omega)).1
        · rw [if_neg e]; exact hR.wd i (by omega), by
        intro i hi
        have hi : i < J 0 0 + 1 := hi
        show M 4 i = (if i = J 0 0 then 0 else I 3 i)
        by_cases e : i = J 0 0
        · rw [if_pos e]; exact (hR.zL i (by omega)).2
        · rw [if_neg e]; exact hR.oa i (by omega), hR.par, hR.ownl, hR.hc, hR.hm, hR.w1, hR.w2, hR.w3, hR.ten, hR.img, hR.nc, hR.nm, hR.sta, hR.host, hR.wi, hR.start, hR.unt, hR.row, by
        intro i hi
        exact hR.zL i (Nat.le_of_succ_le hi), hR.zC⟩
theorem ct_X3_addLayer (hM : cy_Mo G A M st h) (hR : cy_Rl I J M) (hr : cy_Yr G J) : cy_Con G yX3_addLayer cX3_addLayer 1 (some .int) 5 0 [.ref (A 0)] h (qMi (cd1 (decide (J 0 0 < 12))) (nI (J 0 0)) (fun h1 => if decide (J 0 0 < 12) then cy_MU G A st h (fun M1 => ∀ q ea cap, cy_Rl (adLI I (J 0 0)) (adLJ J (J 0 0) q ea cap) M1) h1 else cy_MT G A M st h 1 h1)) xF := by
  have r0 := hr.2.1
  cases hb : decide (J 0 0 < 12) with
  | false =>
    have hlt := of_decide_eq_false hb
    refine cy_in (own := RX3) (lv0 := [some (.ref (A 0))]) (by decide) rfl rfl rfl (Nat.le_of_ble_eq_true rfl) (fun K T C => ?_)
    refine rr_aload_n C 0 dX3_addLayer_0 rfl rfl ?_
    refine rr_iconst C 0 dX3_addLayer_1 (by decide) ?_
    refine pf_X3_79 C dX3_addLayer_2 hM.obj ?_
    refine kG (P := fun h1 => cy_Mo G A (u2 M 0 0 0) st h1 ∧ cy_FrA A h h1) ⟨hM.thr 0, cy_FrA.up cy_own.obj⟩ (fun h1 e1 => ?_)
    obtain ⟨hM0, hF0⟩ := e1
    have hR0 := hR.thr 0
    have h00 : u2 M 0 0 0 0 0 = 0 := u2_eq
    refine rr_aload_n C 0 dX3_addLayer_5 rfl rfl ?_
    refine rr_aload_n C 0 dX3_addLayer_6 rfl rfl ?_
    refine gf_X3_82 C dX3_addLayer_7 (Or.inl hM0.obj) ?_
    rw [hR0.nL]
    refine rr_bipush C 12 dX3_addLayer_10 (by decide) ?_
    refine rr_icmp_ne C 19 dX3_addLayer_12 (by decide) (fun c => absurd (show nI (J 0 0) = 12 by rw [show J 0 0 = 12 by omega]; rfl) c) (fun _ => ?_)
    refine rr_iconst C 1 dX3_addLayer_15 (by decide) ?_
    refine rr_goto C 20 dX3_addLayer_16 (by decide) ?_
    refine rr_iconst C 1 dX3_addLayer_20 (by decide) ?_
    refine cv_X3_109 C dX3_addLayer_21 (ct_X3_failsT hM0 h00 (by decide)) (Or.inl hM0.obj) (kV (fun h2 e2 => ?_))
    refine rr_if_eq C 29 dX3_addLayer_24 (by decide) (fun c => absurd c (by decide)) (fun _ => ?_)
    refine rr_iconst C 0 dX3_addLayer_27 (by decide) ?_
    exact rr_ireturn C dX3_addLayer_28 ⟨0, rfl, fun c => absurd c (by decide), cy_MT.of hF0 e2 rfl⟩
  | true =>
    have hlt := of_decide_eq_true hb
    refine cy_in (own := RX3) (lv0 := [some (.ref (A 0))]) (by decide) rfl rfl rfl (Nat.le_of_ble_eq_true rfl) (fun K T C => ?_)
    refine rr_aload_n C 0 dX3_addLayer_0 rfl rfl ?_
    refine rr_iconst C 0 dX3_addLayer_1 (by decide) ?_
    refine pf_X3_79 C dX3_addLayer_2 hM.obj ?_
    refine kG (P := fun h1 => cy_Mo G A (u2 M 0 0 0) st h1 ∧ cy_FrA A h h1) ⟨hM.thr 0, cy_FrA.up cy_own.obj⟩ (fun h1 e1 => ?_)
    obtain ⟨hM0, hF0⟩ := e1
    have hR0 := hR.thr 0
    have h00 : u2 M 0 0 0 0 0 = 0 := u2_eq
    refine rr_aload_n C 0 dX3_addLayer_5 rfl rfl ?_
    refine rr_aload_n C 0 dX3_addLayer_6 rfl rfl ?_
    refine gf_X3_82 C dX3_addLayer_7 (Or.inl hM0.obj) ?_
    rw [hR0.nL]
    refine rr_bipush C 12 dX3_addLayer_10 (by decide) ?_
    refine rr_icmp_ne C 19 dX3_addLayer_12 (by decide) (fun _ => ?_) (fun c => absurd ((nI_eq (b := 12) (by omega) (by omega)).mp c) (by omega))
    refine rr_iconst C 0 dX3_addLayer_19 (by decide) ?_
    refine rr_iconst C 1 dX3_addLayer_20 (by decide) ?_
    refine cv_X3_109 C dX3_addLayer_21 (ct_X3_failsF hM0 h00 (by decide)) (Or.inl hM0.obj) (kVr ?_)
    refine rr_if_eq C 29 dX3_addLayer_24 (by decide) (fun _ => ?_) (fun c => absurd rfl c)
    refine rr_aload_n C 0 dX3_addLayer_29 rfl rfl ?_
    refine rr_dup C dX3_addLayer_30 rfl ?_
    refine gf_X3_82 C dX3_addLayer_31 (Or.inl hM0.obj) ?_
    refine rr_iconst C 1 dX3_addLayer_34 (by decide) ?_
    refine rr_iadd C dX3_addLayer_35 ?_
    refine pf_X3_82 C dX3_addLayer_36 hM0.obj ?_
    refine kG (P := fun h2 => cy_Mo G A (u2 (u2 M 0 0 0) 2 0 (M 2 0 + 1)) st h2 ∧ cy_FrA A h h2) ⟨hM0.sc (fun r p q => u2_row (fun z => by rw [z] at q; cases q)), hF0.tr (cy_FrA.up cy_own.obj)⟩ (fun h2 e2 => ?_)
    refine rr_aload_n C 0 dX3_addLayer_39 rfl rfl ?_
    refine gf_X3_82 C dX3_addLayer_40 (Or.inl e2.1.obj) ?_
    refine rr_iconst C 1 dX3_addLayer_43 (by decide) ?_
    refine rr_isub C dX3_addLayer_44 ?_
    rw [show u2 (u2 M 0 0 0) 2 0 (M 2 0 + 1) 2 0 - 1 = nI (J 0 0) by show M 2 0 + 1 - 1 = _; rw [hR.nL, nI_1, nI_pred]]
    exact rr_ireturn C dX3_addLayer_45 ⟨_, rfl, fun _ => rfl, _, e2, rfl, fun q ea cap => hR.adL q ea cap⟩
theorem cy_Rl.adI (hR : cy_Rl I J M) {p l : Int32} {lj : Nat} (hl : l = nI lj) (hp : p = nI (cy_pp p) - 1) (q ea cap : Nat) : cy_Rl (adII I (J 0 1)) (adIJ J (J 0 1) q ea cap (cy_pp p) lj) (u2 (u2 (u2 (u2 M 0 0 0) 6 (J 0 1) p) 7 (J 0 1) l) 5 0 (M 5 0 + 1)) := ⟨hR.hour, hR.nL, by
        show M 5 0 + 1 = nI (J 0 1 + 1)
        rw [hR.nIm, nI_1], hR.nH, hR.nW, hR.lic, hR.nC, hR.wd, hR.oa, by
        intro i hi
        have hi : i < J 0 1 + 1 := hi
        show (if i = J 0 1 then p else M 6 i) = nI (if i = J 0 1 then cy_pp p else J 10 i) - 1
        by_cases e : i = J 0 1
        · rw [if_pos e, if_pos e]; exact hp
        · rw [if_neg e, if_neg e]; exact hR.par i (by omega), by
        intro i hi
        have hi : i < J 0 1 + 1 := hi
        show (if i = J 0 1 then l else M 7 i) = nI (if i = J 0 1 then lj else J 11 i)
        by_cases e : i = J 0 1
        · rw [if_pos e, if_pos e]; exact hl
        · rw [if_neg e, if_neg e]; exact hR.ownl i (by omega), hR.hc, hR.hm, hR.w1, hR.w2, hR.w3, hR.ten, hR.img, hR.nc, hR.nm, hR.sta, hR.host, hR.wi, hR.start, hR.unt, hR.row, hR.zL, hR.zC⟩
theorem ct_X3_addImage (hM : cy_Mo G A M st h) (hR : cy_Rl I J M) (hr : cy_Yr G J) {p l : Int32} : cy_Con G yX3_addImage cX3_addImage 3 (some .int) 5 0 [.ref (A 0), .int p, .int l] h (qMi (cd3 ((decide (p = -1) || cy_ix p (J 0 1)) && cy_ix l (J 0 0)) (cy_sup J p l) (decide (J 0 1 < 8))) (nI (J 0 1)) (fun h1 => if cd3 ((decide (p = -1) || cy_ix p (J 0 1)) && cy_ix l (J 0 0)) (cy_sup J p l) (decide (J 0 1 < 8)) = 0 then cy_MU G A st h (fun M1 => ∀ q ea cap, cy_Rl (adII I (J 0 1)) (adIJ J (J 0 1) q ea cap (cy_pp p) (kn l)) M1) h1 else cy_MT G A M st h (cd3 ((decide (p = -1) || cy_ix p (J 0 1)) && cy_ix l (J 0 0)) (cy_sup J p l) (decide (J 0 1 < 8))) h1)) xF := by
  have r0 := hr.2.1
  obtain ⟨a, ha⟩ : ∃ a, a = ((decide (p = -1) || cy_ix p (J 0 1)) && cy_ix l (J 0 0)) := ⟨_, rfl⟩
  obtain ⟨b, hb⟩ : ∃ b, b = cy_sup J p l := ⟨_, rfl⟩
  obtain ⟨c, hc⟩ : ∃ c, c = decide (J 0 1 < 8) := ⟨_, rfl⟩
  rw [← ha, ← hb, ← hc]
  refine cy_in (own := RX3) (lv0 := [some (.ref (A 0)), some (.int p), some (.int l)]) (by decide) rfl rfl rfl (Nat.le_of_ble_eq_true rfl) (fun K T C => ?_)
  refine rr_aload_n C 0 dX3_addImage_0 rfl rfl ?_
  refine rr_iconst C 0 dX3_addImage_1 (by decide) ?_
  refine pf_X3_79 C dX3_addImage_2 hM.obj ?_
  refine kG (P := fun h1 => cy_Mo G A (u2 M 0 0 0) st h1 ∧ cy_FrA A h h1) ⟨hM.thr 0, cy_FrA.up cy_own.obj⟩ (fun h1 e1 => ?_)
  obtain ⟨hM0, hF0⟩ := e1
  have hR0 := hR.thr 0
  have h00 : u2 M 0 0 0 0 0 = 0 := u2_eq
  -- what is thrown
  have k92 : ∀ (x : Int32) (n : Nat) (h2 : Hp), x = nI n → cd3 a b c = n → n ≠ 0 → cy_Mo G A (u2 (u2 M 0 0 0) 0 0 x) st h2 ∧ cy_FrA A h1 h2 → K 0 h2 92 [some (.ref (A 0)), some (.int p), some (.int l)] [] := by
    intro x n h2 hx hn h0 e2
    rw [hn] at C
    refine rr_iconst C 0 dX3_addImage_92 (by decide) ?_
    exact rr_ireturn C dX3_addImage_93 ⟨0, rfl, fun z => absurd z h0, (if_neg h0).mpr (cy_MT.of hF0 e2 hx)⟩
  have k94 : a = true → b = true → c = true → K 0 h1 94 [some (.ref (A 0)), some (.int p), some (.int l)] [] := by
    intro ta tb tc
    have hcc : cd3 a b c = 0 := by rw [ta, tb, tc]; rfl
    rw [hcc] at C
    have hlt := of_decide_eq_true (hc.symm.trans tc)
    have hal := ha.symm.trans ta
    obtain ⟨hal1, hal2⟩ := Bool.and_eq_true_iff.mp hal
    obtain ⟨lj, hlj, el⟩ := cy_ix_t (by omega) hal2
    have kl : kn l = lj := by rw [el, kn_nI (by omega)]
    rw [kl] at C
    have hp : p = nI (cy_pp p) - 1 := by
      unfold cy_pp
      by_cases hm : p = -1
      · rw [if_pos hm]; exact hm
      · rw [if_neg hm, nI_pred]
        rw [decide_eq_false hm, Bool.false_or] at hal1
        obtain ⟨pj, hpj, ep⟩ := cy_ix_t (by omega) hal1
        rw [ep, kn_nI (by omega)]
    refine rr_aload_n C 0 dX3_addImage_94 rfl rfl ?_
    refine gf_X3_17 C dX3_addImage_95 (Or.inl hM0.obj) ?_
    refine rr_aload_n C 0 dX3_addImage_98 rfl rfl ?_
    refine gf_X3_89 C dX3_addImage_99 (Or.inl hM0.obj) ?_
    refine rr_iload_n C 1 dX3_addImage_102 rfl rfl ?_
    refine rr_iast C (J 0 1) dX3_addImage_103 (hM0.row rfl) hR0.nIm (by omega) (by decide) ?_
    refine kG (P := fun h2 => cy_Mo G A (u2 (u2 M 0 0 0) 6 (J 0 1) p) st h2 ∧ cy_FrA A h h2) ⟨hM0.ar rfl _ _, hF0.tr (cy_FrA.up (cy_own.row (r := 6) rfl))⟩ (fun h2 e2 => ?_)
    obtain ⟨hM2, hF2⟩ := e2
    refine rr_aload_n C 0 dX3_addImage_104 rfl rfl ?_
    refine gf_X3_20 C dX3_addImage_105 (Or.inl hM2.obj) ?_
    refine rr_aload_n C 0 dX3_addImage_108 rfl rfl ?_
    refine gf_X3_89 C dX3_addImage_109 (Or.inl hM2.obj) ?_
    refine rr_iload_n C 2 dX3_addImage_112 rfl rfl ?_
    refine rr_iast C (J 0 1) dX3_addImage_113 (hM2.row rfl) hR.nIm (by omega) (by decide) ?_
    refine kG (P := fun h3 => cy_Mo G A (u2 (u2 (u2 M 0 0 0) 6 (J 0 1) p) 7 (J 0 1) l) st h3 ∧ cy_FrA A h h3) ⟨hM2.ar rfl _ _, hF2.tr (cy_FrA.up (cy_own.row (r := 7) rfl))⟩ (fun h3 e3 => ?_)
    obtain ⟨hM3, hF3⟩ := e3
    refine rr_aload_n C 0 dX3_addImage_114 rfl rfl ?_
    refine rr_dup C dX3_addImage_115 rfl ?_
    refine gf_X3_89 C dX3_addImage_116 (Or.inl hM3.obj) ?_
    refine rr_iconst C 1 dX3_addImage_119 (by decide) ?_
    refine rr_iadd C dX3_addImage_120 ?_
    refine pf_X3_89 C dX3_addImage_121 hM3.obj ?_
    refine kG (P := fun h4 => cy_Mo G A (u2 (u2 (u2 (u2 M 0 0 0) 6 (J 0 1) p) 7 (J 0 1) l) 5 0 (M 5 0 + 1)) st h4 ∧ cy_FrA A h h4) ⟨hM3.sc (fun r p q => u2_row (fun z => by rw [z] at q; cases q)), hF3.tr (cy_FrA.up cy_own.obj)⟩ (fun h4 e4 => ?_)
    refine rr_aload_n C 0 dX3_addImage_124 rfl rfl ?_
    refine gf_X3_89 C dX3_addImage_125 (Or.inl e4.1.obj) ?_
    refine rr_iconst C 1 dX3_addImage_128 (by decide) ?_
    refine rr_isub C dX3_addImage_129 ?_
    rw [show u2 (u2 (u2 (u2 M 0 0 0) 6 (J 0 1) p) 7 (J 0 1) l) 5 0 (M 5 0 + 1) 5 0 - 1 = nI (J 0 1) by show M 5 0 + 1 - 1 = _; rw [hR.nIm, nI_1, nI_pred]]
    exact rr_ireturn C dX3_addImage_130 ⟨_, rfl, fun _ => rfl, _, e4, rfl, fun q ea cap => hR.adI el hp q ea cap⟩
  have k85 : a = true → b = true → ∀ b0 : Bool, (!c) = b0 → K 0 h1 85 [some (.ref (A 0)), some (.int p), some (.int l)] [.int (bI b0), .ref (A 0)] := by
    intro ta tb b0 hb0
    cases b0 with
    | true =>
      have tc : c = false := by cases c; rfl; cases hb0
      refine rr_iconst C 3 dX3_addImage_85 (by decide) ?_
      refine cv_X3_109 C dX3_addImage_86 (ct_X3_failsT hM0 h00 (by decide)) (Or.inl hM0.obj) (kV (fun h2 e2 => ?_))
      refine rr_if_eq C 94 dX3_addImage_89 (by decide) (fun c => absurd c (by decide)) (fun _ => ?_)
      exact k92 3 3 h2 rfl (by rw [ta, tb, tc]; rfl) (by decide) e2
    | false =>
      have tc : c = true := by cases c; cases hb0; rfl
      refine rr_iconst C 3 dX3_addImage_85 (by decide) ?_
      refine cv_X3_109 C dX3_addImage_86 (ct_X3_failsF hM0 h00 (by decide)) (Or.inl hM0.obj) (kVr ?_)
      refine rr_if_eq C 94 dX3_addImage_89 (by decide) (fun _ => ?_) (fun c => absurd rfl c)
      exact k94 ta tb tc
  have k63 : a = true → ∀ b0 : Bool, (!b) = b0 → K 0 h1 63 [some (.ref (A 0)), some (.int p), some (.int l)] [.int (bI b0), .ref (A 0)] := by
    intro ta b0 hb0
    cases b0 with
    | true =>
      have tb : b = false := by cases b; rfl; cases hb0
      refine rr_iconst C 2 dX3_addImage_63 (by decide) ?_
      refine cv_X3_109 C dX3_addImage_64 (ct_X3_failsT hM0 h00 (by decide)) (Or.inl hM0.obj) (kV (fun h2 e2 => ?_))
      refine rr_if_ne C 92 dX3_addImage_67 (by decide) (fun _ => ?_) (fun c => absurd c (by decide))
      exact k92 2 2 h2 rfl (by rw [ta, tb]; rfl) (by decide) e2
    | false =>
      have tb : b = true := by cases b; cases hb0; rfl
      refine rr_iconst C 2 dX3_addImage_63 (by decide) ?_
      refine cv_X3_109 C dX3_addImage_64 (ct_X3_failsF hM0 h00 (by decide)) (Or.inl hM0.obj) (kVr ?_)
      refine rr_if_ne C 92 dX3_addImage_67 (by decide) (fun c => absurd rfl c) (fun _ => ?_)
      refine rr_aload_n C 0 dX3_addImage_70 rfl rfl ?_
      refine rr_aload_n C 0 dX3_addImage_71 rfl rfl ?_
      refine gf_X3_89 C dX3_addImage_72 (Or.inl hM0.obj) ?_
      rw [hR0.nIm]
      refine rr_bipush C 8 dX3_addImage_75 (by decide) ?_
      refine rr_icmp_ne C 84 dX3_addImage_77 (by decide) (fun c77 => ?_) (fun c77 => ?_)
      · refine rr_iconst C 0 dX3_addImage_84 (by decide) ?_
        exact k85 ta tb false (by rw [hc, decide_eq_true (show J 0 1 < 8 from Nat.lt_of_le_of_ne r0.2.1 (fun z => c77 (by rw [z]; rfl)))]; rfl)
      · refine rr_iconst C 1 dX3_addImage_80 (by decide) ?_
        refine rr_goto C 85 dX3_addImage_81 (by decide) ?_
        exact k85 ta tb true (by rw [hc, decide_eq_false (show ¬ J 0 1 < 8 by have := (nI_eq (b := 8) (by omega) (by omega)).mp c77; omega)]; rfl)
  have k32 : ∀ b0 : Bool, (!a) = b0 → K 0 h1 32 [some (.ref (A 0)), some (.int p), some (.int l)] [.int (bI b0), .ref (A 0)] := by
    intro b0 hb0
    cases b0 with
    | true =>
      have ta : a = false := by cases a; rfl; cases hb0
      refine rr_iconst C 1 dX3_addImage_32 (by decide) ?_
      refine cv_X3_109 C dX3_addImage_33 (ct_X3_failsT hM0 h00 (by decide)) (Or.inl hM0.obj) (kV (fun h2 e2 => ?_))
      refine rr_if_ne C 92 dX3_addImage_36 (by decide) (fun _ => ?_) (fun c => absurd c (by decide))
      exact k92 1 1 h2 rfl (by rw [ta]; rfl) (by decide) e2
    | false =>
      have ta : a = true := by cases a; cases hb0; rfl
      have hal := ha.symm.trans ta
      obtain ⟨hal1, hal2⟩ := Bool.and_eq_true_iff.mp hal
      obtain ⟨lj, hlj, el⟩ := cy_ix_t (by omega) hal2
      have kl : kn l = lj := by rw [el, kn_nI (by omega)]
      refine rr_iconst C 1 dX3_addImage_32 (by decide) ?_
      refine cv_X3_109 C dX3_addImage_33 (ct_X3_failsF hM0 h00 (by decide)) (Or.inl hM0.obj) (kVr ?_)
      refine rr_if_ne C 92 dX3_addImage_36 (by decide) (fun c => absurd rfl c) (fun _ => ?_)
      refine rr_aload_n C 0 dX3_addImage_39 rfl rfl ?_
      refine rr_iload_n C 1 dX3_addImage_40 rfl rfl ?_
      refine rr_iconst C (-1) dX3_addImage_41 (by decide) ?_
      refine rr_icmp_eq C 62 dX3_addImage_42 (by decide) (fun c42 => ?_) (fun c42 => ?_)
      · refine rr_iconst C 0 dX3_addImage_62 (by decide) ?_
        exact k63 ta false (by rw [hb, cy_sup, decide_eq_true c42]; rfl)
      · rw [decide_eq_false c42, Bool.false_or] at hal1
        obtain ⟨pj, hpj, ep⟩ := cy_ix_t (by omega) hal1
        have kp : kn p = pj := by rw [ep, kn_nI (by omega)]
        have hs := ct_X3_set hM0 hR0 hr hpj
        rw [← ep] at hs
        refine rr_aload_n C 0 dX3_addImage_45 rfl rfl ?_
        refine rr_iload_n C 1 dX3_addImage_46 rfl rfl ?_
        refine cv_X3_105 C dX3_addImage_47 hs (Or.inl hM0.obj) (kVr ?_)
        refine rr_iload_n C 2 dX3_addImage_50 rfl rfl ?_
        refine rr_ishr C dX3_addImage_51 ?_
        refine rr_iconst C 1 dX3_addImage_52 (by decide) ?_
        refine rr_iand C dX3_addImage_53 ?_
        rw [el, cy_shr_b _ (show lj < 12 by omega)]
        refine rr_iconst C 1 dX3_addImage_54 (by decide) ?_
        rw [← el]
        refine rr_icmp_ne C 62 dX3_addImage_55 (by decide) (fun c55 => ?_) (fun c55 => ?_)
        · refine rr_iconst C 0 dX3_addImage_62 (by decide) ?_
          exact k63 ta false (by rw [hb, cy_sup, decide_eq_false c42, kp, kl]; cases hd : decide (cy_lay J pj &&& cy_bit lj = 0); exact absurd (by rw [hd]; rfl) c55; rfl)
        · refine rr_iconst C 1 dX3_addImage_58 (by decide) ?_
          refine rr_goto C 63 dX3_addImage_59 (by decide) ?_
          exact k63 ta true (by rw [hb, cy_sup, decide_eq_false c42, kp, kl]; cases hd : decide (cy_lay J pj &&& cy_bit lj = 0); rfl; exact absurd c55 (by rw [hd]; decide))
  have k19 : (decide (p = -1) || cy_ix p (J 0 1)) = true → K 0 h1 19 [some (.ref (A 0)), some (.int p), some (.int l)] [.ref (A 0)] := by
    intro hp
    refine rr_aload_n C 0 dX3_addImage_19 rfl rfl ?_
    refine rr_iload_n C 2 dX3_addImage_20 rfl rfl ?_
    refine cv_X3_116 C dX3_addImage_21 (ct_X3_noLayer hM0 (n := J 0 0) (by omega) hR0.nL) (Or.inl hM0.obj) (kVr ?_)
    refine rr_if_eq C 31 dX3_addImage_24 (by decide) (fun c24 => ?_) (fun c24 => ?_)
    · refine rr_iconst C 0 dX3_addImage_31 (by decide) ?_
      exact k32 false (by rw [ha, hp, Bool.true_and]; exact bI_eq0 c24)
    · refine rr_iconst C 1 dX3_addImage_27 (by decide) ?_
      refine rr_goto C 32 dX3_addImage_28 (by decide) ?_
      exact k32 true (by rw [ha, hp, Bool.true_and]; exact bI_ne0 c24)
  refine rr_aload_n C 0 dX3_addImage_5 rfl rfl ?_
  refine rr_iload_n C 1 dX3_addImage_6 rfl rfl ?_
  refine rr_iconst C (-1) dX3_addImage_7 (by decide) ?_
  refine rr_icmp_eq C 19 dX3_addImage_8 (by decide) (fun c8 => ?_) (fun c8 => ?_)
  · exact k19 (by rw [decide_eq_true c8]; rfl)
  · refine rr_aload_n C 0 dX3_addImage_11 rfl rfl ?_
    refine rr_iload_n C 1 dX3_addImage_12 rfl rfl ?_
    refine cv_X3_113 C dX3_addImage_13 (ct_X3_noImage hM0 (n := J 0 1) (by omega) hR0.nIm) (Or.inl hM0.obj) (kVr ?_)
    refine rr_if_ne C 27 dX3_addImage_16 (by decide) (fun c16 => ?_) (fun c16 => ?_)
    · refine rr_iconst C 1 dX3_addImage_27 (by decide) ?_
      refine rr_goto C 32 dX3_addImage_28 (by decide) ?_
      exact k32 true (by rw [ha, decide_eq_false c8, show cy_ix p (J 0 1) = false by have := bI_ne0 c16; cases hz : cy_ix p (J 0 1); rfl; rw [hz] at this; cases this]; rfl)
    · exact k19 (by rw [show cy_ix p (J 0 1) = true by have := bI_eq0 c16; cases hz : cy_ix p (J 0 1); rw [hz] at this; cases this; rfl, Bool.or_true])
theorem cy_Mo.nown (hM : cy_Mo G A M st h) {a c : Nat} {fs : List Value} (ha : h a = some (.inr (c, fs))) (hc : c ≠ 11) : ¬ cy_own A a := by
  rintro (z | ⟨r, p, hr, z⟩)
  · rw [z, hM.obj] at ha; cases ha; exact hc rfl
  · rw [z, hM.row (r := r) (kd := p.1) (n := p.2) hr] at ha; cases ha
theorem cy_Rl.adH (hR : cy_Rl I J M) (q ea cap nd : Nat) (x y : Int32) : cy_Rl (adHI I (J 0 4) x y) (adHJ J (J 0 4) q ea cap nd) (u2 (u2 (u2 (u2 M 0 0 0) 9 (J 0 4) x) 10 (J 0 4) y) 8 0 (M 8 0 + 1)) := ⟨hR.hour, hR.nL, hR.nIm, by
        show M 8 0 + 1 = nI (J 0 4 + 1)
        rw [hR.nH, nI_1], hR.nW, hR.lic, hR.nC, hR.wd, hR.oa, hR.par, hR.ownl, by
        intro i hi
        have hi : i < J 0 4 + 1 := hi
        show (if i = J 0 4 then x else M 9 i) = (if i = J 0 4 then x else I 4 i)
        by_cases e : i = J 0 4
        · rw [if_pos e, if_pos e]
        · rw [if_neg e, if_neg e]; exact hR.hc i (by omega), by
        intro i hi
        have hi : i < J 0 4 + 1 := hi
        show (if i = J 0 4 then y else M 10 i) = (if i = J 0 4 then y else I 5 i)
        by_cases e : i = J 0 4
        · rw [if_pos e, if_pos e]
        · rw [if_neg e, if_neg e]; exact hR.hm i (by omega), hR.w1, hR.w2, hR.w3, hR.ten, hR.img, hR.nc, hR.nm, hR.sta, hR.host, hR.wi, hR.start, hR.unt, hR.row, hR.zL, hR.zC⟩
theorem cy_Rl.adW (hR : cy_Rl I J M) (q ea cap nd : Nat) (x y z : Int32) : cy_Rl (adWI I (J 0 2) x y z) (adWJ J (J 0 2) q ea cap nd) (u2 (u2 (u2 (u2 (u2 M 0 0 0) 12 (J 0 2) x) 13 (J 0 2) y) 14 (J 0 2) z) 11 0 (M 11 0 + 1)) := ⟨hR.hour, hR.nL, hR.nIm, hR.nH, by
        show M 11 0 + 1 = nI (J 0 2 + 1)
        rw [hR.nW, nI_1], hR.lic, hR.nC, hR.wd, hR.oa, hR.par, hR.ownl, hR.hc, hR.hm, by
        intro i hi
        have hi : i < J 0 2 + 1 := hi
        show (if i = J 0 2 then x else M 12 i) = (if i = J 0 2 then x else I 8 i)
        by_cases e : i = J 0 2
        · rw [if_pos e, if_pos e]
        · rw [if_neg e, if_neg e]; exact hR.w1 i (by omega), by
        intro i hi
        have hi : i < J 0 2 + 1 := hi
        show (if i = J 0 2 then y else M 13 i) = (if i = J 0 2 then y else I 9 i)
        by_cases e : i = J 0 2
        · rw [if_pos e, if_pos e]
        · rw [if_neg e, if_neg e]; exact hR.w2 i (by omega), by
        intro i hi
        have hi : i < J 0 2 + 1 := hi
        show (if i = J 0 2 then z else M 14 i) = (if i = J 0 2 then z else I 11 i)
        by_cases e : i = J 0 2
        · rw [if_pos e, if_pos e]
        · rw [if_neg e, if_neg e]; exact hR.w3 i (by omega), hR.ten, hR.img, hR.nc, hR.nm, hR.sta, hR.host, hR.wi, hR.start, hR.unt, hR.row, hR.zL, hR.zC⟩
theorem cy_Rl.adC (hR : cy_Rl I J M) {im : Int32} {ij : Nat} (him : im = nI ij) (q ea cap nd : Nat) (t x y : Int32) : cy_Rl (adCI I (J 0 3) t x y) (adCJ J (J 0 3) q ea cap nd ij) (u2 (u2 (u2 (u2 (u2 (u2 (u2 M 0 0 0) 17 (J 0 3) t) 18 (J 0 3) im) 19 (J 0 3) x) 20 (J 0 3) y) 21 (J 0 3) 119) 16 0 (M 16 0 + 1)) := ⟨hR.hour, hR.nL, hR.nIm, hR.nH, hR.nW, hR.lic, by
        show M 16 0 + 1 = nI (J 0 3 + 1)
        rw [hR.nC, nI_1], hR.wd, hR.oa, hR.par, hR.ownl, hR.hc, hR.hm, hR.w1, hR.w2, hR.w3, by
        intro i hi
        have hi : i < J 0 3 + 1 := hi
        show (if i = J 0 3 then t else M 17 i) = (if i = J 0 3 then t else I 12 i)
        by_cases e : i = J 0 3
        · rw [if_pos e, if_pos e]
        · rw [if_neg e, if_neg e]; exact hR.ten i (by omega), by
        intro i hi
        have hi : i < J 0 3 + 1 := hi
        show (if i = J 0 3 then im else M 18 i) = nI (if i = J 0 3 then ij else J 12 i)
        by_cases e : i = J 0 3
        · rw [if_pos e, if_pos e]; exact him
        · rw [if_neg e, if_neg e]; exact hR.img i (by omega), by
        intro i hi
        have hi : i < J 0 3 + 1 := hi
        show (if i = J 0 3 then x else M 19 i) = (if i = J 0 3 then x else I 13 i)
        by_cases e : i = J 0 3
        · rw [if_pos e, if_pos e]
        · rw [if_neg e, if_neg e]; exact hR.nc i (by omega), by
        intro i hi
        have hi : i < J 0 3 + 1 := hi
        show (if i = J 0 3 then y else M 20 i) = (if i = J 0 3 then y else I 14 i)
        by_cases e : i = J 0 3
        · rw [if_pos e, if_pos e]
        · rw [if_neg e, if_neg e]; exact hR.nm i (by omega), by
        intro i hi
        have hi : i < J 0 3 + 1 := hi
        show (if i = J 0 3 then 119 else M 21 i) = cy_chr (if i = J 0 3 then 0 else J 13 i)
        by_cases e : i = J 0 3
        · rw [if_pos e, if_pos e]; rfl
        · rw [if_neg e, if_neg e]; exact hR.sta i (by omega), by
        intro i hi
        have hi : i < J 0 3 + 1 := hi
        show (if i = J 0 3 then 0 else J 13 i) = 1 → M 22 i = nI ((if i = J 0 3 then 0 else J 14 i) - 1)
        by_cases e : i = J 0 3
        · rw [if_pos e]; intro z; cases z
        · rw [if_neg e, if_neg e]; exact hR.host i (by omega), by
        intro i hi
        have hi : i < J 0 3 + 1 := hi
        show M 23 i = (if i = J 0 3 then 0 else I 15 i)
        by_cases e : i = J 0 3
        · rw [if_pos e]; exact (hR.zC i (by omega)).1
        · rw [if_neg e]; exact hR.wi i (by omega), by
        intro i hi
        have hi : i < J 0 3 + 1 := hi
        show M 24 i = (if i = J 0 3 then 0 else I 16 i)
        by_cases e : i = J 0 3
        · rw [if_pos e]; exact (hR.zC i (by omega)).2.1
        · rw [if_neg e]; exact hR.start i (by omega), by
        intro i hi
        have hi : i < J 0 3 + 1 := hi
        show M 25 i = (if i = J 0 3 then 0 else I 18 i)
        by_cases e : i = J 0 3
        · rw [if_pos e]; exact (hR.zC i (by omega)).2.2.1
        · rw [if_neg e]; exact hR.unt i (by omega), by
        intro i hi
        have hi : i < J 0 3 + 1 := hi
        show M 26 i = (if (if i = J 0 3 then 0 else J 13 i) = 1 then (if I 1 0 - (if i = J 0 3 then 0 else I 16 i) < 8 then (if i = J 0 3 then 0 else I 17 i) else 0) else (if i = J 0 3 then 0 else I 17 i))
        by_cases e : i = J 0 3
        · simp only [if_pos e]; exact (hR.zC i (by omega)).2.2.2
        · simp only [if_neg e]; exact hR.row i (by omega), hR.zL, by
        intro i hi
        exact hR.zC i (Nat.le_of_succ_le hi)⟩
theorem ct_X3_addHost (hM : cy_Mo G A M st h) (hR : cy_Rl I J M) (hr : cy_Yr G J) {nd : Nat} {x y : Int32} (hnd : h nd = some (eNeed x y)) : cy_Con G yX3_addHost cX3_addHost 2 (some .int) 5 0 [.ref (A 0), .ref nd] h (qMi (cd2 (cy_nd x y 32 256) (decide (J 0 4 < 4))) (nI (J 0 4)) (fun h1 => if cd2 (cy_nd x y 32 256) (decide (J 0 4 < 4)) = 0 then cy_MU G A st h (fun M1 => ∀ q ea cap nd, cy_Rl (adHI I (J 0 4) x y) (adHJ J (J 0 4) q ea cap nd) M1) h1 else cy_MT G A M st h (cd2 (cy_nd x y 32 256) (decide (J 0 4 < 4))) h1)) xF := by
  have r0 := hr.2.1
  have hno := hM.nown hnd (by decide)
  obtain ⟨a, ha⟩ : ∃ a, a = cy_nd x y 32 256 := ⟨_, rfl⟩
  obtain ⟨c, hc⟩ : ∃ c, c = decide (J 0 4 < 4) := ⟨_, rfl⟩
  rw [← ha, ← hc]
  refine cy_in (own := RX3) (lv0 := [some (.ref (A 0)), some (.ref nd)]) (by decide) rfl rfl rfl (Nat.le_of_ble_eq_true rfl) (fun K T C => ?_)
  refine rr_aload_n C 0 dX3_addHost_0 rfl rfl ?_
  refine rr_iconst C 0 dX3_addHost_1 (by decide) ?_
  refine pf_X3_79 C dX3_addHost_2 hM.obj ?_
  refine kG (P := fun h1 => cy_Mo G A (u2 M 0 0 0) st h1 ∧ cy_FrA A h h1) ⟨hM.thr 0, cy_FrA.up cy_own.obj⟩ (fun h1 e1 => ?_)
  obtain ⟨hM0, hF0⟩ := e1
  have hR0 := hR.thr 0
  have h00 : u2 M 0 0 0 0 0 = 0 := u2_eq
  have hn1 := hF0 _ _ hno hnd
  have k66 : ∀ (x : Int32) (n : Nat) (h2 : Hp), x = nI n → cd2 a c = n → n ≠ 0 → cy_Mo G A (u2 (u2 M 0 0 0) 0 0 x) st h2 ∧ cy_FrA A h1 h2 → K 0 h2 66 [some (.ref (A 0)), some (.ref nd)] [] := by
    intro x n h2 hx hn h0 e2
    rw [hn] at C
    refine rr_iconst C 0 dX3_addHost_66 (by decide) ?_
    exact rr_ireturn C dX3_addHost_67 ⟨0, rfl, fun z => absurd z h0, (if_neg h0).mpr (cy_MT.of hF0 e2 hx)⟩
  have k68 : a = true → c = true → K 0 h1 68 [some (.ref (A 0)), some (.ref nd)] [] := by
    intro ta tc
    have hcc : cd2 a c = 0 := by rw [ta, tc]; rfl
    rw [hcc] at C
    have hlt := of_decide_eq_true (hc.symm.trans tc)
    refine rr_aload_n C 0 dX3_addHost_68 rfl rfl ?_
    refine gf_X3_23 C dX3_addHost_69 (Or.inl hM0.obj) ?_
    refine rr_aload_n C 0 dX3_addHost_72 rfl rfl ?_
    refine gf_X3_92 C dX3_addHost_73 (Or.inl hM0.obj) ?_
    refine rr_aload_n C 1 dX3_addHost_76 rfl rfl ?_
    refine cv_X3_126 C dX3_addHost_77 (ct_X7_cores hn1) (Or.inl hn1) (kVr ?_)
    refine rr_iast C (J 0 4) dX3_addHost_80 (hM0.row rfl) hR0.nH (by omega) (by decide) ?_
    refine kG (P := fun h2 => cy_Mo G A (u2 (u2 M 0 0 0) 9 (J 0 4) x) st h2 ∧ cy_FrA A h h2) ⟨hM0.ar rfl _ _, hF0.tr (cy_FrA.up (cy_own.row (r := 9) rfl))⟩ (fun h2 e2 => ?_)
    obtain ⟨hM2, hF2⟩ := e2
    have hn2 := hF2 _ _ hno hnd
    refine rr_aload_n C 0 dX3_addHost_81 rfl rfl ?_
    refine gf_X3_26 C dX3_addHost_82 (Or.inl hM2.obj) ?_
    refine rr_aload_n C 0 dX3_addHost_85 rfl rfl ?_
    refine gf_X3_92 C dX3_addHost_86 (Or.inl hM2.obj) ?_
    refine rr_aload_n C 1 dX3_addHost_89 rfl rfl ?_
    refine cv_X3_131 C dX3_addHost_90 (ct_X7_memory hn2) (Or.inl hn2) (kVr ?_)
    refine rr_iast C (J 0 4) dX3_addHost_93 (hM2.row rfl) hR.nH (by omega) (by decide) ?_
    refine kG (P := fun h3 => cy_Mo G A (u2 (u2 (u2 M 0 0 0) 9 (J 0 4) x) 10 (J 0 4) y) st h3 ∧ cy_FrA A h h3) ⟨hM2.ar rfl _ _, hF2.tr (cy_FrA.up (cy_own.row (r := 10) rfl))⟩ (fun h3 e3 => ?_)
    obtain ⟨hM3, hF3⟩ := e3
    refine rr_aload_n C 0 dX3_addHost_94 rfl rfl ?_
    refine rr_dup C dX3_addHost_95 rfl ?_
    refine gf_X3_92 C dX3_addHost_96 (Or.inl hM3.obj) ?_
    refine rr_iconst C 1 dX3_addHost_99 (by decide) ?_
    refine rr_iadd C dX3_addHost_100 ?_
    refine pf_X3_92 C dX3_addHost_101 hM3.obj ?_
    refine kG (P := fun h4 => cy_Mo G A (u2 (u2 (u2 (u2 M 0 0 0) 9 (J 0 4) x) 10 (J 0 4) y) 8 0 (M 8 0 + 1)) st h4 ∧ cy_FrA A h h4) ⟨hM3.sc (fun r p q => u2_row (fun z => by rw [z] at q; cases q)), hF3.tr (cy_FrA.up cy_own.obj)⟩ (fun h4 e4 => ?_)
    refine rr_aload_n C 0 dX3_addHost_104 rfl rfl ?_
    refine gf_X3_92 C dX3_addHost_105 (Or.inl e4.1.obj) ?_
    refine rr_iconst C 1 dX3_addHost_108 (by decide) ?_
    refine rr_isub C dX3_addHost_109 ?_
    rw [show u2 (u2 (u2 (u2 M 0 0 0) 9 (J 0 4) x) 10 (J 0 4) y) 8 0 (M 8 0 + 1) 8 0 - 1 = nI (J 0 4) by show M 8 0 + 1 - 1 = _; rw [hR.nH, nI_1, nI_pred]]
    exact rr_ireturn C dX3_addHost_110 ⟨_, rfl, fun _ => rfl, _, e4, rfl, fun q ea cap nd => hR.adH q ea cap nd x y⟩
  have k38 : ∀ b0 : Bool, (!a) = b0 → K 0 h1 38 [some (.ref (A 0)), some (.ref nd)] [.int (bI b0), .ref (A 0)] := by
    intro b0 hb0
    cases b0 with
    | true =>
      have ta : a = false := by cases a; rfl; cases hb0
      refine rr_iconst C 1 dX3_addHost_38 (by decide) ?_
      refine cv_X3_109 C dX3_addHost_39 (ct_X3_failsT hM0 h00 (by decide)) (Or.inl hM0.obj) (kV (fun h2 e2 => ?_))
      refine rr_if_ne C 66 dX3_addHost_42 (by decide) (fun _ => ?_) (fun c => absurd c (by decide))
      exact k66 1 1 h2 rfl (by rw [ta]; rfl) (by decide) e2
    | false =>
      have ta : a = true := by cases a; cases hb0; rfl
      refine rr_iconst C 1 dX3_addHost_38 (by decide) ?_
      refine cv_X3_109 C dX3_addHost_39 (ct_X3_failsF hM0 h00 (by decide)) (Or.inl hM0.obj) (kVr ?_)
      refine rr_if_ne C 66 dX3_addHost_42 (by decide) (fun c => absurd rfl c) (fun _ => ?_)
      refine rr_aload_n C 0 dX3_addHost_45 rfl rfl ?_
      refine rr_aload_n C 0 dX3_addHost_46 rfl rfl ?_
      refine gf_X3_92 C dX3_addHost_47 (Or.inl hM0.obj) ?_
      rw [hR0.nH]
      refine rr_iconst C 4 dX3_addHost_50 (by decide) ?_
      refine rr_icmp_ne C 58 dX3_addHost_51 (by decide) (fun c51 => ?_) (fun c51 => ?_)
      · have tc : c = true := by rw [hc]; exact decide_eq_true (Nat.lt_of_le_of_ne r0.2.2.2.2 (fun z => c51 (by rw [z]; rfl)))
        refine rr_iconst C 0 dX3_addHost_58 (by decide) ?_
        refine rr_iconst C 2 dX3_addHost_59 (by decide) ?_
        refine cv_X3_109 C dX3_addHost_60 (ct_X3_failsF hM0 h00 (by decide)) (Or.inl hM0.obj) (kVr ?_)
        refine rr_if_eq C 68 dX3_addHost_63 (by decide) (fun _ => ?_) (fun c => absurd rfl c)
        exact k68 ta tc
      · have tc : c = false := by rw [hc]; exact decide_eq_false (by have := (nI_eq (b := 4) (by omega) (by omega)).mp c51; omega)
        refine rr_iconst C 1 dX3_addHost_54 (by decide) ?_
        refine rr_goto C 59 dX3_addHost_55 (by decide) ?_
        refine rr_iconst C 2 dX3_addHost_59 (by decide) ?_
        refine cv_X3_109 C dX3_addHost_60 (ct_X3_failsT hM0 h00 (by decide)) (Or.inl hM0.obj) (kV (fun h2 e2 => ?_))
        refine rr_if_eq C 68 dX3_addHost_63 (by decide) (fun c => absurd c (by decide)) (fun _ => ?_)
        exact k66 2 2 h2 rfl (by rw [ta, tc]; rfl) (by decide) e2
  refine rr_aload_n C 0 dX3_addHost_5 rfl rfl ?_
  refine rr_aload_n C 1 dX3_addHost_6 rfl rfl ?_
  refine cv_X3_126 C dX3_addHost_7 (ct_X7_cores hn1) (Or.inl hn1) (kVr ?_)
  refine rr_iconst C 1 dX3_addHost_10 (by decide) ?_
  refine rr_bipush C 32 dX3_addHost_11 (by decide) ?_
  refine cs_X3_85 C dX3_addHost_13 ct_X3_in (kVr ?_)
  refine rr_if_eq C 33 dX3_addHost_16 (by decide) (fun c16 => ?_) (fun c16 => ?_)
  · refine rr_iconst C 1 dX3_addHost_33 (by decide) ?_
    refine rr_goto C 38 dX3_addHost_34 (by decide) ?_
    exact k38 true (by rw [ha, cy_nd, bI_eq0 c16]; rfl)
  · refine rr_aload_n C 1 dX3_addHost_19 rfl rfl ?_
    refine cv_X3_131 C dX3_addHost_20 (ct_X7_memory hn1) (Or.inl hn1) (kVr ?_)
    refine rr_iconst C 1 dX3_addHost_23 (by decide) ?_
    refine rr_sipush C 256 dX3_addHost_24 (by decide) ?_
    refine cs_X3_85 C dX3_addHost_27 ct_X3_in (kVr ?_)
    refine rr_if_ne C 37 dX3_addHost_30 (by decide) (fun c30 => ?_) (fun c30 => ?_)
    · refine rr_iconst C 0 dX3_addHost_37 (by decide) ?_
      exact k38 false (by rw [ha, cy_nd, bI_ne0 c16, bI_ne0 c30]; rfl)
    · refine rr_iconst C 1 dX3_addHost_33 (by decide) ?_
      refine rr_goto C 38 dX3_addHost_34 (by decide) ?_
      exact k38 true (by rw [ha, cy_nd, bI_eq0 c30, Bool.and_false]; rfl)
theorem ct_X3_addWindow (hM : cy_Mo G A M st h) (hR : cy_Rl I J M) (hr : cy_Yr G J) {nd : Nat} {x y z : Int32} (hnd : h nd = some (eWin x y z)) : cy_Con G yX3_addWindow cX3_addWindow 2 (some .int) 5 0 [.ref (A 0), .ref nd] h (qMi (cd2 (cy_bt x 0 23 && cy_bt y 1 24 && cy_bt z 0 3) (decide (J 0 2 < 6))) (nI (J 0 2)) (fun h1 => if cd2 (cy_bt x 0 23 && cy_bt y 1 24 && cy_bt z 0 3) (decide (J 0 2 < 6)) = 0 then cy_MU G A st h (fun M1 => ∀ q ea cap nd, cy_Rl (adWI I (J 0 2) x y z) (adWJ J (J 0 2) q ea cap nd) M1) h1 else cy_MT G A M st h (cd2 (cy_bt x 0 23 && cy_bt y 1 24 && cy_bt z 0 3) (decide (J 0 2 < 6))) h1)) xF := by
  have r0 := hr.2.1
  have hno := hM.nown hnd (by decide)
  obtain ⟨a, ha⟩ : ∃ a, a = (cy_bt x 0 23 && cy_bt y 1 24 && cy_bt z 0 3) := ⟨_, rfl⟩
  obtain ⟨c, hc⟩ : ∃ c, c = decide (J 0 2 < 6) := ⟨_, rfl⟩
  rw [← ha, ← hc]
  refine cy_in (own := RX3) (lv0 := [some (.ref (A 0)), some (.ref nd)]) (by decide) rfl rfl rfl (Nat.le_of_ble_eq_true rfl) (fun K T C => ?_)
  refine rr_aload_n C 0 dX3_addWindow_0 rfl rfl ?_
  refine rr_iconst C 0 dX3_addWindow_1 (by decide) ?_
  refine pf_X3_79 C dX3_addWindow_2 hM.obj ?_
  refine kG (P := fun h1 => cy_Mo G A (u2 M 0 0 0) st h1 ∧ cy_FrA A h h1) ⟨hM.thr 0, cy_FrA.up cy_own.obj⟩ (fun h1 e1 => ?_)
  obtain ⟨hM0, hF0⟩ := e1
  have hR0 := hR.thr 0
  have h00 : u2 M 0 0 0 0 0 = 0 := u2_eq
  have hn1 := hF0 _ _ hno hnd
  have k78 : ∀ (x : Int32) (n : Nat) (h2 : Hp), x = nI n → cd2 a c = n → n ≠ 0 → cy_Mo G A (u2 (u2 M 0 0 0) 0 0 x) st h2 ∧ cy_FrA A h1 h2 → K 0 h2 78 [some (.ref (A 0)), some (.ref nd)] [] := by
    intro x n h2 hx hn h0 e2
    rw [hn] at C
    refine rr_iconst C 0 dX3_addWindow_78 (by decide) ?_
    exact rr_ireturn C dX3_addWindow_79 ⟨0, rfl, fun z => absurd z h0, (if_neg h0).mpr (cy_MT.of hF0 e2 hx)⟩
  have k80 : a = true → c = true → K 0 h1 80 [some (.ref (A 0)), some (.ref nd)] [] := by
    intro ta tc
    have hcc : cd2 a c = 0 := by rw [ta, tc]; rfl
    rw [hcc] at C
    have hlt := of_decide_eq_true (hc.symm.trans tc)
    refine rr_aload_n C 0 dX3_addWindow_80 rfl rfl ?_
    refine gf_X3_29 C dX3_addWindow_81 (Or.inl hM0.obj) ?_
    refine rr_aload_n C 0 dX3_addWindow_84 rfl rfl ?_
    refine gf_X3_141 C dX3_addWindow_85 (Or.inl hM0.obj) ?_
    refine rr_aload_n C 1 dX3_addWindow_88 rfl rfl ?_
    refine cv_X3_133 C dX3_addWindow_89 (ct_X10_first hn1) (Or.inl hn1) (kVr ?_)
    refine rr_iast C (J 0 2) dX3_addWindow_92 (hM0.row rfl) hR0.nW (by omega) (by decide) ?_
    refine kG (P := fun h2 => cy_Mo G A (u2 (u2 M 0 0 0) 12 (J 0 2) x) st h2 ∧ cy_FrA A h h2) ⟨hM0.ar rfl _ _, hF0.tr (cy_FrA.up (cy_own.row (r := 12) rfl))⟩ (fun h2 e2 => ?_)
    obtain ⟨hM2, hF2⟩ := e2
    have hn2 := hF2 _ _ hno hnd
    refine rr_aload_n C 0 dX3_addWindow_93 rfl rfl ?_
    refine gf_X3_32 C dX3_addWindow_94 (Or.inl hM2.obj) ?_
    refine rr_aload_n C 0 dX3_addWindow_97 rfl rfl ?_
    refine gf_X3_141 C dX3_addWindow_98 (Or.inl hM2.obj) ?_
    refine rr_aload_n C 1 dX3_addWindow_101 rfl rfl ?_
    refine cv_X3_137 C dX3_addWindow_102 (ct_X10_length hn2) (Or.inl hn2) (kVr ?_)
    refine rr_iast C (J 0 2) dX3_addWindow_105 (hM2.row rfl) hR.nW (by omega) (by decide) ?_
    refine kG (P := fun h3 => cy_Mo G A (u2 (u2 (u2 M 0 0 0) 12 (J 0 2) x) 13 (J 0 2) y) st h3 ∧ cy_FrA A h h3) ⟨hM2.ar rfl _ _, hF2.tr (cy_FrA.up (cy_own.row (r := 13) rfl))⟩ (fun h3 e3 => ?_)
    obtain ⟨hM3, hF3⟩ := e3
    have hn3 := hF3 _ _ hno hnd
    refine rr_aload_n C 0 dX3_addWindow_106 rfl rfl ?_
    refine gf_X3_35 C dX3_addWindow_107 (Or.inl hM3.obj) ?_
    refine rr_aload_n C 0 dX3_addWindow_110 rfl rfl ?_
    refine gf_X3_141 C dX3_addWindow_111 (Or.inl hM3.obj) ?_
    refine rr_aload_n C 1 dX3_addWindow_114 rfl rfl ?_
    refine cv_X3_139 C dX3_addWindow_115 (ct_X10_tenant hn3) (Or.inl hn3) (kVr ?_)
    refine rr_iast C (J 0 2) dX3_addWindow_118 (hM3.row rfl) hR.nW (by omega) (by decide) ?_
    refine kG (P := fun h4 => cy_Mo G A (u2 (u2 (u2 (u2 M 0 0 0) 12 (J 0 2) x) 13 (J 0 2) y) 14 (J 0 2) z) st h4 ∧ cy_FrA A h h4) ⟨hM3.ar rfl _ _, hF3.tr (cy_FrA.up (cy_own.row (r := 14) rfl))⟩ (fun h4 e4 => ?_)
    obtain ⟨hM4, hF4⟩ := e4
    refine rr_aload_n C 0 dX3_addWindow_119 rfl rfl ?_
    refine rr_dup C dX3_addWindow_120 rfl ?_
    refine gf_X3_141 C dX3_addWindow_121 (Or.inl hM4.obj) ?_
    refine rr_iconst C 1 dX3_addWindow_124 (by decide) ?_
    refine rr_iadd C dX3_addWindow_125 ?_
    refine pf_X3_141 C dX3_addWindow_126 hM4.obj ?_
    refine kG (P := fun h5 => cy_Mo G A (u2 (u2 (u2 (u2 (u2 M 0 0 0) 12 (J 0 2) x) 13 (J 0 2) y) 14 (J 0 2) z) 11 0 (M 11 0 + 1)) st h5 ∧ cy_FrA A h h5) ⟨hM4.sc (fun r p q => u2_row (fun z => by rw [z] at q; cases q)), hF4.tr (cy_FrA.up cy_own.obj)⟩ (fun h5 e5 => ?_)
    refine rr_aload_n C 0 dX3_addWindow_129 rfl rfl ?_
    refine gf_X3_141 C dX3_addWindow_130 (Or.inl e5.1.obj) ?_
    refine rr_iconst C 1 dX3_addWindow_133 (by decide) ?_
    refine rr_isub C dX3_addWindow_134 ?_
    rw [show u2 (u2 (u2 (u2 (u2 M 0 0 0) 12 (J 0 2) x) 13 (J 0 2) y) 14 (J 0 2) z) 11 0 (M 11 0 + 1) 11 0 - 1 = nI (J 0 2) by show M 11 0 + 1 - 1 = _; rw [hR.nW, nI_1, nI_pred]]
    exact rr_ireturn C dX3_addWindow_135 ⟨_, rfl, fun _ => rfl, _, e5, rfl, fun q ea cap nd => hR.adW q ea cap nd x y z⟩
  have k49 : ∀ b0 : Bool, (!a) = b0 → K 0 h1 49 [some (.ref (A 0)), some (.ref nd)] [.int (bI b0), .ref (A 0)] := by
    intro b0 hb0
    cases b0 with
    | true =>
      have ta : a = false := by cases a; rfl; cases hb0
      refine rr_iconst C 1 dX3_addWindow_49 (by decide) ?_
      refine cv_X3_109 C dX3_addWindow_50 (ct_X3_failsT hM0 h00 (by decide)) (Or.inl hM0.obj) (kV (fun h2 e2 => ?_))
      refine rr_if_ne C 78 dX3_addWindow_53 (by decide) (fun _ => ?_) (fun c => absurd c (by decide))
      exact k78 1 1 h2 rfl (by rw [ta]; rfl) (by decide) e2
    | false =>
      have ta : a = true := by cases a; cases hb0; rfl
      refine rr_iconst C 1 dX3_addWindow_49 (by decide) ?_
      refine cv_X3_109 C dX3_addWindow_50 (ct_X3_failsF hM0 h00 (by decide)) (Or.inl hM0.obj) (kVr ?_)
      refine rr_if_ne C 78 dX3_addWindow_53 (by decide) (fun c => absurd rfl c) (fun _ => ?_)
      refine rr_aload_n C 0 dX3_addWindow_56 rfl rfl ?_
      refine rr_aload_n C 0 dX3_addWindow_57 rfl rfl ?_
      refine gf_X3_141 C dX3_addWindow_58 (Or.inl hM0.obj) ?_
      rw [hR0.nW]
      refine rr_bipush C 6 dX3_addWindow_61 (by decide) ?_
      refine rr_icmp_ne C 70 dX3_addWindow_63 (by decide) (fun c63 => ?_) (fun c63 => ?_)
      · have tc : c = true := by rw [hc]; exact decide_eq_true (Nat.lt_of_le_of_ne r0.2.2.1 (fun z => c63 (by rw [z]; rfl)))
        refine rr_iconst C 0 dX3_addWindow_70 (by decide) ?_
        refine rr_iconst C 2 dX3_addWindow_71 (by decide) ?_
        refine cv_X3_109 C dX3_addWindow_72 (ct_X3_failsF hM0 h00 (by decide)) (Or.inl hM0.obj) (kVr ?_)
        refine rr_if_eq C 80 dX3_addWindow_75 (by decide) (fun _ => ?_) (fun c => absurd rfl c)
        exact k80 ta tc
      · have tc : c = false := by rw [hc]; exact decide_eq_false (by have := (nI_eq (b := 6) (by omega) (by omega)).mp c63; omega)
        refine rr_iconst C 1 dX3_addWindow_66 (by decide) ?_
        refine rr_goto C 71 dX3_addWindow_67 (by decide) ?_
        refine rr_iconst C 2 dX3_addWindow_71 (by decide) ?_
        refine cv_X3_109 C dX3_addWindow_72 (ct_X3_failsT hM0 h00 (by decide)) (Or.inl hM0.obj) (kV (fun h2 e2 => ?_))
        refine rr_if_eq C 80 dX3_addWindow_75 (by decide) (fun c => absurd c (by decide)) (fun _ => ?_)
        exact k78 2 2 h2 rfl (by rw [ta, tc]; rfl) (by decide) e2
  refine rr_aload_n C 0 dX3_addWindow_5 rfl rfl ?_
  refine rr_aload_n C 1 dX3_addWindow_6 rfl rfl ?_
  refine cv_X3_133 C dX3_addWindow_7 (ct_X10_first hn1) (Or.inl hn1) (kVr ?_)
  refine rr_iconst C 0 dX3_addWindow_10 (by decide) ?_
  refine rr_bipush C 23 dX3_addWindow_11 (by decide) ?_
  refine cs_X3_85 C dX3_addWindow_13 ct_X3_in (kVr ?_)
  refine rr_if_eq C 44 dX3_addWindow_16 (by decide) (fun c16 => ?_) (fun c16 => ?_)
  · refine rr_iconst C 1 dX3_addWindow_44 (by decide) ?_
    refine rr_goto C 49 dX3_addWindow_45 (by decide) ?_
    exact k49 true (by rw [ha, bI_eq0 c16]; rfl)
  · refine rr_aload_n C 1 dX3_addWindow_19 rfl rfl ?_
    refine cv_X3_137 C dX3_addWindow_20 (ct_X10_length hn1) (Or.inl hn1) (kVr ?_)
    refine rr_iconst C 1 dX3_addWindow_23 (by decide) ?_
    refine rr_bipush C 24 dX3_addWindow_24 (by decide) ?_
    refine cs_X3_85 C dX3_addWindow_26 ct_X3_in (kVr ?_)
    refine rr_if_eq C 44 dX3_addWindow_29 (by decide) (fun c29 => ?_) (fun c29 => ?_)
    · refine rr_iconst C 1 dX3_addWindow_44 (by decide) ?_
      refine rr_goto C 49 dX3_addWindow_45 (by decide) ?_
      exact k49 true (by rw [ha, bI_eq0 c29, Bool.and_false]; rfl)
    · refine rr_aload_n C 1 dX3_addWindow_32 rfl rfl ?_
      refine cv_X3_139 C dX3_addWindow_33 (ct_X10_tenant hn1) (Or.inl hn1) (kVr ?_)
      refine rr_iconst C 0 dX3_addWindow_36 (by decide) ?_
      refine rr_iconst C 3 dX3_addWindow_37 (by decide) ?_
      refine cs_X3_85 C dX3_addWindow_38 ct_X3_in (kVr ?_)
      refine rr_if_ne C 48 dX3_addWindow_41 (by decide) (fun c41 => ?_) (fun c41 => ?_)
      · refine rr_iconst C 0 dX3_addWindow_48 (by decide) ?_
        exact k49 false (by rw [ha, bI_ne0 c16, bI_ne0 c29, bI_ne0 c41]; rfl)
      · refine rr_iconst C 1 dX3_addWindow_44 (by decide) ?_
        refine rr_goto C 49 dX3_addWindow_45 (by decide) ?_
        exact k49 true (by rw [ha, bI_eq0 c41, Bool.and_false]; rfl)
theorem ct_X3_addContainer (hM : cy_Mo G A M st h) (hR : cy_Rl I J M) (hr : cy_Yr G J) {nd : Nat} {t im x y : Int32} (hnd : h nd = some (eNeed x y)) : cy_Con G yX3_addContainer cX3_addContainer 4 (some .int) 5 0 [.ref (A 0), .int t, .int im, .ref nd] h (qMi (cd3 (cy_bt t 0 3 && cy_nd x y 16 128) (cy_ix im (J 0 1)) (decide (J 0 3 < 12))) (nI (J 0 3)) (fun h1 => if cd3 (cy_bt t 0 3 && cy_nd x y 16 128) (cy_ix im (J 0 1)) (decide (J 0 3 < 12)) = 0 then cy_MU G A st h (fun M1 => ∀ q ea cap nd, cy_Rl (adCI I (J 0 3) t x y) (adCJ J (J 0 3) q ea cap nd (kn im)) M1) h1 else cy_MT G A M st h (cd3 (cy_bt t 0 3 && cy_nd x y 16 128) (cy_ix im (J 0 1)) (decide (J 0 3 < 12))) h1)) xF := by
  have r0 := hr.2.1
  have hno := hM.nown hnd (by decide)
  obtain ⟨a, ha⟩ : ∃ a, a = (cy_bt t 0 3 && cy_nd x y 16 128) := ⟨_, rfl⟩
  obtain ⟨b, hb⟩ : ∃ b, b = cy_ix im (J 0 1) := ⟨_, rfl⟩
  obtain ⟨c, hc⟩ : ∃ c, c = decide (J 0 3 < 12) := ⟨_, rfl⟩
  rw [← ha, ← hb, ← hc]
  refine cy_in (own := RX3) (lv0 := [some (.ref (A 0)), some (.int t), some (.int im), some (.ref nd)]) (by decide) rfl rfl rfl (Nat.le_of_ble_eq_true rfl) (fun K T C => ?_)
  refine rr_aload_n C 0 dX3_addContainer_0 rfl rfl ?_
  refine rr_iconst C 0 dX3_addContainer_1 (by decide) ?_
  refine pf_X3_79 C dX3_addContainer_2 hM.obj ?_
  refine kG (P := fun h1 => cy_Mo G A (u2 M 0 0 0) st h1 ∧ cy_FrA A h h1) ⟨hM.thr 0, cy_FrA.up cy_own.obj⟩ (fun h1 e1 => ?_)
  obtain ⟨hM0, hF0⟩ := e1
  have hR0 := hR.thr 0
  have h00 : u2 M 0 0 0 0 0 = 0 := u2_eq
  have hn1 := hF0 _ _ hno hnd
  have k89 : ∀ (x : Int32) (n : Nat) (h2 : Hp), x = nI n → cd3 a b c = n → n ≠ 0 → cy_Mo G A (u2 (u2 M 0 0 0) 0 0 x) st h2 ∧ cy_FrA A h1 h2 → K 0 h2 89 [some (.ref (A 0)), some (.int t), some (.int im), some (.ref nd)] [] := by
    intro x n h2 hx hn h0 e2
    rw [hn] at C
    refine rr_iconst C 0 dX3_addContainer_89 (by decide) ?_
    exact rr_ireturn C dX3_addContainer_90 ⟨0, rfl, fun z => absurd z h0, (if_neg h0).mpr (cy_MT.of hF0 e2 hx)⟩
  have k91 : a = true → b = true → c = true → K 0 h1 91 [some (.ref (A 0)), some (.int t), some (.int im), some (.ref nd)] [] := by
    intro ta tb tc
    have hcc : cd3 a b c = 0 := by rw [ta, tb, tc]; rfl
    rw [hcc] at C
    have hlt := of_decide_eq_true (hc.symm.trans tc)
    obtain ⟨ij, hij, ei⟩ := cy_ix_t (by omega) (hb.symm.trans tb)
    have kl : kn im = ij := by rw [ei, kn_nI (by omega)]
    rw [kl] at C
    refine rr_aload_n C 0 dX3_addContainer_91 rfl rfl ?_
    refine gf_X3_42 C dX3_addContainer_92 (Or.inl hM0.obj) ?_
    refine rr_aload_n C 0 dX3_addContainer_95 rfl rfl ?_
    refine gf_X3_95 C dX3_addContainer_96 (Or.inl hM0.obj) ?_
    refine rr_iload_n C 1 dX3_addContainer_99 rfl rfl ?_
    refine rr_iast C (J 0 3) dX3_addContainer_100 (hM0.row rfl) hR0.nC (by omega) (by decide) ?_
    refine kG (P := fun h2 => cy_Mo G A (u2 (u2 M 0 0 0) 17 (J 0 3) t) st h2 ∧ cy_FrA A h h2) ⟨hM0.ar rfl _ _, hF0.tr (cy_FrA.up (cy_own.row (r := 17) rfl))⟩ (fun h2 e2 => ?_)
    obtain ⟨hM2, hF2⟩ := e2
    refine rr_aload_n C 0 dX3_addContainer_101 rfl rfl ?_
    refine gf_X3_45 C dX3_addContainer_102 (Or.inl hM2.obj) ?_
    refine rr_aload_n C 0 dX3_addContainer_105 rfl rfl ?_
    refine gf_X3_95 C dX3_addContainer_106 (Or.inl hM2.obj) ?_
    refine rr_iload_n C 2 dX3_addContainer_109 rfl rfl ?_
    refine rr_iast C (J 0 3) dX3_addContainer_110 (hM2.row rfl) hR.nC (by omega) (by decide) ?_
    refine kG (P := fun h3 => cy_Mo G A (u2 (u2 (u2 M 0 0 0) 17 (J 0 3) t) 18 (J 0 3) im) st h3 ∧ cy_FrA A h h3) ⟨hM2.ar rfl _ _, hF2.tr (cy_FrA.up (cy_own.row (r := 18) rfl))⟩ (fun h3 e3 => ?_)
    obtain ⟨hM3, hF3⟩ := e3
    have hn3 := hF3 _ _ hno hnd
    refine rr_aload_n C 0 dX3_addContainer_111 rfl rfl ?_
    refine gf_X3_48 C dX3_addContainer_112 (Or.inl hM3.obj) ?_
    refine rr_aload_n C 0 dX3_addContainer_115 rfl rfl ?_
    refine gf_X3_95 C dX3_addContainer_116 (Or.inl hM3.obj) ?_
    refine rr_aload_n C 3 dX3_addContainer_119 rfl rfl ?_
    refine cv_X3_126 C dX3_addContainer_120 (ct_X7_cores hn3) (Or.inl hn3) (kVr ?_)
    refine rr_iast C (J 0 3) dX3_addContainer_123 (hM3.row rfl) hR.nC (by omega) (by decide) ?_
    refine kG (P := fun h4 => cy_Mo G A (u2 (u2 (u2 (u2 M 0 0 0) 17 (J 0 3) t) 18 (J 0 3) im) 19 (J 0 3) x) st h4 ∧ cy_FrA A h h4) ⟨hM3.ar rfl _ _, hF3.tr (cy_FrA.up (cy_own.row (r := 19) rfl))⟩ (fun h4 e4 => ?_)
    obtain ⟨hM4, hF4⟩ := e4
    have hn4 := hF4 _ _ hno hnd
    refine rr_aload_n C 0 dX3_addContainer_124 rfl rfl ?_
    refine gf_X3_51 C dX3_addContainer_125 (Or.inl hM4.obj) ?_
    refine rr_aload_n C 0 dX3_addContainer_128 rfl rfl ?_
    refine gf_X3_95 C dX3_addContainer_129 (Or.inl hM4.obj) ?_
    refine rr_aload_n C 3 dX3_addContainer_132 rfl rfl ?_
    refine cv_X3_131 C dX3_addContainer_133 (ct_X7_memory hn4) (Or.inl hn4) (kVr ?_)
    refine rr_iast C (J 0 3) dX3_addContainer_136 (hM4.row rfl) hR.nC (by omega) (by decide) ?_
    refine kG (P := fun h5 => cy_Mo G A (u2 (u2 (u2 (u2 (u2 M 0 0 0) 17 (J 0 3) t) 18 (J 0 3) im) 19 (J 0 3) x) 20 (J 0 3) y) st h5 ∧ cy_FrA A h h5) ⟨hM4.ar rfl _ _, hF4.tr (cy_FrA.up (cy_own.row (r := 20) rfl))⟩ (fun h5 e5 => ?_)
    obtain ⟨hM5, hF5⟩ := e5
    refine rr_aload_n C 0 dX3_addContainer_137 rfl rfl ?_
    refine gf_X3_54 C dX3_addContainer_138 (Or.inl hM5.obj) ?_
    refine rr_aload_n C 0 dX3_addContainer_141 rfl rfl ?_
    refine gf_X3_95 C dX3_addContainer_142 (Or.inl hM5.obj) ?_
    refine rr_bipush C 119 dX3_addContainer_145 (by decide) ?_
    refine rr_cast C (J 0 3) dX3_addContainer_147 (hM5.row rfl) hR.nC (by omega) (by decide) ?_
    refine kG (P := fun h6 => cy_Mo G A (u2 (u2 (u2 (u2 (u2 (u2 M 0 0 0) 17 (J 0 3) t) 18 (J 0 3) im) 19 (J 0 3) x) 20 (J 0 3) y) 21 (J 0 3) 119) st h6 ∧ cy_FrA A h h6) ⟨hM5.ar rfl _ _, hF5.tr (cy_FrA.up (cy_own.row (r := 21) rfl))⟩ (fun h6 e6 => ?_)
    obtain ⟨hM6, hF6⟩ := e6
    refine rr_aload_n C 0 dX3_addContainer_148 rfl rfl ?_
    refine rr_dup C dX3_addContainer_149 rfl ?_
    refine gf_X3_95 C dX3_addContainer_150 (Or.inl hM6.obj) ?_
    refine rr_iconst C 1 dX3_addContainer_153 (by decide) ?_
    refine rr_iadd C dX3_addContainer_154 ?_
    refine pf_X3_95 C dX3_addContainer_155 hM6.obj ?_
    refine kG (P := fun h7 => cy_Mo G A (u2 (u2 (u2 (u2 (u2 (u2 (u2 M 0 0 0) 17 (J 0 3) t) 18 (J 0 3) im) 19 (J 0 3) x) 20 (J 0 3) y) 21 (J 0 3) 119) 16 0 (M 16 0 + 1)) st h7 ∧ cy_FrA A h h7) ⟨hM6.sc (fun r p q => u2_row (fun z => by rw [z] at q; cases q)), hF6.tr (cy_FrA.up cy_own.obj)⟩ (fun h7 e7 => ?_)
    refine rr_aload_n C 0 dX3_addContainer_158 rfl rfl ?_
    refine gf_X3_95 C dX3_addContainer_159 (Or.inl e7.1.obj) ?_
    refine rr_iconst C 1 dX3_addContainer_162 (by decide) ?_
    refine rr_isub C dX3_addContainer_163 ?_
    rw [show u2 (u2 (u2 (u2 (u2 (u2 (u2 M 0 0 0) 17 (J 0 3) t) 18 (J 0 3) im) 19 (J 0 3) x) 20 (J 0 3) y) 21 (J 0 3) 119) 16 0 (M 16 0 + 1) 16 0 - 1 = nI (J 0 3) by show M 16 0 + 1 - 1 = _; rw [hR.nC, nI_1, nI_pred]]
    exact rr_ireturn C dX3_addContainer_164 ⟨_, rfl, fun _ => rfl, _, e7, rfl, fun q ea cap nd => hR.adC ei q ea cap nd t x y⟩
  have k54 : a = true → K 0 h1 54 [some (.ref (A 0)), some (.int t), some (.int im), some (.ref nd)] [] := by
    intro ta
    refine rr_aload_n C 0 dX3_addContainer_54 rfl rfl ?_
    refine rr_aload_n C 0 dX3_addContainer_55 rfl rfl ?_
    refine rr_iload_n C 2 dX3_addContainer_56 rfl rfl ?_
    refine cv_X3_113 C dX3_addContainer_57 (ct_X3_noImage hM0 (n := J 0 1) (by omega) hR0.nIm) (Or.inl hM0.obj) (kVr ?_)
    rw [← hb]
    cases b with
    | false =>
      refine rr_iconst C 2 dX3_addContainer_60 (by decide) ?_
      refine cv_X3_109 C dX3_addContainer_61 (ct_X3_failsT hM0 h00 (by decide)) (Or.inl hM0.obj) (kV (fun h2 e2 => ?_))
      refine rr_if_ne C 89 dX3_addContainer_64 (by decide) (fun _ => ?_) (fun c => absurd c (by decide))
      exact k89 2 2 h2 rfl (by rw [ta]; rfl) (by decide) e2
    | true =>
      refine rr_iconst C 2 dX3_addContainer_60 (by decide) ?_
      refine cv_X3_109 C dX3_addContainer_61 (ct_X3_failsF hM0 h00 (by decide)) (Or.inl hM0.obj) (kVr ?_)
      refine rr_if_ne C 89 dX3_addContainer_64 (by decide) (fun c => absurd rfl c) (fun _ => ?_)
      refine rr_aload_n C 0 dX3_addContainer_67 rfl rfl ?_
      refine rr_aload_n C 0 dX3_addContainer_68 rfl rfl ?_
      refine gf_X3_95 C dX3_addContainer_69 (Or.inl hM0.obj) ?_
      rw [hR0.nC]
      refine rr_bipush C 12 dX3_addContainer_72 (by decide) ?_
      refine rr_icmp_ne C 81 dX3_addContainer_74 (by decide) (fun c74 => ?_) (fun c74 => ?_)
      · have tc : c = true := by rw [hc]; exact decide_eq_true (Nat.lt_of_le_of_ne r0.2.2.2.1 (fun z => c74 (by rw [z]; rfl)))
        refine rr_iconst C 0 dX3_addContainer_81 (by decide) ?_
        refine rr_iconst C 3 dX3_addContainer_82 (by decide) ?_
        refine cv_X3_109 C dX3_addContainer_83 (ct_X3_failsF hM0 h00 (by decide)) (Or.inl hM0.obj) (kVr ?_)
        refine rr_if_eq C 91 dX3_addContainer_86 (by decide) (fun _ => ?_) (fun c => absurd rfl c)
        exact k91 ta rfl tc
      · have tc : c = false := by rw [hc]; exact decide_eq_false (by have := (nI_eq (b := 12) (by omega) (by omega)).mp c74; omega)
        refine rr_iconst C 1 dX3_addContainer_77 (by decide) ?_
        refine rr_goto C 82 dX3_addContainer_78 (by decide) ?_
        refine rr_iconst C 3 dX3_addContainer_82 (by decide) ?_
        refine cv_X3_109 C dX3_addContainer_83 (ct_X3_failsT hM0 h00 (by decide)) (Or.inl hM0.obj) (kV (fun h2 e2 => ?_))
        refine rr_if_eq C 91 dX3_addContainer_86 (by decide) (fun c => absurd c (by decide)) (fun _ => ?_)
        exact k89 3 3 h2 rfl (by rw [ta, tc]; rfl) (by decide) e2
  have k47 : ∀ b0 : Bool, (!a) = b0 → K 0 h1 47 [some (.ref (A 0)), some (.int t), some (.int im), some (.ref nd)] [.int (bI b0), .ref (A 0)] := by
    intro b0 hb0
    cases b0 with
    | true =>
      have ta : a = false := by cases a; rfl; cases hb0
      refine rr_iconst C 1 dX3_addContainer_47 (by decide) ?_
      refine cv_X3_109 C dX3_addContainer_48 (ct_X3_failsT hM0 h00 (by decide)) (Or.inl hM0.obj) (kV (fun h2 e2 => ?_))
      refine rr_if_ne C 89 dX3_addContainer_51 (by decide) (fun _ => ?_) (fun c => absurd c (by decide))
      exact k89 1 1 h2 rfl (by rw [ta]; rfl) (by decide) e2
    | false =>
      have ta : a = true := by cases a; cases hb0; rfl
      refine rr_iconst C 1 dX3_addContainer_47 (by decide) ?_
      refine cv_X3_109 C dX3_addContainer_48 (ct_X3_failsF hM0 h00 (by decide)) (Or.inl hM0.obj) (kVr ?_)
      refine rr_if_ne C 89 dX3_addContainer_51 (by decide) (fun c => absurd rfl c) (fun _ => ?_)
      exact k54 ta
  refine rr_aload_n C 0 dX3_addContainer_5 rfl rfl ?_
  refine rr_iload_n C 1 dX3_addContainer_6 rfl rfl ?_
  refine rr_iconst C 0 dX3_addContainer_7 (by decide) ?_
  refine rr_iconst C 3 dX3_addContainer_8 (by decide) ?_
  refine cs_X3_85 C dX3_addContainer_9 ct_X3_in (kVr ?_)
  refine rr_if_eq C 42 dX3_addContainer_12 (by decide) (fun c12 => ?_) (fun c12 => ?_)
  · refine rr_iconst C 1 dX3_addContainer_42 (by decide) ?_
    refine rr_goto C 47 dX3_addContainer_43 (by decide) ?_
    exact k47 true (by rw [ha, bI_eq0 c12]; rfl)
  · refine rr_aload_n C 3 dX3_addContainer_15 rfl rfl ?_
    refine cv_X3_126 C dX3_addContainer_16 (ct_X7_cores hn1) (Or.inl hn1) (kVr ?_)
    refine rr_iconst C 1 dX3_addContainer_19 (by decide) ?_
    refine rr_bipush C 16 dX3_addContainer_20 (by decide) ?_
    refine cs_X3_85 C dX3_addContainer_22 ct_X3_in (kVr ?_)
    refine rr_if_eq C 42 dX3_addContainer_25 (by decide) (fun c25 => ?_) (fun c25 => ?_)
    · refine rr_iconst C 1 dX3_addContainer_42 (by decide) ?_
      refine rr_goto C 47 dX3_addContainer_43 (by decide) ?_
      exact k47 true (by rw [ha, cy_nd, bI_eq0 c25, Bool.false_and, Bool.and_false]; rfl)
    · refine rr_aload_n C 3 dX3_addContainer_28 rfl rfl ?_
      refine cv_X3_131 C dX3_addContainer_29 (ct_X7_memory hn1) (Or.inl hn1) (kVr ?_)
      refine rr_iconst C 1 dX3_addContainer_32 (by decide) ?_
      refine rr_sipush C 128 dX3_addContainer_33 (by decide) ?_
      refine cs_X3_85 C dX3_addContainer_36 ct_X3_in (kVr ?_)
      refine rr_if_ne C 46 dX3_addContainer_39 (by decide) (fun c39 => ?_) (fun c39 => ?_)
      · refine rr_iconst C 0 dX3_addContainer_46 (by decide) ?_
        exact k47 false (by rw [ha, cy_nd, bI_ne0 c12, bI_ne0 c25, bI_ne0 c39]; rfl)
      · refine rr_iconst C 1 dX3_addContainer_42 (by decide) ?_
        refine rr_goto C 47 dX3_addContainer_43 (by decide) ?_
        exact k47 true (by rw [ha, cy_nd, bI_eq0 c39, Bool.and_false, Bool.and_false]; rfl)
end MC
