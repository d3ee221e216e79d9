/-! the model: what is added (printed by gen/mc.py) -/
set_option maxRecDepth 100000
/-- the model's world behind a change -/
abbrev cy_MU (G : GT) (A : Nat → Nat) (st : Int64) (h : Hp) (R : (Nat → Nat → Int32) → Prop) : Hp → Prop := fun h1 => ∃ M1, (cy_Mo G A M1 st h1 ∧ cy_FrA A h h1) ∧ M1 0 0 = 0 ∧ R M1
section MC
variable {G : GT} {A : Nat → Nat} {M : Nat → Nat → Int32} {st : Int64} {h : Hp} {I : Nat → Nat → Int32} {J : Nat → Nat → Nat}
theorem cy_Rl.adL (hR : cy_Rl I J M) (q ea cap : Nat) : cy_Rl (adLI I (J 0 0)) (adLJ J (J 0 0) q ea cap) (u2 (u2 M 0 0 0) 2 0 (M 2 0 + 1)) := ⟨hR.hour, by
        show M 2 0 + 1 = nI (J 0 0 + 1)
        rw [hR.nL, nI_1], hR.nIm, hR.nH, hR.nW, hR.lic, hR.nC, by
        intro i hi
        have hi : i < J 0 0 + 1 := hi
        show M 3 i = (if i = J 0 0 then 0 else I 2 i)
        by_cases e : i = J 0 0
        · rw [if_pos e]; exact (hR.zL i (by omega)).1
        · rw [if_neg e]; exact hR.wd i (by omega), by
        intro i hi
        have hi : i < J 0 0 + 1 := hi
        show M 4 i = (if i = J 0 0 then 0 else I 3 i)
        by_cases e : i = J 0 0
        · rw [if_pos e]; exact (hR.zL i (by omega)).2
        · rw [if_neg e]; exact hR.oa i (by omega), hR.par, hR.ownl, hR.hc, hR.hm, hR.w1, hR.w2, hR.w3, hR.ten, hR.img, hR.nc, hR.nm, hR.sta, hR.host, hR.wi, hR.start, hR.unt, hR.row, by
        intro i hi
        exact hR.zL i (Nat.le_of_succ_le hi), hR.zC⟩
theorem ct_X3_addLayer (hM : cy_Mo G A M st h) (hR : cy_Rl I J M) (hr : cy_Yr G J) : cy_Con G yX3_addLayer cX3_addLayer 1 (some .int) 5 0 [.ref (A 0)] h (qMi (cd1 (decide (J 0 0 < 12))) (nI (J 0 0)) (fun h1 => if decide (J 0 0 < 12) then cy_MU G A st h (fun M1 => ∀ q ea cap, cy_Rl (adLI I (J 0 0)) (adLJ J (J 0 0) q ea cap) M1) h1 else cy_MT G A M st h 1 h1)) xF := by
  have r0 := hr.2.1
  cases hb : decide (J 0 0 < 12) with
  | false =>
    have hlt := of_decide_eq_false hb
    refine cy_in (own := RX3) (lv0 := [some (.ref (A 0))]) (by decide) rfl rfl rfl (Nat.le_of_ble_eq_true rfl) (fun K T C => ?_)
    refine rr_aload_n C 0 dX3_addLayer_0 rfl rfl ?_
    refine rr_iconst C 0 dX3_addLayer_1 (by decide) ?_
    refine pf_X3_79 C dX3_addLayer_2 hM.obj ?_
    refine kG (P := fun h1 => cy_Mo G A (u2 M 0 0 0) st h1 ∧ cy_FrA A h h1) ⟨hM.thr 0, cy_FrA.up cy_own.obj⟩ (fun h1 e1 => ?_)
    obtain ⟨hM0, hF0⟩ := e1
    have hR0 := hR.thr 0
    have h00 : u2 M 0 0 0 0 0 = 0 := u2_eq
    refine rr_aload_n C 0 dX3_addLayer_5 rfl rfl ?_
    refine rr_aload_n C 0 dX3_addLayer_6 rfl rfl ?_
    refine gf_X3_82 C dX3_addLayer_7 (Or.inl hM0.obj) ?_
    rw [hR0.nL]
    refine rr_bipush C 12 dX3_addLayer_10 (by decide) ?_
    refine rr_icmp_ne C 19 dX3_addLayer_12 (by decide) (fun c => absurd (show nI (J 0 0) = 12 by rw [show J 0 0 = 12 by omega]; rfl) c) (fun _ => ?_)
    refine rr_iconst C 1 dX3_addLayer_15 (by decide) ?_
    refine rr_goto C 20 dX3_addLayer_16 (by decide) ?_
    refine rr_iconst C 1 dX3_addLayer_20 (by decide) ?_
    refine cv_X3_109 C dX3_addLayer_21 (ct_X3_failsT hM0 h00 (by decide)) (Or.inl hM0.obj) (kV (fun h2 e2 => ?_))
    refine rr_if_eq C 29 dX3_addLayer_24 (by decide) (fun c => absurd c (by decide)) (fun _ => ?_)
    refine rr_iconst C 0 dX3_addLayer_27 (by decide) ?_
    exact rr_ireturn C dX3_addLayer_28 ⟨0, rfl, fun c => absurd c (by decide), cy_MT.of hF0 e2 rfl⟩
  | true =>
    have hlt := of_decide_eq_true hb
    refine cy_in (own := RX3) (lv0 := [some (.ref (A 0))]) (by decide) rfl rfl rfl (Nat.le_of_ble_eq_true rfl) (fun K T C => ?_)
    refine rr_aload_n C 0 dX3_addLayer_0 rfl rfl ?_
    refine rr_iconst C 0 dX3_addLayer_1 (by decide) ?_
    refine pf_X3_79 C dX3_addLayer_2 hM.obj ?_
    refine kG (P := fun h1 => cy_Mo G A (u2 M 0 0 0) st h1 ∧ cy_FrA A h h1) ⟨hM.thr 0, cy_FrA.up cy_own.obj⟩ (fun h1 e1 => ?_)
    obtain ⟨hM0, hF0⟩ := e1
    have hR0 := hR.thr 0
    have h00 : u2 M 0 0 0 0 0 = 0 := u2_eq
    refine rr_aload_n C 0 dX3_addLayer_5 rfl rfl ?_
    refine rr_aload_n C 0 dX3_addLayer_6 rfl rfl ?_
    refine gf_X3_82 C dX3_addLayer_7 (Or.inl hM0.obj) ?_
    rw [hR0.nL]
    refine rr_bipush C 12 dX3_addLayer_10 (by decide) ?_
    refine rr_icmp_ne C 19 dX3_addLayer_12 (by decide) (fun _ => ?_) (fun c => absurd ((nI_eq (b := 12) (by omega) (by omega)).mp c) (by omega))
    refine rr_iconst C 0 dX3_addLayer_19 (by decide) ?_
    refine rr_iconst C 1 dX3_addLayer_20 (by decide) ?_
    refine cv_X3_109 C dX3_addLayer_21 (ct_X3_failsF hM0 h00 (by decide)) (Or.inl hM0.obj) (kVr ?_)
    refine rr_if_eq C 29 dX3_addLayer_24 (by decide) (fun _ => ?_) (fun c => absurd rfl c)
    refine rr_aload_n C 0 dX3_addLayer_29 rfl rfl ?_
    refine rr_dup C dX3_addLayer_30 rfl ?_
    refine gf_X3_82 C dX3_addLayer_31 (Or.inl hM0.obj) ?_
    refine rr_iconst C 1 dX3_addLayer_34 (by decide) ?_
    refine rr_iadd C dX3_addLayer_35 ?_
    refine pf_X3_82 C dX3_addLayer_36 hM0.obj ?_
    refine kG (P := fun h2 => cy_Mo G A (u2 (u2 M 0 0 0) 2 0 (M 2 0 + 1)) st h2 ∧ cy_FrA A h h2) ⟨hM0.sc (fun r p q => u2_row (fun z => by rw [z] at q; cases q)), hF0.tr (cy_FrA.up cy_own.obj)⟩ (fun h2 e2 => ?_)
    refine rr_aload_n C 0 dX3_addLayer_39 rfl rfl ?_
    refine gf_X3_82 C dX3_addLayer_40 (Or.inl e2.1.obj) ?_
    refine rr_iconst C 1 dX3_addLayer_43 (by decide) ?_
    refine rr_isub C dX3_addLayer_44 ?_
    rw [show u2 (u2 M 0 0 0) 2 0 (M 2 0 + 1) 2 0 - 1 = nI (J 0 0) by show M 2 0 + 1 - 1 = _; rw [hR.nL, nI_1, nI_pred]]
    exact rr_ireturn C dX3_addLayer_45 ⟨_, rfl, fun _ => rfl, _, e2, rfl, fun q ea cap => hR.adL q ea cap⟩
end MC
