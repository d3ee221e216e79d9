/-! CrateYard: what is added -/
set_option maxRecDepth 100000
theorem cy_ad_out {G : GT} {h h2 : Hp} {q a n cap ea v : Nat} {eo : va_E} {ad : Nat → Nat} {mc : Int32} (hq : h q = none) (had : cy_ad G (cy_up h q eo) h2 a n cap ea ad mc v) : ∃ ea' cap' : Nat, ((n < cap ∧ ea' = ea ∧ cap' = cap) ∨ (h ea' = none ∧ ea' ≠ q ∧ (cap' = 10 ∨ cap' = 15) ∧ n < cap')) ∧ h2 = cy_up (cy_up (cy_up h q eo) ea' (aO G cap' (cy_ar (n + 1) (va_up ad n v)))) a (.inr (7, [.int mc, .ref ea', .int (nI (n + 1))])) := by
  obtain ⟨ea', cap', hc, e2⟩ := had
  refine ⟨ea', cap', ?_, e2⟩
  rcases hc with hc | ⟨h1, h2, -, h3⟩
  · exact Or.inl hc
  · have hne : ea' ≠ q := fun z => by rw [z, cy_up_eq] at h2; cases h2
    rw [cy_up_ne hne] at h2
    exact Or.inr ⟨h2, hne, by omega, by omega⟩
theorem cy_ad_Fr {G : GT} {h : Hp} {q a n cap ea ea' cap' : Nat} {eo el : va_E} {f f0 : Nat → Option Nat} {fs : List Value} (hq : h q = none) (ha : h a = some (.inr (7, fs))) (hk : n < cap → h ea = some (aO G cap f0)) (hc : (n < cap ∧ ea' = ea ∧ cap' = cap) ∨ (h ea' = none ∧ ea' ≠ q ∧ (cap' = 10 ∨ cap' = 15) ∧ n < cap')) : cy_Fr h (cy_up (cy_up (cy_up h q eo) ea' (aO G cap' f)) a el) := by
  intro x e hx hy
  have h1 : x ≠ a := fun z => by rw [z, ha] at hx; cases hx; cases hy
  have h2 : x ≠ ea' := fun z => by
    rcases hc with ⟨c1, c2, -⟩ | ⟨c1, -⟩
    · rw [z, c2, hk c1] at hx; cases hx; cases hy
    · rw [z, c1] at hx; cases hx
  have h3 : x ≠ q := fun z => by rw [z, hq] at hx; cases hx
  rw [cy_up_ne h1, cy_up_ne h2, cy_up_ne h3]
  exact hx
theorem cy_Y.arr0 {G : GT} {I : Nat → Nat → Int32} {J : Nat → Nat → Nat} {st : Int64} {h : Hp} (hY : cy_Y G I J st h) {c : Nat} (hc : c < 5) (hn : J 0 c < J 4 c) : h (J 3 c) = some (aO G (J 4 c) (cy_ar (J 0 c) (J (5 + c)))) := hY.arr hc (by omega)
section GROW
variable {G : GT} {I : Nat → Nat → Int32} {J : Nat → Nat → Nat} {st : Int64} {h : Hp}
theorem ct_X1_addLayer (hG : cy_G G) (hY : cy_Y G I J st h) : cy_Con G yX1_addLayer cX1_addLayer 1 (some .int) 20 14 [.ref (J 1 0)] h (qC (cd1 (decide (J 0 0 < 12))) (.int (nI (J 0 0))) (fun h1 => (∃ q ea cap, cy_Y G (adLI I (J 0 0)) (adLJ J (J 0 0) q ea cap) st h1) ∧ cy_Fr h h1)) (xC (cd1 (decide (J 0 0 < 12))) (cy_nm RJ6 "" "") h) := by
  have r0 := hY.2.2.2.1
  have hla := hY.list (i := 0) (by decide)
  refine cy_in (own := RX1) (lv0 := [some (.ref (J 1 0))]) (by decide) rfl rfl rfl (Nat.le_of_ble_eq_true rfl) (fun K T C => ?_)
  refine rr_aload_n C 0 dX1_addLayer_0 rfl rfl ?_
  refine gf_X1_28 C dX1_addLayer_1 (Or.inl hY.yard) ?_
  refine cf_X1_50 C dX1_addLayer_4 (ct_J2_size hla) (Or.inl hla) (kVr ?_)
  refine rr_bipush C 12 dX1_addLayer_9 (by decide) ?_
  have key : ∀ b, decide (J 0 0 < 12) = b → K 14 h 19 [some (.ref (J 1 0))] [.int (bI b)] := by
    intro b hb0
    refine csx_X1_87 C dX1_addLayer_19 ct_X1_requireState (xK fun hb => rr_out C (xc1 (by rw [hb0]; exact hb))) (kB fun hb => ?_)
    rw [hb] at hb0
    have hlt := of_decide_eq_true hb0
    refine rr_aload_n C 0 dX1_addLayer_22 rfl rfl ?_
    refine gf_X1_28 C dX1_addLayer_23 (Or.inl hY.yard) ?_
    refine nw_X1_64 C dX1_addLayer_26 (fun q hq hz => ?_)
    refine rr_dup C dX1_addLayer_29 rfl ?_
    refine rr_aload_n C 0 dX1_addLayer_30 rfl rfl ?_
    refine gf_X1_28 C dX1_addLayer_31 (Or.inl (cy_up_old hq hY.yard)) ?_
    refine cf_X1_50 C dX1_addLayer_34 (ct_J2_size (cy_up_old hq hla)) (Or.inl (cy_up_old hq hla)) (kVr ?_)
    refine ci_X1_91 C dX1_addLayer_39 (ct_X5_init cy_up_eq) (kN (fun h1 e1 => ?_))
    subst e1
    rw [cy_up_up]
    refine cf_X1_94 C dX1_addLayer_42 (ct_J2_add hG (ci := 2) (cy_up_old hq hla) (hY.mono (cy_up_sub hq) |>.la (by decide)) (by omega) cy_up_eq (fun i hi => ⟨_, cy_up_old hq (hY.layer hi)⟩) rfl q1770 (by decide)) (Or.inl (cy_up_old hq hla)) (kV (fun h2 e2 => ?_))
    refine rr_pop C dX1_addLayer_47 rfl ?_
    obtain ⟨ea, cap, hc, e2⟩ := cy_ad_out hq e2
    have hY2 := hY.adL rfl hlt hq (hc.imp (fun z => ⟨z.1, z.2.1, z.2.2⟩) id)
    have hF := cy_ad_Fr (G := G) (eo := .inr (2, [.int (cy_bit (J 0 0)), .int 0, .int 0])) (f := cy_ar (J 0 0 + 1) (va_up (J 5) (J 0 0) q)) (el := .inr (7, [.int (I 0 0 + 1), .ref ea, .int (nI (J 0 0 + 1))])) hq hla (hY.arr0 (c := 0) (by decide)) hc
    rw [← e2] at hY2 hF
    have hy2 : h2 (J 1 0) = some (eYard (adLI I (J 0 0)) (adLJ J (J 0 0) q ea cap) st) := hY2.yard
    refine rr_aload_n C 0 dX1_addLayer_48 rfl rfl ?_
    refine gf_X1_28 C dX1_addLayer_49 (Or.inl hy2) ?_
    refine cf_X1_50 C dX1_addLayer_52 (ct_J2_size (hY2.list (i := 0) (by decide))) (Or.inl (hY2.list (i := 0) (by decide))) (kVr ?_)
    refine rr_iconst C 1 dX1_addLayer_57 (by decide) ?_
    refine rr_isub C dX1_addLayer_58 ?_
    rw [show nI (adLJ J (J 0 0) q ea cap 0 0) - 1 = nI (J 0 0) from nI_pred _]
    exact rr_ireturn C dX1_addLayer_59 ⟨qc1 hb0, rfl, ⟨q, ea, cap, hY2⟩, hF⟩
  refine rr_icmp_ge C 18 dX1_addLayer_11 (by decide) (fun c11 => ?_) (fun c11 => ?_)
  · refine rr_iconst C 0 dX1_addLayer_18 (by decide) ?_
    exact key false (decide_eq_false (fun z => nI_ge (b := 12) z (by omega) c11))
  · refine rr_iconst C 1 dX1_addLayer_14 (by decide) ?_
    refine rr_goto C 19 dX1_addLayer_15 (by decide) ?_
    exact key true (decide_eq_true (Nat.lt_of_not_le fun z => c11 (nI_le (a := 12) z (by omega))))
def cy_pp (p : Int32) : Nat := if p = -1 then 0 else kn p + 1
def cy_sup (J : Nat → Nat → Nat) (p l : Int32) : Bool := decide (p = -1) || decide (cy_lay J (kn p) &&& cy_bit (kn l) = 0)
theorem ct_X1_addImage (hG : cy_G G) (hY : cy_Y G I J st h) {p l : Int32} : cy_Con G yX1_addImage cX1_addImage 5 (some .int) 22 30 [.ref (J 1 0), .int p, .int l] h (qC (cd3 ((decide (p = -1) || cy_ix p (J 0 1)) && cy_ix l (J 0 0)) (cy_sup J p l) (decide (J 0 1 < 8))) (.int (nI (J 0 1))) (fun h1 => (∃ q ea cap, cy_Y G (adII I (J 0 1)) (adIJ J (J 0 1) q ea cap (cy_pp p) (kn l)) st h1) ∧ cy_Fr h h1)) (xC (cd3 ((decide (p = -1) || cy_ix p (J 0 1)) && cy_ix l (J 0 0)) (cy_sup J p l) (decide (J 0 1 < 8))) (cy_nm RJ10 RJ15 RJ6) h) := by
  have r0 := hY.2.2.2.1
  have hla := hY.list (i := 1) (by decide)
  refine cy_in (own := RX1) (lv0 := [some (.ref (J 1 0)), some (.int p), some (.int l), none, none]) (by decide) rfl rfl rfl (Nat.le_of_ble_eq_true rfl) (fun K T C => ?_)
  -- behind the two lookups
  have k44 : ∀ (lj : Nat) (b : Bool), lj < J 0 0 → l = nI lj → (decide (p = -1) || cy_ix p (J 0 1)) = true → cy_sup J p l = b → K 18 h 44 [some (.ref (J 1 0)), some (.int p), some (.int l), some (va_rf (cy_o (J 6) (cy_pp p))), some (.ref (J 5 lj))] [.int (bI b)] := by
    intro lj b hlj el ep hb0
    have ea1 : ((decide (p = -1) || cy_ix p (J 0 1)) && cy_ix l (J 0 0)) = true := by rw [ep, el, cy_ix_j hlj (by omega)]; rfl
    have kl : kn l = lj := by rw [el, kn_nI (by omega)]
    have hpp : cy_pp p ≤ J 0 1 := by
      unfold cy_pp
      split
      · omega
      · rename_i hne
        rw [decide_eq_false hne, Bool.false_or] at ep
        obtain ⟨j, hj, e⟩ := cy_ix_t (by omega) ep
        rw [e, kn_nI (by omega)]
        omega
    refine csx_X1_113 C dX1_addImage_44 ct_X1_requireSupported (xK fun hb => rr_out C (xc32 ea1 (hb0.trans hb))) (kB fun hb => ?_)
    have hb1 : cy_sup J p l = true := hb0.trans hb
    refine rr_aload_n C 0 dX1_addImage_47 rfl rfl ?_
    refine gf_X1_34 C dX1_addImage_48 (Or.inl hY.yard) ?_
    refine cf_X1_50 C dX1_addImage_51 (ct_J2_size hla) (Or.inl hla) (kVr ?_)
    refine rr_bipush C 8 dX1_addImage_56 (by decide) ?_
    have key : ∀ b, decide (J 0 1 < 8) = b → K 17 h 66 [some (.ref (J 1 0)), some (.int p), some (.int l), some (va_rf (cy_o (J 6) (cy_pp p))), some (.ref (J 5 lj))] [.int (bI b)] := by
      intro b hb0
      refine csx_X1_87 C dX1_addImage_66 ct_X1_requireState (xK fun hb => rr_out C (xc33 ea1 hb1 (by rw [hb0]; exact hb))) (kB fun hb => ?_)
      rw [hb] at hb0
      have hlt := of_decide_eq_true hb0
      refine rr_aload_n C 0 dX1_addImage_69 rfl rfl ?_
      refine gf_X1_34 C dX1_addImage_70 (Or.inl hY.yard) ?_
      refine nw_X1_66 C dX1_addImage_73 (fun q hq hz => ?_)
      refine rr_dup C dX1_addImage_76 rfl ?_
      refine rr_aload_nq C 3 dX1_addImage_77 rfl rfl ?_
      refine rr_aload C dX1_addImage_78 rfl ?_
      refine ci_X1_116 C dX1_addImage_80 (ct_X6_init cy_up_eq) (kN (fun h1 e1 => ?_))
      subst e1
      rw [cy_up_up]
      refine cf_X1_94 C dX1_addImage_83 (ct_J2_add hG (ci := 3) (cy_up_old hq hla) (hY.mono (cy_up_sub hq) |>.la (by decide)) (by omega) cy_up_eq (fun i hi => ⟨_, cy_up_old hq (hY.image hi)⟩) rfl q1774 (by decide)) (Or.inl (cy_up_old hq hla)) (kV (fun h2 e2 => ?_))
      refine rr_pop C dX1_addImage_88 rfl ?_
      obtain ⟨ea, cap, hc, e2⟩ := cy_ad_out hq e2
      have hY2 := hY.adI (pp := cy_pp p) (lj := lj) rfl hlt hq (hc.imp (fun z => ⟨z.1, z.2.1, z.2.2⟩) id) hpp hlj
      have hF := cy_ad_Fr (G := G) (eo := .inr (3, [va_rf (cy_o (J 6) (cy_pp p)), .ref (J 5 lj)])) (f := cy_ar (J 0 1 + 1) (va_up (J 6) (J 0 1) q)) (el := .inr (7, [.int (I 0 1 + 1), .ref ea, .int (nI (J 0 1 + 1))])) hq hla (hY.arr0 (c := 1) (by decide)) hc
      rw [← e2] at hY2 hF
      have hy2 : h2 (J 1 0) = some (eYard (adII I (J 0 1)) (adIJ J (J 0 1) q ea cap (cy_pp p) lj) st) := hY2.yard
      refine rr_aload_n C 0 dX1_addImage_89 rfl rfl ?_
      refine gf_X1_34 C dX1_addImage_90 (Or.inl hy2) ?_
      refine cf_X1_50 C dX1_addImage_93 (ct_J2_size (hY2.list (i := 1) (by decide))) (Or.inl (hY2.list (i := 1) (by decide))) (kVr ?_)
      refine rr_iconst C 1 dX1_addImage_98 (by decide) ?_
      refine rr_isub C dX1_addImage_99 ?_
      rw [show nI (adIJ J (J 0 1) q ea cap (cy_pp p) lj 0 1) - 1 = nI (J 0 1) from nI_pred _]
      exact rr_ireturn C dX1_addImage_100 ⟨qc3 ea1 hb1 hb0, rfl, ⟨q, ea, cap, by rw [kl]; exact hY2⟩, hF⟩
    refine rr_icmp_ge C 65 dX1_addImage_58 (by decide) (fun c58 => ?_) (fun c58 => ?_)
    · refine rr_iconst C 0 dX1_addImage_65 (by decide) ?_
      exact key false (decide_eq_false (fun z => nI_ge (b := 8) z (by omega) c58))
    · refine rr_iconst C 1 dX1_addImage_61 (by decide) ?_
      refine rr_goto C 66 dX1_addImage_62 (by decide) ?_
      exact key true (decide_eq_true (Nat.lt_of_not_le fun z => c58 (nI_le (a := 8) z (by omega))))
  have k14 : (decide (p = -1) || cy_ix p (J 0 1)) = true → (∀ j, cy_pp p = j + 1 → j < J 0 1 ∧ kn p = j ∧ ¬ p = -1) → (cy_pp p = 0 → p = -1) → K 19 h 14 [some (.ref (J 1 0)), some (.int p), some (.int l), none, none] [va_rf (cy_o (J 6) (cy_pp p))] := by
    intro ep hj h0
    refine rr_astore_nq C 3 dX1_addImage_14 rfl (Nat.le_of_ble_eq_true rfl) rfl (Nat.le_of_ble_eq_true rfl) ?_
    refine rr_aload_n C 0 dX1_addImage_15 rfl rfl ?_
    refine rr_iload_n C 2 dX1_addImage_16 rfl rfl ?_
    refine cvx_X1_102 C dX1_addImage_17 (ct_X1_requireLayer hG hY) (Or.inl hY.yard) (xK fun hb => rr_out C (xc31 (by rw [hb, Bool.and_false]))) (kE (fun lj h1 e1 => ?_))
    obtain ⟨⟨hlj, el⟩, e1⟩ := e1
    rw [e1]
    have kl : kn l = lj := by rw [el, kn_nI (by omega)]
    cases hpp : cy_pp p with
    | zero =>
      have hp := h0 hpp
      have k44' := k44 lj true hlj el ep (by unfold cy_sup; rw [decide_eq_true hp, Bool.true_or])
      rw [hpp] at k44'
      refine rr_astore C dX1_addImage_20 (Nat.le_of_ble_eq_true rfl) rfl (Nat.le_of_ble_eq_true rfl) ?_
      refine rr_aload_nq C 3 dX1_addImage_22 rfl rfl ?_
      refine rr_ifnull C none 39 dX1_addImage_23 (by decide) rfl (fun _ => ?_) (fun a c => by cases c)
      refine rr_iconst C 1 dX1_addImage_39 (by decide) ?_
      refine rr_goto C 44 dX1_addImage_40 (by decide) ?_
      exact k44'
    | succ j =>
      obtain ⟨hj1, hj2, hj3⟩ := hj j hpp
      have k44' := fun b hb => k44 lj b hlj el ep hb
      rw [hpp] at k44'
      have hs : cy_sup J p l = decide (cy_lay J j &&& cy_bit lj = 0) := by unfold cy_sup; rw [decide_eq_false hj3, Bool.false_or, hj2, kl]
      have k43 : ∀ x : Value, x = .ref (J 6 j) → K 18 h 22 [some (.ref (J 1 0)), some (.int p), some (.int l), some x, some (.ref (J 5 lj))] [] := by
        intro x ex
        subst ex
        have k44'' : ∀ b, cy_sup J p l = b → K 18 h 44 [some (.ref (J 1 0)), some (.int p), some (.int l), some (.ref (J 6 j)), some (.ref (J 5 lj))] [.int (bI b)] := k44'
        refine rr_aload_n C 3 dX1_addImage_22 rfl rfl ?_
        refine rr_ifnull C (some (J 6 j)) 39 dX1_addImage_23 (by decide) rfl (fun c => by cases c) (fun _ _ => ?_)
        refine rr_aload_n C 3 dX1_addImage_26 rfl rfl ?_
        refine cv_X1_106 C dX1_addImage_27 (ct_lay hY hj1) (Or.inl (hY.image hj1)) (kVr ?_)
        refine rr_aload C dX1_addImage_30 rfl ?_
        refine gf_X1_109 C dX1_addImage_32 (Or.inl (hY.layer hlj)) ?_
        refine rr_iand C dX1_addImage_35 ?_
        refine rr_if_ne C 43 dX1_addImage_36 (by decide) (fun c36 => ?_) (fun c36 => ?_)
        · refine rr_iconst C 0 dX1_addImage_43 (by decide) ?_
          exact k44'' false (by rw [hs, decide_eq_false c36])
        · refine rr_iconst C 1 dX1_addImage_39 (by decide) ?_
          refine rr_goto C 44 dX1_addImage_40 (by decide) ?_
          exact k44'' true (by rw [hs, decide_eq_true c36])
      refine rr_astore C dX1_addImage_20 (Nat.le_of_ble_eq_true rfl) rfl (Nat.le_of_ble_eq_true rfl) ?_
      exact k43 _ rfl
  refine rr_iload_n C 1 dX1_addImage_0 rfl rfl ?_
  refine rr_iconst C (-1) dX1_addImage_1 (by decide) ?_
  refine rr_icmp_ne C 9 dX1_addImage_2 (by decide) (fun c2 => ?_) (fun c2 => ?_)
  · refine rr_aload_n C 0 dX1_addImage_9 rfl rfl ?_
    refine rr_iload_n C 1 dX1_addImage_10 rfl rfl ?_
    refine cvx_X1_98 C dX1_addImage_11 (ct_X1_requireImage hG hY) (Or.inl hY.yard) (xK fun hb => rr_out C (xc31 (by rw [hb, decide_eq_false c2]; rfl))) (kE (fun j h1 e1 => ?_))
    obtain ⟨⟨hj, ej⟩, e1⟩ := e1
    rw [e1]
    have kp : kn p = j := by rw [ej, kn_nI (by omega)]
    have hpp : cy_pp p = j + 1 := by unfold cy_pp; rw [if_neg c2, kp]
    have := k14 (by rw [ej, cy_ix_j hj (by omega), Bool.or_true]) (fun j' e => ⟨by omega, by omega, c2⟩) (fun z => by omega)
    rw [hpp] at this
    refine rr_less C (by omega) this
  · have hp : p = -1 := c2
    have hpp : cy_pp p = 0 := by unfold cy_pp; rw [if_pos hp]
    refine rr_aconst_null C dX1_addImage_5 ?_
    refine rr_goto C 14 dX1_addImage_6 (by decide) ?_
    have := k14 (by rw [decide_eq_true hp]; rfl) (fun j' e => by omega) (fun _ => hp)
    rw [hpp] at this
    refine rr_less C (by omega) this
theorem ct_X1_addWindow (hG : cy_G G) (hY : cy_Y G I J st h) {nd : Nat} {x y z : Int32} (hnd : h nd = some (eWin x y z)) (hnn : ∀ k i e, cy_Yc G I J st k i ≠ some (nd, e)) : cy_Con G yX1_addWindow cX1_addWindow 2 (some .int) 22 30 [.ref (J 1 0), .ref nd] h (qC (cd2 (cy_bt x 0 23 && cy_bt y 1 24 && cy_bt z 0 3) (decide (J 0 2 < 6))) (.int (nI (J 0 2))) (fun h1 => (∃ q ea cap, cy_Y G (adWI I (J 0 2) x y z) (adWJ J (J 0 2) q ea cap nd) st h1) ∧ cy_Fr h h1)) (xC (cd2 (cy_bt x 0 23 && cy_bt y 1 24 && cy_bt z 0 3) (decide (J 0 2 < 6))) (cy_nm RJ18 RJ6 "") h) := by
  have r0 := hY.2.2.2.1
  have hla := hY.list (i := 2) (by decide)
  refine cy_in (own := RX1) (lv0 := [some (.ref (J 1 0)), some (.ref nd)]) (by decide) rfl rfl rfl (Nat.le_of_ble_eq_true rfl) (fun K T C => ?_)
  refine rr_iconst C 3 dX1_addWindow_0 (by decide) ?_
  refine rr_newaz C 3 3 q721 dX1_addWindow_1 (by decide) (by decide) (by decide) (by decide) (by omega) (fun q hq hz => ?_)
  have hnd1 := fun e : va_E => cy_up_old (x := e) hq hnd
  refine rr_dup C dX1_addWindow_3 rfl ?_
  refine rr_iconst C 0 dX1_addWindow_4 (by decide) ?_
  refine rr_aload_n C 1 dX1_addWindow_5 rfl rfl ?_
  refine cv_X1_180 C dX1_addWindow_6 (ct_X10_first (hnd1 _)) (Or.inl (hnd1 _)) (kVr ?_)
  refine rr_iconst C 0 dX1_addWindow_9 (by decide) ?_
  refine rr_bipush C 23 dX1_addWindow_10 (by decide) ?_
  refine cs_X1_75 C dX1_addWindow_12 ct_X1_isIn (kVr ?_)
  refine rr_zast C 0 dX1_addWindow_15 cy_up_eq rfl (by decide) (by decide) ?_
  rw [cy_up_up, vp_nar_bI]
  refine rr_dup C dX1_addWindow_16 rfl ?_
  refine rr_iconst C 1 dX1_addWindow_17 (by decide) ?_
  refine rr_aload_n C 1 dX1_addWindow_18 rfl rfl ?_
  refine cv_X1_185 C dX1_addWindow_19 (ct_X10_length (hnd1 _)) (Or.inl (hnd1 _)) (kVr ?_)
  refine rr_iconst C 1 dX1_addWindow_22 (by decide) ?_
  refine rr_bipush C 24 dX1_addWindow_23 (by decide) ?_
  refine cs_X1_75 C dX1_addWindow_25 ct_X1_isIn (kVr ?_)
  refine rr_zast C 1 dX1_addWindow_28 cy_up_eq rfl (by decide) (by decide) ?_
  rw [cy_up_up, vp_nar_bI]
  refine rr_dup C dX1_addWindow_29 rfl ?_
  refine rr_iconst C 2 dX1_addWindow_30 (by decide) ?_
  refine rr_aload_n C 1 dX1_addWindow_31 rfl rfl ?_
  refine cv_X1_188 C dX1_addWindow_32 (ct_X10_tenant (hnd1 _)) (Or.inl (hnd1 _)) (kVr ?_)
  refine cs_X1_191 C dX1_addWindow_35 ct_X1_isTenant (kVr ?_)
  refine rr_zast C 2 dX1_addWindow_38 cy_up_eq rfl (by decide) (by decide) ?_
  rw [cy_up_up, vp_nar_bI]
  refine csx_X1_144 C dX1_addWindow_39 (ct_X1_requireArguments (fun k => if k = 0 then cy_bt x 0 23 else if k = 1 then cy_bt y 1 24 else cy_bt z 0 3) cy_up_eq (by decide) (fun k hk => by match k, hk with | 0, _ => rfl | 1, _ => rfl | 2, _ => rfl)) (xK fun hb => rr_forgetT C (cy_up_sub hq) (rr_out C (xc21 (by simpa [cy_al, Bool.and_assoc] using hb)))) (kB fun hb => ?_)
  have ea1 : (cy_bt x 0 23 && cy_bt y 1 24 && cy_bt z 0 3) = true := by simpa [cy_al, Bool.and_assoc] using hb
  refine rr_forget C (cy_up_sub hq) ?_
  refine rr_aload_n C 0 dX1_addWindow_42 rfl rfl ?_
  refine gf_X1_37 C dX1_addWindow_43 (Or.inl hY.yard) ?_
  refine cf_X1_50 C dX1_addWindow_46 (ct_J2_size hla) (Or.inl hla) (kVr ?_)
  refine rr_bipush C 6 dX1_addWindow_51 (by decide) ?_
  have key : ∀ b, decide (J 0 2 < 6) = b → K 17 h 61 [some (.ref (J 1 0)), some (.ref nd)] [.int (bI b)] := by
    intro b hb0
    refine csx_X1_87 C dX1_addWindow_61 ct_X1_requireState (xK fun hb => rr_out C (xc22 ea1 (by rw [hb0]; exact hb))) (kB fun hb => ?_)
    rw [hb] at hb0
    have hlt := of_decide_eq_true hb0
    refine rr_aload_n C 0 dX1_addWindow_64 rfl rfl ?_
    refine gf_X1_37 C dX1_addWindow_65 (Or.inl hY.yard) ?_
    refine nw_X1_195 C dX1_addWindow_68 (fun q hq hz => ?_)
    refine rr_dup C dX1_addWindow_71 rfl ?_
    refine rr_aload_n C 1 dX1_addWindow_72 rfl rfl ?_
    refine ci_X1_197 C dX1_addWindow_73 (ct_X11_init cy_up_eq (cy_up_old hq hnd)) (kN (fun h1 e1 => ?_))
    subst e1
    rw [cy_up_up]
    refine cf_X1_94 C dX1_addWindow_76 (ct_J2_add hG (ci := 6) (cy_up_old hq hla) (hY.mono (cy_up_sub hq) |>.la (by decide)) (by omega) cy_up_eq (fun i hi => ⟨_, cy_up_old hq (hY.opn hi)⟩) rfl q1782 (by decide)) (Or.inl (cy_up_old hq hla)) (kV (fun h2 e2 => ?_))
    refine rr_pop C dX1_addWindow_81 rfl ?_
    obtain ⟨ea, cap, hc, e2⟩ := cy_ad_out hq e2
    have hY2 := hY.adW rfl hlt hq (hc.imp (fun z => ⟨z.1, z.2.1, z.2.2⟩) id) hnd hnn
    have hF := cy_ad_Fr (G := G) (eo := .inr (6, [.ref nd, .int z])) (f := cy_ar (J 0 2 + 1) (va_up (J 7) (J 0 2) q)) (el := .inr (7, [.int (I 0 2 + 1), .ref ea, .int (nI (J 0 2 + 1))])) hq hla (hY.arr0 (c := 2) (by decide)) hc
    rw [← e2] at hY2 hF
    have hy2 : h2 (J 1 0) = some (eYard (adWI I (J 0 2) x y z) (adWJ J (J 0 2) q ea cap nd) st) := hY2.yard
    refine rr_aload_n C 0 dX1_addWindow_82 rfl rfl ?_
    refine gf_X1_37 C dX1_addWindow_83 (Or.inl hy2) ?_
    refine cf_X1_50 C dX1_addWindow_86 (ct_J2_size (hY2.list (i := 2) (by decide))) (Or.inl (hY2.list (i := 2) (by decide))) (kVr ?_)
    refine rr_iconst C 1 dX1_addWindow_91 (by decide) ?_
    refine rr_isub C dX1_addWindow_92 ?_
    rw [show nI (adWJ J (J 0 2) q ea cap nd 0 2) - 1 = nI (J 0 2) from nI_pred _]
    exact rr_ireturn C dX1_addWindow_93 ⟨qc2 ea1 hb0, rfl, ⟨q, ea, cap, hY2⟩, hF⟩
  refine rr_icmp_ge C 60 dX1_addWindow_53 (by decide) (fun c53 => ?_) (fun c53 => ?_)
  · refine rr_iconst C 0 dX1_addWindow_60 (by decide) ?_
    refine rr_less C (by omega) (key false (decide_eq_false (fun z => nI_ge (b := 6) z (by omega) c53)))
  · refine rr_iconst C 1 dX1_addWindow_56 (by decide) ?_
    refine rr_goto C 61 dX1_addWindow_57 (by decide) ?_
    refine rr_less C (by omega) (key true (decide_eq_true (Nat.lt_of_not_le fun z => c53 (nI_le (a := 6) z (by omega)))))
theorem ct_X1_addHost (hG : cy_G G) (hY : cy_Y G I J st h) {nd : Nat} {x y : Int32} (hnd : h nd = some (eNeed x y)) (hnn : ∀ k i e, cy_Yc G I J st k i ≠ some (nd, e)) : cy_Con G yX1_addHost cX1_addHost 2 (some .int) 22 30 [.ref (J 1 0), .ref nd] h (qC (cd2 (cy_nd x y 32 256) (decide (J 0 4 < 4))) (.int (nI (J 0 4))) (fun h1 => (∃ q ea cap, cy_Y G (adHI I (J 0 4) x y) (adHJ J (J 0 4) q ea cap nd) st h1) ∧ cy_Fr h h1)) (xC (cd2 (cy_nd x y 32 256) (decide (J 0 4 < 4))) (cy_nm RJ18 RJ6 "") h) := by
  have r0 := hY.2.2.2.1
  have hla := hY.list (i := 4) (by decide)
  refine cy_in (own := RX1) (lv0 := [some (.ref (J 1 0)), some (.ref nd)]) (by decide) rfl rfl rfl (Nat.le_of_ble_eq_true rfl) (fun K T C => ?_)
  refine rr_iconst C 1 dX1_addHost_0 (by decide) ?_
  refine rr_newaz C 1 1 q721 dX1_addHost_1 (by decide) (by decide) (by decide) (by decide) (by omega) (fun q hq hz => ?_)
  refine rr_dup C dX1_addHost_3 rfl ?_
  refine rr_iconst C 0 dX1_addHost_4 (by decide) ?_
  refine rr_aload_n C 1 dX1_addHost_5 rfl rfl ?_
  refine rr_bipush C 32 dX1_addHost_6 (by decide) ?_
  refine rr_sipush C 256 dX1_addHost_8 (by decide) ?_
  refine cs_X1_173 C dX1_addHost_11 (ct_X1_isNeed (cy_up_old hq hnd)) (kVr ?_)
  refine rr_zast C 0 dX1_addHost_14 cy_up_eq rfl (by decide) (by decide) ?_
  rw [cy_up_up, vp_nar_bI]
  refine csx_X1_144 C dX1_addHost_15 (ct_X1_requireArguments (fun k => cy_nd x y 32 256) cy_up_eq (by decide) (fun k hk => by match k, hk with | 0, _ => rfl)) (xK fun hb => rr_forgetT C (cy_up_sub hq) (rr_out C (xc21 (by simpa [cy_al] using hb)))) (kB fun hb => ?_)
  have ea1 : cy_nd x y 32 256 = true := by simpa [cy_al] using hb
  refine rr_forget C (cy_up_sub hq) ?_
  refine rr_aload_n C 0 dX1_addHost_18 rfl rfl ?_
  refine gf_X1_46 C dX1_addHost_19 (Or.inl hY.yard) ?_
  refine gf_X1_68 C dX1_addHost_22 (Or.inl hY.park) ?_
  refine cf_X1_50 C dX1_addHost_25 (ct_J2_size hla) (Or.inl hla) (kVr ?_)
  refine rr_iconst C 4 dX1_addHost_30 (by decide) ?_
  have key : ∀ b, decide (J 0 4 < 4) = b → K 17 h 39 [some (.ref (J 1 0)), some (.ref nd)] [.int (bI b)] := by
    intro b hb0
    refine csx_X1_87 C dX1_addHost_39 ct_X1_requireState (xK fun hb => rr_out C (xc22 ea1 (by rw [hb0]; exact hb))) (kB fun hb => ?_)
    rw [hb] at hb0
    have hlt := of_decide_eq_true hb0
    refine rr_aload_n C 0 dX1_addHost_42 rfl rfl ?_
    refine gf_X1_46 C dX1_addHost_43 (Or.inl hY.yard) ?_
    refine gf_X1_68 C dX1_addHost_46 (Or.inl hY.park) ?_
    refine nw_X1_71 C dX1_addHost_49 (fun q hq hz => ?_)
    refine rr_dup C dX1_addHost_52 rfl ?_
    refine rr_aload_n C 0 dX1_addHost_53 rfl rfl ?_
    refine gf_X1_46 C dX1_addHost_54 (Or.inl (cy_up_old hq hY.yard)) ?_
    refine gf_X1_68 C dX1_addHost_57 (Or.inl (cy_up_old hq hY.park)) ?_
    refine cf_X1_50 C dX1_addHost_60 (ct_J2_size (cy_up_old hq hla)) (Or.inl (cy_up_old hq hla)) (kVr ?_)
    refine rr_aload_n C 1 dX1_addHost_65 rfl rfl ?_
    refine ci_X1_177 C dX1_addHost_66 (ct_X9_init_2 cy_up_eq (cy_up_old hq hnd)) (kN (fun h1 e1 => ?_))
    subst e1
    rw [cy_up_up]
    refine cf_X1_94 C dX1_addHost_69 (ct_J2_add hG (ci := 4) (cy_up_old hq hla) (hY.mono (cy_up_sub hq) |>.la (by decide)) (by omega) cy_up_eq (fun i hi => ⟨_, cy_up_old hq (hY.host hi)⟩) rfl q1780 (by decide)) (Or.inl (cy_up_old hq hla)) (kV (fun h2 e2 => ?_))
    refine rr_pop C dX1_addHost_74 rfl ?_
    obtain ⟨ea, cap, hc, e2⟩ := cy_ad_out hq e2
    have hY2 := hY.adH rfl hlt hq (hc.imp (fun z => ⟨z.1, z.2.1, z.2.2⟩) id) hnd hnn
    have hF := cy_ad_Fr (G := G) (eo := .inr (4, [.ref nd, .int x, .int y, .int (nI (J 0 4))])) (f := cy_ar (J 0 4 + 1) (va_up (J 9) (J 0 4) q)) (el := .inr (7, [.int (I 0 4 + 1), .ref ea, .int (nI (J 0 4 + 1))])) hq hla (hY.arr0 (c := 4) (by decide)) hc
    rw [← e2] at hY2 hF
    have hy2 : h2 (J 1 0) = some (eYard (adHI I (J 0 4) x y) (adHJ J (J 0 4) q ea cap nd) st) := hY2.yard
    refine rr_aload_n C 0 dX1_addHost_75 rfl rfl ?_
    refine gf_X1_46 C dX1_addHost_76 (Or.inl hy2) ?_
    refine gf_X1_68 C dX1_addHost_79 (Or.inl hY2.park) ?_
    refine cf_X1_50 C dX1_addHost_82 (ct_J2_size (hY2.list (i := 4) (by decide))) (Or.inl (hY2.list (i := 4) (by decide))) (kVr ?_)
    refine rr_iconst C 1 dX1_addHost_87 (by decide) ?_
    refine rr_isub C dX1_addHost_88 ?_
    rw [show nI (adHJ J (J 0 4) q ea cap nd 0 4) - 1 = nI (J 0 4) from nI_pred _]
    exact rr_ireturn C dX1_addHost_89 ⟨qc2 ea1 hb0, rfl, ⟨q, ea, cap, hY2⟩, hF⟩
  refine rr_icmp_ge C 38 dX1_addHost_31 (by decide) (fun c31 => ?_) (fun c31 => ?_)
  · refine rr_iconst C 0 dX1_addHost_38 (by decide) ?_
    refine rr_less C (by omega) (key false (decide_eq_false (fun z => nI_ge (b := 4) z (by omega) c31)))
  · refine rr_iconst C 1 dX1_addHost_34 (by decide) ?_
    refine rr_goto C 39 dX1_addHost_35 (by decide) ?_
    refine rr_less C (by omega) (key true (decide_eq_true (Nat.lt_of_not_le fun z => c31 (nI_le (a := 4) z (by omega)))))
theorem ct_X1_addContainer (hG : cy_G G) (hY : cy_Y G I J st h) {nd : Nat} {t im x y : Int32} (hnd : h nd = some (eNeed x y)) (hnn : ∀ k i e, cy_Yc G I J st k i ≠ some (nd, e)) : cy_Con G yX1_addContainer cX1_addContainer 5 (some .int) 22 30 [.ref (J 1 0), .int t, .int im, .ref nd] h (qC (cd3 (cy_bt t 0 3 && cy_nd x y 16 128) (cy_ix im (J 0 1)) (decide (J 0 3 < 12))) (.int (nI (J 0 3))) (fun h1 => (∃ q ea cap, cy_Y G (adCI I (J 0 3) t x y) (adCJ J (J 0 3) q ea cap nd (kn im)) st h1) ∧ cy_Fr h h1)) (xC (cd3 (cy_bt t 0 3 && cy_nd x y 16 128) (cy_ix im (J 0 1)) (decide (J 0 3 < 12))) (cy_nm RJ18 RJ10 RJ6) h) := by
  have r0 := hY.2.2.2.1
  have hla := hY.list (i := 3) (by decide)
  refine cy_in (own := RX1) (lv0 := [some (.ref (J 1 0)), some (.int t), some (.int im), some (.ref nd), none]) (by decide) rfl rfl rfl (Nat.le_of_ble_eq_true rfl) (fun K T C => ?_)
  refine rr_iconst C 2 dX1_addContainer_0 (by decide) ?_
  refine rr_newaz C 2 2 q721 dX1_addContainer_1 (by decide) (by decide) (by decide) (by decide) (by omega) (fun q hq hz => ?_)
  refine rr_dup C dX1_addContainer_3 rfl ?_
  refine rr_iconst C 0 dX1_addContainer_4 (by decide) ?_
  refine rr_iload_n C 1 dX1_addContainer_5 rfl rfl ?_
  refine cs_X1_191 C dX1_addContainer_6 ct_X1_isTenant (kVr ?_)
  refine rr_zast C 0 dX1_addContainer_9 cy_up_eq rfl (by decide) (by decide) ?_
  rw [cy_up_up, vp_nar_bI]
  refine rr_dup C dX1_addContainer_10 rfl ?_
  refine rr_iconst C 1 dX1_addContainer_11 (by decide) ?_
  refine rr_aload_n C 3 dX1_addContainer_12 rfl rfl ?_
  refine rr_bipush C 16 dX1_addContainer_13 (by decide) ?_
  refine rr_sipush C 128 dX1_addContainer_15 (by decide) ?_
  refine cs_X1_173 C dX1_addContainer_18 (ct_X1_isNeed (cy_up_old hq hnd)) (kVr ?_)
  refine rr_zast C 1 dX1_addContainer_21 cy_up_eq rfl (by decide) (by decide) ?_
  rw [cy_up_up, vp_nar_bI]
  refine csx_X1_144 C dX1_addContainer_22 (ct_X1_requireArguments (fun k => if k = 0 then cy_bt t 0 3 else cy_nd x y 16 128) cy_up_eq (by decide) (fun k hk => by match k, hk with | 0, _ => rfl | 1, _ => rfl)) (xK fun hb => rr_forgetT C (cy_up_sub hq) (rr_out C (xc31 (by simpa [cy_al] using hb)))) (kB fun hb => ?_)
  have ea1 : (cy_bt t 0 3 && cy_nd x y 16 128) = true := by simpa [cy_al] using hb
  refine rr_forget C (cy_up_sub hq) ?_
  refine rr_aload_n C 0 dX1_addContainer_25 rfl rfl ?_
  refine rr_iload_n C 2 dX1_addContainer_26 rfl rfl ?_
  refine cvx_X1_98 C dX1_addContainer_27 (ct_X1_requireImage hG hY) (Or.inl hY.yard) (xK fun hb => rr_out C (xc32 ea1 hb)) (kE (fun ij h1 e1 => ?_))
  obtain ⟨⟨hij, eim⟩, e1⟩ := e1
  rw [e1]
  have kim : kn im = ij := by rw [eim, kn_nI (by omega)]
  have eb1 : cy_ix im (J 0 1) = true := by rw [eim]; exact cy_ix_j hij (by omega)
  refine rr_astore C dX1_addContainer_30 (Nat.le_of_ble_eq_true rfl) rfl (Nat.le_of_ble_eq_true rfl) ?_
  refine rr_aload_n C 0 dX1_addContainer_32 rfl rfl ?_
  refine gf_X1_40 C dX1_addContainer_33 (Or.inl hY.yard) ?_
  refine cf_X1_50 C dX1_addContainer_36 (ct_J2_size hla) (Or.inl hla) (kVr ?_)
  refine rr_bipush C 12 dX1_addContainer_41 (by decide) ?_
  have key : ∀ b, decide (J 0 3 < 12) = b → K 15 h 51 [some (.ref (J 1 0)), some (.int t), some (.int im), some (.ref nd), some (.ref (J 6 ij))] [.int (bI b)] := by
    intro b hb0
    refine csx_X1_87 C dX1_addContainer_51 ct_X1_requireState (xK fun hb => rr_out C (xc33 ea1 eb1 (by rw [hb0]; exact hb))) (kB fun hb => ?_)
    rw [hb] at hb0
    have hlt := of_decide_eq_true hb0
    refine rr_aload_n C 0 dX1_addContainer_54 rfl rfl ?_
    refine gf_X1_40 C dX1_addContainer_55 (Or.inl hY.yard) ?_
    refine nw_X1_73 C dX1_addContainer_58 (fun q hq hz => ?_)
    refine rr_dup C dX1_addContainer_61 rfl ?_
    refine rr_aload_n C 0 dX1_addContainer_62 rfl rfl ?_
    refine rr_aload_n C 0 dX1_addContainer_63 rfl rfl ?_
    refine gf_X1_40 C dX1_addContainer_64 (Or.inl (cy_up_old hq hY.yard)) ?_
    refine cf_X1_50 C dX1_addContainer_67 (ct_J2_size (cy_up_old hq hla)) (Or.inl (cy_up_old hq hla)) (kVr ?_)
    refine rr_iload_n C 1 dX1_addContainer_72 rfl rfl ?_
    refine rr_aload C dX1_addContainer_73 rfl ?_
    refine rr_aload_n C 3 dX1_addContainer_75 rfl rfl ?_
    refine ci_X1_215 C dX1_addContainer_76 (ct_X12_init cy_up_eq) (kN (fun h1 e1 => ?_))
    subst e1
    rw [cy_up_up]
    refine cf_X1_94 C dX1_addContainer_79 (ct_J2_add hG (ci := 5) (cy_up_old hq hla) (hY.mono (cy_up_sub hq) |>.la (by decide)) (by omega) cy_up_eq (fun i hi => ⟨_, cy_up_old hq (hY.cont hi)⟩) rfl q1783 (by decide)) (Or.inl (cy_up_old hq hla)) (kV (fun h2 e2 => ?_))
    refine rr_pop C dX1_addContainer_84 rfl ?_
    obtain ⟨ea, cap, hc, e2⟩ := cy_ad_out hq e2
    have hY2 := hY.adC (t := t) rfl hlt hq (hc.imp (fun z => ⟨z.1, z.2.1, z.2.2⟩) id) hij hnd hnn
    have hF := cy_ad_Fr (G := G) (eo := .inr (5, [.int (nI (J 0 3)), .int t, .ref (J 6 ij), .ref nd, .ref (G.2.2.2.2 0), .null, .int 0, .int 0, .int 0, .int 0, .ref (J 1 0)])) (f := cy_ar (J 0 3 + 1) (va_up (J 8) (J 0 3) q)) (el := .inr (7, [.int (I 0 3 + 1), .ref ea, .int (nI (J 0 3 + 1))])) hq hla (hY.arr0 (c := 3) (by decide)) hc
    rw [← e2] at hY2 hF
    have hy2 : h2 (J 1 0) = some (eYard (adCI I (J 0 3) t x y) (adCJ J (J 0 3) q ea cap nd ij) st) := hY2.yard
    refine rr_aload_n C 0 dX1_addContainer_85 rfl rfl ?_
    refine gf_X1_40 C dX1_addContainer_86 (Or.inl hy2) ?_
    refine cf_X1_50 C dX1_addContainer_89 (ct_J2_size (hY2.list (i := 3) (by decide))) (Or.inl (hY2.list (i := 3) (by decide))) (kVr ?_)
    refine rr_iconst C 1 dX1_addContainer_94 (by decide) ?_
    refine rr_isub C dX1_addContainer_95 ?_
    rw [show nI (adCJ J (J 0 3) q ea cap nd ij 0 3) - 1 = nI (J 0 3) from nI_pred _]
    exact rr_ireturn C dX1_addContainer_96 ⟨qc3 ea1 eb1 hb0, rfl, ⟨q, ea, cap, by rw [kim]; exact hY2⟩, hF⟩
  refine rr_icmp_ge C 50 dX1_addContainer_43 (by decide) (fun c43 => ?_) (fun c43 => ?_)
  · refine rr_iconst C 0 dX1_addContainer_50 (by decide) ?_
    refine rr_less C (by omega) (key false (decide_eq_false (fun z => nI_ge (b := 12) z (by omega) c43)))
  · refine rr_iconst C 1 dX1_addContainer_46 (by decide) ?_
    refine rr_goto C 51 dX1_addContainer_47 (by decide) ?_
    refine rr_less C (by omega) (key true (decide_eq_true (Nat.lt_of_not_le fun z => c43 (nI_le (a := 12) z (by omega)))))
end GROW
