/-! Container -/
set_option maxRecDepth 100000
section YW
variable {G : GT} {I : Nat → Nat → Int32} {J : Nat → Nat → Nat} {st : Int64} {h : Hp} {i : Nat}
theorem cy_Y.w_wd (hY : cy_Y G I J st h) (hi : i < J 0 0) (v : Int32) : cy_Y G (u2 I 2 i v) J st (cy_up h (J 5 i) (.inr (2, [.int (cy_bit i), .int v, .int (I 3 i)]))) := by
  have h1 := hY.u_wd hi v
  simp only [eLayer, u2_eq] at h1
  exact h1
theorem cy_Y.w_oa (hY : cy_Y G I J st h) (hi : i < J 0 0) (v : Int32) : cy_Y G (u2 I 3 i v) J st (cy_up h (J 5 i) (.inr (2, [.int (cy_bit i), .int (I 2 i), .int v]))) := by
  have h1 := hY.u_oa hi v
  simp only [eLayer, u2_eq] at h1
  exact h1
theorem cy_Y.w_hcm (hY : cy_Y G I J st h) (hi : i < J 0 4) (v w : Int32) : cy_Y G (u2 (u2 I 6 i v) 7 i w) J st (cy_up h (J 9 i) (.inr (4, [.ref (J 15 i), .int v, .int w, .int (nI i)]))) := by
  have h1 := (hY.u_hc hi v).u_hm (i := i) hi w
  rw [cy_up_up] at h1
  simp only [eHost, u2_eq] at h1
  rw [show u2 (u2 I 6 i v) 7 i w 6 i = v from (u2_r (by decide)).trans u2_eq] at h1
  exact h1
theorem cy_Y.w_ot (hY : cy_Y G I J st h) (hi : i < J 0 2) (v : Int32) : cy_Y G (u2 I 11 i v) J st (cy_up h (J 7 i) (.inr (6, [.ref (J 17 i), .int v]))) := by
  have h1 := hY.u_ot hi v
  simp only [eOpen, u2_eq] at h1
  exact h1
theorem cy_Y.w_lic (hY : cy_Y G I J st h) (v : Int32) : cy_Y G (u2 I 1 1 v) J st (cy_up h (J 1 1) (.inr (1, [.ref (J 2 4), .int v, .int (I 1 2)]))) := hY.u_lic v
theorem cy_Y.w_tak (hY : cy_Y G I J st h) (v : Int32) : cy_Y G (u2 I 1 2 v) J st (cy_up h (J 1 1) (.inr (1, [.ref (J 2 4), .int (I 1 1), .int v]))) := hY.u_tak v
theorem cy_Y.w_hour (hY : cy_Y G I J st h) (v : Int32) : cy_Y G (u2 I 1 0 v) J st (cy_up h (J 1 0) (.inr (0, [.ref (J 2 0), .ref (J 2 1), .ref (J 2 2), .ref (J 2 3), .ref (J 1 1), .int v, .long st]))) := hY.u_hour v
theorem cy_Y.w_starts (hY : cy_Y G I J st h) (v : Int64) : cy_Y G I J v (cy_up h (J 1 0) (.inr (0, [.ref (J 2 0), .ref (J 2 1), .ref (J 2 2), .ref (J 2 3), .ref (J 1 1), .int (I 1 0), .long v]))) := hY.u_starts v
theorem cy_Y.w_own (hY : cy_Y G I J st h) (hi : i < J 0 1) (v : Nat) (hv : v < J 0 0) : cy_Y G I (u2 J 11 i v) st (cy_up h (J 6 i) (.inr (3, [va_rf (cy_o (J 6) (J 10 i)), .ref (J 5 v)]))) := by
  have h1 := hY.u_own hi v hv
  simp only [eImage, u2_eq] at h1
  rw [u2_row (show 6 ≠ 11 by decide), u2_row (show 5 ≠ 11 by decide)] at h1
  exact h1
theorem cy_Y.w_st (hY : cy_Y G I J st h) (hi : i < J 0 3) (v : Nat) (hv : v < 4) : cy_Y G I (u2 J 13 i v) st (cy_up h (J 8 i) (.inr (5, [.int (nI i), .int (I 12 i), .ref (J 6 (J 12 i)), .ref (J 16 i), .ref (G.2.2.2.2 v), va_rf (cy_o (J 9) (J 14 i)), .int (I 15 i), .int (I 16 i), .int (I 17 i), .int (I 18 i), .ref (J 1 0)]))) := by
  have h1 := hY.u_st hi v hv
  simp only [eCont, u2_eq] at h1
  rw [u2_row (show 9 ≠ 13 by decide)] at h1
  exact h1
theorem cy_Y.w_ho (hY : cy_Y G I J st h) (hi : i < J 0 3) (v : Nat) (hv : v ≤ J 0 4) : cy_Y G I (u2 J 14 i v) st (cy_up h (J 8 i) (.inr (5, [.int (nI i), .int (I 12 i), .ref (J 6 (J 12 i)), .ref (J 16 i), .ref (G.2.2.2.2 (J 13 i)), va_rf (cy_o (J 9) v), .int (I 15 i), .int (I 16 i), .int (I 17 i), .int (I 18 i), .ref (J 1 0)]))) := by
  have h1 := hY.u_ho hi v hv
  simp only [eCont, u2_eq] at h1
  rw [u2_row (show 9 ≠ 14 by decide)] at h1
  exact h1
theorem cy_Y.w_cl (hY : cy_Y G I J st h) (hi : i < J 0 3) (v : Int32) : cy_Y G (u2 I 15 i v) J st (cy_up h (J 8 i) (.inr (5, [.int (nI i), .int (I 12 i), .ref (J 6 (J 12 i)), .ref (J 16 i), .ref (G.2.2.2.2 (J 13 i)), va_rf (cy_o (J 9) (J 14 i)), .int v, .int (I 16 i), .int (I 17 i), .int (I 18 i), .ref (J 1 0)]))) := by
  have h1 := hY.u_cl hi v
  simp only [eCont, u2_eq] at h1
  exact h1
theorem cy_Y.w_cs (hY : cy_Y G I J st h) (hi : i < J 0 3) (v : Int32) : cy_Y G (u2 I 16 i v) J st (cy_up h (J 8 i) (.inr (5, [.int (nI i), .int (I 12 i), .ref (J 6 (J 12 i)), .ref (J 16 i), .ref (G.2.2.2.2 (J 13 i)), va_rf (cy_o (J 9) (J 14 i)), .int (I 15 i), .int v, .int (I 17 i), .int (I 18 i), .ref (J 1 0)]))) := by
  have h1 := hY.u_cs hi v
  simp only [eCont, u2_eq] at h1
  exact h1
theorem cy_Y.w_cf (hY : cy_Y G I J st h) (hi : i < J 0 3) (v : Int32) : cy_Y G (u2 I 17 i v) J st (cy_up h (J 8 i) (.inr (5, [.int (nI i), .int (I 12 i), .ref (J 6 (J 12 i)), .ref (J 16 i), .ref (G.2.2.2.2 (J 13 i)), va_rf (cy_o (J 9) (J 14 i)), .int (I 15 i), .int (I 16 i), .int v, .int (I 18 i), .ref (J 1 0)]))) := by
  have h1 := hY.u_cf hi v
  simp only [eCont, u2_eq] at h1
  exact h1
theorem cy_Y.w_cu (hY : cy_Y G I J st h) (hi : i < J 0 3) (v : Int32) : cy_Y G (u2 I 18 i v) J st (cy_up h (J 8 i) (.inr (5, [.int (nI i), .int (I 12 i), .ref (J 6 (J 12 i)), .ref (J 16 i), .ref (G.2.2.2.2 (J 13 i)), va_rf (cy_o (J 9) (J 14 i)), .int (I 15 i), .int (I 16 i), .int (I 17 i), .int v, .ref (J 1 0)]))) := by
  have h1 := hY.u_cu hi v
  simp only [eCont, u2_eq] at h1
  exact h1
end YW
theorem bI_or (a b : Bool) : bI a ||| bI b = bI (a || b) := by cases a <;> cases b <;> decide
theorem bI_or0 (a : Bool) : bI a ||| 0 = bI a := by cases a <;> decide
theorem bI_or1 (a : Bool) : bI a ||| 1 = 1 := by cases a <;> decide
def cy_any (p : Nat → Bool) : Nat → Bool
  | 0 => false
  | n + 1 => cy_any p n || p n
/-- the layers of image i -/
def cy_lay (J : Nat → Nat → Nat) (i : Nat) : Int32 := cy_bits J (cy_ch J (i + 1) (i + 1))
theorem ct_lay {G : GT} {I : Nat → Nat → Int32} {J : Nat → Nat → Nat} {st : Int64} {h : Hp} (hY : cy_Y G I J st h) {i : Nat} (hi : i < J 0 1) : cy_Con G yX6_layers cX6_layers 1 (some .int) (2 * i + 1) 0 [.ref (J 6 i)] h (qV (.int (cy_lay J i)) (fun h1 => h1 = h)) xF := (ct_X6_layers hY (i + 1) i (Nat.lt_succ_self i) hi).1
section CONT
variable {G : GT} {I : Nat → Nat → Int32} {J : Nat → Nat → Nat} {st : Int64} {h : Hp} {i : Nat}
theorem ct_X12_is (hG : cy_G G) (hY : cy_Y G I J st h) (hi : i < J 0 3) {t : Nat} (ht : t < 4) : cy_Con G yX12_is cX12_is 2 (some .boolean) 0 0 [.ref (J 8 i), .ref (G.2.2.2.2 t)] h (qV (.int (bI (decide (J 13 i = t)))) (fun h1 => h1 = h)) xF := by
  have h4 := (hY.2.2.2.2.2 i hi).2.1
  refine cy_in (own := RX12) (lv0 := [some (.ref (J 8 i)), some (.ref (G.2.2.2.2 t))]) (by decide) rfl rfl rfl (Nat.le_of_ble_eq_true rfl) (fun K T C => ?_)
  refine rr_aload_n C 0 dX12_is_0 rfl rfl ?_
  refine gf_X12_21 C dX12_is_1 (Or.inl (hY.cont hi)) ?_
  refine rr_aload_n C 1 dX12_is_4 rfl rfl ?_
  refine rr_acmp_ne C (some _) (some _) 12 dX12_is_5 (by decide) rfl rfl (fun c5 => ?_) (fun c5 => ?_)
  · have hn : ¬ J 13 i = t := fun z => c5 (by rw [z])
    refine rr_iconst C 0 dX12_is_12 (by decide) ?_
    exact rr_zreturn C dX12_is_13 rfl ⟨by simp [hn, bI], rfl⟩
  · have hn : J 13 i = t := hG.2.1 _ _ (by omega) (by omega) (Option.some.inj c5)
    refine rr_iconst C 1 dX12_is_8 (by decide) ?_
    refine rr_goto C 13 dX12_is_9 (by decide) ?_
    exact rr_zreturn C dX12_is_13 rfl ⟨by simp [hn, bI], rfl⟩
def cy_stale (I : Nat → Nat → Int32) (J : Nat → Nat → Nat) (i : Nat) : Bool := decide (J 13 i = 1) && !decide (I 15 i &&& (cy_lay J (J 12 i) ^^^ (-1)) = 0)
theorem ct_X12_isStale (hG : cy_G G) (hY : cy_Y G I J st h) (hi : i < J 0 3) : cy_Con G yX12_isStale cX12_isStale 1 (some .boolean) 17 0 [.ref (J 8 i)] h (qV (.int (bI (cy_stale I J i))) (fun h1 => h1 = h)) xF := by
  obtain ⟨r1, r2, r3⟩ := hY.2.2.2.2.2 i hi
  have r0 := hY.2.2.2.1
  refine cy_in (own := RX12) (lv0 := [some (.ref (J 8 i))]) (by decide) rfl rfl rfl (Nat.le_of_ble_eq_true rfl) (fun K T C => ?_)
  refine rr_aload_n C 0 dX12_isStale_0 rfl rfl ?_
  refine gs_X12_39 C dX12_isStale_1 ?_
  refine cv_X12_42 C dX12_isStale_4 (ct_X12_is hG hY hi (t := 1) (by decide)) (Or.inl (hY.cont hi)) (kVr ?_)
  refine rr_if_eq C 31 dX12_isStale_7 (by decide) (fun c7 => ?_) (fun c7 => ?_)
  · refine rr_iconst C 0 dX12_isStale_31 (by decide) ?_
    exact rr_zreturn C dX12_isStale_32 rfl ⟨by simp [cy_stale, bI_eq0 c7, bI], rfl⟩
  · refine rr_aload_n C 0 dX12_isStale_10 rfl rfl ?_
    refine gf_X12_46 C dX12_isStale_11 (Or.inl (hY.cont hi)) ?_
    refine rr_aload_n C 0 dX12_isStale_14 rfl rfl ?_
    refine gf_X12_31 C dX12_isStale_15 (Or.inl (hY.cont hi)) ?_
    refine cv_X12_49 C dX12_isStale_18 (ct_lay hY r1) (Or.inl (hY.image r1)) (kVr ?_)
    refine rr_iconst C (-1) dX12_isStale_21 (by decide) ?_
    refine rr_ixor C dX12_isStale_22 ?_
    refine rr_iand C dX12_isStale_23 ?_
    refine rr_if_eq C 31 dX12_isStale_24 (by decide) (fun c24 => ?_) (fun c24 => ?_)
    · refine rr_iconst C 0 dX12_isStale_31 (by decide) ?_
      exact rr_zreturn C dX12_isStale_32 rfl ⟨by unfold cy_stale; rw [decide_eq_true c24]; cases decide (J 13 i = 1) <;> rfl, rfl⟩
    · refine rr_iconst C 1 dX12_isStale_27 (by decide) ?_
      refine rr_goto C 32 dX12_isStale_28 (by decide) ?_
      exact rr_zreturn C dX12_isStale_32 rfl ⟨by unfold cy_stale; rw [bI_ne0 c7, decide_eq_false c24]; rfl, rfl⟩
def cy_onw (I : Nat → Nat → Int32) (J : Nat → Nat → Nat) (i : Nat) : Bool := cy_any (fun k => !decide (I 2 k = 0) && !decide (cy_lay J (J 12 i) &&& cy_bit k = 0)) (J 0 0)
theorem ct_X12_isOnWithdrawn (hG : cy_G G) (hY : cy_Y G I J st h) (hi : i < J 0 3) : cy_Con G yX12_isOnWithdrawn cX12_isOnWithdrawn 4 (some .boolean) 17 1 [.ref (J 8 i)] h (qV (.int (bI (cy_onw I J i))) (fun h1 => h1 = h)) xF := by
  obtain ⟨r1, r2, r3⟩ := hY.2.2.2.2.2 i hi
  have r0 := hY.2.2.2.1
  have hla := hY.list (i := 0) (by decide)
  have hcap := hY.cap (i := 0) (by decide)
  have hnc := (hY.2.2.1 0 (by decide)).1
  refine cy_in (own := RX12) (lv0 := [some (.ref (J 8 i)), none, none, none]) (by decide) rfl rfl rfl (Nat.le_of_ble_eq_true rfl) (fun K T C => ?_)
  refine rr_iconst C 0 dX12_isOnWithdrawn_0 (by decide) ?_
  refine rr_istore_n C 1 dX12_isOnWithdrawn_1 rfl (Nat.le_of_ble_eq_true rfl) rfl (Nat.le_of_ble_eq_true rfl) ?_
  refine rr_aload_n C 0 dX12_isOnWithdrawn_2 rfl rfl ?_
  refine gf_X12_3 C dX12_isOnWithdrawn_3 (Or.inl (hY.cont hi)) ?_
  refine gf_X12_54 C dX12_isOnWithdrawn_6 (Or.inl hY.yard) ?_
  refine cf_X12_58 C dX12_isOnWithdrawn_9 (ct_J2_iterator hla) (Or.inl hla) (kE (fun q h1 e1 => ?_))
  obtain ⟨⟨hq, hz⟩, rfl⟩ := e1
  refine rr_astore_n C 2 dX12_isOnWithdrawn_14 rfl (Nat.le_of_ble_eq_true rfl) rfl (Nat.le_of_ble_eq_true rfl) ?_
  have loop : ∀ (d k : Nat) (lr : Value) (x3 : Option Value), k + d = J 0 0 → K 0 (cy_up h q (.inr (8, [.int (nI k), lr, .int (I 0 0), .ref (J 2 0)]))) 15 [some (.ref (J 8 i)), some (.int (bI (cy_any (fun k => !decide (I 2 k = 0) && !decide (cy_lay J (J 12 i) &&& cy_bit k = 0)) k))), some (.ref q), x3] [] := by
    intro d
    induction d with
    | zero =>
      intro k lr x3 hk
      have hkn : k = J 0 0 := by omega
      subst hkn
      refine rr_aload_n C 2 dX12_isOnWithdrawn_15 rfl rfl ?_
      refine cf_X12_64 C dX12_isOnWithdrawn_16 (ct_hn0 cy_up_eq (cy_up_old hq hla)) (Or.inl cy_up_eq) (kVr ?_)
      refine rr_if_eq C 67 dX12_isOnWithdrawn_21 (by decide) (fun _ => ?_) (fun c => absurd rfl c)
      refine rr_forget C (cy_up_sub hq) ?_
      refine rr_iload_n C 1 dX12_isOnWithdrawn_67 rfl rfl ?_
      exact rr_zreturn C dX12_isOnWithdrawn_68 (by cases cy_any _ _ <;> rfl) ⟨rfl, rfl⟩
    | succ d ih =>
      intro k lr x3 hk
      have hkl := hY.layer (i := k) (by omega)
      refine rr_aload_n C 2 dX12_isOnWithdrawn_15 rfl rfl ?_
      refine cf_X12_64 C dX12_isOnWithdrawn_16 (ct_hn1 cy_up_eq (cy_up_old hq hla) (n := J 0 0) (by omega) (by omega)) (Or.inl cy_up_eq) (kVr ?_)
      refine rr_if_eq C 67 dX12_isOnWithdrawn_21 (by decide) (fun c => absurd c (by decide)) (fun _ => ?_)
      refine rr_aload_n C 2 dX12_isOnWithdrawn_24 rfl rfl ?_
      refine cf_X12_70 C dX12_isOnWithdrawn_25 (ct_nx cy_up_eq (cy_up_old hq hla) ((hY.kn hG (by decide)).up hq) (by omega) hnc hcap (hY.el (i := 0) (by decide) (by omega))) (Or.inl cy_up_eq) (kV (fun h1 e1 => ?_))
      subst e1
      rw [cy_up_up]
      refine cc_X12_74 C dX12_isOnWithdrawn_30 (Or.inl (cy_up_old hq hkl)) ?_
      refine rr_astore_n C 3 dX12_isOnWithdrawn_33 rfl (Nat.le_of_ble_eq_true rfl) rfl (Nat.le_of_ble_eq_true rfl) ?_
      have h2 := ih (k + 1) (.int (nI k)) (some (.ref (J 5 k))) (by omega)
      refine rr_iload_n C 1 dX12_isOnWithdrawn_34 rfl rfl ?_
      refine rr_aload_n C 3 dX12_isOnWithdrawn_35 rfl rfl ?_
      refine gf_X12_76 C dX12_isOnWithdrawn_36 (Or.inl (cy_up_old hq hkl)) ?_
      refine rr_if_eq C 61 dX12_isOnWithdrawn_39 (by decide) (fun c39 => ?_) (fun c39 => ?_)
      · rw [show cy_any (fun k => !decide (I 2 k = 0) && !decide (cy_lay J (J 12 i) &&& cy_bit k = 0)) (k + 1) = cy_any (fun k => !decide (I 2 k = 0) && !decide (cy_lay J (J 12 i) &&& cy_bit k = 0)) k by simp [cy_any, c39]] at h2
        refine rr_iconst C 0 dX12_isOnWithdrawn_61 (by decide) ?_
        refine rr_ior C dX12_isOnWithdrawn_62 ?_
        rw [bI_or0]
        refine rr_istore_n C 1 dX12_isOnWithdrawn_63 rfl (Nat.le_of_ble_eq_true rfl) rfl (Nat.le_of_ble_eq_true rfl) ?_
        refine rr_goto C 15 dX12_isOnWithdrawn_64 (by decide) ?_
        exact h2
      · refine rr_aload_n C 0 dX12_isOnWithdrawn_42 rfl rfl ?_
        refine gf_X12_31 C dX12_isOnWithdrawn_43 (Or.inl (cy_up_old hq (hY.cont hi))) ?_
        refine cv_X12_49 C dX12_isOnWithdrawn_46 (ct_lay (hY.mono (cy_up_sub hq)) r1) (Or.inl (cy_up_old hq (hY.image r1))) (kVr ?_)
        refine rr_aload_n C 3 dX12_isOnWithdrawn_49 rfl rfl ?_
        refine gf_X12_80 C dX12_isOnWithdrawn_50 (Or.inl (cy_up_old hq hkl)) ?_
        refine rr_iand C dX12_isOnWithdrawn_53 ?_
        refine rr_if_eq C 61 dX12_isOnWithdrawn_54 (by decide) (fun c54 => ?_) (fun c54 => ?_)
        · rw [show cy_any (fun k => !decide (I 2 k = 0) && !decide (cy_lay J (J 12 i) &&& cy_bit k = 0)) (k + 1) = cy_any (fun k => !decide (I 2 k = 0) && !decide (cy_lay J (J 12 i) &&& cy_bit k = 0)) k by simp [cy_any, c54]] at h2
          refine rr_iconst C 0 dX12_isOnWithdrawn_61 (by decide) ?_
          refine rr_ior C dX12_isOnWithdrawn_62 ?_
          rw [bI_or0]
          refine rr_istore_n C 1 dX12_isOnWithdrawn_63 rfl (Nat.le_of_ble_eq_true rfl) rfl (Nat.le_of_ble_eq_true rfl) ?_
          refine rr_goto C 15 dX12_isOnWithdrawn_64 (by decide) ?_
          exact h2
        · rw [show cy_any (fun k => !decide (I 2 k = 0) && !decide (cy_lay J (J 12 i) &&& cy_bit k = 0)) (k + 1) = true by simp [cy_any, c39, c54]] at h2
          refine rr_iconst C 1 dX12_isOnWithdrawn_57 (by decide) ?_
          refine rr_goto C 62 dX12_isOnWithdrawn_58 (by decide) ?_
          refine rr_ior C dX12_isOnWithdrawn_62 ?_
          rw [bI_or1]
          refine rr_istore_n C 1 dX12_isOnWithdrawn_63 rfl (Nat.le_of_ble_eq_true rfl) rfl (Nat.le_of_ble_eq_true rfl) ?_
          refine rr_goto C 15 dX12_isOnWithdrawn_64 (by decide) ?_
          exact h2
  refine rr_less C (u' := 0) (Nat.zero_le _) ?_
  exact loop (J 0 0) 0 _ _ (by omega)
def cy_ono (I : Nat → Nat → Int32) (J : Nat → Nat → Nat) (i : Nat) : Bool := cy_any (fun k => cy_out (I 2 k) (I 3 k) (I 1 0) && !decide (I 15 i &&& cy_bit k = 0)) (J 0 0)
theorem ct_X12_isOnOut (hG : cy_G G) (hY : cy_Y G I J st h) (hi : i < J 0 3) : cy_Con G yX12_isOnOut cX12_isOnOut 4 (some .boolean) 17 1 [.ref (J 8 i)] h (qV (.int (bI (cy_ono I J i))) (fun h1 => h1 = h)) xF := by
  have hla := hY.list (i := 0) (by decide)
  have r0 := hY.2.2.2.1
  have hcap := hY.cap (i := 0) (by decide)
  have hnc := (hY.2.2.1 0 (by decide)).1
  refine cy_in (own := RX12) (lv0 := [some (.ref (J 8 i)), none, none, none]) (by decide) rfl rfl rfl (Nat.le_of_ble_eq_true rfl) (fun K T C => ?_)
  refine rr_iconst C 0 dX12_isOnOut_0 (by decide) ?_
  refine rr_istore_n C 1 dX12_isOnOut_1 rfl (Nat.le_of_ble_eq_true rfl) rfl (Nat.le_of_ble_eq_true rfl) ?_
  refine rr_aload_n C 0 dX12_isOnOut_2 rfl rfl ?_
  refine gf_X12_3 C dX12_isOnOut_3 (Or.inl (hY.cont hi)) ?_
  refine gf_X12_54 C dX12_isOnOut_6 (Or.inl hY.yard) ?_
  refine cf_X12_58 C dX12_isOnOut_9 (ct_J2_iterator hla) (Or.inl hla) (kE (fun q h1 e1 => ?_))
  obtain ⟨⟨hq, hz⟩, rfl⟩ := e1
  refine rr_astore_n C 2 dX12_isOnOut_14 rfl (Nat.le_of_ble_eq_true rfl) rfl (Nat.le_of_ble_eq_true rfl) ?_
  have loop : ∀ (d k : Nat) (lr : Value) (x3 : Option Value), k + d = J 0 0 → K 0 (cy_up h q (.inr (8, [.int (nI k), lr, .int (I 0 0), .ref (J 2 0)]))) 15 [some (.ref (J 8 i)), some (.int (bI (cy_any (fun k => cy_out (I 2 k) (I 3 k) (I 1 0) && !decide (I 15 i &&& cy_bit k = 0)) k))), some (.ref q), x3] [] := by
    intro d
    induction d with
    | zero =>
      intro k lr x3 hk
      have hkn : k = J 0 0 := by omega
      subst hkn
      refine rr_aload_n C 2 dX12_isOnOut_15 rfl rfl ?_
      refine cf_X12_64 C dX12_isOnOut_16 (ct_hn0 cy_up_eq (cy_up_old hq hla)) (Or.inl cy_up_eq) (kVr ?_)
      refine rr_if_eq C 71 dX12_isOnOut_21 (by decide) (fun _ => ?_) (fun c => absurd rfl c)
      refine rr_forget C (cy_up_sub hq) ?_
      refine rr_iload_n C 1 dX12_isOnOut_71 rfl rfl ?_
      exact rr_zreturn C dX12_isOnOut_72 (by cases cy_any _ _ <;> rfl) ⟨rfl, rfl⟩
    | succ d ih =>
      intro k lr x3 hk
      have hkl := hY.layer (i := k) (by omega)
      refine rr_aload_n C 2 dX12_isOnOut_15 rfl rfl ?_
      refine cf_X12_64 C dX12_isOnOut_16 (ct_hn1 cy_up_eq (cy_up_old hq hla) (n := J 0 0) (by omega) (by omega)) (Or.inl cy_up_eq) (kVr ?_)
      refine rr_if_eq C 71 dX12_isOnOut_21 (by decide) (fun c => absurd c (by decide)) (fun _ => ?_)
      refine rr_aload_n C 2 dX12_isOnOut_24 rfl rfl ?_
      refine cf_X12_70 C dX12_isOnOut_25 (ct_nx cy_up_eq (cy_up_old hq hla) ((hY.kn hG (by decide)).up hq) (by omega) hnc hcap (hY.el (i := 0) (by decide) (by omega))) (Or.inl cy_up_eq) (kV (fun h1 e1 => ?_))
      subst e1
      rw [cy_up_up]
      refine cc_X12_74 C dX12_isOnOut_30 (Or.inl (cy_up_old hq hkl)) ?_
      refine rr_astore_n C 3 dX12_isOnOut_33 rfl (Nat.le_of_ble_eq_true rfl) rfl (Nat.le_of_ble_eq_true rfl) ?_
      have h2 := ih (k + 1) (.int (nI k)) (some (.ref (J 5 k))) (by omega)
      refine rr_iload_n C 1 dX12_isOnOut_34 rfl rfl ?_
      refine rr_aload_n C 3 dX12_isOnOut_35 rfl rfl ?_
      refine rr_aload_n C 0 dX12_isOnOut_36 rfl rfl ?_
      refine gf_X12_3 C dX12_isOnOut_37 (Or.inl (cy_up_old hq (hY.cont hi))) ?_
      refine gf_X12_83 C dX12_isOnOut_40 (Or.inl (cy_up_old hq hY.yard)) ?_
      refine cv_X12_86 C dX12_isOnOut_43 (ct_X5_isOut (cy_up_old hq hkl)) (Or.inl (cy_up_old hq hkl)) (kVr ?_)
      refine rr_if_eq C 65 dX12_isOnOut_46 (by decide) (fun c46 => ?_) (fun c46 => ?_)
      · rw [show cy_any (fun k => cy_out (I 2 k) (I 3 k) (I 1 0) && !decide (I 15 i &&& cy_bit k = 0)) (k + 1) = cy_any (fun k => cy_out (I 2 k) (I 3 k) (I 1 0) && !decide (I 15 i &&& cy_bit k = 0)) k by simp [cy_any, bI_eq0 c46]] at h2
        refine rr_iconst C 0 dX12_isOnOut_65 (by decide) ?_
        refine rr_ior C dX12_isOnOut_66 ?_
        rw [bI_or0]
        refine rr_istore_n C 1 dX12_isOnOut_67 rfl (Nat.le_of_ble_eq_true rfl) rfl (Nat.le_of_ble_eq_true rfl) ?_
        refine rr_goto C 15 dX12_isOnOut_68 (by decide) ?_
        exact h2
      · refine rr_aload_n C 0 dX12_isOnOut_49 rfl rfl ?_
        refine gf_X12_46 C dX12_isOnOut_50 (Or.inl (cy_up_old hq (hY.cont hi))) ?_
        refine rr_aload_n C 3 dX12_isOnOut_53 rfl rfl ?_
        refine gf_X12_80 C dX12_isOnOut_54 (Or.inl (cy_up_old hq hkl)) ?_
        refine rr_iand C dX12_isOnOut_57 ?_
        refine rr_if_eq C 65 dX12_isOnOut_58 (by decide) (fun c58 => ?_) (fun c58 => ?_)
        · rw [show cy_any (fun k => cy_out (I 2 k) (I 3 k) (I 1 0) && !decide (I 15 i &&& cy_bit k = 0)) (k + 1) = cy_any (fun k => cy_out (I 2 k) (I 3 k) (I 1 0) && !decide (I 15 i &&& cy_bit k = 0)) k by simp [cy_any, c58]] at h2
          refine rr_iconst C 0 dX12_isOnOut_65 (by decide) ?_
          refine rr_ior C dX12_isOnOut_66 ?_
          rw [bI_or0]
          refine rr_istore_n C 1 dX12_isOnOut_67 rfl (Nat.le_of_ble_eq_true rfl) rfl (Nat.le_of_ble_eq_true rfl) ?_
          refine rr_goto C 15 dX12_isOnOut_68 (by decide) ?_
          exact h2
        · rw [show cy_any (fun k => cy_out (I 2 k) (I 3 k) (I 1 0) && !decide (I 15 i &&& cy_bit k = 0)) (k + 1) = true by simp [cy_any, bI_ne0 c46, c58]] at h2
          refine rr_iconst C 1 dX12_isOnOut_61 (by decide) ?_
          refine rr_goto C 66 dX12_isOnOut_62 (by decide) ?_
          refine rr_ior C dX12_isOnOut_66 ?_
          rw [bI_or1]
          refine rr_istore_n C 1 dX12_isOnOut_67 rfl (Nat.le_of_ble_eq_true rfl) rfl (Nat.le_of_ble_eq_true rfl) ?_
          refine rr_goto C 15 dX12_isOnOut_68 (by decide) ?_
          exact h2
  refine rr_less C (u' := 0) (Nat.zero_le _) ?_
  exact loop (J 0 0) 0 _ _ (by omega)
/-- the bar in a park, as its place among the constants: 4 none, 5 withdrawn, 6 licence, 7 room -/
def cy_bar (I : Nat → Nat → Int32) (J : Nat → Nat → Nat) (lic tak : Int32) (fc fm : Nat → Int32) (n i : Nat) : Nat := if cy_onw I J i then 5 else if lic < tak + I 13 i then 6 else if cy_be fc fm (I 13 i) (I 14 i) n = 0 then 7 else 4
theorem ct_X12_bar {pa la ea cap n : Nat} {mc lic tak : Int32} {F : Nat → Option Nat} {ad : Nat → Nat} {wh : Nat → Value} {fc fm : Nat → Int32} (hG : cy_G G) (hY : cy_Y G I J st h) (hi : i < J 0 3) (hp : cy_pk G h pa la ea cap n mc lic tak F ad wh fc fm) : cy_Con G yX12_bar cX12_bar 2 (some (.object "Bar")) 18 2 [.ref (J 8 i), .ref pa] h (qV (.ref (G.2.2.2.2 (cy_bar I J lic tak fc fm n i))) (fun h1 => h1 = h)) xF := by
  refine cy_in (own := RX12) (lv0 := [some (.ref (J 8 i)), some (.ref pa)]) (by decide) rfl rfl rfl (Nat.le_of_ble_eq_true rfl) (fun K T C => ?_)
  refine rr_aload_n C 0 dX12_bar_0 rfl rfl ?_
  refine cv_X12_90 C dX12_bar_1 (ct_X12_isOnWithdrawn hG hY hi) (Or.inl (hY.cont hi)) (kVr ?_)
  refine rr_if_eq C 11 dX12_bar_4 (by decide) (fun c4 => ?_) (fun c4 => ?_)
  · have c4 := bI_eq0 c4
    refine rr_aload_n C 1 dX12_bar_11 rfl rfl ?_
    refine rr_aload_n C 0 dX12_bar_12 rfl rfl ?_
    refine gf_X12_35 C dX12_bar_13 (Or.inl (hY.cont hi)) ?_
    refine cv_X12_99 C dX12_bar_16 (ct_X2_isLicensed hp.1 (hY.cneed hi)) (Or.inl hp.1) (kVr ?_)
    refine rr_if_ne C 26 dX12_bar_19 (by decide) (fun c19 => ?_) (fun c19 => ?_)
    · have c19 := bI_ne0 c19
      have hl : ¬ lic < tak + I 13 i := by simpa using c19
      refine rr_aload_n C 1 dX12_bar_26 rfl rfl ?_
      refine rr_aload_n C 0 dX12_bar_27 rfl rfl ?_
      refine gf_X12_35 C dX12_bar_28 (Or.inl (hY.cont hi)) ?_
      refine cv_X12_108 C dX12_bar_31 (ct_X2_best hp (hY.cneed hi)) (Or.inl hp.1) (kVr ?_)
      refine rr_ifnonnull C (cy_o ad (cy_be fc fm (I 13 i) (I 14 i) n)) 43 dX12_bar_34 (by decide) rfl (fun a34 c34 => ?_) (fun c34 => ?_)
      · cases hb : cy_be fc fm (I 13 i) (I 14 i) n with
        | zero => rw [hb] at c34; cases c34
        | succ j =>
          refine gs_X12_115 C dX12_bar_43 ?_
          exact rr_areturn C dX12_bar_46 (by first | exact Or.inl ⟨_, rfl⟩ | exact Or.inr ⟨_, rfl⟩) ⟨by simp [cy_bar, c4, hl, hb], rfl⟩
      · cases hb : cy_be fc fm (I 13 i) (I 14 i) n with
        | succ j => rw [hb] at c34; cases c34
        | zero =>
          refine gs_X12_112 C dX12_bar_37 ?_
          refine rr_goto C 46 dX12_bar_40 (by decide) ?_
          exact rr_areturn C dX12_bar_46 (by first | exact Or.inl ⟨_, rfl⟩ | exact Or.inr ⟨_, rfl⟩) ⟨by simp [cy_bar, c4, hl, hb], rfl⟩
    · have c19 := bI_eq0 c19
      have hl : lic < tak + I 13 i := by simpa using c19
      refine gs_X12_105 C dX12_bar_22 ?_
      exact rr_areturn C dX12_bar_25 (by first | exact Or.inl ⟨_, rfl⟩ | exact Or.inr ⟨_, rfl⟩) ⟨by simp [cy_bar, c4, hl], rfl⟩
  · refine gs_X12_93 C dX12_bar_7 ?_
    exact rr_areturn C dX12_bar_10 (by first | exact Or.inl ⟨_, rfl⟩ | exact Or.inr ⟨_, rfl⟩) ⟨by simp [cy_bar, bI_ne0 c4], rfl⟩
end CONT
