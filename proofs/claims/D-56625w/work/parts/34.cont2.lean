/-! Container: what changes it; a park anew -/
set_option maxRecDepth 100000
theorem kG {K : KT1} {u pc : Nat} {h : Hp} {lv : LV} {st : List Value} {P : Hp → Prop} (hp : P h) (k : ∀ h', P h' → K u h' pc lv st) : K u h pc lv st := k h hp
/-- the kinds of cells that the component's methods may change -/
def cy_yd : va_E → Bool
  | .inl (_, _, .inr _) => true
  | .inl (_, _, .inl _) => false
  | .inr (c, _) => decide (c < 8)
/-- what is no component's cell stays -/
def cy_Fr (h h1 : Hp) : Prop := ∀ a e, h a = some e → cy_yd e = false → h1 a = some e
theorem cy_Fr.rf {h : Hp} : cy_Fr h h := fun _ _ q _ => q
theorem cy_Fr.tr {h h1 h2 : Hp} (a : cy_Fr h h1) (b : cy_Fr h1 h2) : cy_Fr h h2 := fun x e q r => b x e (a x e q r) r
theorem cy_Fr.up {h : Hp} {a : Nat} {e e' : va_E} (ha : h a = some e) (hy : cy_yd e = true) : cy_Fr h (cy_up h a e') := fun x e2 q r => by
  by_cases hx : x = a
  · subst hx
    rw [ha] at q
    cases q
    rw [hy] at r
    cases r
  · rw [cy_up_ne hx]
    exact q
theorem cy_Fr.new {h : Hp} {a : Nat} {e' : va_E} (ha : h a = none) : cy_Fr h (cy_up h a e') := fun x e2 q _ => cy_up_old ha q
theorem cy_Fr.le {h h1 : Hp} (hl : cy_le h h1) : cy_Fr h h1 := fun x e q _ => hl x e q
theorem cy_ch_congr {J J' : Nat → Nat → Nat} (h10 : ∀ i, J' 10 i = J 10 i) : ∀ n p, cy_ch J' n p = cy_ch J n p := by
  intro n
  induction n with
  | zero => intro p; rfl
  | succ n ih =>
    intro p
    cases p with
    | zero => rfl
    | succ i => simp only [cy_ch, h10, ih]
theorem cy_lay_congr {J J' : Nat → Nat → Nat} (h10 : ∀ i, J' 10 i = J 10 i) (h11 : ∀ i, J' 11 i = J 11 i) (i : Nat) : cy_lay J' i = cy_lay J i := by
  unfold cy_lay cy_bits
  rw [cy_ch_congr h10]
  simp only [h11]
/-- the row of failures that counts, as it is now -/
def cy_fl (I : Nat → Nat → Int32) (i : Nat) : Int32 := if I 1 0 - I 16 i < 8 then I 17 i else 0
def bcI (I : Nat → Nat → Int32) (J : Nat → Nat → Nat) (i : Nat) : Nat → Nat → Int32 := if J 13 i = 1 then u2 (u2 (u2 (u2 I 6 (J 14 i - 1) (I 6 (J 14 i - 1) + I 13 i)) 7 (J 14 i - 1) (I 7 (J 14 i - 1) + I 14 i)) 1 2 (I 1 2 - I 13 i)) 17 i (cy_fl I i) else I
def bcJ (J : Nat → Nat → Nat) (i t : Nat) : Nat → Nat → Nat := u2 (if J 13 i = 1 then u2 J 14 i 0 else J) 13 i t
section CONT2
variable {G : GT} {I : Nat → Nat → Int32} {J : Nat → Nat → Nat} {st : Int64} {h : Hp} {i : Nat}
theorem ct_X12_become (hG : cy_G G) (hY : cy_Y G I J st h) (hi : i < J 0 3) (hr : J 13 i = 1 → J 14 i ≠ 0) {t : Nat} (ht : t < 4) : cy_Con G yX12_become cX12_become 2 none 4 0 [.ref (J 8 i), .ref (G.2.2.2.2 t)] h (qN (fun h1 => cy_Y G (bcI I J i) (bcJ J i t) st h1 ∧ cy_Fr h h1)) xF := by
  obtain ⟨r1, r2, r3⟩ := hY.2.2.2.2.2 i hi
  refine cy_in (own := RX12) (lv0 := [some (.ref (J 8 i)), some (.ref (G.2.2.2.2 t))]) (by decide) rfl rfl rfl (Nat.le_of_ble_eq_true rfl) (fun K T C => ?_)
  refine rr_aload_n C 0 dX12_become_0 rfl rfl ?_
  refine gs_X12_39 C dX12_become_1 ?_
  refine cv_X12_42 C dX12_become_4 (ct_X12_is hG hY hi (t := 1) (by decide)) (Or.inl (hY.cont hi)) (kVr ?_)
  refine rr_if_eq C 62 dX12_become_7 (by decide) (fun c7 => ?_) (fun c7 => ?_)
  · have hn : ¬ J 13 i = 1 := of_decide_eq_false (bI_eq0 c7)
    refine rr_aload_n C 0 dX12_become_62 rfl rfl ?_
    refine rr_aload_n C 1 dX12_become_63 rfl rfl ?_
    refine pf_X12_21 C dX12_become_64 (hY.cont hi) rfl rfl ?_
    exact rr_return C dX12_become_67 ⟨rfl, by rw [bcI, bcJ, if_neg hn, if_neg hn]; exact hY.w_st hi t ht, cy_Fr.up (hY.cont hi) rfl⟩
  · have hn : J 13 i = 1 := of_decide_eq_true (bI_ne0 c7)
    obtain ⟨b, hb⟩ : ∃ b, J 14 i = b + 1 := ⟨J 14 i - 1, by have := hr hn; omega⟩
    have hbh : b < J 0 4 := by omega
    have hc := hY.cont hi
    have hc2 : h (J 8 i) = some (.inr (5, [.int (nI i), .int (I 12 i), .ref (J 6 (J 12 i)), .ref (J 16 i), .ref (G.2.2.2.2 (J 13 i)), .ref (J 9 b), .int (I 15 i), .int (I 16 i), .int (I 17 i), .int (I 18 i), .ref (J 1 0)])) := by
      have := hc
      simp only [eCont, hb] at this
      exact this
    refine rr_aload_n C 0 dX12_become_10 rfl rfl ?_
    refine gf_X12_3 C dX12_become_11 (Or.inl hc) ?_
    refine gf_X12_118 C dX12_become_14 (Or.inl hY.yard) ?_
    refine rr_aload_n C 0 dX12_become_17 rfl rfl ?_
    refine gf_X12_122 C dX12_become_18 (Or.inl hc2) ?_
    refine rr_aload_n C 0 dX12_become_21 rfl rfl ?_
    refine gf_X12_35 C dX12_become_22 (Or.inl hc) ?_
    refine cv_X12_137 C dX12_become_25 (ct_X2_give hY.park (hY.host hbh) (hY.cneed hi)) (Or.inl hY.park) (kN (fun h1 e1 => ?_))
    have hY1 : cy_Y G (u2 (u2 (u2 I 6 b (I 6 b + I 13 i)) 7 b (I 7 b + I 14 i)) 1 2 (I 1 2 - I 13 i)) J st h1 := by
      rw [e1]
      exact (hY.w_hcm hbh _ _).w_tak _
    have hF1 : cy_Fr h h1 := by
      rw [e1]
      refine (cy_Fr.up (hY.host hbh) rfl).tr (cy_Fr.up (e := ePark I J) ?_ rfl)
      rw [cy_up_ne (fun z => by have := hY.park; rw [z, hY.host hbh] at this; cases this)]
      exact hY.park
    obtain ⟨I1, hI1⟩ : ∃ z, z = u2 (u2 (u2 I 6 b (I 6 b + I 13 i)) 7 b (I 7 b + I 14 i)) 1 2 (I 1 2 - I 13 i) := ⟨_, rfl⟩
    rw [← hI1] at hY1
    have e10 : I1 1 0 = I 1 0 := by rw [hI1]; rfl
    have e16 : I1 16 i = I 16 i := by rw [hI1]; rfl
    have e17 : I1 17 i = I 17 i := by rw [hI1]; rfl
    have k54 : ∀ x : Int32, x = cy_fl I i → K 0 h1 54 [some (.ref (J 8 i)), some (.ref (G.2.2.2.2 t))] [.int x, .ref (J 8 i)] := by
      intro x hx
      subst hx
      refine pf_X12_140 C dX12_become_54 (hY1.cont hi) ?_
      refine kG (P := fun h2 => cy_Y G (u2 I1 17 i (cy_fl I i)) J st h2 ∧ cy_Fr h h2) ⟨hY1.w_cf hi _, hF1.tr (cy_Fr.up (hY1.cont hi) rfl)⟩ (fun h2 hh2 => ?_)
      obtain ⟨hY2, hF2⟩ := hh2
      refine rr_aload_n C 0 dX12_become_57 rfl rfl ?_
      refine rr_aconst_null C dX12_become_58 ?_
      refine pf_X12_122 C dX12_become_59 (hY2.cont hi) rfl rfl ?_
      refine kG (P := fun h3 => cy_Y G (u2 I1 17 i (cy_fl I i)) (u2 J 14 i 0) st h3 ∧ cy_Fr h h3) ⟨hY2.w_ho hi 0 (Nat.zero_le _), hF2.tr (cy_Fr.up (hY2.cont hi) rfl)⟩ (fun h3 hh3 => ?_)
      obtain ⟨hY3, hF3⟩ := hh3
      refine rr_aload_n C 0 dX12_become_62 rfl rfl ?_
      refine rr_aload_n C 1 dX12_become_63 rfl rfl ?_
      refine pf_X12_21 C dX12_become_64 (hY3.cont hi) rfl rfl ?_
      refine rr_return C dX12_become_67 ⟨rfl, ?_, hF3.tr (cy_Fr.up (hY3.cont hi) rfl)⟩
      rw [bcI, bcJ, if_pos hn, if_pos hn, hb, Nat.add_sub_cancel, ← hI1]
      exact hY3.w_st hi t ht
    refine rr_aload_n C 0 dX12_become_28 rfl rfl ?_
    refine rr_aload_n C 0 dX12_become_29 rfl rfl ?_
    refine gf_X12_3 C dX12_become_30 (Or.inl (hY1.cont hi)) ?_
    refine gf_X12_83 C dX12_become_33 (Or.inl hY1.yard) ?_
    refine rr_aload_n C 0 dX12_become_36 rfl rfl ?_
    refine gf_X12_130 C dX12_become_37 (Or.inl (hY1.cont hi)) ?_
    refine rr_isub C dX12_become_40 ?_
    refine rr_bipush C 8 dX12_become_41 (by decide) ?_
    rw [e10, e16]
    refine rr_icmp_lt C 50 dX12_become_43 (by decide) (fun c43 => ?_) (fun c43 => ?_)
    · refine rr_aload_n C 0 dX12_become_50 rfl rfl ?_
      refine gf_X12_140 C dX12_become_51 (Or.inl (hY1.cont hi)) ?_
      rw [e17]
      exact k54 _ (by rw [cy_fl, if_pos c43])
    · refine rr_iconst C 0 dX12_become_46 (by decide) ?_
      refine rr_goto C 54 dX12_become_47 (by decide) ?_
      exact k54 _ (by rw [cy_fl, if_neg c43])
theorem ct_X12_init {a ya im nd : Nat} {v0 v1 v2 v3 v4 v5 v6 v7 v8 v9 v10 : Value} {n t : Int32} (ha : h a = some (.inr (5, [v0, v1, v2, v3, v4, v5, v6, v7, v8, v9, v10]))) : cy_Con G yX12_init cX12_init 6 none 1 0 [.ref a, .ref ya, .int n, .int t, .ref im, .ref nd] h (qN (fun h1 => h1 = cy_up h a (.inr (5, [.int n, .int t, .ref im, .ref nd, .ref (G.2.2.2.2 0), v5, v6, v7, v8, v9, .ref ya])))) xF := by
  refine cy_in (own := RX12) (lv0 := [some (.ref a), some (.ref ya), some (.int n), some (.int t), some (.ref im), some (.ref nd)]) (by decide) rfl rfl rfl (Nat.le_of_ble_eq_true rfl) (fun K T C => ?_)
  refine rr_aload_n C 0 dX12_init_0 rfl rfl ?_
  refine rr_aload_n C 1 dX12_init_1 rfl rfl ?_
  refine pf_X12_3 C dX12_init_2 ha rfl rfl ?_
  refine rr_aload_n C 0 dX12_init_5 rfl rfl ?_
  refine oi_X12_9 C dX12_init_6 ?_
  refine rr_aload_n C 0 dX12_init_9 rfl rfl ?_
  refine gs_X12_15 C dX12_init_10 ?_
  refine pf_X12_21 C dX12_init_13 cy_up_eq rfl rfl ?_
  rw [cy_up_up]
  refine rr_aload_n C 0 dX12_init_16 rfl rfl ?_
  refine rr_iload_n C 2 dX12_init_17 rfl rfl ?_
  refine pf_X12_24 C dX12_init_18 cy_up_eq ?_
  rw [cy_up_up]
  refine rr_aload_n C 0 dX12_init_21 rfl rfl ?_
  refine rr_iload_n C 3 dX12_init_22 rfl rfl ?_
  refine pf_X12_28 C dX12_init_23 cy_up_eq ?_
  rw [cy_up_up]
  refine rr_aload_n C 0 dX12_init_26 rfl rfl ?_
  refine rr_aload C dX12_init_27 rfl ?_
  refine pf_X12_31 C dX12_init_29 cy_up_eq rfl rfl ?_
  rw [cy_up_up]
  refine rr_aload_n C 0 dX12_init_32 rfl rfl ?_
  refine rr_aload C dX12_init_33 rfl ?_
  refine pf_X12_35 C dX12_init_35 cy_up_eq rfl rfl ?_
  exact rr_return C dX12_init_38 ⟨rfl, cy_up_up⟩
/-- a start on host b -/
def stI (I : Nat → Nat → Int32) (J : Nat → Nat → Nat) (i b : Nat) : Nat → Nat → Int32 := u2 (u2 (u2 (u2 (u2 I 6 b (I 6 b - I 13 i)) 7 b (I 7 b - I 14 i)) 1 2 (I 1 2 + I 13 i)) 15 i (cy_lay J (J 12 i))) 16 i (I 1 0)
def stJ (J : Nat → Nat → Nat) (i b : Nat) : Nat → Nat → Nat := u2 (u2 J 14 i (b + 1)) 13 i 1
theorem ct_X12_start (hG : cy_G G) (hY : cy_Y G I J st h) (hi : i < J 0 3) {b : Nat} (hb : cy_be (I 6) (I 7) (I 13 i) (I 14 i) (J 0 4) = b + 1) : cy_Con G yX12_start cX12_start 1 none 17 1 [.ref (J 8 i)] h (qN (fun h1 => cy_Y G (stI I J i b) (stJ J i b) (st + 1) h1 ∧ cy_Fr h h1)) xF := by
  obtain ⟨r1, r2, r3⟩ := hY.2.2.2.2.2 i hi
  have r0 := hY.2.2.2.1
  have hbh : b < J 0 4 := by have := cy_be_le (I 6) (I 7) (I 13 i) (I 14 i) (J 0 4); omega
  refine cy_in (own := RX12) (lv0 := [some (.ref (J 8 i))]) (by decide) rfl rfl rfl (Nat.le_of_ble_eq_true rfl) (fun K T C => ?_)
  refine rr_aload_n C 0 dX12_start_0 rfl rfl ?_
  refine rr_aload_n C 0 dX12_start_1 rfl rfl ?_
  refine gf_X12_3 C dX12_start_2 (Or.inl (hY.cont hi)) ?_
  refine gf_X12_118 C dX12_start_5 (Or.inl hY.yard) ?_
  refine rr_aload_n C 0 dX12_start_8 rfl rfl ?_
  refine gf_X12_35 C dX12_start_9 (Or.inl (hY.cont hi)) ?_
  refine cv_X12_108 C dX12_start_12 (ct_X2_best (hY.pk hG) (hY.cneed hi)) (Or.inl hY.park) (kVr ?_)
  rw [hb]
  refine pf_X12_122 C dX12_start_15 (hY.cont hi) rfl rfl ?_
  refine kG (P := fun h2 => cy_Y G I (u2 J 14 i (b + 1)) st h2 ∧ cy_Fr h h2) ⟨hY.w_ho hi (b + 1) hbh, cy_Fr.up (hY.cont hi) rfl⟩ (fun h1 hh1 => ?_)
  obtain ⟨hY1, hF1⟩ := hh1
  obtain ⟨J1, hJ1⟩ : ∃ z, z = u2 J 14 i (b + 1) := ⟨_, rfl⟩
  rw [← hJ1] at hY1
  have j0 : J1 0 = J 0 := by rw [hJ1]; exact u2_row (by decide)
  have j8 : J1 8 = J 8 := by rw [hJ1]; exact u2_row (by decide)
  have j9 : J1 9 = J 9 := by rw [hJ1]; exact u2_row (by decide)
  have j12 : J1 12 = J 12 := by rw [hJ1]; exact u2_row (by decide)
  have j14 : J1 14 i = b + 1 := by rw [hJ1]; exact u2_eq
  rw [← j8]
  have hi1 : i < J1 0 3 := by rw [j0]; exact hi
  have hb1 : b < J1 0 4 := by rw [j0]; exact hbh
  have hc2 : h1 (J1 8 i) = some (.inr (5, [.int (nI i), .int (I 12 i), .ref (J1 6 (J1 12 i)), .ref (J1 16 i), .ref (G.2.2.2.2 (J1 13 i)), .ref (J1 9 b), .int (I 15 i), .int (I 16 i), .int (I 17 i), .int (I 18 i), .ref (J1 1 0)])) := by
    have := hY1.cont hi1
    simp only [eCont, j14] at this
    exact this
  refine rr_aload_n C 0 dX12_start_18 rfl rfl ?_
  refine gf_X12_3 C dX12_start_19 (Or.inl (hY1.cont hi1)) ?_
  refine gf_X12_118 C dX12_start_22 (Or.inl hY1.yard) ?_
  refine rr_aload_n C 0 dX12_start_25 rfl rfl ?_
  refine gf_X12_122 C dX12_start_26 (Or.inl hc2) ?_
  refine rr_aload_n C 0 dX12_start_29 rfl rfl ?_
  refine gf_X12_35 C dX12_start_30 (Or.inl (hY1.cont hi1)) ?_
  refine cv_X12_126 C dX12_start_33 (ct_X2_take hY1.park (hY1.host hb1) (hY1.cneed hi1)) (Or.inl hY1.park) (kN (fun h2 e2 => ?_))
  have hY2 : cy_Y G (u2 (u2 (u2 I 6 b (I 6 b - I 13 i)) 7 b (I 7 b - I 14 i)) 1 2 (I 1 2 + I 13 i)) J1 st h2 := by
    rw [e2]
    exact (hY1.w_hcm hb1 _ _).w_tak _
  have hF2 : cy_Fr h h2 := by
    rw [e2]
    refine hF1.tr ((cy_Fr.up (hY1.host hb1) rfl).tr (cy_Fr.up (e := ePark I J1) ?_ rfl))
    rw [cy_up_ne (fun z => by have := hY1.park; rw [z, hY1.host hb1] at this; cases this)]
    exact hY1.park
  obtain ⟨I2, hI2⟩ : ∃ z, z = u2 (u2 (u2 I 6 b (I 6 b - I 13 i)) 7 b (I 7 b - I 14 i)) 1 2 (I 1 2 + I 13 i) := ⟨_, rfl⟩
  rw [← hI2] at hY2
  have e10 : I2 1 0 = I 1 0 := by rw [hI2]; rfl
  have r1' : J1 12 i < J1 0 1 := by rw [j0, j12]; exact r1
  have r0' : J1 0 1 ≤ 8 := by rw [j0]; exact r0.2.1
  have hlay : cy_lay J1 (J1 12 i) = cy_lay J (J 12 i) := by
    rw [j12, hJ1]
    exact cy_lay_congr (fun _ => u2_r (by decide)) (fun _ => u2_r (by decide)) _
  refine rr_aload_n C 0 dX12_start_36 rfl rfl ?_
  refine rr_aload_n C 0 dX12_start_37 rfl rfl ?_
  refine gf_X12_31 C dX12_start_38 (Or.inl (hY2.cont hi1)) ?_
  refine cv_X12_49 C dX12_start_41 (ct_lay hY2 r1') (Or.inl (hY2.image r1')) (kVr ?_)
  rw [hlay]
  refine pf_X12_46 C dX12_start_44 (hY2.cont hi1) ?_
  refine kG (P := fun h3 => cy_Y G (u2 I2 15 i (cy_lay J (J 12 i))) J1 st h3 ∧ cy_Fr h h3) ⟨hY2.w_cl hi1 _, hF2.tr (cy_Fr.up (hY2.cont hi1) rfl)⟩ (fun h3 hh3 => ?_)
  obtain ⟨hY3, hF3⟩ := hh3
  refine rr_aload_n C 0 dX12_start_47 rfl rfl ?_
  refine rr_aload_n C 0 dX12_start_48 rfl rfl ?_
  refine gf_X12_3 C dX12_start_49 (Or.inl (hY3.cont hi1)) ?_
  refine gf_X12_83 C dX12_start_52 (Or.inl hY3.yard) ?_
  rw [show u2 I2 15 i (cy_lay J (J 12 i)) 1 0 = I 1 0 from e10]
  refine pf_X12_130 C dX12_start_55 (hY3.cont hi1) ?_
  refine kG (P := fun h4 => cy_Y G (u2 (u2 I2 15 i (cy_lay J (J 12 i))) 16 i (I 1 0)) J1 st h4 ∧ cy_Fr h h4) ⟨hY3.w_cs hi1 _, hF3.tr (cy_Fr.up (hY3.cont hi1) rfl)⟩ (fun h4 hh4 => ?_)
  obtain ⟨hY4, hF4⟩ := hh4
  refine rr_aload_n C 0 dX12_start_58 rfl rfl ?_
  refine gs_X12_39 C dX12_start_59 ?_
  refine pf_X12_21 C dX12_start_62 (hY4.cont hi1) rfl rfl ?_
  refine kG (P := fun h5 => cy_Y G (u2 (u2 I2 15 i (cy_lay J (J 12 i))) 16 i (I 1 0)) (u2 J1 13 i 1) st h5 ∧ cy_Fr h h5) ⟨hY4.w_st hi1 1 (by decide), hF4.tr (cy_Fr.up (hY4.cont hi1) rfl)⟩ (fun h5 hh5 => ?_)
  obtain ⟨hY5, hF5⟩ := hh5
  have e8 : J1 8 i = (u2 J1 13 i 1) 8 i := rfl
  rw [e8]
  refine rr_aload_n C 0 dX12_start_65 rfl rfl ?_
  refine gf_X12_3 C dX12_start_66 (Or.inl (hY5.cont (i := i) hi1)) ?_
  refine rr_dup C dX12_start_69 rfl ?_
  refine gf_X12_133 C dX12_start_70 (Or.inl hY5.yard) ?_
  refine rr_lconst C 1 dX12_start_73 (by decide) ?_
  refine rr_ladd C dX12_start_74 ?_
  refine pf_X12_133 C dX12_start_75 hY5.yard ?_
  refine rr_return C dX12_start_78 ⟨rfl, ?_, hF5.tr (cy_Fr.up hY5.yard rfl)⟩
  rw [stI, stJ, ← hI2, ← hJ1]
  exact hY5.w_starts _
theorem ct_X12_fail (hG : cy_G G) (hY : cy_Y G I J st h) (hi : i < J 0 3) (h1 : J 13 i = 1) (hr : J 14 i ≠ 0) {m : Nat} (hm : m < 2 ^ 30) (hf : cy_fl I i = nI m) : cy_Con G yX12_fail cX12_fail 2 (some .int) 5 0 [.ref (J 8 i)] h (qV (.int (nI (2 ^ min m 4))) (fun h1 => cy_Y G (u2 (u2 (bcI I J i) 17 i (nI (m + 1))) 18 i (I 1 0 + nI (2 ^ min m 4))) (bcJ J i 2) st h1 ∧ cy_Fr h h1)) xF := by
  refine cy_in (own := RX12) (lv0 := [some (.ref (J 8 i)), none]) (by decide) rfl rfl rfl (Nat.le_of_ble_eq_true rfl) (fun K T C => ?_)
  obtain ⟨f, hf5, hfv⟩ := hG.1.2
  refine rr_aload_n C 0 dX12_fail_0 rfl rfl ?_
  refine gs_X12_143 C dX12_fail_1 ?_
  refine cv_X12_146 C dX12_fail_4 (ct_X12_become hG hY hi (fun _ => hr) (t := 2) (by decide)) (Or.inl (hY.cont hi)) (kN (fun h2 e2 => ?_))
  obtain ⟨hY2, hF2⟩ := e2
  have j0 : bcJ J i 2 0 = J 0 := by rw [bcJ, if_pos h1, u2_row (by decide), u2_row (by decide)]
  have j8 : bcJ J i 2 8 = J 8 := by rw [bcJ, if_pos h1, u2_row (by decide), u2_row (by decide)]
  have i17 : bcI I J i 17 i = nI m := by rw [bcI, if_pos h1, u2_eq, hf]
  have i10 : bcI I J i 1 0 = I 1 0 := by rw [bcI, if_pos h1]; rfl
  obtain ⟨I2, hI2⟩ : ∃ z, z = bcI I J i := ⟨_, rfl⟩
  obtain ⟨J2, hJ2⟩ : ∃ z, z = bcJ J i 2 := ⟨_, rfl⟩
  rw [← hI2] at hY2 i17 i10
  rw [← hJ2] at hY2 j0 j8
  rw [← j8]
  have hi2 : i < J2 0 3 := by rw [j0]; exact hi
  refine gs_X12_150 C dX12_fail_7 ?_
  refine rr_aload_n C 0 dX12_fail_10 rfl rfl ?_
  refine gf_X12_140 C dX12_fail_11 (Or.inl (hY2.cont hi2)) ?_
  refine gs_X12_150 C dX12_fail_14 ?_
  refine rr_alen C 0 dX12_fail_17 (Or.inr hf5) rfl ?_
  refine rr_iconst C 1 dX12_fail_18 (by decide) ?_
  refine rr_isub C dX12_fail_19 ?_
  dsimp only
  rw [i17, show nI 5 - 1 = nI 4 from by decide]
  refine mm_X12_154 C dX12_fail_20 ?_
  rw [show (if nI 4 < nI m then nI 4 else nI m) = nI (min m 4) from by
    by_cases hlt : 4 < m
    · rw [if_pos (nI_lt hlt (by omega)), show min m 4 = 4 by omega]
    · rw [if_neg (nI_nlt (by omega) (by omega)), show min m 4 = m by omega]]
  refine rr_iald C (min m 4) dX12_fail_23 (Or.inr hf5) rfl (by omega) (by decide) ?_
  rw [hfv _ (by omega)]
  refine rr_istore_n C 1 dX12_fail_24 rfl (Nat.le_of_ble_eq_true rfl) rfl (Nat.le_of_ble_eq_true rfl) ?_
  refine rr_aload_n C 0 dX12_fail_25 rfl rfl ?_
  refine rr_dup C dX12_fail_26 rfl ?_
  refine gf_X12_140 C dX12_fail_27 (Or.inl (hY2.cont hi2)) ?_
  refine rr_iconst C 1 dX12_fail_30 (by decide) ?_
  refine rr_iadd C dX12_fail_31 ?_
  rw [i17, nI_1]
  refine pf_X12_140 C dX12_fail_32 (hY2.cont hi2) ?_
  refine kG (P := fun h3 => cy_Y G (u2 I2 17 i (nI (m + 1))) J2 st h3 ∧ cy_Fr h h3) ⟨hY2.w_cf hi2 _, hF2.tr (cy_Fr.up (hY2.cont hi2) rfl)⟩ (fun h3 hh3 => ?_)
  obtain ⟨hY3, hF3⟩ := hh3
  refine rr_aload_n C 0 dX12_fail_35 rfl rfl ?_
  refine rr_aload_n C 0 dX12_fail_36 rfl rfl ?_
  refine gf_X12_3 C dX12_fail_37 (Or.inl (hY3.cont hi2)) ?_
  refine gf_X12_83 C dX12_fail_40 (Or.inl hY3.yard) ?_
  rw [show u2 I2 17 i (nI (m + 1)) 1 0 = I 1 0 from i10]
  refine rr_iload_n C 1 dX12_fail_43 rfl rfl ?_
  refine rr_iadd C dX12_fail_44 ?_
  refine pf_X12_160 C dX12_fail_45 (hY3.cont hi2) ?_
  refine rr_iload_n C 1 dX12_fail_48 rfl rfl ?_
  exact rr_ireturn C dX12_fail_49 ⟨rfl, by rw [← hI2, ← hJ2]; exact hY3.w_cu hi2 _, hF3.tr (cy_Fr.up (hY3.cont hi2) rfl)⟩
end CONT2
