/-! CrateYard: what is changed -/
set_option maxRecDepth 100000
section CHANGE
variable {G : GT} {I : Nat → Nat → Int32} {J : Nat → Nat → Nat} {st : Int64} {h : Hp}
theorem ct_X1_lend (hG : cy_G G) (hY : cy_Y G I J st h) {k t : Int32} : cy_Con G yX1_lend cX1_lend 5 (some .int) 20 12 [.ref (J 1 0), .int k, .int t] h (qC (cd2 (cy_ix k (J 0 2)) (cy_bt t 0 3)) (.int (I 11 (kn k))) (fun h1 => cy_Y G (u2 I 11 (kn k) t) J st h1 ∧ cy_Fr h h1)) (xC (cd2 (cy_ix k (J 0 2)) (cy_bt t 0 3)) (cy_nm RJ10 RJ18 "") h) := by
  have r0 := hY.2.2.2.1
  have hla := hY.list (i := 2) (by decide)
  refine cy_in (own := RX1) (lv0 := [some (.ref (J 1 0)), some (.int k), some (.int t), none, none]) (by decide) rfl rfl rfl (Nat.le_of_ble_eq_true rfl) (fun K T C => ?_)
  refine rr_iload_n C 1 dX1_lend_0 rfl rfl ?_
  refine rr_aload_n C 0 dX1_lend_1 rfl rfl ?_
  refine gf_X1_37 C dX1_lend_2 (Or.inl hY.yard) ?_
  refine cf_X1_50 C dX1_lend_5 (ct_J2_size hla) (Or.inl hla) (kVr ?_)
  refine csx_X1_56 C dX1_lend_10 ct_X1_requireIndex (xK fun hb => rr_out C (xc21 hb)) (kB fun hb0 => ?_)
  obtain ⟨j, hj, rfl⟩ := cy_ix_t (by omega) hb0
  have hk := kn_nI (show j < 2 ^ 31 by omega)
  refine rr_iconst C 1 dX1_lend_13 (by decide) ?_
  refine rr_newaz C 1 1 q721 dX1_lend_14 (by decide) (by decide) (by decide) (by decide) (by omega) (fun q hq hz => ?_)
  refine rr_dup C dX1_lend_16 rfl ?_
  refine rr_iconst C 0 dX1_lend_17 (by decide) ?_
  refine rr_iload_n C 2 dX1_lend_18 rfl rfl ?_
  refine cs_X1_191 C dX1_lend_19 ct_X1_isTenant (kVr ?_)
  refine rr_zast C 0 dX1_lend_22 cy_up_eq rfl (by decide) (by decide) ?_
  rw [cy_up_up, vp_nar_bI]
  refine csx_X1_144 C dX1_lend_23 (ct_X1_requireArguments (fun k => cy_bt t 0 3) cy_up_eq (by decide) (fun k hk => by match k, hk with | 0, _ => rfl)) (xK fun hb => rr_forgetT C (cy_up_sub hq) (rr_out C (xc22 hb0 (by simpa [cy_al] using hb)))) (kB fun hb => ?_)
  have hb : cy_bt t 0 3 = true := by simpa [cy_al] using hb
  refine rr_forget C (cy_up_sub hq) ?_
  refine rr_aload_n C 0 dX1_lend_26 rfl rfl ?_
  refine gf_X1_37 C dX1_lend_27 (Or.inl hY.yard) ?_
  refine rr_iload_n C 1 dX1_lend_30 rfl rfl ?_
  refine cf_X1_60 C dX1_lend_31 (ct_J2_get hla (hY.kn hG (by decide)) hj (hY.la (by decide)).1 (by have := hY.cap (i := 2) (by decide); omega)) (Or.inl hla) (kVr ?_)
  rw [hY.el (i := 2) (by decide) hj]
  refine cc_X1_195 C dX1_lend_36 (Or.inl (hY.opn hj)) ?_
  refine rr_astore_n C 3 dX1_lend_39 rfl (Nat.le_of_ble_eq_true rfl) rfl (Nat.le_of_ble_eq_true rfl) ?_
  refine rr_aload_n C 3 dX1_lend_40 rfl rfl ?_
  refine gf_X1_200 C dX1_lend_41 (Or.inl (hY.opn hj)) ?_
  refine rr_istore C dX1_lend_44 (Nat.le_of_ble_eq_true rfl) rfl (Nat.le_of_ble_eq_true rfl) ?_
  refine rr_aload_n C 3 dX1_lend_46 rfl rfl ?_
  refine rr_iload_n C 2 dX1_lend_47 rfl rfl ?_
  refine pf_X1_200 C dX1_lend_48 (hY.opn hj) ?_
  refine rr_iload C dX1_lend_51 rfl ?_
  rw [hk] at C
  exact rr_ireturn C dX1_lend_53 ⟨qc2 hb0 hb, rfl, hY.w_ot hj t, cy_Fr.up (hY.opn hj) rfl⟩
theorem ct_X1_stop (hG : cy_G G) (hY : cy_Y G I J st h) (hok : cy_okJ J) {k : Int32} : cy_Con G yX1_stop cX1_stop 4 (some (.object "State")) 20 12 [.ref (J 1 0), .int k] h (qC (cd2 (cy_ix k (J 0 3)) (!decide (J 13 (kn k) = 3))) (.ref (G.2.2.2.2 (J 13 (kn k)))) (fun h1 => cy_Y G (bcI I J (kn k)) (bcJ J (kn k) 3) st h1 ∧ cy_Fr h h1)) (xC (cd2 (cy_ix k (J 0 3)) (!decide (J 13 (kn k) = 3))) (cy_nm RJ10 RJ6 "") h) := by
  have r0 := hY.2.2.2.1
  refine cy_in (own := RX1) (lv0 := [some (.ref (J 1 0)), some (.int k), none, none]) (by decide) rfl rfl rfl (Nat.le_of_ble_eq_true rfl) (fun K T C => ?_)
  refine rr_aload_n C 0 dX1_stop_0 rfl rfl ?_
  refine rr_iload_n C 1 dX1_stop_1 rfl rfl ?_
  refine cvx_X1_218 C dX1_stop_2 (ct_X1_require hG hY) (Or.inl hY.yard) (xK fun hb => rr_out C (xc21 hb)) (kE (fun j h1 e1 => ?_))
  obtain ⟨⟨hj, rfl⟩, e1⟩ := e1
  rw [e1]
  have hk := kn_nI (show j < 2 ^ 31 by omega)
  rw [hk] at C
  have ea1 := cy_ix_j hj (show J 0 3 < 2 ^ 31 by omega)
  have key : ∀ b : Bool, (!decide (J 13 j = 3)) = b → K 11 h 21 [some (.ref (J 1 0)), some (.int (nI j)), some (.ref (J 8 j)), none] [.int (bI b)] := by
    intro b hb0
    refine csx_X1_87 C dX1_stop_21 ct_X1_requireState (xK fun hb => rr_out C (xc22 ea1 (by rw [hb0]; exact hb))) (kB fun hb => ?_)
    rw [hb] at hb0
    refine rr_aload_n C 2 dX1_stop_24 rfl rfl ?_
    refine gf_X1_225 C dX1_stop_25 (Or.inl (hY.cont hj)) ?_
    refine rr_astore_n C 3 dX1_stop_28 rfl (Nat.le_of_ble_eq_true rfl) rfl (Nat.le_of_ble_eq_true rfl) ?_
    refine rr_aload_n C 2 dX1_stop_29 rfl rfl ?_
    refine gs_X1_222 C dX1_stop_30 ?_
    refine cv_X1_211 C dX1_stop_33 (ct_X12_become hG hY hj (hok j hj) (t := 3) (by decide)) (Or.inl (hY.cont hj)) (kN (fun h2 e2 => ?_))
    refine rr_aload_n C 3 dX1_stop_36 rfl rfl ?_
    exact rr_areturn C dX1_stop_37 (by first | exact Or.inl ⟨_, rfl⟩ | exact Or.inr ⟨_, rfl⟩) ⟨qc2 ea1 hb0, rfl, e2⟩
  refine rr_astore_n C 2 dX1_stop_5 rfl (Nat.le_of_ble_eq_true rfl) rfl (Nat.le_of_ble_eq_true rfl) ?_
  refine rr_aload_n C 2 dX1_stop_6 rfl rfl ?_
  refine gs_X1_222 C dX1_stop_7 ?_
  refine cv_X1_167 C dX1_stop_10 (ct_X12_is hG hY hj (t := 3) (by decide)) (Or.inl (hY.cont hj)) (kVr ?_)
  refine rr_if_ne C 20 dX1_stop_13 (by decide) (fun c13 => ?_) (fun c13 => ?_)
  · refine rr_iconst C 0 dX1_stop_20 (by decide) ?_
    exact key false (by rw [bI_ne0 c13]; rfl)
  · refine rr_iconst C 1 dX1_stop_16 (by decide) ?_
    refine rr_goto C 21 dX1_stop_17 (by decide) ?_
    exact key true (by rw [bI_eq0 c13]; rfl)
theorem ct_X1_fail (hG : cy_G G) (hY : cy_Y G I J st h) (hok : cy_okJ J) {k : Int32} {m : Nat} (hm : m < 2 ^ 30) (hf : kn k < J 0 3 → J 13 (kn k) = 1 → cy_fl I (kn k) = nI m) : cy_Con G yX1_fail cX1_fail 3 (some .int) 20 12 [.ref (J 1 0), .int k] h (qC (cd2 (cy_ix k (J 0 3)) (decide (J 13 (kn k) = 1))) (.int (nI (2 ^ min m 4))) (fun h1 => cy_Y G (u2 (u2 (bcI I J (kn k)) 17 (kn k) (nI (m + 1))) 18 (kn k) (I 1 0 + nI (2 ^ min m 4))) (bcJ J (kn k) 2) st h1 ∧ cy_Fr h h1)) (xC (cd2 (cy_ix k (J 0 3)) (decide (J 13 (kn k) = 1))) (cy_nm RJ10 RJ6 "") h) := by
  have r0 := hY.2.2.2.1
  refine cy_in (own := RX1) (lv0 := [some (.ref (J 1 0)), some (.int k), none]) (by decide) rfl rfl rfl (Nat.le_of_ble_eq_true rfl) (fun K T C => ?_)
  refine rr_aload_n C 0 dX1_fail_0 rfl rfl ?_
  refine rr_iload_n C 1 dX1_fail_1 rfl rfl ?_
  refine cvx_X1_218 C dX1_fail_2 (ct_X1_require hG hY) (Or.inl hY.yard) (xK fun hb => rr_out C (xc21 hb)) (kE (fun j h1 e1 => ?_))
  obtain ⟨⟨hj, rfl⟩, e1⟩ := e1
  rw [e1]
  have hk := kn_nI (show j < 2 ^ 31 by omega)
  rw [hk] at C hf
  have ea1 := cy_ix_j hj (show J 0 3 < 2 ^ 31 by omega)
  refine rr_astore_n C 2 dX1_fail_5 rfl (Nat.le_of_ble_eq_true rfl) rfl (Nat.le_of_ble_eq_true rfl) ?_
  refine rr_aload_n C 2 dX1_fail_6 rfl rfl ?_
  refine gs_X1_161 C dX1_fail_7 ?_
  refine cv_X1_167 C dX1_fail_10 (ct_X12_is hG hY hj (t := 1) (by decide)) (Or.inl (hY.cont hj)) (kVr ?_)
  refine csx_X1_87 C dX1_fail_13 ct_X1_requireState (xK fun hb => rr_out C (xc22 ea1 hb)) (kB fun hb => ?_)
  have hrun := of_decide_eq_true hb
  refine rr_aload_n C 2 dX1_fail_16 rfl rfl ?_
  refine cv_X1_228 C dX1_fail_17 (ct_X12_fail hG hY hj hrun (hok j hj hrun) hm (hf hj hrun)) (Or.inl (hY.cont hj)) (kV (fun h2 e2 => ?_))
  exact rr_ireturn C dX1_fail_20 ⟨qc2 ea1 hb, rfl, e2⟩
theorem ct_X1_withdraw (hG : cy_G G) (hY : cy_Y G I J st h) {k n : Int32} : cy_Con G yX1_withdraw cX1_withdraw 7 (some .int) 20 16 [.ref (J 1 0), .int k, .int n] h (qC (cd3 (cy_ix k (J 0 0)) (cy_bt n 0 99) (decide (I 2 (kn k) = 0))) (.int (nI (cy_cn (fun i => decide (J 13 i = 1) && !decide (I 15 i &&& cy_bit (kn k) = 0)) (J 0 3)))) (fun h1 => cy_Y G (u2 (u2 I 2 (kn k) 1) 3 (kn k) (I 1 0 + n)) J st h1 ∧ cy_Fr h h1)) (xC (cd3 (cy_ix k (J 0 0)) (cy_bt n 0 99) (decide (I 2 (kn k) = 0))) (cy_nm RJ10 RJ18 RJ6) h) := by
  have r0 := hY.2.2.2.1
  have hcap := hY.cap (i := 3) (by decide)
  have hnc := (hY.2.2.1 3 (by decide)).1
  refine cy_in (own := RX1) (lv0 := [some (.ref (J 1 0)), some (.int k), some (.int n), none, none, none, none]) (by decide) rfl rfl rfl (Nat.le_of_ble_eq_true rfl) (fun K T C => ?_)
  refine rr_aload_n C 0 dX1_withdraw_0 rfl rfl ?_
  refine rr_iload_n C 1 dX1_withdraw_1 rfl rfl ?_
  refine cvx_X1_102 C dX1_withdraw_2 (ct_X1_requireLayer hG hY) (Or.inl hY.yard) (xK fun hb => rr_out C (xc31 hb)) (kE (fun j h1 e1 => ?_))
  obtain ⟨⟨hj, rfl⟩, e1⟩ := e1
  rw [e1]
  have hk := kn_nI (show j < 2 ^ 31 by omega)
  rw [hk] at C
  have ea1 := cy_ix_j hj (show J 0 0 < 2 ^ 31 by omega)
  refine rr_astore_n C 3 dX1_withdraw_5 rfl (Nat.le_of_ble_eq_true rfl) rfl (Nat.le_of_ble_eq_true rfl) ?_
  refine rr_iconst C 1 dX1_withdraw_6 (by decide) ?_
  refine rr_newaz C 1 1 q721 dX1_withdraw_7 (by decide) (by decide) (by decide) (by decide) (by omega) (fun q hq hz => ?_)
  refine rr_dup C dX1_withdraw_9 rfl ?_
  refine rr_iconst C 0 dX1_withdraw_10 (by decide) ?_
  refine rr_iload_n C 2 dX1_withdraw_11 rfl rfl ?_
  refine rr_iconst C 0 dX1_withdraw_12 (by decide) ?_
  refine rr_bipush C 99 dX1_withdraw_13 (by decide) ?_
  refine cs_X1_75 C dX1_withdraw_15 ct_X1_isIn (kVr ?_)
  refine rr_zast C 0 dX1_withdraw_18 cy_up_eq rfl (by decide) (by decide) ?_
  rw [cy_up_up, vp_nar_bI]
  refine csx_X1_144 C dX1_withdraw_19 (ct_X1_requireArguments (fun k => cy_bt n 0 99) cy_up_eq (by decide) (fun k hk => by match k, hk with | 0, _ => rfl)) (xK fun hb => rr_forgetT C (cy_up_sub hq) (rr_out C (xc32 ea1 (by simpa [cy_al] using hb)))) (kB fun hb => ?_)
  have eb1 : cy_bt n 0 99 = true := by simpa [cy_al] using hb
  refine rr_forget C (cy_up_sub hq) ?_
  have key : ∀ b : Bool, decide (I 2 j = 0) = b → K 13 h 34 [some (.ref (J 1 0)), some (.int (nI j)), some (.int n), some (.ref (J 5 j)), none, none, none] [.int (bI b)] := by
    intro b hb0
    refine csx_X1_87 C dX1_withdraw_34 ct_X1_requireState (xK fun hb => rr_out C (xc33 ea1 eb1 (by rw [hb0]; exact hb))) (kB fun hb => ?_)
    rw [hb] at hb0
    refine rr_aload_n C 3 dX1_withdraw_37 rfl rfl ?_
    refine rr_iconst C 1 dX1_withdraw_38 (by decide) ?_
    refine pf_X1_151 C dX1_withdraw_39 (hY.layer hj) rfl rfl ?_
    have hY1 := hY.w_wd hj 1
    have hF1 : cy_Fr h (cy_up h (J 5 j) (.inr (2, [.int (cy_bit j), .int 1, .int (I 3 j)]))) := cy_Fr.up (hY.layer hj) rfl
    refine rr_aload_n C 3 dX1_withdraw_42 rfl rfl ?_
    refine rr_aload_n C 0 dX1_withdraw_43 rfl rfl ?_
    refine gf_X1_155 C dX1_withdraw_44 (Or.inl hY1.yard) ?_
    refine rr_iload_n C 2 dX1_withdraw_47 rfl rfl ?_
    refine rr_iadd C dX1_withdraw_48 ?_
    refine pf_X1_158 C dX1_withdraw_49 (hY1.layer hj) ?_
    refine kG (P := fun h1 => cy_Y G (u2 (u2 I 2 j 1) 3 j (I 1 0 + n)) J st h1 ∧ cy_Fr h h1) ⟨hY1.w_oa hj _, hF1.tr (cy_Fr.up (hY1.layer hj) rfl)⟩ (fun h2 e2 => ?_)
    obtain ⟨hY2, hF2⟩ := e2
    have hla := hY2.list (i := 3) (by decide)
    refine rr_iconst C 0 dX1_withdraw_52 (by decide) ?_
    refine rr_istore C dX1_withdraw_53 (Nat.le_of_ble_eq_true rfl) rfl (Nat.le_of_ble_eq_true rfl) ?_
    refine rr_aload_n C 0 dX1_withdraw_55 rfl rfl ?_
    refine gf_X1_40 C dX1_withdraw_56 (Or.inl hY2.yard) ?_
    refine cf_X1_122 C dX1_withdraw_59 (ct_J2_iterator hla) (Or.inl hla) (kE (fun q h3 e3 => ?_))
    obtain ⟨⟨hq, hz⟩, rfl⟩ := e3
    refine rr_astore C dX1_withdraw_64 (Nat.le_of_ble_eq_true rfl) rfl (Nat.le_of_ble_eq_true rfl) ?_
    have loop : ∀ (d k : Nat) (lr : Value) (x6 : Option Value), k + d = J 0 3 → K 0 (cy_up h2 q (.inr (8, [.int (nI k), lr, .int (I 0 3), .ref (J 2 3)]))) 66 [some (.ref (J 1 0)), some (.int (nI j)), some (.int n), some (.ref (J 5 j)), some (.int (nI (cy_cn (fun i => decide (J 13 i = 1) && !decide (I 15 i &&& cy_bit j = 0)) k))), some (.ref q), x6] [] := by
      intro d
      induction d with
      | zero =>
        intro k lr x6 hkd
        have hkn : k = J 0 3 := by omega
        subst hkn
        refine rr_aload C dX1_withdraw_66 rfl ?_
        refine cf_X1_126 C dX1_withdraw_68 (ct_hn0 cy_up_eq (cy_up_old hq hla)) (Or.inl cy_up_eq) (kVr ?_)
        refine rr_if_eq C 125 dX1_withdraw_73 (by decide) (fun _ => ?_) (fun c => absurd rfl c)
        refine rr_forget C (cy_up_sub hq) ?_
        refine rr_iload C dX1_withdraw_125 rfl ?_
        exact rr_ireturn C dX1_withdraw_127 ⟨qc3 ea1 eb1 hb0, rfl, hY2, hF2⟩
      | succ d ih =>
        intro k lr x6 hkd
        have hkl := hY2.cont (i := k) (by omega)
        refine rr_aload C dX1_withdraw_66 rfl ?_
        refine cf_X1_126 C dX1_withdraw_68 (ct_hn1 cy_up_eq (cy_up_old hq hla) (n := J 0 3) (by omega) (by omega)) (Or.inl cy_up_eq) (kVr ?_)
        refine rr_if_eq C 125 dX1_withdraw_73 (by decide) (fun c => absurd c (by decide)) (fun _ => ?_)
        refine rr_aload C dX1_withdraw_76 rfl ?_
        refine cf_X1_132 C dX1_withdraw_78 (ct_nx cy_up_eq (cy_up_old hq hla) ((hY2.kn hG (by decide)).up hq) (by omega) hnc hcap (hY2.el (i := 3) (by decide) (by omega))) (Or.inl cy_up_eq) (kV (fun h3 e3 => ?_))
        subst e3
        rw [cy_up_up]
        refine cc_X1_73 C dX1_withdraw_83 (Or.inl (cy_up_old hq hkl)) ?_
        have k119 : ∀ b : Bool, (decide (J 13 k = 1) && !decide (I 15 k &&& cy_bit j = 0)) = b → K 0 (cy_up h2 q (.inr (8, [.int (nI (k + 1)), .int (nI k), .int (I 0 3), .ref (J 2 3)]))) 119 [some (.ref (J 1 0)), some (.int (nI j)), some (.int n), some (.ref (J 5 j)), some (.int (nI (cy_cn (fun i => decide (J 13 i = 1) && !decide (I 15 i &&& cy_bit j = 0)) k))), some (.ref q), some (.ref (J 8 k))] [.int (bI b), .int (nI (cy_cn (fun i => decide (J 13 i = 1) && !decide (I 15 i &&& cy_bit j = 0)) k))] := by
          intro b hb
          subst hb
          refine rr_iadd C dX1_withdraw_119 ?_
          rw [nI_cn (p := fun i => decide (J 13 i = 1) && !decide (I 15 i &&& cy_bit j = 0))]
          refine rr_istore C dX1_withdraw_120 (Nat.le_of_ble_eq_true rfl) rfl (Nat.le_of_ble_eq_true rfl) ?_
          refine rr_goto C 66 dX1_withdraw_122 (by decide) ?_
          exact ih (k + 1) _ _ (by omega)
        refine rr_astore C dX1_withdraw_86 (Nat.le_of_ble_eq_true rfl) rfl (Nat.le_of_ble_eq_true rfl) ?_
        refine rr_iload C dX1_withdraw_88 rfl ?_
        refine rr_aload C dX1_withdraw_90 rfl ?_
        refine gs_X1_161 C dX1_withdraw_92 ?_
        refine cv_X1_167 C dX1_withdraw_95 (ct_X12_is hG (hY2.mono (cy_up_sub hq)) (i := k) (by omega) (t := 1) (by decide)) (Or.inl (cy_up_old hq hkl)) (kVr ?_)
        refine rr_if_eq C 118 dX1_withdraw_98 (by decide) (fun c98 => ?_) (fun c98 => ?_)
        · refine rr_iconst C 0 dX1_withdraw_118 (by decide) ?_
          exact k119 false (by rw [bI_eq0 c98]; rfl)
        · refine rr_aload C dX1_withdraw_101 rfl ?_
          refine gf_X1_171 C dX1_withdraw_103 (Or.inl (cy_up_old hq hkl)) ?_
          refine rr_aload_n C 3 dX1_withdraw_106 rfl rfl ?_
          refine gf_X1_109 C dX1_withdraw_107 (Or.inl (cy_up_old hq (hY2.layer hj))) ?_
          refine rr_iand C dX1_withdraw_110 ?_
          refine rr_if_eq C 118 dX1_withdraw_111 (by decide) (fun c111 => ?_) (fun c111 => ?_)
          · refine rr_iconst C 0 dX1_withdraw_118 (by decide) ?_
            rw [show u2 (u2 I 2 j 1) 3 j (I 1 0 + n) 15 k = I 15 k from rfl] at c111
            exact k119 false (by rw [bI_ne0 c98, decide_eq_true c111]; rfl)
          · refine rr_iconst C 1 dX1_withdraw_114 (by decide) ?_
            refine rr_goto C 119 dX1_withdraw_115 (by decide) ?_
            rw [show u2 (u2 I 2 j 1) 3 j (I 1 0 + n) 15 k = I 15 k from rfl] at c111
            exact k119 true (by rw [bI_ne0 c98, decide_eq_false c111]; rfl)
    refine rr_less C (u' := 0) (Nat.zero_le _) ?_
    exact loop (J 0 3) 0 _ _ (by omega)
  refine rr_aload_n C 3 dX1_withdraw_22 rfl rfl ?_
  refine gf_X1_151 C dX1_withdraw_23 (Or.inl (hY.layer hj)) ?_
  refine rr_if_ne C 33 dX1_withdraw_26 (by decide) (fun c26 => ?_) (fun c26 => ?_)
  · refine rr_iconst C 0 dX1_withdraw_33 (by decide) ?_
    refine rr_less C (by omega) (key false (decide_eq_false c26))
  · refine rr_iconst C 1 dX1_withdraw_29 (by decide) ?_
    refine rr_goto C 34 dX1_withdraw_30 (by decide) ?_
    refine rr_less C (by omega) (key true (decide_eq_true c26))
/-- the licence falls: from the last container down -/
def lcs (lic : Int32) : Nat → (Nat → Nat → Int32) × (Nat → Nat → Nat) × Nat → (Nat → Nat → Int32) × (Nat → Nat → Nat) × Nat
  | 0, s => s
  | k + 1, s => if s.1 1 2 ≤ lic then s else lcs lic k (if s.2.1 13 k = 1 then (bcI s.1 s.2.1 k, bcJ s.2.1 k 0, s.2.2 + 1) else s)
theorem ct_X1_setLicence (hG : cy_G G) (hY : cy_Y G I J st h) (hok : cy_okJ J) {n : Int32} : cy_Con G yX1_setLicence cX1_setLicence 4 (some .int) 20 12 [.ref (J 1 0), .int n] h (qC (cd1 (cy_bt n 0 99)) (.int (nI (lcs n (J 0 3) (u2 I 1 1 n, J, 0)).2.2)) (fun h1 => cy_Y G (lcs n (J 0 3) (u2 I 1 1 n, J, 0)).1 (lcs n (J 0 3) (u2 I 1 1 n, J, 0)).2.1 st h1 ∧ cy_Fr h h1)) (xC (cd1 (cy_bt n 0 99)) (cy_nm RJ18 "" "") h) := by
  have r0 := hY.2.2.2.1
  have hla := hY.list (i := 3) (by decide)
  refine cy_in (own := RX1) (lv0 := [some (.ref (J 1 0)), some (.int n), none, none]) (by decide) rfl rfl rfl (Nat.le_of_ble_eq_true rfl) (fun K T C => ?_)
  refine rr_iconst C 1 dX1_setLicence_0 (by decide) ?_
  refine rr_newaz C 1 1 q721 dX1_setLicence_1 (by decide) (by decide) (by decide) (by decide) (by omega) (fun q hq hz => ?_)
  refine rr_dup C dX1_setLicence_3 rfl ?_
  refine rr_iconst C 0 dX1_setLicence_4 (by decide) ?_
  refine rr_iload_n C 1 dX1_setLicence_5 rfl rfl ?_
  refine rr_iconst C 0 dX1_setLicence_6 (by decide) ?_
  refine rr_bipush C 99 dX1_setLicence_7 (by decide) ?_
  refine cs_X1_75 C dX1_setLicence_9 ct_X1_isIn (kVr ?_)
  refine rr_zast C 0 dX1_setLicence_12 cy_up_eq rfl (by decide) (by decide) ?_
  rw [cy_up_up, vp_nar_bI]
  refine csx_X1_144 C dX1_setLicence_13 (ct_X1_requireArguments (fun k => cy_bt n 0 99) cy_up_eq (by decide) (fun k hk => by match k, hk with | 0, _ => rfl)) (xK fun hb => rr_forgetT C (cy_up_sub hq) (rr_out C (xc1 (by simpa [cy_al] using hb)))) (kB fun hb => ?_)
  have eb1 : cy_bt n 0 99 = true := by simpa [cy_al] using hb
  refine rr_forget C (cy_up_sub hq) ?_
  refine rr_aload_n C 0 dX1_setLicence_16 rfl rfl ?_
  refine gf_X1_46 C dX1_setLicence_17 (Or.inl hY.yard) ?_
  refine rr_iload_n C 1 dX1_setLicence_20 rfl rfl ?_
  refine pf_X1_202 C dX1_setLicence_21 hY.park ?_
  refine kG (P := fun h1 => cy_Y G (u2 I 1 1 n) J st h1 ∧ cy_Fr h h1) ⟨hY.w_lic n, cy_Fr.up hY.park rfl⟩ (fun h1 e1 => ?_)
  obtain ⟨hY1, hF1⟩ := e1
  have hla1 := hY1.list (i := 3) (by decide)
  refine rr_iconst C 0 dX1_setLicence_24 (by decide) ?_
  refine rr_istore_n C 2 dX1_setLicence_25 rfl (Nat.le_of_ble_eq_true rfl) rfl (Nat.le_of_ble_eq_true rfl) ?_
  refine rr_aload_n C 0 dX1_setLicence_26 rfl rfl ?_
  refine gf_X1_40 C dX1_setLicence_27 (Or.inl hY1.yard) ?_
  refine cf_X1_50 C dX1_setLicence_30 (ct_J2_size hla1) (Or.inl hla1) (kVr ?_)
  refine rr_iconst C 1 dX1_setLicence_35 (by decide) ?_
  refine rr_isub C dX1_setLicence_36 ?_
  refine rr_istore_n C 3 dX1_setLicence_37 rfl (Nat.le_of_ble_eq_true rfl) rfl (Nat.le_of_ble_eq_true rfl) ?_
  have fin : ∀ (k m : Nat) (I1 : Nat → Nat → Int32) (J1 : Nat → Nat → Nat) (x : Int32) (h1 : Hp), J1 1 0 = J 1 0 → cy_Y G I1 J1 st h1 → cy_Fr h h1 → (I1, J1, m) = lcs n (J 0 3) (u2 I 1 1 n, J, 0) → K 0 h1 103 [some (.ref (J1 1 0)), some (.int n), some (.int (nI m)), some (.int x)] [] := by
    intro k m I1 J1 x h1 _ hY1 hF1 e
    refine rr_iload_n C 2 dX1_setLicence_103 rfl rfl ?_
    exact rr_ireturn C dX1_setLicence_104 ⟨qc1 eb1, by rw [← e], by rw [← e]; exact ⟨hY1, hF1⟩⟩
  have loop : ∀ (k m : Nat) (I1 : Nat → Nat → Int32) (J1 : Nat → Nat → Nat) (h1 : Hp), k ≤ J1 0 3 → J1 0 3 ≤ 12 → J1 1 0 = J 1 0 → cy_Y G I1 J1 st h1 → cy_okJ J1 → cy_Fr h h1 → lcs n k (I1, J1, m) = lcs n (J 0 3) (u2 I 1 1 n, J, 0) → K 3 h1 38 [some (.ref (J1 1 0)), some (.int n), some (.int (nI m)), some (.int (nI k - 1))] [] := by
    intro k
    induction k with
    | zero =>
      intro m I1 J1 h1 hk hn hj hY1 hok1 hF1 e
      refine rr_iload_n C 3 dX1_setLicence_38 rfl rfl ?_
      refine rr_if_lt C 103 dX1_setLicence_39 (by decide) (fun _ => ?_) (fun c => absurd (by decide) c)
      exact rr_less C (by omega) (fin 0 m I1 J1 _ h1 hj hY1 hF1 e)
    | succ k ih =>
      intro m I1 J1 h1 hk hn hj hY1 hok1 hF1 e
      have hla1 := hY1.list (i := 3) (by decide)
      have hcap := hY1.cap (i := 3) (by decide)
      rw [nI_pred]
      refine rr_iload_n C 3 dX1_setLicence_38 rfl rfl ?_
      refine rr_if_lt C 103 dX1_setLicence_39 (by decide) (fun c => absurd c (nI_pos (by omega))) (fun _ => ?_)
      refine rr_aload_n C 0 dX1_setLicence_42 rfl rfl ?_
      refine gf_X1_46 C dX1_setLicence_43 (Or.inl hY1.yard) ?_
      refine gf_X1_205 C dX1_setLicence_46 (Or.inl hY1.park) ?_
      refine rr_iload_n C 1 dX1_setLicence_49 rfl rfl ?_
      rw [lcs] at e
      refine rr_icmp_le C 103 dX1_setLicence_50 (by decide) (fun c50 => ?_) (fun c50 => ?_)
      · rw [if_pos c50] at e
        exact rr_less C (by omega) (fin k m I1 J1 _ h1 hj hY1 hF1 e)
      · rw [if_neg c50] at e
        refine rr_aload_n C 0 dX1_setLicence_53 rfl rfl ?_
        refine gf_X1_40 C dX1_setLicence_54 (Or.inl hY1.yard) ?_
        refine rr_iload_n C 3 dX1_setLicence_57 rfl rfl ?_
        refine cf_X1_60 C dX1_setLicence_58 (ct_J2_get hla1 (hY1.kn hG (by decide)) (by omega) (hY1.la (by decide)).1 (by omega)) (Or.inl hla1) (kVr ?_)
        rw [hY1.el (i := 3) (by decide) (by omega)]
        refine cc_X1_73 C dX1_setLicence_63 (Or.inl (hY1.cont (by omega))) ?_
        refine gs_X1_161 C dX1_setLicence_66 ?_
        refine cv_X1_167 C dX1_setLicence_69 (ct_X12_is hG hY1 (by omega) (t := 1) (by decide)) (Or.inl (hY1.cont (by omega))) (kVr ?_)
        refine rr_if_eq C 97 dX1_setLicence_72 (by decide) (fun c72 => ?_) (fun c72 => ?_)
        · rw [if_neg (of_decide_eq_false (bI_eq0 c72))] at e
          refine rr_iinc C (nI k - 1) dX1_setLicence_97 rfl (by rw [Int32.sub_eq_add_neg]; rfl) (Nat.le_of_ble_eq_true rfl) rfl (Nat.le_of_ble_eq_true rfl) ?_
          refine rr_goto C 38 dX1_setLicence_100 (by decide) ?_
          exact ih m I1 J1 h1 (by omega) hn hj hY1 hok1 hF1 e
        · have hrun := of_decide_eq_true (bI_ne0 c72)
          rw [if_pos hrun] at e
          refine rr_aload_n C 0 dX1_setLicence_75 rfl rfl ?_
          refine gf_X1_40 C dX1_setLicence_76 (Or.inl hY1.yard) ?_
          refine rr_iload_n C 3 dX1_setLicence_79 rfl rfl ?_
          refine cf_X1_60 C dX1_setLicence_80 (ct_J2_get hla1 (hY1.kn hG (by decide)) (by omega) (hY1.la (by decide)).1 (by omega)) (Or.inl hla1) (kVr ?_)
          rw [hY1.el (i := 3) (by decide) (by omega)]
          refine cc_X1_73 C dX1_setLicence_85 (Or.inl (hY1.cont (by omega))) ?_
          refine gs_X1_208 C dX1_setLicence_88 ?_
          refine cv_X1_211 C dX1_setLicence_91 (ct_X12_become hG hY1 (i := k) (by omega) (hok1 k (by omega)) (t := 0) (by decide)) (Or.inl (hY1.cont (by omega))) (kN (fun h2 e2 => ?_))
          obtain ⟨hY2, hF2⟩ := e2
          refine rr_iinc C (nI (m + 1)) dX1_setLicence_94 rfl (nI_1 m) (Nat.le_of_ble_eq_true rfl) rfl (Nat.le_of_ble_eq_true rfl) ?_
          refine rr_iinc C (nI k - 1) dX1_setLicence_97 rfl (by rw [Int32.sub_eq_add_neg]; rfl) (Nat.le_of_ble_eq_true rfl) rfl (Nat.le_of_ble_eq_true rfl) ?_
          refine rr_goto C 38 dX1_setLicence_100 (by decide) ?_
          have h3 := ih (m + 1) (bcI I1 J1 k) (bcJ J1 k 0) h2
          rw [bcJ_r (by decide) (by decide), bcJ_r (by decide) (by decide)] at h3
          exact h3 (by omega) hn hj hY2 (bcJ_ok (by decide) hok1) (hF1.tr hF2) e
  refine rr_less C (u' := 3) (by omega) ?_
  exact loop (J 0 3) 0 _ J h1 (Nat.le_refl _) r0.2.2.2.1 rfl hY1 hok hF1 rfl
def pas : Nat → cyIJS → cyIJS
  | 0, s => s
  | n + 1, s => tkS (pas n s)
theorem pas_r {s : cyIJS} {r : Nat} (h1 : r ≠ 13) (h2 : r ≠ 14) : ∀ n, (pas n s).2.1 r = s.2.1 r := by
  intro n
  induction n with
  | zero => rfl
  | succ n ih => rw [pas, tkS_r h1 h2, ih]
theorem pas_ok {s : cyIJS} (h : cy_okJ s.2.1) : ∀ n, cy_okJ (pas n s).2.1 := by
  intro n
  induction n with
  | zero => exact h
  | succ n ih => rw [pas]; exact tkS_ok ih
theorem ct_X1_pass (hG : cy_G G) (hY : cy_Y G I J st h) (hok : cy_okJ J) {n : Int32} : cy_Con G yX1_pass cX1_pass 5 (some .int) 20 3002 [.ref (J 1 0), .int n] h (qC (cd2 (cy_bt n 1 48) (!decide ((999 : Int32) < I 1 0 + n))) (.int ((pas (kn n) (I, J, st)).2.2 - st).toInt32) (fun h1 => cy_Y G (pas (kn n) (I, J, st)).1 (pas (kn n) (I, J, st)).2.1 (pas (kn n) (I, J, st)).2.2 h1 ∧ cy_Fr h h1)) (xC (cd2 (cy_bt n 1 48) (!decide ((999 : Int32) < I 1 0 + n))) (cy_nm RJ18 RJ6 "") h) := by
  have r0 := hY.2.2.2.1
  refine cy_in (own := RX1) (lv0 := [some (.ref (J 1 0)), some (.int n), none, none, none]) (by decide) rfl rfl rfl (Nat.le_of_ble_eq_true rfl) (fun K T C => ?_)
  refine rr_iconst C 1 dX1_pass_0 (by decide) ?_
  refine rr_newaz C 1 1 q721 dX1_pass_1 (by decide) (by decide) (by decide) (by decide) (by omega) (fun q hq hz => ?_)
  refine rr_dup C dX1_pass_3 rfl ?_
  refine rr_iconst C 0 dX1_pass_4 (by decide) ?_
  refine rr_iload_n C 1 dX1_pass_5 rfl rfl ?_
  refine rr_iconst C 1 dX1_pass_6 (by decide) ?_
  refine rr_bipush C 48 dX1_pass_7 (by decide) ?_
  refine cs_X1_75 C dX1_pass_9 ct_X1_isIn (kVr ?_)
  refine rr_zast C 0 dX1_pass_12 cy_up_eq rfl (by decide) (by decide) ?_
  rw [cy_up_up, vp_nar_bI]
  refine csx_X1_144 C dX1_pass_13 (ct_X1_requireArguments (fun k => cy_bt n 1 48) cy_up_eq (by decide) (fun k hk => by match k, hk with | 0, _ => rfl)) (xK fun hb => rr_forgetT C (cy_up_sub hq) (rr_out C (xc21 (by simpa [cy_al] using hb)))) (kB fun hb => ?_)
  have eb1 : cy_bt n 1 48 = true := by simpa [cy_al] using hb
  refine rr_forget C (cy_up_sub hq) ?_
  obtain ⟨N, hN, rfl⟩ : ∃ N, N ≤ 48 ∧ n = nI N := by
    have h1 : ¬ n < 1 := by intro z; rw [cy_bt, decide_eq_true z] at eb1; cases eb1
    have h2 : ¬ (48 : Int32) < n := by intro z; rw [cy_bt, decide_eq_true z, Bool.and_comm] at eb1; cases eb1
    exact nI_of2 (M := 48) rfl (fun z => h1 (Int32.lt_trans z (by decide))) (Int32.not_lt.mp h2)
  have hk := kn_nI (show N < 2 ^ 31 by omega)
  rw [hk] at C
  have key : ∀ b : Bool, (!decide ((999 : Int32) < I 1 0 + nI N)) = b → K 3000 h 33 [some (.ref (J 1 0)), some (.int (nI N)), none, none, none] [.int (bI b)] := by
    intro b hb0
    refine csx_X1_87 C dX1_pass_33 ct_X1_requireState (xK fun hb => rr_out C (xc22 eb1 (by rw [hb0]; exact hb))) (kB fun hb => ?_)
    rw [hb] at hb0
    have loop : ∀ (d k : Nat) (s : cyIJS) (h1 : Hp), k + d = N → s = pas k (I, J, st) → cy_Y G s.1 s.2.1 s.2.2 h1 → cy_Fr h h1 → K (62 * d) h1 44 [some (.ref (J 1 0)), some (.int (nI N)), some (.long st), none, some (.int (nI k))] [] := by
      intro d
      induction d with
      | zero =>
        intro k s h1 hkd e hY1 hF1
        have hkn : k = N := by omega
        subst hkn
        have hy1 : h1 (J 1 0) = some (eYard s.1 s.2.1 s.2.2) := by
          have := hY1.yard
          rw [e, pas_r (by decide) (by decide)] at this
          rw [e]
          exact this
        refine rr_iload C dX1_pass_44 rfl ?_
        refine rr_iload_n C 1 dX1_pass_46 rfl rfl ?_
        refine rr_icmp_ge C 60 dX1_pass_47 (by decide) (fun _ => ?_) (fun c => absurd (nI_le (Nat.le_refl k) (by omega)) c)
        refine rr_aload_n C 0 dX1_pass_60 rfl rfl ?_
        refine gf_X1_265 C dX1_pass_61 (Or.inl hy1) ?_
        refine rr_lload_n C 2 dX1_pass_64 rfl rfl ?_
        refine rr_lsub C dX1_pass_65 ?_
        refine rr_l2i C dX1_pass_66 ?_
        exact rr_ireturn C dX1_pass_67 ⟨qc2 eb1 hb0, by rw [← e], by rw [← e]; exact ⟨hY1, hF1⟩⟩
      | succ d ih =>
        intro k s h1 hkd e hY1 hF1
        have hj : s.2.1 1 0 = J 1 0 := by rw [e, pas_r (by decide) (by decide)]
        have hy1 := hY1.yard
        rw [hj] at hy1
        have htk := ct_X1_tick hG hY1 (by rw [e]; exact pas_ok hok k)
        rw [hj] at htk
        refine rr_iload C dX1_pass_44 rfl ?_
        refine rr_iload_n C 1 dX1_pass_46 rfl rfl ?_
        refine rr_icmp_ge C 60 dX1_pass_47 (by decide) (fun c => absurd c (nI_ge (by omega) (by omega))) (fun _ => ?_)
        refine rr_aload_n C 0 dX1_pass_50 rfl rfl ?_
        refine cv_X1_269 C dX1_pass_51 htk (Or.inl hy1) (kN (fun h2 e2 => ?_))
        obtain ⟨hY2, hF2⟩ := e2
        refine rr_iinc C (nI (k + 1)) dX1_pass_54 rfl (nI_1 k) (Nat.le_of_ble_eq_true rfl) rfl (Nat.le_of_ble_eq_true rfl) ?_
        refine rr_goto C 44 dX1_pass_57 (by decide) ?_
        refine rr_less C (u' := 62 * d) (by omega) ?_
        exact ih (k + 1) (tkS s) h2 (by omega) (by rw [e]; rfl) hY2 (hF1.tr hF2)
    refine rr_aload_n C 0 dX1_pass_36 rfl rfl ?_
    refine gf_X1_265 C dX1_pass_37 (Or.inl hY.yard) ?_
    refine rr_lstore_n C 2 dX1_pass_40 rfl (Nat.le_of_ble_eq_true rfl) rfl (Nat.le_of_ble_eq_true rfl) ?_
    refine rr_iconst C 0 dX1_pass_41 (by decide) ?_
    refine rr_istore C dX1_pass_42 (Nat.le_of_ble_eq_true rfl) rfl (Nat.le_of_ble_eq_true rfl) ?_
    refine rr_less C (u' := 62 * N) (by omega) ?_
    exact loop N 0 (I, J, st) h (by omega) rfl hY cy_Fr.rf
  refine rr_aload_n C 0 dX1_pass_16 rfl rfl ?_
  refine gf_X1_155 C dX1_pass_17 (Or.inl hY.yard) ?_
  refine rr_iload_n C 1 dX1_pass_20 rfl rfl ?_
  refine rr_iadd C dX1_pass_21 ?_
  refine rr_sipush C 999 dX1_pass_22 (by decide) ?_
  refine rr_icmp_gt C 32 dX1_pass_25 (by decide) (fun c25 => ?_) (fun c25 => ?_)
  · refine rr_iconst C 0 dX1_pass_32 (by decide) ?_
    refine rr_less C (by omega) (key false (by rw [decide_eq_true c25]; rfl))
  · refine rr_iconst C 1 dX1_pass_28 (by decide) ?_
    refine rr_goto C 33 dX1_pass_29 (by decide) ?_
    refine rr_less C (by omega) (key true (by rw [decide_eq_false c25]; rfl))
end CHANGE
