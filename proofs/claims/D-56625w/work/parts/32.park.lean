/-! Park -/
set_option maxRecDepth 100000
theorem bI_0 {b : Bool} : bI b = 0 ↔ b = false := by cases b <;> decide
theorem bI_eq0 {b : Bool} (h : bI b = 0) : b = false := bI_0.mp h
theorem bI_ne0 {b : Bool} (h : ¬ bI b = 0) : b = true := by cases b; exact absurd rfl h; rfl
/-- a park: its list of hosts, the hosts' whole needs, free cores and memory -/
def cy_pk (G : GT) (h : Hp) (pa la ea cap n : Nat) (mc lic tak : Int32) (F : Nat → Option Nat) (ad : Nat → Nat) (wh : Nat → Value) (fc fm : Nat → Int32) : Prop :=
  h pa = some (.inr (1, [.ref la, .int lic, .int tak])) ∧ h la = some (.inr (7, [.int mc, .ref ea, .int (nI n)])) ∧ cy_kn G h ea (aO G cap F) ∧ (n ≤ cap ∧ cap < 16) ∧ (∀ i, i < n → F i = some (ad i)) ∧ ∀ i, i < n → h (ad i) = some (.inr (4, [wh i, .int (fc i), .int (fm i), .int (nI i)]))
theorem cy_pk.up {G : GT} {h : Hp} {pa la ea cap n q : Nat} {mc lic tak : Int32} {F : Nat → Option Nat} {ad : Nat → Nat} {wh : Nat → Value} {fc fm : Nat → Int32} {x : va_E} (hq : h q = none) (hp : cy_pk G h pa la ea cap n mc lic tak F ad wh fc fm) : cy_pk G (cy_up h q x) pa la ea cap n mc lic tak F ad wh fc fm :=
  ⟨cy_up_old hq hp.1, cy_up_old hq hp.2.1, hp.2.2.1.up hq, hp.2.2.2.1, hp.2.2.2.2.1, fun i hi => cy_up_old hq (hp.2.2.2.2.2 i hi)⟩
theorem cy_pk.mono {G : GT} {h h' : Hp} {pa la ea cap n : Nat} {mc lic tak : Int32} {F : Nat → Option Nat} {ad : Nat → Nat} {wh : Nat → Value} {fc fm : Nat → Int32} (hl : cy_le h h') (hp : cy_pk G h pa la ea cap n mc lic tak F ad wh fc fm) : cy_pk G h' pa la ea cap n mc lic tak F ad wh fc fm :=
  ⟨hl _ _ hp.1, hl _ _ hp.2.1, hp.2.2.1.imp (hl _ _) id, hp.2.2.2.1, hp.2.2.2.2.1, fun i hi => hl _ _ (hp.2.2.2.2.2 i hi)⟩
theorem cy_Y.pk {G : GT} {I : Nat → Nat → Int32} {J : Nat → Nat → Nat} {st : Int64} {h : Hp} (hG : cy_G G) (hY : cy_Y G I J st h) : cy_pk G h (J 1 1) (J 2 4) (J 3 4) (J 4 4) (J 0 4) (I 0 4) (I 1 1) (I 1 2) (if J 4 4 = 0 then (fun _ => none) else cy_ar (J 0 4) (J 9)) (J 9) (fun i => .ref (J 15 i)) (I 6) (I 7) :=
  ⟨hY.park, hY.list (by decide), hY.kn hG (by decide), ⟨(hY.la (by decide)).1, hY.cap (by decide)⟩, fun i hi => hY.el (i := 4) (by decide) hi, fun i hi => hY.host hi⟩
theorem ct_X2_isLicensed {G : GT} {h : Hp} {pa nd : Nat} {v0 : Value} {lic tak x y : Int32} (hp : h pa = some (.inr (1, [v0, .int lic, .int tak]))) (hw : h nd = some (eNeed x y)) : cy_Con G yX2_isLicensed cX2_isLicensed 2 (some .boolean) 1 0 [.ref pa, .ref nd] h (qV (.int (bI (!decide (lic < tak + x)))) (fun h1 => h1 = h)) xF := by
  refine cy_in (own := RX2) (lv0 := [some (.ref pa), some (.ref nd)]) (by decide) rfl rfl rfl (Nat.le_of_ble_eq_true rfl) (fun K T C => ?_)
  refine rr_aload_n C 0 dX2_isLicensed_0 rfl rfl ?_
  refine gf_X2_46 C dX2_isLicensed_1 (Or.inl hp) ?_
  refine rr_aload_n C 1 dX2_isLicensed_4 rfl rfl ?_
  refine cv_X2_49 C dX2_isLicensed_5 (ct_X7_cores hw) (Or.inl hw) (kVr ?_)
  refine rr_iadd C dX2_isLicensed_8 ?_
  refine rr_aload_n C 0 dX2_isLicensed_9 rfl rfl ?_
  refine gf_X2_16 C dX2_isLicensed_10 (Or.inl hp) ?_
  refine rr_icmp_gt C 20 dX2_isLicensed_13 (by decide) (fun c13 => ?_) (fun c13 => ?_)
  · refine rr_iconst C 0 dX2_isLicensed_20 (by decide) ?_
    exact rr_zreturn C dX2_isLicensed_21 rfl ⟨by simp [c13, bI], rfl⟩
  · refine rr_iconst C 1 dX2_isLicensed_16 (by decide) ?_
    refine rr_goto C 21 dX2_isLicensed_17 (by decide) ?_
    exact rr_zreturn C dX2_isLicensed_21 rfl ⟨by simp [c13, bI], rfl⟩
/-- the first of the hosts with the least free cores among those that have room; from 1, 0 is none -/
def cy_be (fc fm : Nat → Int32) (x y : Int32) : Nat → Nat
  | 0 => 0
  | i + 1 => if cy_fit (fc i) (fm i) x y && (match cy_be fc fm x y i with
    | 0 => true
    | j + 1 => decide (fc i < fc j)) then i + 1 else cy_be fc fm x y i
theorem cy_be_le (fc fm : Nat → Int32) (x y : Int32) : ∀ n, cy_be fc fm x y n ≤ n := by
  intro n
  induction n with
  | zero => exact Nat.le_refl 0
  | succ n ih =>
    simp only [cy_be]
    generalize (cy_fit (fc n) (fm n) x y && _) = b
    cases b
    · exact Nat.le_succ_of_le ih
    · exact Nat.le_refl _
theorem ct_X2_best {G : GT} {h : Hp} {pa la ea cap n nd : Nat} {mc lic tak x y : Int32} {F : Nat → Option Nat} {ad : Nat → Nat} {wh : Nat → Value} {fc fm : Nat → Int32} (hp : cy_pk G h pa la ea cap n mc lic tak F ad wh fc fm) (hw : h nd = some (eNeed x y)) : cy_Con G yX2_best cX2_best 6 (some (.object "CrateYard$Host")) 3 1 [.ref pa, .ref nd] h (qV (va_rf (cy_o ad (cy_be fc fm x y n))) (fun h1 => h1 = h)) xF := by
  obtain ⟨hpa, hla, hea, ⟨hnc, hc⟩, hF, hh⟩ := hp
  refine cy_in (own := RX2) (lv0 := [some (.ref pa), some (.ref nd), none, none, none, none]) (by decide) rfl rfl rfl (Nat.le_of_ble_eq_true rfl) (fun K T C => ?_)
  refine rr_aconst_null C dX2_best_0 ?_
  refine rr_astore_nN C 2 dX2_best_1 rfl (Nat.le_of_ble_eq_true rfl) rfl (Nat.le_of_ble_eq_true rfl) ?_
  refine rr_aload_n C 0 dX2_best_2 rfl rfl ?_
  refine gf_X2_10 C dX2_best_3 (Or.inl hpa) ?_
  refine cf_X2_21 C dX2_best_6 (ct_J2_iterator hla) (Or.inl hla) (kE (fun q h1 e1 => ?_))
  obtain ⟨⟨hq, hz⟩, rfl⟩ := e1
  refine rr_astore_n C 3 dX2_best_11 rfl (Nat.le_of_ble_eq_true rfl) rfl (Nat.le_of_ble_eq_true rfl) ?_
  have loop : ∀ (d k : Nat) (lr : Value) (x4 x5 : Option Value), k + d = n → K 0 (cy_up h q (.inr (8, [.int (nI k), lr, .int mc, .ref la]))) 12 [some (.ref pa), some (.ref nd), some (va_rf (cy_o ad (cy_be fc fm x y k))), some (.ref q), x4, x5] [] := by
    intro d
    induction d with
    | zero =>
      intro k lr x4 x5 hk
      have hkn : k = n := by omega
      subst hkn
      refine rr_aload_n C 3 dX2_best_12 rfl rfl ?_
      refine cf_X2_27 C dX2_best_13 (ct_hn0 cy_up_eq (cy_up_old hq hla)) (Or.inl cy_up_eq) (kVr ?_)
      refine rr_if_eq C 79 dX2_best_18 (by decide) (fun _ => ?_) (fun c => absurd rfl c)
      refine rr_forget C (cy_up_sub hq) ?_
      refine rr_aload_nq C 2 dX2_best_79 rfl rfl ?_
      exact rr_areturnq C dX2_best_80 (by first | exact Or.inl ⟨_, rfl⟩ | exact Or.inr ⟨_, rfl⟩) ⟨rfl, rfl⟩
    | succ d ih =>
      intro k lr x4 x5 hk
      refine rr_aload_n C 3 dX2_best_12 rfl rfl ?_
      refine cf_X2_27 C dX2_best_13 (ct_hn1 cy_up_eq (cy_up_old hq hla) (n := n) (by omega) (by omega)) (Or.inl cy_up_eq) (kVr ?_)
      refine rr_if_eq C 79 dX2_best_18 (by decide) (fun c => absurd c (by decide)) (fun _ => ?_)
      refine rr_aload_n C 3 dX2_best_21 rfl rfl ?_
      refine cf_X2_33 C dX2_best_22 (ct_nx cy_up_eq (cy_up_old hq hla) (hea.up hq) (by omega) hnc hc (hF k (by omega))) (Or.inl cy_up_eq) (kV (fun h1 e1 => ?_))
      subst e1
      rw [cy_up_up]
      refine cc_X2_37 C dX2_best_27 (Or.inl (cy_up_old hq (hh k (by omega)))) ?_
      refine rr_astore C dX2_best_30 (Nat.le_of_ble_eq_true rfl) rfl (Nat.le_of_ble_eq_true rfl) ?_
      have hkeep : cy_be fc fm x y (k + 1) = cy_be fc fm x y k → K 0 (cy_up h q (.inr (8, [.int (nI (k + 1)), .int (nI k), .int mc, .ref la]))) 61 [some (.ref pa), some (.ref nd), some (va_rf (cy_o ad (cy_be fc fm x y k))), some (.ref q), some (.ref (ad k)), x5] [] := by
        intro e
        refine rr_iconst C 0 dX2_best_61 (by decide) ?_
        refine rr_istore C dX2_best_62 (Nat.le_of_ble_eq_true rfl) rfl (Nat.le_of_ble_eq_true rfl) ?_
        refine rr_iload C dX2_best_64 rfl ?_
        refine rr_if_eq C 74 dX2_best_66 (by decide) (fun _ => ?_) (fun c => absurd rfl c)
        refine rr_aload_nq C 2 dX2_best_74 rfl rfl ?_
        refine rr_astore_nq C 2 dX2_best_75 rfl (Nat.le_of_ble_eq_true rfl) rfl (Nat.le_of_ble_eq_true rfl) ?_
        refine rr_goto C 12 dX2_best_76 (by decide) ?_
        have h2 := ih (k + 1) (.int (nI k)) (some (.ref (ad k))) (some (.int 0)) (by omega)
        rw [e] at h2
        exact h2
      have htake : cy_be fc fm x y (k + 1) = k + 1 → K 0 (cy_up h q (.inr (8, [.int (nI (k + 1)), .int (nI k), .int mc, .ref la]))) 57 [some (.ref pa), some (.ref nd), some (va_rf (cy_o ad (cy_be fc fm x y k))), some (.ref q), some (.ref (ad k)), x5] [] := by
        intro e
        refine rr_iconst C 1 dX2_best_57 (by decide) ?_
        refine rr_goto C 62 dX2_best_58 (by decide) ?_
        refine rr_istore C dX2_best_62 (Nat.le_of_ble_eq_true rfl) rfl (Nat.le_of_ble_eq_true rfl) ?_
        refine rr_iload C dX2_best_64 rfl ?_
        refine rr_if_eq C 74 dX2_best_66 (by decide) (fun c => absurd c (by decide)) (fun _ => ?_)
        refine rr_aload C dX2_best_69 rfl ?_
        refine rr_goto C 75 dX2_best_71 (by decide) ?_
        refine rr_astore_n C 2 dX2_best_75 rfl (Nat.le_of_ble_eq_true rfl) rfl (Nat.le_of_ble_eq_true rfl) ?_
        refine rr_goto C 12 dX2_best_76 (by decide) ?_
        have h2 := ih (k + 1) (.int (nI k)) (some (.ref (ad k))) (some (.int 1)) (by omega)
        rw [e] at h2
        exact h2
      refine rr_aload C dX2_best_32 rfl ?_
      refine rr_aload_n C 1 dX2_best_34 rfl rfl ?_
      refine cv_X2_55 C dX2_best_35 (ct_X8_fits (cy_up_old hq (hh k (by omega))) (cy_up_old hq hw)) (Or.inl (cy_up_old hq (hh k (by omega)))) (kVr ?_)
      refine rr_if_eq C 61 dX2_best_38 (by decide) (fun c38 => ?_) (fun c38 => ?_)
      · exact hkeep (by simp [cy_be, bI_eq0 c38])
      · have hfit := bI_ne0 c38
        refine rr_aload_nq C 2 dX2_best_41 rfl rfl ?_
        refine rr_ifnull C (cy_o ad (cy_be fc fm x y k)) 57 dX2_best_42 (by decide) rfl (fun c42 => ?_) (fun a42 c42 => ?_)
        · refine htake ?_
          cases hb : cy_be fc fm x y k with
          | zero => simp [cy_be, hb, hfit]
          | succ j => rw [hb] at c42; cases c42
        · cases hb : cy_be fc fm x y k with
          | zero => rw [hb] at c42; cases c42
          | succ j =>
            have hjn : j < n := by have := cy_be_le fc fm x y k; omega
            rw [hb] at hkeep htake
            refine rr_aload C dX2_best_45 rfl ?_
            refine gf_X2_59 C dX2_best_47 (Or.inl (cy_up_old hq (hh k (by omega)))) ?_
            refine rr_aload_n C 2 dX2_best_50 rfl rfl ?_
            refine gf_X2_59 C dX2_best_51 (Or.inl (cy_up_old hq (hh j hjn))) ?_
            refine rr_icmp_ge C 61 dX2_best_54 (by decide) (fun c54 => ?_) (fun c54 => ?_)
            · refine hkeep ?_
              have : ¬ fc k < fc j := by rw [Int32.not_lt]; exact c54
              simp [cy_be, hb, this]
            · refine htake ?_
              have : fc k < fc j := by rw [← Int32.not_le]; exact c54
              simp [cy_be, hb, this, hfit]
  refine rr_less C (u' := 0) (Nat.zero_le _) ?_
  exact loop n 0 _ _ _ (by omega)
theorem ct_X2_take {G : GT} {h : Hp} {pa ha nd : Nat} {v0 v1 w0 w3 : Value} {tak fc fm x y : Int32} (hp : h pa = some (.inr (1, [v0, v1, .int tak]))) (hh : h ha = some (.inr (4, [w0, .int fc, .int fm, w3]))) (hw : h nd = some (eNeed x y)) : cy_Con G yX2_take cX2_take 3 none 2 0 [.ref pa, .ref ha, .ref nd] h (qN (fun h1 => h1 = cy_up (cy_up h ha (.inr (4, [w0, .int (fc - x), .int (fm - y), w3]))) pa (.inr (1, [v0, v1, .int (tak + x)])))) xF := by
  have n1 : pa ≠ ha := fun e => by rw [e, hh] at hp; cases hp
  have n2 : nd ≠ ha := fun e => by rw [e, hh] at hw; cases hw
  refine cy_in (own := RX2) (lv0 := [some (.ref pa), some (.ref ha), some (.ref nd)]) (by decide) rfl rfl rfl (Nat.le_of_ble_eq_true rfl) (fun K T C => ?_)
  refine rr_aload_n C 1 dX2_take_0 rfl rfl ?_
  refine rr_aload_n C 2 dX2_take_1 rfl rfl ?_
  refine cv_X2_63 C dX2_take_2 (ct_X8_take hh hw) (Or.inl hh) (kN (fun h1 e1 => ?_))
  subst e1
  refine rr_aload_n C 0 dX2_take_5 rfl rfl ?_
  refine rr_dup C dX2_take_6 rfl ?_
  refine gf_X2_46 C dX2_take_7 (Or.inl ((cy_up_ne n1).trans hp)) ?_
  refine rr_aload_n C 2 dX2_take_10 rfl rfl ?_
  refine cv_X2_49 C dX2_take_11 (ct_X7_cores ((cy_up_ne n2).trans hw)) (Or.inl ((cy_up_ne n2).trans hw)) (kVr ?_)
  refine rr_iadd C dX2_take_14 ?_
  refine pf_X2_46 C dX2_take_15 ((cy_up_ne n1).trans hp) ?_
  exact rr_return C dX2_take_18 ⟨rfl, rfl⟩
theorem ct_X2_give {G : GT} {h : Hp} {pa ha nd : Nat} {v0 v1 w0 w3 : Value} {tak fc fm x y : Int32} (hp : h pa = some (.inr (1, [v0, v1, .int tak]))) (hh : h ha = some (.inr (4, [w0, .int fc, .int fm, w3]))) (hw : h nd = some (eNeed x y)) : cy_Con G yX2_give cX2_give 3 none 2 0 [.ref pa, .ref ha, .ref nd] h (qN (fun h1 => h1 = cy_up (cy_up h ha (.inr (4, [w0, .int (fc + x), .int (fm + y), w3]))) pa (.inr (1, [v0, v1, .int (tak - x)])))) xF := by
  have n1 : pa ≠ ha := fun e => by rw [e, hh] at hp; cases hp
  have n2 : nd ≠ ha := fun e => by rw [e, hh] at hw; cases hw
  refine cy_in (own := RX2) (lv0 := [some (.ref pa), some (.ref ha), some (.ref nd)]) (by decide) rfl rfl rfl (Nat.le_of_ble_eq_true rfl) (fun K T C => ?_)
  refine rr_aload_n C 1 dX2_give_0 rfl rfl ?_
  refine rr_aload_n C 2 dX2_give_1 rfl rfl ?_
  refine cv_X2_67 C dX2_give_2 (ct_X8_give hh hw) (Or.inl hh) (kN (fun h1 e1 => ?_))
  subst e1
  refine rr_aload_n C 0 dX2_give_5 rfl rfl ?_
  refine rr_dup C dX2_give_6 rfl ?_
  refine gf_X2_46 C dX2_give_7 (Or.inl ((cy_up_ne n1).trans hp)) ?_
  refine rr_aload_n C 2 dX2_give_10 rfl rfl ?_
  refine cv_X2_49 C dX2_give_11 (ct_X7_cores ((cy_up_ne n2).trans hw)) (Or.inl ((cy_up_ne n2).trans hw)) (kVr ?_)
  refine rr_isub C dX2_give_14 ?_
  refine pf_X2_46 C dX2_give_15 ((cy_up_ne n1).trans hp) ?_
  exact rr_return C dX2_give_18 ⟨rfl, rfl⟩
theorem ct_X2_init {G : GT} {h : Hp} {pa : Nat} {v0 v1 v2 : Value} (hp : h pa = some (.inr (1, [v0, v1, v2]))) : cy_Con G yX2_init cX2_init 1 none 4 1 [.ref pa] h (qN (fun h1 => ∃ q, (h q = none ∧ G.2.1 ≤ q) ∧ h1 = cy_up (cy_up h q (.inr (7, [.int 0, .ref (G.2.2.2.2 10), .int 0]))) pa (.inr (1, [.ref q, .int 16, v2])))) xF := by
  refine cy_in (own := RX2) (lv0 := [some (.ref pa)]) (by decide) rfl rfl rfl (Nat.le_of_ble_eq_true rfl) (fun K T C => ?_)
  refine rr_aload_n C 0 dX2_init_0 rfl rfl ?_
  refine oi_X2_1 C dX2_init_1 ?_
  refine rr_aload_n C 0 dX2_init_4 rfl rfl ?_
  refine nw_X2_7 C dX2_init_5 (fun q hq hz => ?_)
  have hn : pa ≠ q := fun e => by rw [e, hq] at hp; cases hp
  refine rr_dup C dX2_init_8 rfl ?_
  refine ci_X2_9 C dX2_init_9 (ct_J2_init cy_up_eq) (kN (fun h1 e1 => ?_))
  subst e1
  rw [cy_up_up]
  refine pf_X2_10 C dX2_init_12 ((cy_up_ne hn).trans hp) rfl rfl ?_
  refine rr_aload_n C 0 dX2_init_15 rfl rfl ?_
  refine rr_bipush C 16 dX2_init_16 (by decide) ?_
  refine pf_X2_16 C dX2_init_18 cy_up_eq ?_
  exact rr_return C dX2_init_21 ⟨rfl, q, ⟨hq, hz⟩, cy_up_up⟩
