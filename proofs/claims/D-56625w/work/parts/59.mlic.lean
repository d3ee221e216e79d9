/-! the model: the licence (printed by gen/mlic.py) -/
set_option maxRecDepth 100000
section MLIC
variable {G : GT} {A : Nat → Nat} {M : Nat → Nat → Int32} {st : Int64} {h : Hp} {I : Nat → Nat → Int32} {J : Nat → Nat → Nat} {H N : Nat}
theorem cy_Rl.licn (hR : cy_Rl I J M) (n : Int32) : cy_Rl (u2 I 1 1 n) J (u2 M 15 0 n) := ⟨hR.hour, hR.nL, hR.nIm, hR.nH, hR.nW, by
        show n = n
        rfl, hR.nC, hR.wd, hR.oa, hR.par, hR.ownl, hR.hc, hR.hm, hR.w1, hR.w2, hR.w3, hR.ten, hR.img, hR.nc, hR.nm, hR.sta, hR.host, hR.wi, hR.start, hR.unt, hR.row, hR.zL, hR.zC⟩
theorem cy_Iv.licn (hI : cy_Iv H N I J) (n : Int32) : cy_Iv H N (u2 I 1 1 n) J := ⟨hI.ok, hI.no, hI.free, hI.tk, hI.hr, hI.wd, hI.co⟩
theorem lcs_inv {n : Int32} : ∀ (k : Nat) (I1 : Nat → Nat → Int32) (J1 : Nat → Nat → Nat) (m : Nat), k ≤ J1 0 3 → cy_Iv H N I1 J1 → cy_Yr G J1 → cy_Iv H N (lcs n k (I1, J1, m)).1 (lcs n k (I1, J1, m)).2.1 ∧ (lcs n k (I1, J1, m)).2.1 0 = J1 0 := by
  intro k
  induction k with
  | zero => intro I1 J1 m _ h hr; exact ⟨h, rfl⟩
  | succ k ih =>
    intro I1 J1 m hk h hr
    rw [lcs]
    split
    · exact ⟨h, rfl⟩
    · split
      · have hb : bcJ J1 k 0 0 = J1 0 := bcJ_r (by decide) (by decide)
        obtain ⟨a, b⟩ := ih (bcI I1 J1 k) (bcJ J1 k 0) (m + 1) (by rw [hb]; omega) (h.bc hr (by omega) (by decide) (fun z => by cases z)) (hr.bc (by decide))
        exact ⟨a, b.trans hb⟩
      · exact ih I1 J1 m (by omega) h hr
theorem ct_X3_setLicence (hM : cy_Mo G A M st h) (hR : cy_Rl I J M) (hr : cy_Yr G J) (hI : cy_Iv H N I J) {n : Int32} : cy_Con G yX3_setLicence cX3_setLicence 4 (some .int) 5 0 [.ref (A 0), .int n] h (qMi (cd1 (cy_bt n 0 99)) (nI (lcs n (J 0 3) (u2 I 1 1 n, J, 0)).2.2) (fun h1 => if cd1 (cy_bt n 0 99) = 0 then cy_MU G A st h (cy_Rl (lcs n (J 0 3) (u2 I 1 1 n, J, 0)).1 (lcs n (J 0 3) (u2 I 1 1 n, J, 0)).2.1) h1 else cy_MT G A M st h (cd1 (cy_bt n 0 99)) h1)) xF := by
  have r0 := hr.2.1
  obtain ⟨a, ha⟩ : ∃ a, a = cy_bt n 0 99 := ⟨_, rfl⟩
  rw [← ha]
  refine cy_in (own := RX3) (lv0 := [some (.ref (A 0)), some (.int n), none, none]) (by decide) rfl rfl rfl (Nat.le_of_ble_eq_true rfl) (fun K T C => ?_)
  refine rr_aload_n C 0 dX3_setLicence_0 rfl rfl ?_
  refine rr_iconst C 0 dX3_setLicence_1 (by decide) ?_
  refine pf_X3_79 C dX3_setLicence_2 hM.obj ?_
  refine kG (P := fun h1 => cy_Mo G A (u2 M 0 0 0) st h1 ∧ cy_FrA A h h1) ⟨hM.thr 0, cy_FrA.up cy_own.obj⟩ (fun h1 e1 => ?_)
  obtain ⟨hM0, hF0⟩ := e1
  have hR0 := hR.thr 0
  have h00 : u2 M 0 0 0 0 0 = 0 := u2_eq
  refine rr_aload_n C 0 dX3_setLicence_5 rfl rfl ?_
  refine rr_iload_n C 1 dX3_setLicence_6 rfl rfl ?_
  refine rr_iconst C 0 dX3_setLicence_7 (by decide) ?_
  refine rr_bipush C 99 dX3_setLicence_8 (by decide) ?_
  refine cs_X3_85 C dX3_setLicence_10 ct_X3_in (kVr ?_)
  rw [← ha]
  cases a with
  | false =>
    refine rr_if_ne C 20 dX3_setLicence_13 (by decide) (fun c => absurd rfl c) (fun _ => ?_)
    refine rr_iconst C 1 dX3_setLicence_16 (by decide) ?_
    refine rr_goto C 21 dX3_setLicence_17 (by decide) ?_
    refine rr_iconst C 1 dX3_setLicence_21 (by decide) ?_
    refine cv_X3_109 C dX3_setLicence_22 (ct_X3_failsT hM0 h00 (by decide)) (Or.inl hM0.obj) (kV (fun h2 e2 => ?_))
    refine rr_if_eq C 30 dX3_setLicence_25 (by decide) (fun c => absurd c (by decide)) (fun _ => ?_)
    refine rr_iconst C 0 dX3_setLicence_28 (by decide) ?_
    exact rr_ireturn C dX3_setLicence_29 ⟨0, rfl, fun z => absurd z (by decide), cy_MT.of hF0 e2 rfl⟩
  | true =>
    refine rr_if_ne C 20 dX3_setLicence_13 (by decide) (fun _ => ?_) (fun c => absurd c (by decide))
    refine rr_iconst C 0 dX3_setLicence_20 (by decide) ?_
    refine rr_iconst C 1 dX3_setLicence_21 (by decide) ?_
    refine cv_X3_109 C dX3_setLicence_22 (ct_X3_failsF hM0 h00 (by decide)) (Or.inl hM0.obj) (kVr ?_)
    refine rr_if_eq C 30 dX3_setLicence_25 (by decide) (fun _ => ?_) (fun c => absurd rfl c)
    refine rr_aload_n C 0 dX3_setLicence_30 rfl rfl ?_
    refine rr_iload_n C 1 dX3_setLicence_31 rfl rfl ?_
    refine pf_X3_38 C dX3_setLicence_32 hM0.obj ?_
    refine kG (P := fun h2 => cy_Mo G A (u2 (u2 M 0 0 0) 15 0 n) st h2 ∧ cy_FrA A h h2) ⟨hM0.sc (fun r p q => u2_row (fun z => by rw [z] at q; cases q)), hF0.tr (cy_FrA.up cy_own.obj)⟩ (fun h2 e2 => ?_)
    obtain ⟨hM2, hF2⟩ := e2
    have hR2 := hR0.licn n
    refine rr_iconst C 0 dX3_setLicence_35 (by decide) ?_
    refine rr_istore_n C 2 dX3_setLicence_36 rfl (Nat.le_of_ble_eq_true rfl) rfl (Nat.le_of_ble_eq_true rfl) ?_
    refine rr_aload_n C 0 dX3_setLicence_37 rfl rfl ?_
    refine gf_X3_95 C dX3_setLicence_38 (Or.inl hM2.obj) ?_
    rw [hR2.nC]
    refine rr_iconst C 1 dX3_setLicence_41 (by decide) ?_
    refine rr_isub C dX3_setLicence_42 ?_
    refine rr_istore_n C 3 dX3_setLicence_43 rfl (Nat.le_of_ble_eq_true rfl) rfl (Nat.le_of_ble_eq_true rfl) ?_
    have fin : ∀ (m : Nat) (I1 : Nat → Nat → Int32) (J1 : Nat → Nat → Nat) (M1 : Nat → Nat → Int32) (x : Int32) (h1 : Hp), cy_Mo G A M1 st h1 → cy_FrA A h h1 → M1 0 0 = 0 → cy_Rl I1 J1 M1 → (I1, J1, m) = lcs n (J 0 3) (u2 I 1 1 n, J, 0) → K 0 h1 88 [some (.ref (A 0)), some (.int n), some (.int (nI m)), some (.int x)] [] := by
      intro m I1 J1 M1 x h1 hM1 hF1 hz hR1 e
      refine rr_iload_n C 2 dX3_setLicence_88 rfl rfl ?_
      exact rr_ireturn C dX3_setLicence_89 ⟨_, rfl, fun _ => by rw [← e], M1, ⟨hM1, hF1⟩, hz, by rw [← e]; exact hR1⟩
    have loop : ∀ (k m : Nat) (I1 : Nat → Nat → Int32) (J1 : Nat → Nat → Nat) (M1 : Nat → Nat → Int32) (h1 : Hp), k ≤ J1 0 3 → J1 0 = J 0 → cy_Mo G A M1 st h1 → cy_FrA A h h1 → M1 0 0 = 0 → cy_Rl I1 J1 M1 → cy_Yr G J1 → cy_Iv H N I1 J1 → I1 1 1 = n → lcs n k (I1, J1, m) = lcs n (J 0 3) (u2 I 1 1 n, J, 0) → K 0 h1 44 [some (.ref (A 0)), some (.int n), some (.int (nI m)), some (.int (nI k - 1))] [] := by
      intro k
      induction k with
      | zero =>
        intro m I1 J1 M1 h1 hk hj hM1 hF1 hz hR1 hr1 hI1 hl e
        refine rr_iload_n C 3 dX3_setLicence_44 rfl rfl ?_
        refine rr_if_lt C 88 dX3_setLicence_45 (by decide) (fun _ => ?_) (fun c => absurd (by decide) c)
        exact fin m I1 J1 M1 _ h1 hM1 hF1 hz hR1 e
      | succ k ih =>
        intro m I1 J1 M1 h1 hk hj hM1 hF1 hz hR1 hr1 hI1 hl e
        have hn12 := hr1.2.1.2.2.2.1
        rw [nI_pred]
        rw [lcs] at e
        refine rr_iload_n C 3 dX3_setLicence_44 rfl rfl ?_
        refine rr_if_lt C 88 dX3_setLicence_45 (by decide) (fun c => absurd c (nI_pos (by omega))) (fun _ => ?_)
        refine rr_aload_n C 0 dX3_setLicence_48 rfl rfl ?_
        refine rr_iconst C (-1) dX3_setLicence_49 (by decide) ?_
        refine cv_X3_144 C dX3_setLicence_50 (ct_X3_coresIn hM1 hR1 hr1 (cy_run1 J1) cy_all_c) (Or.inl hM1.obj) (kVr ?_)
        rw [← hI1.tk]
        refine rr_aload_n C 0 dX3_setLicence_53 rfl rfl ?_
        refine gf_X3_38 C dX3_setLicence_54 (Or.inl hM1.obj) ?_
        rw [hR1.lic, hl]
        refine rr_icmp_le C 88 dX3_setLicence_57 (by decide) (fun c57 => ?_) (fun c57 => ?_)
        · rw [if_pos c57] at e
          exact fin m I1 J1 M1 _ h1 hM1 hF1 hz hR1 e
        · rw [if_neg c57] at e
          refine rr_aload_n C 0 dX3_setLicence_60 rfl rfl ?_
          refine gf_X3_54 C dX3_setLicence_61 (Or.inl hM1.obj) ?_
          refine rr_iload_n C 3 dX3_setLicence_64 rfl rfl ?_
          refine rr_cald C k dX3_setLicence_65 (Or.inl (hM1.row rfl)) rfl (by omega) (by decide) ?_
          rw [hR1.sta k (by omega)]
          refine rr_bipush C 114 dX3_setLicence_66 (by decide) ?_
          refine rr_icmp_ne C 82 dX3_setLicence_68 (by decide) (fun c68 => ?_) (fun c68 => ?_)
          · rw [if_neg (fun z => c68 (cy_chr_r.mpr z))] at e
            refine rr_iinc C (nI k - 1) dX3_setLicence_82 rfl (by rw [Int32.sub_eq_add_neg]; rfl) (Nat.le_of_ble_eq_true rfl) rfl (Nat.le_of_ble_eq_true rfl) ?_
            refine rr_goto C 44 dX3_setLicence_85 (by decide) ?_
            exact ih m I1 J1 M1 h1 (by omega) hj hM1 hF1 hz hR1 hr1 hI1 hl e
          · have hrun := cy_chr_r.mp c68
            rw [if_pos hrun] at e
            refine rr_aload_n C 0 dX3_setLicence_71 rfl rfl ?_
            refine gf_X3_54 C dX3_setLicence_72 (Or.inl hM1.obj) ?_
            refine rr_iload_n C 3 dX3_setLicence_75 rfl rfl ?_
            refine rr_bipush C 119 dX3_setLicence_76 (by decide) ?_
            refine rr_cast C k dX3_setLicence_78 (hM1.row rfl) rfl (by omega) (by decide) ?_
            refine kG (P := fun h2 => cy_Mo G A (u2 M1 21 k 119) st h2 ∧ cy_FrA A h h2) ⟨hM1.ar rfl _ _, hF1.tr (cy_FrA.up (cy_own.row (r := 21) rfl))⟩ (fun h3 e3 => ?_)
            refine rr_iinc C (nI (m + 1)) dX3_setLicence_79 rfl (nI_1 m) (Nat.le_of_ble_eq_true rfl) rfl (Nat.le_of_ble_eq_true rfl) ?_
            refine rr_iinc C (nI k - 1) dX3_setLicence_82 rfl (by rw [Int32.sub_eq_add_neg]; rfl) (Nat.le_of_ble_eq_true rfl) rfl (Nat.le_of_ble_eq_true rfl) ?_
            refine rr_goto C 44 dX3_setLicence_85 (by decide) ?_
            have hb : bcJ J1 k 0 0 = J1 0 := bcJ_r (by decide) (by decide)
            exact ih (m + 1) (bcI I1 J1 k) (bcJ J1 k 0) _ h3 (by rw [hb]; omega) (hb.trans hj) e3.1 e3.2 hz (hR1.bc (by omega) (t := 0) (by decide)) (hr1.bc (by decide)) (hI1.bc hr1 (by omega) (by decide) (fun z => by cases z)) (by rw [bcI, if_pos hrun]; exact hl) e
    exact loop (J 0 3) 0 _ J _ h2 (Nat.le_refl _) rfl hM2 hF2 rfl hR2 hr (hI.licn n) rfl rfl
end MLIC
