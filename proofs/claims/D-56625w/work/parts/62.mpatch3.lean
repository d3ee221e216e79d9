/-! the model: patch (printed by gen/mpat.py) -/
set_option maxRecDepth 100000
section MPT
variable {G : GT} {A : Nat → Nat} {M : Nat → Nat → Int32} {st : Int64} {h : Hp} {I : Nat → Nat → Int32} {J : Nat → Nat → Nat} {H N : Nat}
theorem cy_Rl.pat (hR : cy_Rl I J M) (j lj : Nat) : cy_Rl I (u2 J 11 j lj) (u2 M 7 j (nI lj)) := ⟨hR.hour, hR.nL, hR.nIm, hR.nH, hR.nW, hR.lic, hR.nC, hR.wd, hR.oa, hR.par, by
        intro i hi
        show (if i = j then nI lj else M 7 i) = nI (if i = j then lj else J 11 i)
        by_cases e : i = j
        · rw [if_pos e, if_pos e]
        · rw [if_neg e, if_neg e]; exact hR.ownl i hi, hR.hc, hR.hm, hR.w1, hR.w2, hR.w3, hR.ten, hR.img, hR.nc, hR.nm, hR.sta, hR.host, hR.wi, hR.start, hR.unt, hR.row, hR.zL, hR.zC⟩
theorem cy_Yr.pat (hr : cy_Yr G J) {j lj : Nat} (hl : lj < J 0 0) : cy_Yr G (u2 J 11 j lj) := by
  refine ⟨hr.1, hr.2.1, fun i hi => ⟨(hr.2.2.1 i hi).1, ?_⟩, hr.2.2.2⟩
  show (if i = j then lj else J 11 i) < J 0 0
  by_cases e : i = j
  · rw [if_pos e]; exact hl
  · rw [if_neg e]; exact (hr.2.2.1 i hi).2
theorem cy_Iv.pat (hI : cy_Iv H N I J) (j lj : Nat) : cy_Iv H N I (u2 J 11 j lj) := ⟨hI.ok, hI.no, hI.free, hI.tk, hI.hr, hI.wd, hI.co⟩
theorem ct_X3_patch (hM : cy_Mo G A M st h) (hR : cy_Rl I J M) (hr : cy_Yr G J) {m l : Int32} : cy_Con G yX3_patch cX3_patch 5 (some .int) 6 0 [.ref (A 0), .int m, .int l] h (qMi (cd3 (cy_ix m (J 0 1) && cy_ix l (J 0 0)) (!cy_tw J (kn m) (kn l)) (!decide (J 11 (kn m) = kn l))) (nI (cy_cn (cy_stale I (u2 J 11 (kn m) (kn l))) (J 0 3))) (fun h1 => if cd3 (cy_ix m (J 0 1) && cy_ix l (J 0 0)) (!cy_tw J (kn m) (kn l)) (!decide (J 11 (kn m) = kn l)) = 0 then cy_MU G A st h (cy_Rl I (u2 J 11 (kn m) (kn l))) h1 else cy_MT G A M st h (cd3 (cy_ix m (J 0 1) && cy_ix l (J 0 0)) (!cy_tw J (kn m) (kn l)) (!decide (J 11 (kn m) = kn l))) h1)) xF := by
  have r0 := hr.2.1
  obtain ⟨a, ha⟩ : ∃ a, a = (cy_ix m (J 0 1) && cy_ix l (J 0 0)) := ⟨_, rfl⟩
  obtain ⟨b, hb⟩ : ∃ b, b = !cy_tw J (kn m) (kn l) := ⟨_, rfl⟩
  obtain ⟨c, hc⟩ : ∃ c, c = !decide (J 11 (kn m) = kn l) := ⟨_, rfl⟩
  rw [← ha, ← hb, ← hc]
  refine cy_in (own := RX3) (lv0 := [some (.ref (A 0)), some (.int m), some (.int l), none, none]) (by decide) rfl rfl rfl (Nat.le_of_ble_eq_true rfl) (fun K T C => ?_)
  refine rr_aload_n C 0 dX3_patch_0 rfl rfl ?_
  refine rr_iconst C 0 dX3_patch_1 (by decide) ?_
  refine pf_X3_79 C dX3_patch_2 hM.obj ?_
  refine kG (P := fun h1 => cy_Mo G A (u2 M 0 0 0) st h1 ∧ cy_FrA A h h1) ⟨hM.thr 0, cy_FrA.up cy_own.obj⟩ (fun h1 e1 => ?_)
  obtain ⟨hM0, hF0⟩ := e1
  have hR0 := hR.thr 0
  have h00 : u2 M 0 0 0 0 0 = 0 := u2_eq
  have k71 : ∀ (x : Int32) (n : Nat) (h2 : Hp), x = nI n → cd3 a b c = n → n ≠ 0 → cy_Mo G A (u2 (u2 M 0 0 0) 0 0 x) st h2 ∧ cy_FrA A h1 h2 → K 0 h2 71 [some (.ref (A 0)), some (.int m), some (.int l), none, none] [] := by
    intro x n h2 hx hn h0 e2
    rw [hn] at C
    refine rr_iconst C 0 dX3_patch_71 (by decide) ?_
    exact rr_ireturn C dX3_patch_72 ⟨0, rfl, fun z => absurd z h0, (if_neg h0).mpr (cy_MT.of hF0 e2 hx)⟩
  have k27 : ∀ b0 : Bool, (!a) = b0 → K 0 h1 27 [some (.ref (A 0)), some (.int m), some (.int l), none, none] [.int (bI b0), .ref (A 0)] := by
    intro b0 hb0
    cases b0 with
    | true =>
      have ta : a = false := by cases a; rfl; cases hb0
      refine rr_iconst C 1 dX3_patch_27 (by decide) ?_
      refine cv_X3_109 C dX3_patch_28 (ct_X3_failsT hM0 h00 (by decide)) (Or.inl hM0.obj) (kV (fun h2 e2 => ?_))
      refine rr_if_ne C 71 dX3_patch_31 (by decide) (fun _ => ?_) (fun c => absurd c (by decide))
      exact k71 1 1 h2 rfl (by rw [ta]; rfl) (by decide) e2
    | false =>
      have ta : a = true := by cases a; cases hb0; rfl
      obtain ⟨h8, h9⟩ := Bool.and_eq_true_iff.mp (ha.symm.trans ta)
      obtain ⟨mj, hmj, em⟩ := cy_ix_t (by omega) h8
      obtain ⟨lj, hlj, el⟩ := cy_ix_t (by omega) h9
      have km : kn m = mj := by rw [em, kn_nI (by omega)]
      have kl : kn l = lj := by rw [el, kn_nI (by omega)]
      have htwc := ct_X3_twice hM0 hR0 hr hmj hlj
      rw [← em, ← el] at htwc
      rw [km, kl] at C hb hc
      refine rr_iconst C 1 dX3_patch_27 (by decide) ?_
      refine cv_X3_109 C dX3_patch_28 (ct_X3_failsF hM0 h00 (by decide)) (Or.inl hM0.obj) (kVr ?_)
      refine rr_if_ne C 71 dX3_patch_31 (by decide) (fun c => absurd rfl c) (fun _ => ?_)
      refine rr_aload_n C 0 dX3_patch_34 rfl rfl ?_
      refine rr_aload_n C 0 dX3_patch_35 rfl rfl ?_
      refine rr_iload_n C 1 dX3_patch_36 rfl rfl ?_
      refine rr_iload_n C 2 dX3_patch_37 rfl rfl ?_
      refine cv_X3_119 C dX3_patch_38 htwc (Or.inl hM0.obj) (kVr ?_)
      cases htw : cy_tw J mj lj with
      | true =>
        have tb : b = false := by rw [hb, htw]; rfl
        refine rr_iconst C 2 dX3_patch_41 (by decide) ?_
        refine cv_X3_109 C dX3_patch_42 (ct_X3_failsT hM0 h00 (by decide)) (Or.inl hM0.obj) (kV (fun h2 e2 => ?_))
        refine rr_if_ne C 71 dX3_patch_45 (by decide) (fun _ => ?_) (fun c => absurd c (by decide))
        exact k71 2 2 h2 rfl (by rw [ta, tb]; rfl) (by decide) e2
      | false =>
        have tb : b = true := by rw [hb, htw]; rfl
        refine rr_iconst C 2 dX3_patch_41 (by decide) ?_
        refine cv_X3_109 C dX3_patch_42 (ct_X3_failsF hM0 h00 (by decide)) (Or.inl hM0.obj) (kVr ?_)
        refine rr_if_ne C 71 dX3_patch_45 (by decide) (fun c => absurd rfl c) (fun _ => ?_)
        refine rr_aload_n C 0 dX3_patch_48 rfl rfl ?_
        refine rr_aload_n C 0 dX3_patch_49 rfl rfl ?_
        refine gf_X3_20 C dX3_patch_50 (Or.inl hM0.obj) ?_
        refine rr_iload_n C 1 dX3_patch_53 rfl rfl ?_
        refine rr_iald C mj dX3_patch_54 (Or.inl (hM0.row rfl)) em (by omega) (by decide) ?_
        rw [hR0.ownl mj hmj]
        have hol := (hr.2.2.1 mj hmj).2
        refine rr_iload_n C 2 dX3_patch_55 rfl rfl ?_
        refine rr_icmp_ne C 63 dX3_patch_56 (by decide) (fun c56 => ?_) (fun c56 => ?_)
        · have hne : ¬ J 11 mj = lj := fun z => c56 (by rw [z, el])
          have tc : c = true := by rw [hc, decide_eq_false hne]; rfl
          have hcc : cd3 a b c = 0 := by rw [ta, tb, tc]; rfl
          rw [hcc] at C
          refine rr_iconst C 0 dX3_patch_63 (by decide) ?_
          refine rr_iconst C 3 dX3_patch_64 (by decide) ?_
          refine cv_X3_109 C dX3_patch_65 (ct_X3_failsF hM0 h00 (by decide)) (Or.inl hM0.obj) (kVr ?_)
          refine rr_if_eq C 73 dX3_patch_68 (by decide) (fun _ => ?_) (fun c => absurd rfl c)
          refine rr_aload_n C 0 dX3_patch_73 rfl rfl ?_
          refine gf_X3_20 C dX3_patch_74 (Or.inl hM0.obj) ?_
          refine rr_iload_n C 1 dX3_patch_77 rfl rfl ?_
          refine rr_iload_n C 2 dX3_patch_78 rfl rfl ?_
          refine rr_iast C mj dX3_patch_79 (hM0.row rfl) em (by omega) (by decide) ?_
          refine kG (P := fun h2 => cy_Mo G A (u2 (u2 M 0 0 0) 7 mj l) st h2 ∧ cy_FrA A h h2) ⟨hM0.ar rfl _ _, hF0.tr (cy_FrA.up (cy_own.row (r := 7) rfl))⟩ (fun h2 e2 => ?_)
          obtain ⟨hM2, hF2⟩ := e2
          have hR2 := hR0.pat mj lj
          rw [← el] at hR2
          have hr2 := hr.pat (j := mj) hlj
          refine rr_iconst C 0 dX3_patch_80 (by decide) ?_
          refine rr_istore_n C 3 dX3_patch_81 rfl (Nat.le_of_ble_eq_true rfl) rfl (Nat.le_of_ble_eq_true rfl) ?_
          refine rr_iconst C 0 dX3_patch_82 (by decide) ?_
          refine rr_istore C dX3_patch_83 (Nat.le_of_ble_eq_true rfl) rfl (Nat.le_of_ble_eq_true rfl) ?_
          have loop : ∀ (d i : Nat), i + d = J 0 3 → K 0 h2 85 [some (.ref (A 0)), some (.int m), some (.int l), some (.int (nI (cy_cn (cy_stale I (u2 J 11 mj lj)) i))), some (.int (nI i))] [] := by
            intro d
            induction d with
            | zero =>
              intro i hi
              have hin : i = J 0 3 := by omega
              subst hin
              refine rr_iload C dX3_patch_85 rfl ?_
              refine rr_aload_n C 0 dX3_patch_87 rfl rfl ?_
              refine gf_X3_95 C dX3_patch_88 (Or.inl hM2.obj) ?_
              rw [show u2 (u2 M 0 0 0) 7 mj l 16 0 = nI (J 0 3) from hR2.nC]
              refine rr_icmp_ge C 117 dX3_patch_91 (by decide) (fun _ => ?_) (fun c => absurd (nI_le (Nat.le_refl _) (by omega)) c)
              refine rr_iload_n C 3 dX3_patch_117 rfl rfl ?_
              exact rr_ireturn C dX3_patch_118 ⟨_, rfl, fun _ => rfl, _, ⟨hM2, hF2⟩, rfl, hR2⟩
            | succ d ih =>
              intro i hi
              refine rr_iload C dX3_patch_85 rfl ?_
              refine rr_aload_n C 0 dX3_patch_87 rfl rfl ?_
              refine gf_X3_95 C dX3_patch_88 (Or.inl hM2.obj) ?_
              rw [show u2 (u2 M 0 0 0) 7 mj l 16 0 = nI (J 0 3) from hR2.nC]
              refine rr_icmp_ge C 117 dX3_patch_91 (by decide) (fun c => absurd c (nI_ge (show i < J 0 3 by omega) (by omega))) (fun _ => ?_)
              have nx : ∀ b : Bool, cy_stale I (u2 J 11 mj lj) i = b → K 0 h2 109 [some (.ref (A 0)), some (.int m), some (.int l), some (.int (nI (cy_cn (cy_stale I (u2 J 11 mj lj)) i))), some (.int (nI i))] [.int (bI b), .int (nI (cy_cn (cy_stale I (u2 J 11 mj lj)) i))] := by
                intro b hb
                subst hb
                refine rr_iadd C dX3_patch_109 ?_
                rw [nI_cn (p := cy_stale I (u2 J 11 mj lj))]
                refine rr_istore_n C 3 dX3_patch_110 rfl (Nat.le_of_ble_eq_true rfl) rfl (Nat.le_of_ble_eq_true rfl) ?_
                refine rr_iinc C (nI (i + 1)) dX3_patch_111 rfl (nI_1 i) (Nat.le_of_ble_eq_true rfl) rfl (Nat.le_of_ble_eq_true rfl) ?_
                refine rr_goto C 85 dX3_patch_114 (by decide) ?_
                exact ih (i + 1) (by omega)
              refine rr_iload_n C 3 dX3_patch_94 rfl rfl ?_
              refine rr_aload_n C 0 dX3_patch_95 rfl rfl ?_
              refine rr_iload C dX3_patch_96 rfl ?_
              refine cv_X3_123 C dX3_patch_98 (ct_X3_isStaleNow hM2 hR2 hr2 (i := i) (show i < J 0 3 by omega)) (Or.inl hM2.obj) (kVr ?_)
              refine rr_if_eq C 108 dX3_patch_101 (by decide) (fun c101 => ?_) (fun c101 => ?_)
              · refine rr_iconst C 0 dX3_patch_108 (by decide) ?_
                exact nx false (bI_eq0 c101)
              · refine rr_iconst C 1 dX3_patch_104 (by decide) ?_
                refine rr_goto C 109 dX3_patch_105 (by decide) ?_
                exact nx true (bI_ne0 c101)
          exact loop (J 0 3) 0 (by omega)
        · have he : J 11 mj = lj := (nI_eq (by omega) (by omega)).mp (c56.trans el)
          have tc : c = false := by rw [hc, decide_eq_true he]; rfl
          refine rr_iconst C 1 dX3_patch_59 (by decide) ?_
          refine rr_goto C 64 dX3_patch_60 (by decide) ?_
          refine rr_iconst C 3 dX3_patch_64 (by decide) ?_
          refine cv_X3_109 C dX3_patch_65 (ct_X3_failsT hM0 h00 (by decide)) (Or.inl hM0.obj) (kV (fun h2 e2 => ?_))
          refine rr_if_eq C 73 dX3_patch_68 (by decide) (fun c => absurd c (by decide)) (fun _ => ?_)
          exact k71 3 3 h2 rfl (by rw [ta, tb, tc]; rfl) (by decide) e2
  refine rr_aload_n C 0 dX3_patch_5 rfl rfl ?_
  refine rr_aload_n C 0 dX3_patch_6 rfl rfl ?_
  refine rr_iload_n C 1 dX3_patch_7 rfl rfl ?_
  refine cv_X3_113 C dX3_patch_8 (ct_X3_noImage hM0 (n := J 0 1) (by omega) hR0.nIm) (Or.inl hM0.obj) (kVr ?_)
  refine rr_if_ne C 22 dX3_patch_11 (by decide) (fun c11 => ?_) (fun c11 => ?_)
  · refine rr_iconst C 1 dX3_patch_22 (by decide) ?_
    refine rr_goto C 27 dX3_patch_23 (by decide) ?_
    exact k27 true (by rw [ha, show cy_ix m (J 0 1) = false by have := bI_ne0 c11; cases hz : cy_ix m (J 0 1); rfl; rw [hz] at this; cases this]; rfl)
  · have hm1 : cy_ix m (J 0 1) = true := by have := bI_eq0 c11; cases hz : cy_ix m (J 0 1); rw [hz] at this; cases this; rfl
    refine rr_aload_n C 0 dX3_patch_14 rfl rfl ?_
    refine rr_iload_n C 2 dX3_patch_15 rfl rfl ?_
    refine cv_X3_116 C dX3_patch_16 (ct_X3_noLayer hM0 (n := J 0 0) (by omega) hR0.nL) (Or.inl hM0.obj) (kVr ?_)
    refine rr_if_eq C 26 dX3_patch_19 (by decide) (fun c19 => ?_) (fun c19 => ?_)
    · refine rr_iconst C 0 dX3_patch_26 (by decide) ?_
      exact k27 false (by rw [ha, hm1, Bool.true_and]; exact bI_eq0 c19)
    · refine rr_iconst C 1 dX3_patch_22 (by decide) ?_
      refine rr_goto C 27 dX3_patch_23 (by decide) ?_
      exact k27 true (by rw [ha, hm1, Bool.true_and]; exact bI_ne0 c19)
end MPT
