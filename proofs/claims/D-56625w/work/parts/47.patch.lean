/-! CrateYard: patch; the shares; a yard anew -/
set_option maxRecDepth 100000
def cy_inh (J : Nat → Nat → Nat) (i : Nat) : Int32 := cy_bits J (cy_ch J i (J 10 i))
def cy_cf (J : Nat → Nat → Nat) (i o : Nat) : Bool := decide (o ∈ cy_ch J (i + 1) (i + 1))
/-- the image or one above it would have the layer twice -/
def cy_tw (J : Nat → Nat → Nat) (m l : Nat) : Bool := !decide (cy_inh J m &&& cy_bit l = 0) || cy_any (fun k => !decide (k = m) && (cy_cf J k m && decide (J 11 k = l))) (J 0 1)
theorem cy_any_or (b : Bool) (p : Nat → Bool) (k : Nat) : (b || cy_any p (k + 1)) = ((b || cy_any p k) || p k) := by
  rw [cy_any]
  cases b <;> cases p k <;> cases cy_any p k <;> rfl
section PATCH
variable {G : GT} {I : Nat → Nat → Int32} {J : Nat → Nat → Nat} {st : Int64} {h : Hp}
theorem ct_X1_patch (hG : cy_G G) (hY : cy_Y G I J st h) {m l : Int32} : cy_Con G yX1_patch cX1_patch 9 (some .int) 22 30 [.ref (J 1 0), .int m, .int l] h (qC (cd3 (cy_ix m (J 0 1) && cy_ix l (J 0 0)) (!cy_tw J (kn m) (kn l)) (!decide (J 11 (kn m) = kn l))) (.int (nI (cy_cn (cy_stale I (u2 J 11 (kn m) (kn l))) (J 0 3)))) (fun h1 => cy_Y G I (u2 J 11 (kn m) (kn l)) st h1 ∧ cy_Fr h h1)) (xC (cd3 (cy_ix m (J 0 1) && cy_ix l (J 0 0)) (!cy_tw J (kn m) (kn l)) (!decide (J 11 (kn m) = kn l))) (cy_nm RJ10 RJ15 RJ18) h) := by
  have r0 := hY.2.2.2.1
  have hla := hY.list (i := 1) (by decide)
  have hcap := hY.cap (i := 1) (by decide)
  have hnc := (hY.2.2.1 1 (by decide)).1
  have hcap3 := hY.cap (i := 3) (by decide)
  have hnc3 := (hY.2.2.1 3 (by decide)).1
  refine cy_in (own := RX1) (lv0 := [some (.ref (J 1 0)), some (.int m), some (.int l), none, none, none, none, none, none]) (by decide) rfl rfl rfl (Nat.le_of_ble_eq_true rfl) (fun K T C => ?_)
  refine rr_aload_n C 0 dX1_patch_0 rfl rfl ?_
  refine rr_iload_n C 1 dX1_patch_1 rfl rfl ?_
  refine cvx_X1_98 C dX1_patch_2 (ct_X1_requireImage hG hY) (Or.inl hY.yard) (xK fun hb => rr_out C (xc31 (by rw [hb]; rfl))) (kE (fun mj h1 e1 => ?_))
  obtain ⟨⟨hmj, rfl⟩, e1⟩ := e1
  rw [e1]
  have km := kn_nI (show mj < 2 ^ 31 by omega)
  rw [km] at C
  have em := cy_ix_j hmj (show J 0 1 < 2 ^ 31 by omega)
  refine rr_astore_n C 3 dX1_patch_5 rfl (Nat.le_of_ble_eq_true rfl) rfl (Nat.le_of_ble_eq_true rfl) ?_
  refine rr_aload_n C 0 dX1_patch_6 rfl rfl ?_
  refine rr_iload_n C 2 dX1_patch_7 rfl rfl ?_
  refine cvx_X1_102 C dX1_patch_8 (ct_X1_requireLayer hG hY) (Or.inl hY.yard) (xK fun hb => rr_out C (xc31 (by rw [hb, Bool.and_false]))) (kE (fun lj h1 e1 => ?_))
  obtain ⟨⟨hlj, rfl⟩, e1⟩ := e1
  rw [e1]
  have kl := kn_nI (show lj < 2 ^ 31 by omega)
  rw [kl] at C
  have ea1 : (cy_ix (nI mj) (J 0 1) && cy_ix (nI lj) (J 0 0)) = true := by rw [em, cy_ix_j hlj (by omega)]; rfl
  refine rr_astore C dX1_patch_11 (Nat.le_of_ble_eq_true rfl) rfl (Nat.le_of_ble_eq_true rfl) ?_
  refine rr_aload_n C 3 dX1_patch_13 rfl rfl ?_
  refine cv_X1_119 C dX1_patch_14 (ct_X6_layers hY (mj + 1) mj (Nat.lt_succ_self mj) hmj).2 (Or.inl (hY.image hmj)) (kVr ?_)
  refine rr_aload C dX1_patch_17 rfl ?_
  refine gf_X1_109 C dX1_patch_19 (Or.inl (hY.layer hlj)) ?_
  refine rr_iand C dX1_patch_22 ?_
  -- behind the first search
  have k114 : ∀ (b : Bool) (x6 x7 : Option Value), (!cy_tw J mj lj) = b → (∀ v, x6 = some v → v.category = 1) → (∀ v, x7 = some v → v.category = 1) → K 26 h 114 [some (.ref (J 1 0)), some (.int (nI mj)), some (.int (nI lj)), some (.ref (J 6 mj)), some (.ref (J 5 lj)), some (.int (bI (cy_tw J mj lj))), x6, x7, none] [.int (bI b)] := by
    intro b x6 x7 hb0 c6 c7
    refine csx_X1_113 C dX1_patch_114 ct_X1_requireSupported (xK fun hb => rr_out C (xc32 ea1 (hb0.trans hb))) (kB fun hb => ?_)
    have eb1 := hb0.trans hb
    refine rr_iconst C 1 dX1_patch_117 (by decide) ?_
    refine rr_newaz C 1 1 q721 dX1_patch_118 (by decide) (by decide) (by decide) (by decide) (by omega) (fun q hq hz => ?_)
    refine rr_dup C dX1_patch_120 rfl ?_
    refine rr_iconst C 0 dX1_patch_121 (by decide) ?_
    refine rr_aload_n C 3 dX1_patch_122 rfl rfl ?_
    refine gf_X1_140 C dX1_patch_123 (Or.inl (cy_up_old hq (hY.image hmj))) ?_
    refine rr_aload C dX1_patch_126 rfl ?_
    have k136 : ∀ b : Bool, (!decide (J 11 mj = lj)) = b → K 24 (cy_up h q (aZ G 1 (fun _ => 0))) 136 [some (.ref (J 1 0)), some (.int (nI mj)), some (.int (nI lj)), some (.ref (J 6 mj)), some (.ref (J 5 lj)), some (.int (bI (cy_tw J mj lj))), x6, x7, none] [.int (bI b), .int 0, .ref q, .ref q] := by
      intro b hb0
      refine rr_zast C 0 dX1_patch_136 cy_up_eq rfl (by decide) (by decide) ?_
      rw [cy_up_up, vp_nar_bI]
      refine csx_X1_144 C dX1_patch_137 (ct_X1_requireArguments (fun k => b) cy_up_eq (by decide) (fun k hk => by match k, hk with | 0, _ => rfl)) (xK fun hb => rr_forgetT C (cy_up_sub hq) (rr_out C (xc33 ea1 eb1 (hb0.trans (by simpa [cy_al] using hb))))) (kB fun hb => ?_)
      have ec1 : (!decide (J 11 mj = lj)) = true := hb0.trans (by simpa [cy_al] using hb)
      refine rr_forget C (cy_up_sub hq) ?_
      refine rr_aload_n C 3 dX1_patch_140 rfl rfl ?_
      refine rr_aload C dX1_patch_141 rfl ?_
      refine pf_X1_140 C dX1_patch_143 (hY.image hmj) rfl rfl ?_
      refine kG (P := fun h1 => cy_Y G I (u2 J 11 mj lj) st h1 ∧ cy_Fr h h1) ⟨hY.w_own hmj lj hlj, cy_Fr.up (hY.image hmj) rfl⟩ (fun h2 e2 => ?_)
      obtain ⟨hY2, hF2⟩ := e2
      have hla2 := hY2.list (i := 3) (by decide)
      refine rr_iconst C 0 dX1_patch_146 (by decide) ?_
      refine rr_istore C dX1_patch_147 (Nat.le_of_ble_eq_true rfl) rfl (Nat.le_of_ble_eq_true rfl) ?_
      refine rr_aload_n C 0 dX1_patch_149 rfl rfl ?_
      refine gf_X1_40 C dX1_patch_150 (Or.inl hY2.yard) ?_
      refine cf_X1_122 C dX1_patch_153 (ct_J2_iterator hla2) (Or.inl hla2) (kE (fun q h3 e3 => ?_))
      obtain ⟨⟨hq, hz⟩, rfl⟩ := e3
      refine rr_astore C dX1_patch_158 (Nat.le_of_ble_eq_true rfl) rfl (Nat.le_of_ble_eq_true rfl) ?_
      have loop : ∀ (d k : Nat) (lr : Value) (x8 : Option Value), k + d = J 0 3 → K 0 (cy_up h2 q (.inr (8, [.int (nI k), lr, .int (I 0 3), .ref (J 2 3)]))) 160 [some (.ref (J 1 0)), some (.int (nI mj)), some (.int (nI lj)), some (.ref (J 6 mj)), some (.ref (J 5 lj)), some (.int (bI (cy_tw J mj lj))), some (.int (nI (cy_cn (cy_stale I (u2 J 11 mj lj)) k))), some (.ref q), x8] [] := by
        intro d
        induction d with
        | zero =>
          intro k lr x8 hkd
          have hkn : k = J 0 3 := by omega
          subst hkn
          refine rr_aload C dX1_patch_160 rfl ?_
          refine cf_X1_126 C dX1_patch_162 (ct_hn0 cy_up_eq (cy_up_old hq hla2)) (Or.inl cy_up_eq) (kVr ?_)
          refine rr_if_eq C 203 dX1_patch_167 (by decide) (fun _ => ?_) (fun c => absurd rfl c)
          refine rr_forget C (cy_up_sub hq) ?_
          refine rr_iload C dX1_patch_203 rfl ?_
          exact rr_ireturn C dX1_patch_205 ⟨qc3 ea1 eb1 ec1, rfl, hY2, hF2⟩
        | succ d ih =>
          intro k lr x8 hkd
          have hkl := hY2.cont (i := k) (show k < J 0 3 by omega)
          refine rr_aload C dX1_patch_160 rfl ?_
          refine cf_X1_126 C dX1_patch_162 (ct_hn1 cy_up_eq (cy_up_old hq hla2) (n := J 0 3) (by omega) (by omega)) (Or.inl cy_up_eq) (kVr ?_)
          refine rr_if_eq C 203 dX1_patch_167 (by decide) (fun c => absurd c (by decide)) (fun _ => ?_)
          refine rr_aload C dX1_patch_170 rfl ?_
          refine cf_X1_132 C dX1_patch_172 (ct_nx cy_up_eq (cy_up_old hq hla2) ((hY2.kn hG (by decide)).up hq) (show k < J 0 3 by omega) hnc3 hcap3 (hY2.el (i := 3) (by decide) (show k < J 0 3 by omega))) (Or.inl cy_up_eq) (kV (fun h3 e3 => ?_))
          subst e3
          rw [cy_up_up]
          refine cc_X1_73 C dX1_patch_177 (Or.inl (cy_up_old hq hkl)) ?_
          have k197 : ∀ b : Bool, cy_stale I (u2 J 11 mj lj) k = b → K 0 (cy_up h2 q (.inr (8, [.int (nI (k + 1)), .int (nI k), .int (I 0 3), .ref (J 2 3)]))) 197 [some (.ref (J 1 0)), some (.int (nI mj)), some (.int (nI lj)), some (.ref (J 6 mj)), some (.ref (J 5 lj)), some (.int (bI (cy_tw J mj lj))), some (.int (nI (cy_cn (cy_stale I (u2 J 11 mj lj)) k))), some (.ref q), some (.ref (J 8 k))] [.int (bI b), .int (nI (cy_cn (cy_stale I (u2 J 11 mj lj)) k))] := by
            intro b hb
            subst hb
            refine rr_iadd C dX1_patch_197 ?_
            rw [nI_cn (p := cy_stale I (u2 J 11 mj lj))]
            refine rr_istore C dX1_patch_198 (Nat.le_of_ble_eq_true rfl) rfl (Nat.le_of_ble_eq_true rfl) ?_
            refine rr_goto C 160 dX1_patch_200 (by decide) ?_
            exact ih (k + 1) _ _ (by omega)
          refine rr_astore C dX1_patch_180 (Nat.le_of_ble_eq_true rfl) rfl (Nat.le_of_ble_eq_true rfl) ?_
          refine rr_iload C dX1_patch_182 rfl ?_
          refine rr_aload C dX1_patch_184 rfl ?_
          refine cv_X1_148 C dX1_patch_186 (ct_X12_isStale hG (hY2.mono (cy_up_sub hq)) (i := k) (show k < J 0 3 by omega)) (Or.inl (cy_up_old hq hkl)) (kVr ?_)
          refine rr_if_eq C 196 dX1_patch_189 (by decide) (fun c189 => ?_) (fun c189 => ?_)
          · refine rr_iconst C 0 dX1_patch_196 (by decide) ?_
            exact k197 false (bI_eq0 c189)
          · refine rr_iconst C 1 dX1_patch_192 (by decide) ?_
            refine rr_goto C 197 dX1_patch_193 (by decide) ?_
            exact k197 true (bI_ne0 c189)
      refine rr_less C (u' := 0) (Nat.zero_le _) ?_
      exact loop (J 0 3) 0 _ _ (by omega)
    refine rr_acmp_eq C (some (J 5 (J 11 mj))) (some (J 5 lj)) 135 dX1_patch_128 (by decide) rfl rfl (fun c128 => ?_) (fun c128 => ?_)
    · have hjl : J 11 mj = lj := by
        have := (hY.2.1 4 (J 11 mj) 4 lj (J 5 (J 11 mj)) _ _ (if_pos (hY.2.2.2.2.1 mj hmj).2) (by rw [Option.some.inj c128]; exact if_pos hlj)).2
        exact this
      refine rr_iconst C 0 dX1_patch_135 (by decide) ?_
      exact rr_less C (by omega) (k136 false (by rw [decide_eq_true hjl]; rfl))
    · have hjl : ¬ J 11 mj = lj := fun z => c128 (by rw [z])
      refine rr_iconst C 1 dX1_patch_131 (by decide) ?_
      refine rr_goto C 136 dX1_patch_132 (by decide) ?_
      exact rr_less C (by omega) (k136 true (by rw [decide_eq_false hjl]; rfl))
  have k31 : ∀ b : Bool, (!decide (cy_inh J mj &&& cy_bit lj = 0)) = b → K 27 h 31 [some (.ref (J 1 0)), some (.int (nI mj)), some (.int (nI lj)), some (.ref (J 6 mj)), some (.ref (J 5 lj)), none, none, none, none] [.int (bI b)] := by
    intro b hb0
    refine rr_istore C dX1_patch_31 (Nat.le_of_ble_eq_true rfl) rfl (Nat.le_of_ble_eq_true rfl) ?_
    refine rr_aload_n C 0 dX1_patch_33 rfl rfl ?_
    refine gf_X1_34 C dX1_patch_34 (Or.inl hY.yard) ?_
    refine cf_X1_122 C dX1_patch_37 (ct_J2_iterator hla) (Or.inl hla) (kE (fun q h1 e1 => ?_))
    obtain ⟨⟨hq, hz⟩, rfl⟩ := e1
    refine rr_astore C dX1_patch_42 (Nat.le_of_ble_eq_true rfl) rfl (Nat.le_of_ble_eq_true rfl) ?_
    obtain ⟨P, hP⟩ : ∃ P : Nat → Bool, P = fun k => !decide (k = mj) && (cy_cf J k mj && decide (J 11 k = lj)) := ⟨_, rfl⟩
    have htw : cy_tw J mj lj = (b || cy_any P (J 0 1)) := by rw [hP, cy_tw, hb0]
    have loop : ∀ (d k : Nat) (lr : Value) (x7 : Option Value), k + d = J 0 1 → (∀ v, x7 = some v → v.category = 1) → K 26 (cy_up h q (.inr (8, [.int (nI k), lr, .int (I 0 1), .ref (J 2 1)]))) 44 [some (.ref (J 1 0)), some (.int (nI mj)), some (.int (nI lj)), some (.ref (J 6 mj)), some (.ref (J 5 lj)), some (.int (bI (b || cy_any P k))), some (.ref q), x7, none] [] := by
      intro d
      induction d with
      | zero =>
        intro k lr x7 hkd c7
        have hkn : k = J 0 1 := by omega
        subst hkn
        refine rr_aload C dX1_patch_44 rfl ?_
        refine cf_X1_126 C dX1_patch_46 (ct_hn0 cy_up_eq (cy_up_old hq hla)) (Or.inl cy_up_eq) (kVr ?_)
        refine rr_if_eq C 104 dX1_patch_51 (by decide) (fun _ => ?_) (fun c => absurd rfl c)
        refine rr_forget C (cy_up_sub hq) ?_
        rw [← htw]
        refine rr_iload C dX1_patch_104 rfl ?_
        refine rr_if_ne C 113 dX1_patch_106 (by decide) (fun c106 => ?_) (fun c106 => ?_)
        · refine rr_iconst C 0 dX1_patch_113 (by decide) ?_
          exact k114 false _ _ (by rw [bI_ne0 c106]; rfl) (fun v hv => by cases hv; rfl) c7
        · refine rr_iconst C 1 dX1_patch_109 (by decide) ?_
          refine rr_goto C 114 dX1_patch_110 (by decide) ?_
          exact k114 true _ _ (by rw [bI_eq0 c106]; rfl) (fun v hv => by cases hv; rfl) c7
      | succ d ih =>
        intro k lr x7 hkd c7
        have hkl := hY.image (i := k) (by omega)
        refine rr_aload C dX1_patch_44 rfl ?_
        refine cf_X1_126 C dX1_patch_46 (ct_hn1 cy_up_eq (cy_up_old hq hla) (n := J 0 1) (by omega) (by omega)) (Or.inl cy_up_eq) (kVr ?_)
        refine rr_if_eq C 104 dX1_patch_51 (by decide) (fun c => absurd c (by decide)) (fun _ => ?_)
        refine rr_aload C dX1_patch_54 rfl ?_
        refine cf_X1_132 C dX1_patch_56 (ct_nx cy_up_eq (cy_up_old hq hla) ((hY.kn hG (by decide)).up hq) (by omega) hnc hcap (hY.el (i := 1) (by decide) (by omega))) (Or.inl cy_up_eq) (kV (fun h1 e1 => ?_))
        subst e1
        rw [cy_up_up]
        refine cc_X1_66 C dX1_patch_61 (Or.inl (cy_up_old hq hkl)) ?_
        have k98 : ∀ c : Bool, P k = c → K 26 (cy_up h q (.inr (8, [.int (nI (k + 1)), .int (nI k), .int (I 0 1), .ref (J 2 1)]))) 98 [some (.ref (J 1 0)), some (.int (nI mj)), some (.int (nI lj)), some (.ref (J 6 mj)), some (.ref (J 5 lj)), some (.int (bI (b || cy_any P k))), some (.ref q), some (.ref (J 6 k)), none] [.int (bI c), .int (bI (b || cy_any P k))] := by
          intro c hc
          refine rr_ior C dX1_patch_98 ?_
          rw [bI_or, ← hc, ← cy_any_or]
          refine rr_istore C dX1_patch_99 (Nat.le_of_ble_eq_true rfl) rfl (Nat.le_of_ble_eq_true rfl) ?_
          refine rr_goto C 44 dX1_patch_101 (by decide) ?_
          exact ih (k + 1) _ _ (by omega) (fun v hv => by cases hv; rfl)
        refine rr_astore C dX1_patch_64 (Nat.le_of_ble_eq_true rfl) rfl (Nat.le_of_ble_eq_true rfl) ?_
        refine rr_iload C dX1_patch_66 rfl ?_
        refine rr_aload C dX1_patch_68 rfl ?_
        refine rr_aload_n C 3 dX1_patch_70 rfl rfl ?_
        refine rr_acmp_eq C (some (J 6 k)) (some (J 6 mj)) 97 dX1_patch_71 (by decide) rfl rfl (fun c71 => ?_) (fun c71 => ?_)
        · have hkm : k = mj := (hY.2.1 5 k 5 mj (J 6 k) _ _ (if_pos (by omega)) (by rw [Option.some.inj c71]; exact if_pos hmj)).2
          refine rr_iconst C 0 dX1_patch_97 (by decide) ?_
          exact k98 false (by rw [hP]; show (!decide (k = mj) && _) = false; rw [decide_eq_true hkm]; rfl)
        · have hkm : ¬ k = mj := fun z => c71 (by rw [z])
          refine rr_aload C dX1_patch_74 rfl ?_
          refine rr_aload_n C 3 dX1_patch_76 rfl rfl ?_
          refine cv_X1_136 C dX1_patch_77 (ct_X6_comesFrom (hY.mono (cy_up_sub hq)) hmj (k + 1) k (Nat.lt_succ_self k) (by omega)) (Or.inl (cy_up_old hq hkl)) (kVr ?_)
          refine rr_if_eq C 97 dX1_patch_80 (by decide) (fun c80 => ?_) (fun c80 => ?_)
          · have hcf : cy_cf J k mj = false := bI_eq0 c80
            refine rr_iconst C 0 dX1_patch_97 (by decide) ?_
            exact k98 false (by rw [hP]; show (!decide (k = mj) && (cy_cf J k mj && _)) = false; rw [hcf, Bool.false_and, Bool.and_false])
          · have hcf : cy_cf J k mj = true := bI_ne0 c80
            refine rr_aload C dX1_patch_83 rfl ?_
            refine gf_X1_140 C dX1_patch_85 (Or.inl (cy_up_old hq hkl)) ?_
            refine rr_aload C dX1_patch_88 rfl ?_
            refine rr_acmp_ne C (some (J 5 (J 11 k))) (some (J 5 lj)) 97 dX1_patch_90 (by decide) rfl rfl (fun c90 => ?_) (fun c90 => ?_)
            · have hjl : ¬ J 11 k = lj := fun z => c90 (by rw [z])
              refine rr_iconst C 0 dX1_patch_97 (by decide) ?_
              exact k98 false (by rw [hP]; show (!decide (k = mj) && (cy_cf J k mj && decide (J 11 k = lj))) = false; rw [hcf, decide_eq_false hjl, Bool.and_false, Bool.and_false])
            · have hjl : J 11 k = lj := (hY.2.1 4 (J 11 k) 4 lj (J 5 (J 11 k)) _ _ (if_pos (hY.2.2.2.2.1 k (by omega)).2) (by rw [Option.some.inj c90]; exact if_pos hlj)).2
              refine rr_iconst C 1 dX1_patch_93 (by decide) ?_
              refine rr_goto C 98 dX1_patch_94 (by decide) ?_
              exact k98 true (by rw [hP]; show (!decide (k = mj) && (cy_cf J k mj && decide (J 11 k = lj))) = true; rw [hcf, decide_eq_true hjl, decide_eq_false hkm]; rfl)
    have := loop (J 0 1) 0 (.int (-1)) none (by omega) (fun v hv => by cases hv)
    rw [show (b || cy_any P 0) = b by cases b <;> rfl] at this
    exact rr_less C (by omega) this
  refine rr_if_eq C 30 dX1_patch_23 (by decide) (fun c23 => ?_) (fun c23 => ?_)
  · refine rr_iconst C 0 dX1_patch_30 (by decide) ?_
    exact rr_less C (by omega) (k31 false (show (!decide (cy_bits J (cy_ch J (mj + 1 - 1) (J 10 mj)) &&& cy_bit lj = 0)) = false by rw [decide_eq_true c23]; rfl))
  · refine rr_iconst C 1 dX1_patch_26 (by decide) ?_
    refine rr_goto C 31 dX1_patch_27 (by decide) ?_
    exact rr_less C (by omega) (k31 true (show (!decide (cy_bits J (cy_ch J (mj + 1 - 1) (J 10 mj)) &&& cy_bit lj = 0)) = true by rw [decide_eq_false c23]; rfl))
end PATCH

def cy_ct (J : Nat → Nat → Nat) (t : Nat) : Nat := cy_cn (fun k => decide (J 13 k = t)) (J 0 3)
theorem cy_ct_le (J : Nat → Nat → Nat) (t : Nat) : cy_ct J t ≤ J 0 3 := cy_cn_le _ _
theorem nI_sub {a b : Nat} (h : b ≤ a) : nI a - nI b = nI (a - b) := by
  obtain ⟨c, rfl⟩ : ∃ c, a = c + b := ⟨a - b, by omega⟩
  rw [← nI_add, show c + b - b = c by omega, Int32.sub_eq_add_neg, Int32.add_assoc, Int32.add_neg_eq_sub, Int32.sub_self, Int32.add_zero]
def cy_rs (r a : Nat) : UInt32 := FP.fdiv (FP.i2f (nI r)) (FP.i2f (nI a))
def cy_mc (t r : Nat) : UInt64 := FP.ddiv (FP.i2d (nI t)) (FP.i2d (nI r))
theorem cy_rs_n : ∀ r, r < 13 → ∀ a, a < 13 → a ≠ 0 → vf_n32 (cy_rs r a) := by
  intro r hr a ha h0
  have := (show ∀ r, r < 13 → ∀ a, a < 13 → a = 0 ∨ vf_n32 (cy_rs r a) by unfold vf_n32; decide +kernel) r hr a ha
  exact this.resolve_left h0
theorem cy_mc_n : ∀ t, t < 193 → ∀ r, r < 13 → r ≠ 0 → vf_n64 (cy_mc t r) := by
  intro r hr a ha h0
  have := (show ∀ r, r < 193 → ∀ a, a < 13 → a = 0 ∨ vf_n64 (cy_mc r a) by unfold vf_n64; decide +kernel) r hr a ha
  exact this.resolve_left h0
section SHARES
variable {G : GT} {I : Nat → Nat → Int32} {J : Nat → Nat → Nat} {st : Int64} {h : Hp}
theorem ct_X1_runningShare (hG : cy_G G) (hY : cy_Y G I J st h) : cy_Con G yX1_runningShare cX1_runningShare 2 (some .float) 20 4 [.ref (J 1 0)] h (qC (cd1 (!decide (J 0 3 - cy_ct J 3 = 0))) (.float (cy_rs (cy_ct J 1) (J 0 3 - cy_ct J 3))) (fun h1 => h1 = h)) (xC (cd1 (!decide (J 0 3 - cy_ct J 3 = 0))) (cy_nm RJ24 "" "") h) := by
  have r0 := hY.2.2.2.1
  have hla := hY.list (i := 3) (by decide)
  have h1 := cy_ct_le J 1
  have h3 := cy_ct_le J 3
  have e0 : (!decide (nI (J 0 3 - cy_ct J 3) = 0)) = !decide (J 0 3 - cy_ct J 3 = 0) := by
    rw [show (0 : Int32) = nI 0 from rfl, decide_eq_decide.mpr (nI_eq (by omega) (by omega))]
  refine cy_in (own := RX1) (lv0 := [some (.ref (J 1 0)), none]) (by decide) rfl rfl rfl (Nat.le_of_ble_eq_true rfl) (fun K T C => ?_)
  refine rr_aload_n C 0 dX1_runningShare_0 rfl rfl ?_
  refine gf_X1_40 C dX1_runningShare_1 (Or.inl hY.yard) ?_
  refine cf_X1_50 C dX1_runningShare_4 (ct_J2_size hla) (Or.inl hla) (kVr ?_)
  refine rr_aload_n C 0 dX1_runningShare_9 rfl rfl ?_
  refine gs_X1_222 C dX1_runningShare_10 ?_
  refine cv_X1_332 C dX1_runningShare_13 (ct_X1_count hG hY (t := 3) (by decide)) (Or.inl hY.yard) (kVr ?_)
  refine rr_isub C dX1_runningShare_16 ?_
  rw [show nI (J 0 3) - nI (cy_cn (fun k => decide (J 13 k = 3)) (J 0 3)) = nI (J 0 3 - cy_ct J 3) from nI_sub h3]
  refine rr_istore_n C 1 dX1_runningShare_17 rfl (Nat.le_of_ble_eq_true rfl) rfl (Nat.le_of_ble_eq_true rfl) ?_
  refine rr_iload_n C 1 dX1_runningShare_18 rfl rfl ?_
  refine csx_X1_336 C dX1_runningShare_19 ct_X1_requireSome (xK fun hb => rr_out C (xc1 (e0 ▸ hb))) (kB fun hb => ?_)
  rw [e0] at hb
  refine rr_aload_n C 0 dX1_runningShare_22 rfl rfl ?_
  refine gs_X1_161 C dX1_runningShare_23 ?_
  refine cv_X1_332 C dX1_runningShare_26 (ct_X1_count hG hY (t := 1) (by decide)) (Or.inl hY.yard) (kVr ?_)
  refine rr_i2f C dX1_runningShare_29 ?_
  refine rr_iload_n C 1 dX1_runningShare_30 rfl rfl ?_
  refine rr_i2f C dX1_runningShare_31 ?_
  refine rr_fdiv C dX1_runningShare_32 (cy_rs_n (cy_ct J 1) (by omega) (J 0 3 - cy_ct J 3) (by omega) (fun z => by rw [z] at hb; cases hb)) ?_
  exact rr_freturn C dX1_runningShare_33 ⟨qc1 hb, rfl, rfl⟩
theorem ct_X1_meanCores (hG : cy_G G) (hY : cy_Y G I J st h) {t : Nat} (ht : t < 193) (hI : I 1 2 = nI t) : cy_Con G yX1_meanCores cX1_meanCores 2 (some .double) 20 4 [.ref (J 1 0)] h (qC (cd1 (!decide (cy_ct J 1 = 0))) (.double (cy_mc t (cy_ct J 1))) (fun h1 => h1 = h)) (xC (cd1 (!decide (cy_ct J 1 = 0))) (cy_nm RJ24 "" "") h) := by
  have r0 := hY.2.2.2.1
  have h1 := cy_ct_le J 1
  have e0 : (!decide (nI (cy_cn (fun k => decide (J 13 k = 1)) (J 0 3)) = 0)) = !decide (cy_ct J 1 = 0) := by
    rw [show (0 : Int32) = nI 0 from rfl, decide_eq_decide.mpr (nI_eq (by have : cy_cn (fun k => decide (J 13 k = 1)) (J 0 3) = cy_ct J 1 := rfl; omega) (by omega))]
    rfl
  refine cy_in (own := RX1) (lv0 := [some (.ref (J 1 0)), none]) (by decide) rfl rfl rfl (Nat.le_of_ble_eq_true rfl) (fun K T C => ?_)
  refine rr_aload_n C 0 dX1_meanCores_0 rfl rfl ?_
  refine gs_X1_161 C dX1_meanCores_1 ?_
  refine cv_X1_332 C dX1_meanCores_4 (ct_X1_count hG hY (t := 1) (by decide)) (Or.inl hY.yard) (kVr ?_)
  refine rr_istore_n C 1 dX1_meanCores_7 rfl (Nat.le_of_ble_eq_true rfl) rfl (Nat.le_of_ble_eq_true rfl) ?_
  refine rr_iload_n C 1 dX1_meanCores_8 rfl rfl ?_
  refine csx_X1_336 C dX1_meanCores_9 ct_X1_requireSome (xK fun hb => rr_out C (xc1 (e0 ▸ hb))) (kB fun hb => ?_)
  rw [e0] at hb
  refine rr_aload_n C 0 dX1_meanCores_12 rfl rfl ?_
  refine gf_X1_46 C dX1_meanCores_13 (Or.inl hY.yard) ?_
  refine gf_X1_205 C dX1_meanCores_16 (Or.inl hY.park) ?_
  rw [hI]
  refine rr_i2d C dX1_meanCores_19 ?_
  refine rr_iload_n C 1 dX1_meanCores_20 rfl rfl ?_
  refine rr_i2d C dX1_meanCores_21 ?_
  refine rr_ddiv C dX1_meanCores_22 (cy_mc_n t ht (cy_ct J 1) (by omega) (fun z => by rw [z] at hb; cases hb)) ?_
  exact rr_dreturn C dX1_meanCores_23 ⟨qc1 hb, rfl, rfl⟩
end SHARES
