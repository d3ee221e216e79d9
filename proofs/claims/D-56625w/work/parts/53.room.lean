/-! the model: bits; room, hosts, bars -/
set_option maxRecDepth 100000
theorem i32_and_or (x a b : Int32) : x &&& (a ||| b) = (x &&& a) ||| (x &&& b) := by
  apply Int32.toBitVec_inj.mp
  simp only [Int32.toBitVec_and, Int32.toBitVec_or]
  exact BitVec.and_or_distrib_left
theorem cy_bit_bv : ∀ j, j < 12 → (cy_bit j).toBitVec = BitVec.twoPow 32 j := by decide +kernel
theorem cy_sh : ∀ j, j < 12 → (nI j &&& 31).toBitVec = BitVec.ofNat 32 j := by decide +kernel
theorem cy_bit_t (x : Int32) {j : Nat} (hj : j < 12) : (x &&& cy_bit j = 0) ↔ x.toBitVec.getLsbD j = false := by
  rw [← Int32.toBitVec_inj, Int32.toBitVec_and, cy_bit_bv j hj, BitVec.and_twoPow]
  constructor
  · intro h
    cases hb : x.toBitVec.getLsbD j with
    | false => rfl
    | true =>
      rw [hb, if_pos rfl] at h
      have := congrArg (fun v => v.getLsbD j) h
      simp [BitVec.getLsbD_twoPow] at this
      omega
  · intro h
    rw [h]
    simp
theorem cy_shr_n : ∀ j, j < 12 → (((nI j &&& 31).toBitVec.smod 32).toNat = j) := by decide +kernel
theorem cy_shr_bv (x : Int32) {j : Nat} (hj : j < 12) : (x >>> (nI j &&& 31)).toBitVec = x.toBitVec.sshiftRight j := by
  rw [Int32.toBitVec_shiftRight]
  unfold BitVec.sshiftRight'
  rw [cy_shr_n j hj]
theorem cy_shr_t (x : Int32) {j : Nat} (hj : j < 12) : ((x >>> (nI j &&& 31)) &&& 1 = 1) ↔ ¬ (x &&& cy_bit j = 0) := by
  rw [cy_bit_t x hj, ← Int32.toBitVec_inj, Int32.toBitVec_and, cy_shr_bv x hj]
  have e1 : (1 : Int32).toBitVec = BitVec.twoPow 32 0 := by decide
  rw [e1, BitVec.and_twoPow, BitVec.getLsbD_sshiftRight]
  simp only [Nat.add_zero, show ¬ (32 ≤ 0) by omega, decide_false, Bool.not_false, Bool.true_and, show j < 32 by omega, if_true]
  cases hb : x.toBitVec.getLsbD j with
  | false => exact ⟨fun z => absurd z (by decide), fun z => absurd rfl z⟩
  | true => exact ⟨fun _ z => Bool.noConfusion z, fun _ => rfl⟩
theorem cy_ob_any (x : Int32) (p : Nat → Bool) : ∀ n, (!decide (x &&& cy_ob p n = 0)) = cy_any (fun k => p k && !decide (x &&& cy_bit k = 0)) n := by
  intro n
  induction n with
  | zero => show (!decide (x &&& 0 = 0)) = false; rw [Int32.and_zero]; rfl
  | succ n ih =>
    rw [cy_ob, cy_any, ← ih, i32_and_or]
    have : decide (x &&& cy_ob p n ||| x &&& (if p n then cy_bit n else 0) = 0) = (decide (x &&& cy_ob p n = 0) && decide (x &&& (if p n then cy_bit n else 0) = 0)) := by
      rw [Bool.eq_iff_iff]
      simp [Int32.or_eq_zero_iff]
    rw [this]
    cases p n with
    | true => simp
    | false => simp

theorem cy_be_congr {fc fm fc' fm' : Nat → Int32} (x y : Int32) : ∀ n, (∀ i, i < n → fc i = fc' i ∧ fm i = fm' i) → cy_be fc fm x y n = cy_be fc' fm' x y n := by
  intro n
  induction n with
  | zero => intro _; rfl
  | succ n ih =>
    intro h
    have e := ih (fun i hi => h i (by omega))
    have hn := h n (Nat.lt_succ_self n)
    have hl := cy_be_le fc' fm' x y n
    rw [cy_be, cy_be, e, hn.1, hn.2]
    cases hb : cy_be fc' fm' x y n with
    | zero => rfl
    | succ j =>
      show (if (cy_fit (fc' n) (fm' n) x y && decide (fc' n < fc j)) = true then n + 1 else j + 1) = (if (cy_fit (fc' n) (fm' n) x y && decide (fc' n < fc' j)) = true then n + 1 else j + 1)
      rw [(h j (by omega)).1]
theorem cy_be_f {fc fm : Nat → Int32} {x y : Int32} {k : Nat} (h : cy_fit (fc k) (fm k) x y = false) : cy_be fc fm x y (k + 1) = cy_be fc fm x y k := by
  show (if (cy_fit (fc k) (fm k) x y && _) = true then _ else _) = _
  rw [h, Bool.false_and]
  rfl
theorem cy_be_z {fc fm : Nat → Int32} {x y : Int32} {k : Nat} (h : cy_fit (fc k) (fm k) x y = true) (h0 : cy_be fc fm x y k = 0) : cy_be fc fm x y (k + 1) = k + 1 := by
  rw [cy_be, h, h0]
  rfl
theorem cy_be_s {fc fm : Nat → Int32} {x y : Int32} {k j : Nat} (h : cy_fit (fc k) (fm k) x y = true) (h0 : cy_be fc fm x y k = j + 1) : cy_be fc fm x y (k + 1) = if fc k < fc j then k + 1 else j + 1 := by
  rw [cy_be, h, h0]
  show (if (true && decide (fc k < fc j)) = true then k + 1 else j + 1) = _
  rw [Bool.true_and]
  by_cases z : fc k < fc j
  · rw [if_pos z, decide_eq_true z]; rfl
  · rw [if_neg z, decide_eq_false z]; rfl
def cy_on (J : Nat → Nat → Nat) (j i : Nat) : Bool := decide (J 13 i = 1) && decide (J 14 i = j + 1)
section ROOM
variable {G : GT} {A : Nat → Nat} {M : Nat → Nat → Int32} {st : Int64} {h : Hp} {I : Nat → Nat → Int32} {J : Nat → Nat → Nat}
theorem cy_on_m (hR : cy_Rl I J M) (hr : cy_Yr G J) (hok : cy_okJ J) {j : Nat} (hj : j < J 0 4) : ∀ i, i < J 0 3 → cy_on J j i = (decide (J 13 i = 1) && decide (M 22 i = nI j)) := by
  intro i hi
  have r0 := hr.2.1
  have h3 := (hr.2.2.2 i hi).2.2
  unfold cy_on
  by_cases hrun : J 13 i = 1
  · have h4 := hok i hi hrun
    rw [hR.host i hi hrun, decide_eq_true hrun, Bool.true_and, Bool.true_and]
    exact decide_eq_decide.mpr ((show J 14 i = j + 1 ↔ J 14 i - 1 = j by omega).trans (nI_eq (by omega) (by omega)).symm)
  · rw [decide_eq_false hrun, Bool.false_and, Bool.false_and]
theorem cy_on_c (hR : cy_Rl I J M) (hr : cy_Yr G J) (hok : cy_okJ J) {j : Nat} (hj : j < J 0 4) : ∀ i, i < J 0 3 → cy_on J j i = (decide (J 13 i = 1) && (decide (nI j = -1) || decide (M 22 i = nI j))) := by
  intro i hi
  have r0 := hr.2.1
  rw [cy_on_m hR hr hok hj i hi, decide_eq_false (show ¬ nI j = -1 from fun z => absurd (show nI j < 0 by rw [z]; decide) (nI_pos (by omega))), Bool.false_or]
theorem ct_X3_takeRoom (hM : cy_Mo G A M st h) (hR : cy_Rl I J M) (hr : cy_Yr G J) (hok : cy_okJ J) {b : Bool} (f g : Nat → Int32) (hf : ∀ i, i < J 0 4 → f i = I 4 i - (if b then 0 else cy_sm (cy_on J i) (I 13) (J 0 3)) ∧ g i = I 5 i - (if b then 0 else cy_sm (cy_on J i) (I 14) (J 0 3))) :
    cy_Con G yX3_takeRoom cX3_takeRoom 3 none 1 0 [.ref (A 0), .int (bI b)] h (qN (fun h1 => ∃ M1, cy_Mo G A M1 st h1 ∧ cy_FrA A h h1 ∧ (∀ r, r ≠ 28 → r ≠ 29 → M1 r = M r) ∧ ∀ i, i < J 0 4 → M1 28 i = f i ∧ M1 29 i = g i)) xF := by
  have r0 := hr.2.1
  refine cy_in (own := RX3) (lv0 := [some (.ref (A 0)), some (.int (bI b)), none]) (by decide) rfl rfl rfl (Nat.le_of_ble_eq_true rfl) (fun K T C => ?_)
  have loop : ∀ (d k : Nat) (h1 : Hp) (M1 : Nat → Nat → Int32), k + d = J 0 4 → cy_Mo G A M1 st h1 → cy_FrA A h h1 → (∀ r, r ≠ 28 → r ≠ 29 → M1 r = M r) → (∀ i, i < k → M1 28 i = f i ∧ M1 29 i = g i) → K 0 h1 2 [some (.ref (A 0)), some (.int (bI b)), some (.int (nI k))] [] := by
    intro d
    induction d with
    | zero =>
      intro k h1 M1 hk hM1 hF hrest hfg
      have hkn : k = J 0 4 := by omega
      subst hkn
      have hR1 := hR.cong (fun r _ a b => hrest r a b)
      refine rr_iload_n C 2 dX3_takeRoom_2 rfl rfl ?_
      refine rr_aload_n C 0 dX3_takeRoom_3 rfl rfl ?_
      refine gf_X3_92 C dX3_takeRoom_4 (Or.inl hM1.obj) ?_
      rw [hR1.nH]
      refine rr_icmp_ge C 68 dX3_takeRoom_7 (by decide) (fun _ => ?_) (fun c => absurd (nI_le (Nat.le_refl _) (by omega)) c)
      exact rr_return C dX3_takeRoom_68 ⟨rfl, M1, hM1, hF, hrest, hfg⟩
    | succ d ih =>
      intro k h1 M1 hk hM1 hF hrest hfg
      have hR1 := hR.cong (fun r _ a b => hrest r a b)
      refine rr_iload_n C 2 dX3_takeRoom_2 rfl rfl ?_
      refine rr_aload_n C 0 dX3_takeRoom_3 rfl rfl ?_
      refine gf_X3_92 C dX3_takeRoom_4 (Or.inl hM1.obj) ?_
      rw [hR1.nH]
      refine rr_icmp_ge C 68 dX3_takeRoom_7 (by decide) (fun c => absurd c (nI_ge (by omega) (by omega))) (fun _ => ?_)
      -- the memory of the host
      have k36 : ∀ (h1 : Hp) (M1 : Nat → Nat → Int32), cy_Mo G A M1 st h1 → cy_FrA A h h1 → (∀ r, r ≠ 28 → r ≠ 29 → M1 r = M r) → (∀ i, i < k → M1 28 i = f i ∧ M1 29 i = g i) → M1 28 k = f k → K 0 h1 36 [some (.ref (A 0)), some (.int (bI b)), some (.int (nI k))] [] := by
        intro h1 M1 hM1 hF hrest hfg hfk
        have hR1 := hR.cong (fun r _ a b => hrest r a b)
        have k60 : ∀ x : Int32, x = (if b then 0 else cy_sm (cy_on J k) (I 14) (J 0 3)) → K 0 h1 60 [some (.ref (A 0)), some (.int (bI b)), some (.int (nI k))] [.int x, .int (I 5 k), .int (nI k), .ref (A 29)] := by
          intro x ex
          refine rr_isub C dX3_takeRoom_60 ?_
          refine rr_iast C k dX3_takeRoom_61 (hM1.row rfl) rfl (by omega) (by decide) ?_
          refine kG (P := fun h2 => cy_Mo G A (u2 M1 29 k (I 5 k - x)) st h2 ∧ cy_FrA A h h2) ⟨hM1.ar rfl k _, hF.tr (cy_FrA.up (cy_own.row (r := 29) rfl))⟩ (fun h2 e2 => ?_)
          refine rr_iinc C (nI (k + 1)) dX3_takeRoom_62 rfl (nI_1 k) (Nat.le_of_ble_eq_true rfl) rfl (Nat.le_of_ble_eq_true rfl) ?_
          refine rr_goto C 2 dX3_takeRoom_65 (by decide) ?_
          refine ih (k + 1) h2 _ (by omega) e2.1 e2.2 (fun r a b => (u2_row b).trans (hrest r a b)) (fun i hi => ?_)
          rw [u2_row (show (28 : Nat) ≠ 29 by decide)]
          by_cases hik : i = k
          · subst hik
            exact ⟨hfk, by rw [u2_eq, (hf i (by omega)).2, ex]⟩
          · rw [u2_i hik]
            exact hfg i (by omega)
        refine rr_aload_n C 0 dX3_takeRoom_36 rfl rfl ?_
        refine gf_X3_76 C dX3_takeRoom_37 (Or.inl hM1.obj) ?_
        refine rr_iload_n C 2 dX3_takeRoom_40 rfl rfl ?_
        refine rr_aload_n C 0 dX3_takeRoom_41 rfl rfl ?_
        refine gf_X3_26 C dX3_takeRoom_42 (Or.inl hM1.obj) ?_
        refine rr_iload_n C 2 dX3_takeRoom_45 rfl rfl ?_
        refine rr_iald C k dX3_takeRoom_46 (Or.inl (hM1.row rfl)) rfl (by omega) (by decide) ?_
        rw [hR1.hm k (by omega)]
        refine rr_iload_n C 1 dX3_takeRoom_47 rfl rfl ?_
        refine rr_if_eq C 55 dX3_takeRoom_48 (by decide) (fun c48 => ?_) (fun c48 => ?_)
        · refine rr_aload_n C 0 dX3_takeRoom_55 rfl rfl ?_
          refine rr_iload_n C 2 dX3_takeRoom_56 rfl rfl ?_
          refine cv_X3_169 C dX3_takeRoom_57 (ct_X3_memoryIn hM1 hR1 hr (cy_on J k) (cy_on_m hR1 hr hok (by omega))) (Or.inl hM1.obj) (kVr ?_)
          exact k60 _ (by rw [bI_eq0 c48]; rfl)
        · refine rr_iconst C 0 dX3_takeRoom_51 (by decide) ?_
          refine rr_goto C 60 dX3_takeRoom_52 (by decide) ?_
          exact k60 _ (by rw [bI_ne0 c48]; rfl)
      have k34 : ∀ x : Int32, x = (if b then 0 else cy_sm (cy_on J k) (I 13) (J 0 3)) → K 0 h1 34 [some (.ref (A 0)), some (.int (bI b)), some (.int (nI k))] [.int x, .int (I 4 k), .int (nI k), .ref (A 28)] := by
        intro x ex
        refine rr_isub C dX3_takeRoom_34 ?_
        refine rr_iast C k dX3_takeRoom_35 (hM1.row rfl) rfl (by omega) (by decide) ?_
        refine kG (P := fun h2 => cy_Mo G A (u2 M1 28 k (I 4 k - x)) st h2 ∧ cy_FrA A h h2) ⟨hM1.ar rfl k _, hF.tr (cy_FrA.up (cy_own.row (r := 28) rfl))⟩ (fun h2 e2 => ?_)
        refine k36 h2 _ e2.1 e2.2 (fun r a b => (u2_row a).trans (hrest r a b)) (fun i hi => ?_) ?_
        · rw [u2_i (show i ≠ k by omega), u2_row (show (29 : Nat) ≠ 28 by decide)]
          exact hfg i hi
        · rw [u2_eq, (hf k (by omega)).1, ex]
      refine rr_aload_n C 0 dX3_takeRoom_10 rfl rfl ?_
      refine gf_X3_73 C dX3_takeRoom_11 (Or.inl hM1.obj) ?_
      refine rr_iload_n C 2 dX3_takeRoom_14 rfl rfl ?_
      refine rr_aload_n C 0 dX3_takeRoom_15 rfl rfl ?_
      refine gf_X3_23 C dX3_takeRoom_16 (Or.inl hM1.obj) ?_
      refine rr_iload_n C 2 dX3_takeRoom_19 rfl rfl ?_
      refine rr_iald C k dX3_takeRoom_20 (Or.inl (hM1.row rfl)) rfl (by omega) (by decide) ?_
      rw [hR1.hc k (by omega)]
      refine rr_iload_n C 1 dX3_takeRoom_21 rfl rfl ?_
      refine rr_if_eq C 29 dX3_takeRoom_22 (by decide) (fun c22 => ?_) (fun c22 => ?_)
      · refine rr_aload_n C 0 dX3_takeRoom_29 rfl rfl ?_
        refine rr_iload_n C 2 dX3_takeRoom_30 rfl rfl ?_
        refine cv_X3_144 C dX3_takeRoom_31 (ct_X3_coresIn hM1 hR1 hr (cy_on J k) (cy_on_c hR1 hr hok (by omega))) (Or.inl hM1.obj) (kVr ?_)
        exact k34 _ (by rw [bI_eq0 c22]; rfl)
      · refine rr_iconst C 0 dX3_takeRoom_25 (by decide) ?_
        refine rr_goto C 34 dX3_takeRoom_26 (by decide) ?_
        exact k34 _ (by rw [bI_ne0 c22]; rfl)
  refine rr_iconst C 0 dX3_takeRoom_0 (by decide) ?_
  refine rr_istore_n C 2 dX3_takeRoom_1 rfl (Nat.le_of_ble_eq_true rfl) rfl (Nat.le_of_ble_eq_true rfl) ?_
  exact loop (J 0 4) 0 h M (by omega) hM cy_FrA.rf (fun _ _ _ => rfl) (fun i hi => by omega)
theorem ct_X3_hostFor (hM : cy_Mo G A M st h) (hR : cy_Rl I J M) (hr : cy_Yr G J) {i : Nat} (hi : i < J 0 3) : cy_Con G yX3_hostFor cX3_hostFor 5 (some .int) 0 0 [.ref (A 0), .int (nI i)] h (qV (.int (nI (cy_be (M 28) (M 29) (I 13 i) (I 14 i) (J 0 4)) - 1)) (fun h1 => h1 = h)) xF := by
  have r0 := hr.2.1
  refine cy_in (own := RX3) (lv0 := [some (.ref (A 0)), some (.int (nI i)), none, none, none]) (by decide) rfl rfl rfl (Nat.le_of_ble_eq_true rfl) (fun K T C => ?_)
  have loop : ∀ (d k : Nat) (x4 : Option Value), k + d = J 0 4 → (∀ v, x4 = some v → v.category = 1) → K 0 h 4 [some (.ref (A 0)), some (.int (nI i)), some (.int (nI (cy_be (M 28) (M 29) (I 13 i) (I 14 i) k) - 1)), some (.int (nI k)), x4] [] := by
    intro d
    induction d with
    | zero =>
      intro k x4 hk c4
      have hkn : k = J 0 4 := by omega
      subst hkn
      refine rr_iload_n C 3 dX3_hostFor_4 rfl rfl ?_
      refine rr_aload_n C 0 dX3_hostFor_5 rfl rfl ?_
      refine gf_X3_92 C dX3_hostFor_6 (Or.inl hM.obj) ?_
      rw [hR.nH]
      refine rr_icmp_ge C 86 dX3_hostFor_9 (by decide) (fun _ => ?_) (fun c => absurd (nI_le (Nat.le_refl _) (by omega)) c)
      refine rr_iload_n C 2 dX3_hostFor_86 rfl rfl ?_
      exact rr_ireturn C dX3_hostFor_87 ⟨rfl, rfl⟩
    | succ d ih =>
      intro k x4 hk c4
      obtain ⟨be, hbe⟩ : ∃ be, be = cy_be (M 28) (M 29) (I 13 i) (I 14 i) k := ⟨_, rfl⟩
      have hbl := cy_be_le (M 28) (M 29) (I 13 i) (I 14 i) k
      rw [← hbe] at hbl ⊢
      have hn : ∀ N : Nat, cy_be (M 28) (M 29) (I 13 i) (I 14 i) (k + 1) = N → ∀ x4 : Option Value, (∀ v, x4 = some v → v.category = 1) → K 0 h 79 [some (.ref (A 0)), some (.int (nI i)), some (.int (nI be - 1)), some (.int (nI k)), x4] [.int (nI N - 1)] := by
        intro N hN x4 c4
        subst hN
        refine rr_istore_n C 2 dX3_hostFor_79 rfl (Nat.le_of_ble_eq_true rfl) rfl (Nat.le_of_ble_eq_true rfl) ?_
        refine rr_iinc C (nI (k + 1)) dX3_hostFor_80 rfl (nI_1 k) (Nat.le_of_ble_eq_true rfl) rfl (Nat.le_of_ble_eq_true rfl) ?_
        refine rr_goto C 4 dX3_hostFor_83 (by decide) ?_
        exact ih (k + 1) _ (by omega) c4
      have k47 : ∀ b : Bool, cy_fit (M 28 k) (M 29 k) (I 13 i) (I 14 i) = b → K 0 h 47 [some (.ref (A 0)), some (.int (nI i)), some (.int (nI be - 1)), some (.int (nI k)), x4] [.int (bI b)] := by
        intro b hb
        refine rr_istore C dX3_hostFor_47 (Nat.le_of_ble_eq_true rfl) rfl (Nat.le_of_ble_eq_true rfl) ?_
        refine rr_iload C dX3_hostFor_49 rfl ?_
        refine rr_if_eq C 78 dX3_hostFor_51 (by decide) (fun c51 => ?_) (fun c51 => ?_)
        · have hb' := hb.trans (bI_eq0 c51)
          refine rr_iload_n C 2 dX3_hostFor_78 rfl rfl ?_
          exact hn be ((cy_be_f hb').trans hbe.symm) _ (fun v hv => by cases hv; rfl)
        · have hb' := hb.trans (bI_ne0 c51)
          refine rr_iload_n C 2 dX3_hostFor_54 rfl rfl ?_
          refine rr_iconst C (-1) dX3_hostFor_55 (by decide) ?_
          refine rr_icmp_eq C 74 dX3_hostFor_56 (by decide) (fun c56 => ?_) (fun c56 => ?_)
          · have hb0 := (nI_m1 (by omega)).mp c56
            rw [hb0] at hbe
            refine rr_iload_n C 3 dX3_hostFor_74 rfl rfl ?_
            refine rr_goto C 79 dX3_hostFor_75 (by decide) ?_
            have h9 := hn (k + 1) (cy_be_z hb' hbe.symm) (some (.int (bI b))) (fun v hv => by cases hv; rfl)
            rw [nI_pred] at h9
            exact h9
          · obtain ⟨j, hj⟩ : ∃ j, be = j + 1 := ⟨be - 1, by have := fun z => c56 ((nI_m1 (by omega)).mpr z); have : be ≠ 0 := this; omega⟩
            have h8 := hn
            rw [hj, nI_pred] at h8 ⊢
            rw [hj] at hbe
            refine rr_aload_n C 0 dX3_hostFor_59 rfl rfl ?_
            refine gf_X3_73 C dX3_hostFor_60 (Or.inl hM.obj) ?_
            refine rr_iload_n C 3 dX3_hostFor_63 rfl rfl ?_
            refine rr_iald C k dX3_hostFor_64 (Or.inl (hM.row rfl)) rfl (by omega) (by decide) ?_
            refine rr_aload_n C 0 dX3_hostFor_65 rfl rfl ?_
            refine gf_X3_73 C dX3_hostFor_66 (Or.inl hM.obj) ?_
            refine rr_iload_n C 2 dX3_hostFor_69 rfl rfl ?_
            refine rr_iald C j dX3_hostFor_70 (Or.inl (hM.row rfl)) rfl (by omega) (by decide) ?_
            refine rr_icmp_ge C 78 dX3_hostFor_71 (by decide) (fun c71 => ?_) (fun c71 => ?_)
            · refine rr_iload_n C 2 dX3_hostFor_78 rfl rfl ?_
              have h9 := h8 (j + 1) (by rw [cy_be_s hb' hbe.symm, if_neg (Int32.not_lt.mpr c71)]) (some (.int (bI b))) (fun v hv => by cases hv; rfl)
              rw [nI_pred] at h9
              exact h9
            · refine rr_iload_n C 3 dX3_hostFor_74 rfl rfl ?_
              refine rr_goto C 79 dX3_hostFor_75 (by decide) ?_
              have h9 := h8 (k + 1) (by rw [cy_be_s hb' hbe.symm, if_pos (Int32.not_le.mp c71)]) (some (.int (bI b))) (fun v hv => by cases hv; rfl)
              rw [nI_pred] at h9
              exact h9
      refine rr_iload_n C 3 dX3_hostFor_4 rfl rfl ?_
      refine rr_aload_n C 0 dX3_hostFor_5 rfl rfl ?_
      refine gf_X3_92 C dX3_hostFor_6 (Or.inl hM.obj) ?_
      rw [hR.nH]
      refine rr_icmp_ge C 86 dX3_hostFor_9 (by decide) (fun c => absurd c (nI_ge (by omega) (by omega))) (fun _ => ?_)
      refine rr_aload_n C 0 dX3_hostFor_12 rfl rfl ?_
      refine gf_X3_73 C dX3_hostFor_13 (Or.inl hM.obj) ?_
      refine rr_iload_n C 3 dX3_hostFor_16 rfl rfl ?_
      refine rr_iald C k dX3_hostFor_17 (Or.inl (hM.row rfl)) rfl (by omega) (by decide) ?_
      refine rr_aload_n C 0 dX3_hostFor_18 rfl rfl ?_
      refine gf_X3_48 C dX3_hostFor_19 (Or.inl hM.obj) ?_
      refine rr_iload_n C 1 dX3_hostFor_22 rfl rfl ?_
      refine rr_iald C i dX3_hostFor_23 (Or.inl (hM.row rfl)) rfl (by omega) (by decide) ?_
      rw [hR.nc i hi]
      refine rr_icmp_lt C 46 dX3_hostFor_24 (by decide) (fun c24 => ?_) (fun c24 => ?_)
      · refine rr_iconst C 0 dX3_hostFor_46 (by decide) ?_
        exact k47 false (by rw [cy_fit, decide_eq_true c24]; rfl)
      · refine rr_aload_n C 0 dX3_hostFor_27 rfl rfl ?_
        refine gf_X3_76 C dX3_hostFor_28 (Or.inl hM.obj) ?_
        refine rr_iload_n C 3 dX3_hostFor_31 rfl rfl ?_
        refine rr_iald C k dX3_hostFor_32 (Or.inl (hM.row rfl)) rfl (by omega) (by decide) ?_
        refine rr_aload_n C 0 dX3_hostFor_33 rfl rfl ?_
        refine gf_X3_51 C dX3_hostFor_34 (Or.inl hM.obj) ?_
        refine rr_iload_n C 1 dX3_hostFor_37 rfl rfl ?_
        refine rr_iald C i dX3_hostFor_38 (Or.inl (hM.row rfl)) rfl (by omega) (by decide) ?_
        rw [hR.nm i hi]
        refine rr_icmp_lt C 46 dX3_hostFor_39 (by decide) (fun c39 => ?_) (fun c39 => ?_)
        · refine rr_iconst C 0 dX3_hostFor_46 (by decide) ?_
          exact k47 false (by rw [cy_fit, decide_eq_true c39, Bool.and_comm]; rfl)
        · refine rr_iconst C 1 dX3_hostFor_42 (by decide) ?_
          refine rr_goto C 47 dX3_hostFor_43 (by decide) ?_
          exact k47 true (by rw [cy_fit, decide_eq_false c24, decide_eq_false c39]; rfl)
  refine rr_iconst C (-1) dX3_hostFor_0 (by decide) ?_
  refine rr_istore_n C 2 dX3_hostFor_1 rfl (Nat.le_of_ble_eq_true rfl) rfl (Nat.le_of_ble_eq_true rfl) ?_
  refine rr_iconst C 0 dX3_hostFor_2 (by decide) ?_
  refine rr_istore_n C 3 dX3_hostFor_3 rfl (Nat.le_of_ble_eq_true rfl) rfl (Nat.le_of_ble_eq_true rfl) ?_
  exact loop (J 0 4) 0 none (by omega) (fun v hv => by cases hv)
theorem ct_X3_barWith (hM : cy_Mo G A M st h) (hR : cy_Rl I J M) (hr : cy_Yr G J) {i : Nat} (hi : i < J 0 3) {tak : Int32} : cy_Con G yX3_barWith cX3_barWith 3 (some (.object "Bar")) 1 0 [.ref (A 0), .int (nI i), .int tak] h (qV (.ref (G.2.2.2.2 (cy_bar I J (I 1 1) tak (M 28) (M 29) (J 0 4) i))) (fun h1 => h1 = h)) xF := by
  have r0 := hr.2.1
  have eo : (!decide (cy_lay J (J 12 i) &&& cy_ob (fun k => !decide (I 2 k = 0)) (J 0 0) = 0)) = cy_onw I J i := cy_ob_any _ _ _
  refine cy_in (own := RX3) (lv0 := [some (.ref (A 0)), some (.int (nI i)), some (.int tak)]) (by decide) rfl rfl rfl (Nat.le_of_ble_eq_true rfl) (fun K T C => ?_)
  refine rr_aload_n C 0 dX3_barWith_0 rfl rfl ?_
  refine rr_aload_n C 0 dX3_barWith_1 rfl rfl ?_
  refine gf_X3_45 C dX3_barWith_2 (Or.inl hM.obj) ?_
  refine rr_iload_n C 1 dX3_barWith_5 rfl rfl ?_
  refine rr_iald C i dX3_barWith_6 (Or.inl (hM.row rfl)) rfl (by omega) (by decide) ?_
  rw [hR.img i hi]
  refine cv_X3_105 C dX3_barWith_7 (ct_X3_set hM hR hr (hr.2.2.2 i hi).1) (Or.inl hM.obj) (kVr ?_)
  refine rr_aload_n C 0 dX3_barWith_10 rfl rfl ?_
  refine cv_X3_172 C dX3_barWith_11 (ct_X3_withdrawn hM hR hr) (Or.inl hM.obj) (kVr ?_)
  refine rr_iand C dX3_barWith_14 ?_
  refine rr_if_eq C 22 dX3_barWith_15 (by decide) (fun c15 => ?_) (fun c15 => ?_)
  · rw [decide_eq_true c15] at eo
    refine rr_iload_n C 2 dX3_barWith_22 rfl rfl ?_
    refine rr_aload_n C 0 dX3_barWith_23 rfl rfl ?_
    refine gf_X3_48 C dX3_barWith_24 (Or.inl hM.obj) ?_
    refine rr_iload_n C 1 dX3_barWith_27 rfl rfl ?_
    refine rr_iald C i dX3_barWith_28 (Or.inl (hM.row rfl)) rfl (by omega) (by decide) ?_
    rw [hR.nc i hi]
    refine rr_iadd C dX3_barWith_29 ?_
    refine rr_aload_n C 0 dX3_barWith_30 rfl rfl ?_
    refine gf_X3_38 C dX3_barWith_31 (Or.inl hM.obj) ?_
    rw [hR.lic]
    refine rr_icmp_le C 43 dX3_barWith_34 (by decide) (fun c34 => ?_) (fun c34 => ?_)
    · refine rr_aload_n C 0 dX3_barWith_43 rfl rfl ?_
      refine rr_iload_n C 1 dX3_barWith_44 rfl rfl ?_
      refine cv_X3_184 C dX3_barWith_45 (ct_X3_hostFor hM hR hr hi) (Or.inl hM.obj) (kVr ?_)
      have hbl := cy_be_le (M 28) (M 29) (I 13 i) (I 14 i) (J 0 4)
      refine rr_iconst C (-1) dX3_barWith_48 (by decide) ?_
      refine rr_icmp_ne C 58 dX3_barWith_49 (by decide) (fun c49 => ?_) (fun c49 => ?_)
      · refine gs_X3_190 C dX3_barWith_58 ?_
        exact rr_areturn C dX3_barWith_61 (by first | exact Or.inl ⟨_, rfl⟩ | exact Or.inr ⟨_, rfl⟩) ⟨by rw [cy_bar, if_neg (by rw [← eo]; decide), if_neg (Int32.not_lt.mpr c34), if_neg (fun z => c49 ((nI_m1 (by omega)).mpr z))], rfl⟩
      · refine gs_X3_187 C dX3_barWith_52 ?_
        refine rr_goto C 61 dX3_barWith_55 (by decide) ?_
        exact rr_areturn C dX3_barWith_61 (by first | exact Or.inl ⟨_, rfl⟩ | exact Or.inr ⟨_, rfl⟩) ⟨by rw [cy_bar, if_neg (by rw [← eo]; decide), if_neg (Int32.not_lt.mpr c34), if_pos ((nI_m1 (by omega)).mp c49)], rfl⟩
    · refine gs_X3_181 C dX3_barWith_37 ?_
      refine rr_goto C 61 dX3_barWith_40 (by decide) ?_
      exact rr_areturn C dX3_barWith_61 (by first | exact Or.inl ⟨_, rfl⟩ | exact Or.inr ⟨_, rfl⟩) ⟨by rw [cy_bar, if_neg (by rw [← eo]; decide), if_pos (Int32.not_le.mp c34)], rfl⟩
  · rw [decide_eq_false c15] at eo
    refine gs_X3_175 C dX3_barWith_18 ?_
    exact rr_areturn C dX3_barWith_21 (by first | exact Or.inl ⟨_, rfl⟩ | exact Or.inr ⟨_, rfl⟩) ⟨by rw [cy_bar, if_pos (show cy_onw I J i = true from eo.symm)], rfl⟩
end ROOM
