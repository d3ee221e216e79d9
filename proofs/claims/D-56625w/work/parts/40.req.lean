/-! CrateYard: what is required; openings; settling -/
set_option maxRecDepth 100000
abbrev qB (b : Bool) (h : Hp) : Option Value → Hp → Prop := fun r h1 => b = true ∧ r = none ∧ h1 = h
abbrev xB (b : Bool) (E0 : String) (h : Hp) : String → Hp → Prop := fun E h1 => b = false ∧ E = E0 ∧ h1 = h
theorem kB {K : KT1} {u pc : Nat} {h : Hp} {lv : LV} {st : List Value} {b : Bool} (k : b = true → K u h pc lv st) : ∀ (r : Option Value) (h1 : Hp), qB b h r h1 → K u h1 pc lv (r.toList ++ st) := by
  intro r h1 hq
  obtain ⟨hb, rfl, rfl⟩ := hq
  exact k hb
theorem xK {T : KT2} {u pc : Nat} {h : Hp} {lv : LV} {st : List Value} {b : Bool} {E0 : String} (k : b = false → T u h pc lv st E0) : ∀ (E : String) (h1 : Hp), xB b E0 h E h1 → T u h1 pc lv st E := by
  intro E h1 hq
  obtain ⟨hb, rfl, rfl⟩ := hq
  exact k hb
theorem vp_nar_bI (b : Bool) : vp_nar .boolean (bI b) = bI b := by cases b <;> rfl
theorem ct_X1_requireState {G : GT} {h : Hp} {b : Bool} : cy_Con G yX1_requireState cX1_requireState 1 none 10 1 [.int (bI b)] h (qB b h) (xB b RJ6 h) := by
  refine cy_in (own := RX1) (lv0 := [some (.int (bI b))]) (by decide) rfl rfl rfl (Nat.le_of_ble_eq_true rfl) (fun K T C => ?_)
  refine rr_iload_n C 0 dX1_requireState_0 rfl rfl ?_
  refine rr_if_ne C 12 dX1_requireState_1 (by decide) (fun c1 => ?_) (fun c1 => ?_)
  · exact rr_return C dX1_requireState_12 ⟨by cases b; exact absurd rfl c1; rfl, rfl, rfl⟩
  · exact th_J6 C dX1_requireState_4 dX1_requireState_7 dX1_requireState_8 dX1_requireState_11 ⟨bI_eq0 c1, rfl, rfl⟩
theorem ct_X1_requireSupported {G : GT} {h : Hp} {b : Bool} : cy_Con G yX1_requireSupported cX1_requireSupported 1 none 10 1 [.int (bI b)] h (qB b h) (xB b RJ15 h) := by
  refine cy_in (own := RX1) (lv0 := [some (.int (bI b))]) (by decide) rfl rfl rfl (Nat.le_of_ble_eq_true rfl) (fun K T C => ?_)
  refine rr_iload_n C 0 dX1_requireSupported_0 rfl rfl ?_
  refine rr_if_ne C 12 dX1_requireSupported_1 (by decide) (fun c1 => ?_) (fun c1 => ?_)
  · exact rr_return C dX1_requireSupported_12 ⟨by cases b; exact absurd rfl c1; rfl, rfl, rfl⟩
  · exact th_J15 C dX1_requireSupported_4 dX1_requireSupported_7 dX1_requireSupported_8 dX1_requireSupported_11 ⟨bI_eq0 c1, rfl, rfl⟩
theorem ct_X1_requireElement {G : GT} {h : Hp} {b : Bool} : cy_Con G yX1_requireElement cX1_requireElement 1 none 10 1 [.int (bI b)] h (qB b h) (xB b RJ17 h) := by
  refine cy_in (own := RX1) (lv0 := [some (.int (bI b))]) (by decide) rfl rfl rfl (Nat.le_of_ble_eq_true rfl) (fun K T C => ?_)
  refine rr_iload_n C 0 dX1_requireElement_0 rfl rfl ?_
  refine rr_if_ne C 12 dX1_requireElement_1 (by decide) (fun c1 => ?_) (fun c1 => ?_)
  · exact rr_return C dX1_requireElement_12 ⟨by cases b; exact absurd rfl c1; rfl, rfl, rfl⟩
  · exact th_J17 C dX1_requireElement_4 dX1_requireElement_7 dX1_requireElement_8 dX1_requireElement_11 ⟨bI_eq0 c1, rfl, rfl⟩
theorem ct_X1_requireSome {G : GT} {h : Hp} {x : Int32} : cy_Con G yX1_requireSome cX1_requireSome 1 none 10 1 [.int x] h (qB (!decide (x = 0)) h) (xB (!decide (x = 0)) RJ24 h) := by
  refine cy_in (own := RX1) (lv0 := [some (.int x)]) (by decide) rfl rfl rfl (Nat.le_of_ble_eq_true rfl) (fun K T C => ?_)
  refine rr_iload_n C 0 dX1_requireSome_0 rfl rfl ?_
  refine rr_if_ne C 12 dX1_requireSome_1 (by decide) (fun c1 => ?_) (fun c1 => ?_)
  · exact rr_return C dX1_requireSome_12 ⟨by simp [c1], rfl, rfl⟩
  · exact th_J24 C dX1_requireSome_4 dX1_requireSome_7 dX1_requireSome_8 dX1_requireSome_11 ⟨by simp [c1], rfl, rfl⟩
/-- a place in range -/
def cy_ix (k : Int32) (n : Nat) : Bool := !decide (k < 0) && decide (k < nI n)
theorem cy_ix_t {k : Int32} {n : Nat} (hn : n < 2 ^ 31) (h : cy_ix k n = true) : ∃ j, j < n ∧ k = nI j := by
  unfold cy_ix at h
  simp only [Bool.and_eq_true, Bool.not_eq_true', decide_eq_false_iff_not, decide_eq_true_eq] at h
  rcases pk_ix k hn with h1 | h1 | h1
  · exact absurd h1 h.1
  · exact absurd h.2 (by rw [Int32.not_lt]; exact h1)
  · exact h1
theorem cy_ix_j {j n : Nat} (hj : j < n) (hn : n < 2 ^ 31) : cy_ix (nI j) n = true := by
  unfold cy_ix
  simp [nI_pos (show j < 2 ^ 31 by omega), nI_lt hj hn]
theorem ct_X1_requireIndex {G : GT} {h : Hp} {k : Int32} {n : Nat} : cy_Con G yX1_requireIndex cX1_requireIndex 2 none 10 1 [.int k, .int (nI n)] h (qB (cy_ix k n) h) (xB (cy_ix k n) RJ10 h) := by
  refine cy_in (own := RX1) (lv0 := [some (.int k), some (.int (nI n))]) (by decide) rfl rfl rfl (Nat.le_of_ble_eq_true rfl) (fun K T C => ?_)
  refine rr_iload_n C 0 dX1_requireIndex_0 rfl rfl ?_
  refine rr_if_lt C 9 dX1_requireIndex_1 (by decide) (fun c1 => ?_) (fun c1 => ?_)
  · exact th_J10 C dX1_requireIndex_9 dX1_requireIndex_12 dX1_requireIndex_13 dX1_requireIndex_16 ⟨by simp [cy_ix, c1], rfl, rfl⟩
  · refine rr_iload_n C 0 dX1_requireIndex_4 rfl rfl ?_
    refine rr_iload_n C 1 dX1_requireIndex_5 rfl rfl ?_
    refine rr_icmp_lt C 17 dX1_requireIndex_6 (by decide) (fun c6 => ?_) (fun c6 => ?_)
    · exact rr_return C dX1_requireIndex_17 ⟨by simp [cy_ix, c1, c6], rfl, rfl⟩
    · exact th_J10 C dX1_requireIndex_9 dX1_requireIndex_12 dX1_requireIndex_13 dX1_requireIndex_16 ⟨by simp [cy_ix, c6], rfl, rfl⟩
/-- from lo to hi -/
def cy_bt (n lo hi : Int32) : Bool := !decide (n < lo) && !decide (hi < n)
theorem ct_X1_isIn {G : GT} {h : Hp} {n lo hi : Int32} : cy_Con G yX1_isIn cX1_isIn 3 (some .boolean) 0 0 [.int n, .int lo, .int hi] h (qV (.int (bI (cy_bt n lo hi))) (fun h1 => h1 = h)) xF := by
  refine cy_in (own := RX1) (lv0 := [some (.int n), some (.int lo), some (.int hi)]) (by decide) rfl rfl rfl (Nat.le_of_ble_eq_true rfl) (fun K T C => ?_)
  refine rr_iload_n C 1 dX1_isIn_0 rfl rfl ?_
  refine rr_iload_n C 0 dX1_isIn_1 rfl rfl ?_
  refine rr_icmp_gt C 14 dX1_isIn_2 (by decide) (fun c2 => ?_) (fun c2 => ?_)
  · refine rr_iconst C 0 dX1_isIn_14 (by decide) ?_
    exact rr_zreturn C dX1_isIn_15 rfl ⟨by simp [cy_bt, c2, bI], rfl⟩
  · refine rr_iload_n C 0 dX1_isIn_5 rfl rfl ?_
    refine rr_iload_n C 2 dX1_isIn_6 rfl rfl ?_
    refine rr_icmp_gt C 14 dX1_isIn_7 (by decide) (fun c7 => ?_) (fun c7 => ?_)
    · refine rr_iconst C 0 dX1_isIn_14 (by decide) ?_
      exact rr_zreturn C dX1_isIn_15 rfl ⟨by simp [cy_bt, c7, bI], rfl⟩
    · refine rr_iconst C 1 dX1_isIn_10 (by decide) ?_
      refine rr_goto C 15 dX1_isIn_11 (by decide) ?_
      exact rr_zreturn C dX1_isIn_15 rfl ⟨by simp [cy_bt, c2, c7, bI], rfl⟩
theorem ct_X1_isTenant {G : GT} {h : Hp} {t : Int32} : cy_Con G yX1_isTenant cX1_isTenant 1 (some .boolean) 1 0 [.int t] h (qV (.int (bI (cy_bt t 0 3))) (fun h1 => h1 = h)) xF := by
  refine cy_in (own := RX1) (lv0 := [some (.int t)]) (by decide) rfl rfl rfl (Nat.le_of_ble_eq_true rfl) (fun K T C => ?_)
  refine rr_iload_n C 0 dX1_isTenant_0 rfl rfl ?_
  refine rr_iconst C 0 dX1_isTenant_1 (by decide) ?_
  refine rr_iconst C 3 dX1_isTenant_2 (by decide) ?_
  refine cs_X1_75 C dX1_isTenant_3 ct_X1_isIn (kVr ?_)
  exact rr_zreturn C dX1_isTenant_6 (by cases cy_bt t 0 3 <;> rfl) ⟨rfl, rfl⟩
def cy_nd (x y c m : Int32) : Bool := cy_bt x 1 c && cy_bt y 1 m
theorem ct_X1_isNeed {G : GT} {h : Hp} {nd : Nat} {x y c m : Int32} (hw : h nd = some (eNeed x y)) : cy_Con G yX1_isNeed cX1_isNeed 3 (some .boolean) 1 0 [.ref nd, .int c, .int m] h (qV (.int (bI (cy_nd x y c m))) (fun h1 => h1 = h)) xF := by
  refine cy_in (own := RX1) (lv0 := [some (.ref nd), some (.int c), some (.int m)]) (by decide) rfl rfl rfl (Nat.le_of_ble_eq_true rfl) (fun K T C => ?_)
  refine rr_aload_n C 0 dX1_isNeed_0 rfl rfl ?_
  refine cv_X1_79 C dX1_isNeed_1 (ct_X7_cores hw) (Or.inl hw) (kVr ?_)
  refine rr_iconst C 1 dX1_isNeed_4 (by decide) ?_
  refine rr_iload_n C 1 dX1_isNeed_5 rfl rfl ?_
  refine cs_X1_75 C dX1_isNeed_6 ct_X1_isIn (kVr ?_)
  refine rr_if_eq C 28 dX1_isNeed_9 (by decide) (fun c9 => ?_) (fun c9 => ?_)
  · refine rr_iconst C 0 dX1_isNeed_28 (by decide) ?_
    exact rr_zreturn C dX1_isNeed_29 rfl ⟨by simp [cy_nd, bI_eq0 c9, bI], rfl⟩
  · refine rr_aload_n C 0 dX1_isNeed_12 rfl rfl ?_
    refine cv_X1_84 C dX1_isNeed_13 (ct_X7_memory hw) (Or.inl hw) (kVr ?_)
    refine rr_iconst C 1 dX1_isNeed_16 (by decide) ?_
    refine rr_iload_n C 2 dX1_isNeed_17 rfl rfl ?_
    refine cs_X1_75 C dX1_isNeed_18 ct_X1_isIn (kVr ?_)
    refine rr_if_eq C 28 dX1_isNeed_21 (by decide) (fun c21 => ?_) (fun c21 => ?_)
    · refine rr_iconst C 0 dX1_isNeed_28 (by decide) ?_
      exact rr_zreturn C dX1_isNeed_29 rfl ⟨by simp [cy_nd, bI_eq0 c21, bI], rfl⟩
    · refine rr_iconst C 1 dX1_isNeed_24 (by decide) ?_
      refine rr_goto C 29 dX1_isNeed_25 (by decide) ?_
      exact rr_zreturn C dX1_isNeed_29 rfl ⟨by simp [cy_nd, bI_ne0 c9, bI_ne0 c21, bI], rfl⟩
/-- all conditions hold, the first n of them -/
def cy_al (p : Nat → Bool) : Nat → Bool
  | 0 => true
  | n + 1 => cy_al p n && p n
theorem cy_al_f (p : Nat → Bool) {k : Nat} (hk : p k = false) : ∀ n, k < n → cy_al p n = false := by
  intro n
  induction n with
  | zero => intro h; omega
  | succ n ih =>
    intro h
    rw [cy_al]
    by_cases hkn : k = n
    · subst hkn; rw [hk]; simp
    · rw [ih (by omega)]; rfl
theorem ct_X1_requireArguments {G : GT} {h : Hp} {a n : Nat} {f : Nat → Int32} (p : Nat → Bool) (ha : h a = some (aZ G n f)) (hn : n < 100) (hf : ∀ k, k < n → f k = bI (p k)) : cy_Con G yX1_requireArguments cX1_requireArguments 5 none 10 1 [.ref a] h (qB (cy_al p n) h) (xB (cy_al p n) RJ18 h) := by
  refine cy_in (own := RX1) (lv0 := [some (.ref a), none, none, none, none]) (by decide) rfl rfl rfl (Nat.le_of_ble_eq_true rfl) (fun K T C => ?_)
  refine rr_aload_n C 0 dX1_requireArguments_0 rfl rfl ?_
  refine rr_astore_n C 1 dX1_requireArguments_1 rfl (Nat.le_of_ble_eq_true rfl) rfl (Nat.le_of_ble_eq_true rfl) ?_
  refine rr_aload_n C 1 dX1_requireArguments_2 rfl rfl ?_
  refine rr_alen C 1 dX1_requireArguments_3 (Or.inl ha) rfl ?_
  refine rr_istore_n C 2 dX1_requireArguments_4 rfl (Nat.le_of_ble_eq_true rfl) rfl (Nat.le_of_ble_eq_true rfl) ?_
  refine rr_iconst C 0 dX1_requireArguments_5 (by decide) ?_
  refine rr_istore_n C 3 dX1_requireArguments_6 rfl (Nat.le_of_ble_eq_true rfl) rfl (Nat.le_of_ble_eq_true rfl) ?_
  have loop : ∀ (d k : Nat) (x4 : Option Value), k + d = n → cy_al p k = true → K 1 h 7 [some (.ref a), some (.ref a), some (.int (nI n)), some (.int (nI k)), x4] [] := by
    intro d
    induction d with
    | zero =>
      intro k x4 hk hal
      have hkn : k = n := by omega
      subst hkn
      refine rr_iload_n C 3 dX1_requireArguments_7 rfl rfl ?_
      refine rr_iload_n C 2 dX1_requireArguments_8 rfl rfl ?_
      refine rr_icmp_ge C 36 dX1_requireArguments_9 (by decide) (fun _ => ?_) (fun c => absurd (nI_le (Nat.le_refl k) (by omega)) c)
      exact rr_return C dX1_requireArguments_36 ⟨hal, rfl, rfl⟩
    | succ d ih =>
      intro k x4 hk hal
      refine rr_iload_n C 3 dX1_requireArguments_7 rfl rfl ?_
      refine rr_iload_n C 2 dX1_requireArguments_8 rfl rfl ?_
      refine rr_icmp_ge C 36 dX1_requireArguments_9 (by decide) (fun c => absurd c (nI_ge (by omega) (by omega))) (fun _ => ?_)
      refine rr_aload_n C 1 dX1_requireArguments_12 rfl rfl ?_
      refine rr_iload_n C 3 dX1_requireArguments_13 rfl rfl ?_
      refine rr_zald C k dX1_requireArguments_14 (Or.inl ha) rfl (by omega) (by omega) ?_
      rw [hf k (by omega)]
      refine rr_istore C dX1_requireArguments_15 (Nat.le_of_ble_eq_true rfl) rfl (Nat.le_of_ble_eq_true rfl) ?_
      refine rr_iload C dX1_requireArguments_17 rfl ?_
      refine rr_if_ne C 30 dX1_requireArguments_19 (by decide) (fun c19 => ?_) (fun c19 => ?_)
      · refine rr_iinc C (nI (k + 1)) dX1_requireArguments_30 rfl (nI_1 k) (Nat.le_of_ble_eq_true rfl) rfl (Nat.le_of_ble_eq_true rfl) ?_
        refine rr_goto C 7 dX1_requireArguments_33 (by decide) ?_
        exact ih (k + 1) _ (by omega) (by rw [cy_al, hal, bI_ne0 c19]; rfl)
      · exact th_J18 C dX1_requireArguments_22 dX1_requireArguments_25 dX1_requireArguments_26 dX1_requireArguments_29 ⟨cy_al_f p (bI_eq0 c19) n (by omega), rfl, rfl⟩
  exact loop n 0 _ (by omega) rfl
section REQ
variable {G : GT} {I : Nat → Nat → Int32} {J : Nat → Nat → Nat} {st : Int64} {h : Hp}
theorem ct_X1_requireLayer (hG : cy_G G) (hY : cy_Y G I J st h) {k : Int32} : cy_Con G yX1_requireLayer cX1_requireLayer 2 (some (.object "CrateYard$Layer")) 11 1 [.ref (J 1 0), .int k] h (qE (fun j => .ref (J 5 j)) (fun j h1 => (j < J 0 0 ∧ k = nI j) ∧ h1 = h)) (xB (cy_ix k (J 0 0)) RJ10 h) := by
  have r0 := hY.2.2.2.1
  have hla := hY.list (i := 0) (by decide)
  refine cy_in (own := RX1) (lv0 := [some (.ref (J 1 0)), some (.int k)]) (by decide) rfl rfl rfl (Nat.le_of_ble_eq_true rfl) (fun K T C => ?_)
  refine rr_iload_n C 1 dX1_requireLayer_0 rfl rfl ?_
  refine rr_aload_n C 0 dX1_requireLayer_1 rfl rfl ?_
  refine gf_X1_28 C dX1_requireLayer_2 (Or.inl hY.yard) ?_
  refine cf_X1_50 C dX1_requireLayer_5 (ct_J2_size hla) (Or.inl hla) (kVr ?_)
  refine csx_X1_56 C dX1_requireLayer_10 ct_X1_requireIndex (xK fun hb => rr_out C ⟨hb, rfl, rfl⟩) (kB fun hb => ?_)
  obtain ⟨j, hj, rfl⟩ := cy_ix_t (by omega) hb
  refine rr_aload_n C 0 dX1_requireLayer_13 rfl rfl ?_
  refine gf_X1_28 C dX1_requireLayer_14 (Or.inl hY.yard) ?_
  refine rr_iload_n C 1 dX1_requireLayer_17 rfl rfl ?_
  refine cf_X1_60 C dX1_requireLayer_18 (ct_J2_get hla (hY.kn hG (by decide)) hj (hY.la (by decide)).1 (by have := hY.cap (i := 0) (by decide); omega)) (Or.inl hla) (kVr ?_)
  rw [hY.el (i := 0) (by decide) hj]
  refine cc_X1_64 C dX1_requireLayer_23 (Or.inl (hY.layer hj)) ?_
  exact rr_areturn C dX1_requireLayer_26 (by first | exact Or.inl ⟨_, rfl⟩ | exact Or.inr ⟨_, rfl⟩) ⟨j, rfl, ⟨hj, rfl⟩, rfl⟩
theorem ct_X1_requireImage (hG : cy_G G) (hY : cy_Y G I J st h) {k : Int32} : cy_Con G yX1_requireImage cX1_requireImage 2 (some (.object "CrateYard$Image")) 11 1 [.ref (J 1 0), .int k] h (qE (fun j => .ref (J 6 j)) (fun j h1 => (j < J 0 1 ∧ k = nI j) ∧ h1 = h)) (xB (cy_ix k (J 0 1)) RJ10 h) := by
  have r0 := hY.2.2.2.1
  have hla := hY.list (i := 1) (by decide)
  refine cy_in (own := RX1) (lv0 := [some (.ref (J 1 0)), some (.int k)]) (by decide) rfl rfl rfl (Nat.le_of_ble_eq_true rfl) (fun K T C => ?_)
  refine rr_iload_n C 1 dX1_requireImage_0 rfl rfl ?_
  refine rr_aload_n C 0 dX1_requireImage_1 rfl rfl ?_
  refine gf_X1_34 C dX1_requireImage_2 (Or.inl hY.yard) ?_
  refine cf_X1_50 C dX1_requireImage_5 (ct_J2_size hla) (Or.inl hla) (kVr ?_)
  refine csx_X1_56 C dX1_requireImage_10 ct_X1_requireIndex (xK fun hb => rr_out C ⟨hb, rfl, rfl⟩) (kB fun hb => ?_)
  obtain ⟨j, hj, rfl⟩ := cy_ix_t (by omega) hb
  refine rr_aload_n C 0 dX1_requireImage_13 rfl rfl ?_
  refine gf_X1_34 C dX1_requireImage_14 (Or.inl hY.yard) ?_
  refine rr_iload_n C 1 dX1_requireImage_17 rfl rfl ?_
  refine cf_X1_60 C dX1_requireImage_18 (ct_J2_get hla (hY.kn hG (by decide)) hj (hY.la (by decide)).1 (by have := hY.cap (i := 1) (by decide); omega)) (Or.inl hla) (kVr ?_)
  rw [hY.el (i := 1) (by decide) hj]
  refine cc_X1_66 C dX1_requireImage_23 (Or.inl (hY.image hj)) ?_
  exact rr_areturn C dX1_requireImage_26 (by first | exact Or.inl ⟨_, rfl⟩ | exact Or.inr ⟨_, rfl⟩) ⟨j, rfl, ⟨hj, rfl⟩, rfl⟩
theorem ct_X1_require (hG : cy_G G) (hY : cy_Y G I J st h) {k : Int32} : cy_Con G yX1_require cX1_require 2 (some (.object "CrateYard$Container")) 11 1 [.ref (J 1 0), .int k] h (qE (fun j => .ref (J 8 j)) (fun j h1 => (j < J 0 3 ∧ k = nI j) ∧ h1 = h)) (xB (cy_ix k (J 0 3)) RJ10 h) := by
  have r0 := hY.2.2.2.1
  have hla := hY.list (i := 3) (by decide)
  refine cy_in (own := RX1) (lv0 := [some (.ref (J 1 0)), some (.int k)]) (by decide) rfl rfl rfl (Nat.le_of_ble_eq_true rfl) (fun K T C => ?_)
  refine rr_iload_n C 1 dX1_require_0 rfl rfl ?_
  refine rr_aload_n C 0 dX1_require_1 rfl rfl ?_
  refine gf_X1_40 C dX1_require_2 (Or.inl hY.yard) ?_
  refine cf_X1_50 C dX1_require_5 (ct_J2_size hla) (Or.inl hla) (kVr ?_)
  refine csx_X1_56 C dX1_require_10 ct_X1_requireIndex (xK fun hb => rr_out C ⟨hb, rfl, rfl⟩) (kB fun hb => ?_)
  obtain ⟨j, hj, rfl⟩ := cy_ix_t (by omega) hb
  refine rr_aload_n C 0 dX1_require_13 rfl rfl ?_
  refine gf_X1_40 C dX1_require_14 (Or.inl hY.yard) ?_
  refine rr_iload_n C 1 dX1_require_17 rfl rfl ?_
  refine cf_X1_60 C dX1_require_18 (ct_J2_get hla (hY.kn hG (by decide)) hj (hY.la (by decide)).1 (by have := hY.cap (i := 3) (by decide); omega)) (Or.inl hla) (kVr ?_)
  rw [hY.el (i := 3) (by decide) hj]
  refine cc_X1_73 C dX1_require_23 (Or.inl (hY.cont hj)) ?_
  exact rr_areturn C dX1_require_26 (by first | exact Or.inl ⟨_, rfl⟩ | exact Or.inr ⟨_, rfl⟩) ⟨j, rfl, ⟨hj, rfl⟩, rfl⟩
theorem ct_X1_requireHost (hG : cy_G G) (hY : cy_Y G I J st h) {k : Int32} : cy_Con G yX1_requireHost cX1_requireHost 2 (some (.object "CrateYard$Host")) 11 1 [.ref (J 1 0), .int k] h (qE (fun j => .ref (J 9 j)) (fun j h1 => (j < J 0 4 ∧ k = nI j) ∧ h1 = h)) (xB (cy_ix k (J 0 4)) RJ10 h) := by
  have r0 := hY.2.2.2.1
  have hla := hY.list (i := 4) (by decide)
  refine cy_in (own := RX1) (lv0 := [some (.ref (J 1 0)), some (.int k)]) (by decide) rfl rfl rfl (Nat.le_of_ble_eq_true rfl) (fun K T C => ?_)
  refine rr_iload_n C 1 dX1_requireHost_0 rfl rfl ?_
  refine rr_aload_n C 0 dX1_requireHost_1 rfl rfl ?_
  refine gf_X1_46 C dX1_requireHost_2 (Or.inl hY.yard) ?_
  refine gf_X1_68 C dX1_requireHost_5 (Or.inl hY.park) ?_
  refine cf_X1_50 C dX1_requireHost_8 (ct_J2_size hla) (Or.inl hla) (kVr ?_)
  refine csx_X1_56 C dX1_requireHost_13 ct_X1_requireIndex (xK fun hb => rr_out C ⟨hb, rfl, rfl⟩) (kB fun hb => ?_)
  obtain ⟨j, hj, rfl⟩ := cy_ix_t (by omega) hb
  refine rr_aload_n C 0 dX1_requireHost_16 rfl rfl ?_
  refine gf_X1_46 C dX1_requireHost_17 (Or.inl hY.yard) ?_
  refine gf_X1_68 C dX1_requireHost_20 (Or.inl hY.park) ?_
  refine rr_iload_n C 1 dX1_requireHost_23 rfl rfl ?_
  refine cf_X1_60 C dX1_requireHost_24 (ct_J2_get hla (hY.kn hG (by decide)) hj (hY.la (by decide)).1 (by have := hY.cap (i := 4) (by decide); omega)) (Or.inl hla) (kVr ?_)
  rw [hY.el (i := 4) (by decide) hj]
  refine cc_X1_71 C dX1_requireHost_29 (Or.inl (hY.host hj)) ?_
  exact rr_areturn C dX1_requireHost_32 (by first | exact Or.inl ⟨_, rfl⟩ | exact Or.inr ⟨_, rfl⟩) ⟨j, rfl, ⟨hj, rfl⟩, rfl⟩
/-- somebody's window is open -/
def cy_hop (I : Nat → Nat → Int32) (J : Nat → Nat → Nat) (t hr : Int32) : Bool := cy_any (fun k => cy_opn (I 8 k) (I 9 k) (I 11 k) t hr) (J 0 2)
theorem ct_X1_hasOpen (hG : cy_G G) (hY : cy_Y G I J st h) {t hr : Int32} : cy_Con G yX1_hasOpen cX1_hasOpen 6 (some .boolean) 3 1 [.ref (J 1 0), .int t, .int hr] h (qV (.int (bI (cy_hop I J t hr))) (fun h1 => h1 = h)) xF := by
  have r0 := hY.2.2.2.1
  have hla := hY.list (i := 2) (by decide)
  have hcap := hY.cap (i := 2) (by decide)
  have hnc := (hY.2.2.1 2 (by decide)).1
  refine cy_in (own := RX1) (lv0 := [some (.ref (J 1 0)), some (.int t), some (.int hr), none, none, none]) (by decide) rfl rfl rfl (Nat.le_of_ble_eq_true rfl) (fun K T C => ?_)
  refine rr_iconst C 0 dX1_hasOpen_0 (by decide) ?_
  refine rr_istore_n C 3 dX1_hasOpen_1 rfl (Nat.le_of_ble_eq_true rfl) rfl (Nat.le_of_ble_eq_true rfl) ?_
  refine rr_aload_n C 0 dX1_hasOpen_2 rfl rfl ?_
  refine gf_X1_37 C dX1_hasOpen_3 (Or.inl hY.yard) ?_
  refine cf_X1_122 C dX1_hasOpen_6 (ct_J2_iterator hla) (Or.inl hla) (kE (fun q h1 e1 => ?_))
  obtain ⟨⟨hq, hz⟩, rfl⟩ := e1
  refine rr_astore C dX1_hasOpen_11 (Nat.le_of_ble_eq_true rfl) rfl (Nat.le_of_ble_eq_true rfl) ?_
  have loop : ∀ (d k : Nat) (lr : Value) (x5 : Option Value), k + d = J 0 2 → K 0 (cy_up h q (.inr (8, [.int (nI k), lr, .int (I 0 2), .ref (J 2 2)]))) 13 [some (.ref (J 1 0)), some (.int t), some (.int hr), some (.int (bI (cy_any (fun k => cy_opn (I 8 k) (I 9 k) (I 11 k) t hr) k))), some (.ref q), x5] [] := by
    intro d
    induction d with
    | zero =>
      intro k lr x5 hk
      have hkn : k = J 0 2 := by omega
      subst hkn
      refine rr_aload C dX1_hasOpen_13 rfl ?_
      refine cf_X1_126 C dX1_hasOpen_15 (ct_hn0 cy_up_eq (cy_up_old hq hla)) (Or.inl cy_up_eq) (kVr ?_)
      refine rr_if_eq C 48 dX1_hasOpen_20 (by decide) (fun _ => ?_) (fun c => absurd rfl c)
      refine rr_forget C (cy_up_sub hq) ?_
      refine rr_iload_n C 3 dX1_hasOpen_48 rfl rfl ?_
      exact rr_zreturn C dX1_hasOpen_49 (by cases cy_any _ _ <;> rfl) ⟨rfl, rfl⟩
    | succ d ih =>
      intro k lr x5 hk
      have hkl := hY.opn (i := k) (by omega)
      have hkw := hY.win (i := k) (by omega)
      refine rr_aload C dX1_hasOpen_13 rfl ?_
      refine cf_X1_126 C dX1_hasOpen_15 (ct_hn1 cy_up_eq (cy_up_old hq hla) (n := J 0 2) (by omega) (by omega)) (Or.inl cy_up_eq) (kVr ?_)
      refine rr_if_eq C 48 dX1_hasOpen_20 (by decide) (fun c => absurd c (by decide)) (fun _ => ?_)
      refine rr_aload C dX1_hasOpen_23 rfl ?_
      refine cf_X1_132 C dX1_hasOpen_25 (ct_nx cy_up_eq (cy_up_old hq hla) ((hY.kn hG (by decide)).up hq) (by omega) hnc hcap (hY.el (i := 2) (by decide) (by omega))) (Or.inl cy_up_eq) (kV (fun h1 e1 => ?_))
      subst e1
      rw [cy_up_up]
      refine cc_X1_195 C dX1_hasOpen_30 (Or.inl (cy_up_old hq hkl)) ?_
      refine rr_astore C dX1_hasOpen_33 (Nat.le_of_ble_eq_true rfl) rfl (Nat.le_of_ble_eq_true rfl) ?_
      refine rr_iload_n C 3 dX1_hasOpen_35 rfl rfl ?_
      refine rr_aload C dX1_hasOpen_36 rfl ?_
      refine rr_iload_n C 1 dX1_hasOpen_38 rfl rfl ?_
      refine rr_iload_n C 2 dX1_hasOpen_39 rfl rfl ?_
      refine cv_X1_231 C dX1_hasOpen_40 (ct_X11_isOpen (cy_up_old hq hkl) (cy_up_old hq hkw)) (Or.inl (cy_up_old hq hkl)) (kVr ?_)
      refine rr_ior C dX1_hasOpen_43 ?_
      rw [bI_or]
      refine rr_istore_n C 3 dX1_hasOpen_44 rfl (Nat.le_of_ble_eq_true rfl) rfl (Nat.le_of_ble_eq_true rfl) ?_
      refine rr_goto C 13 dX1_hasOpen_45 (by decide) ?_
      exact ih (k + 1) _ _ (by omega)
  refine rr_less C (u' := 0) (Nat.zero_le _) ?_
  exact loop (J 0 2) 0 _ _ (by omega)
/-- a container leaves its state ahead of starting -/
def cy_go (I : Nat → Nat → Int32) (J : Nat → Nat → Nat) (i : Nat) : Bool := (decide (J 13 i = 2) && decide (I 18 i = I 1 0)) || (decide (J 13 i = 1) && (cy_ono I J i || (cy_stale I J i && cy_hop I J (I 12 i) (I 1 0))))
def seI (I : Nat → Nat → Int32) (J : Nat → Nat → Nat) (i : Nat) : Nat → Nat → Int32 := if cy_go I J i then bcI I J i else I
def seJ (I : Nat → Nat → Int32) (J : Nat → Nat → Nat) (i : Nat) : Nat → Nat → Nat := if cy_go I J i then bcJ J i 0 else J
theorem ct_X1_settle (hG : cy_G G) (hY : cy_Y G I J st h) {i : Nat} (hi : i < J 0 3) (hr : J 13 i = 1 → J 14 i ≠ 0) : cy_Con G yX1_settle cX1_settle 4 none 18 2 [.ref (J 1 0), .ref (J 8 i)] h (qN (fun h1 => cy_Y G (seI I J i) (seJ I J i) st h1 ∧ cy_Fr h h1)) xF := by
  have hc := hY.cont hi
  refine cy_in (own := RX1) (lv0 := [some (.ref (J 1 0)), some (.ref (J 8 i)), none, none]) (by decide) rfl rfl rfl (Nat.le_of_ble_eq_true rfl) (fun K T C => ?_)
  -- the end: both flags known
  have fin : ∀ (u : Nat) (b3 : Bool), (cy_go I J i = b3) → K u h 76 [some (.ref (J 1 0)), some (.ref (J 8 i)), some (.int 0), some (.int (bI b3))] [] := by
    intro u b3 hb
    refine rr_iload_n C 3 dX1_settle_76 rfl rfl ?_
    refine rr_if_eq C 87 dX1_settle_77 (by decide) (fun c77 => ?_) (fun c77 => ?_)
    · have hg : cy_go I J i = false := hb.trans (bI_eq0 c77)
      exact rr_return C dX1_settle_87 ⟨rfl, by rw [seI, seJ, hg]; exact hY, cy_Fr.rf⟩
    · have hg : cy_go I J i = true := hb.trans (bI_ne0 c77)
      refine rr_aload_n C 1 dX1_settle_80 rfl rfl ?_
      refine gs_X1_208 C dX1_settle_81 ?_
      refine cv_X1_211 C dX1_settle_84 (ct_X12_become hG hY hi hr (t := 0) (by decide)) (Or.inl hc) (kN (fun h1 e1 => ?_))
      exact rr_return C dX1_settle_87 ⟨rfl, by rw [seI, seJ, hg]; exact e1.1, e1.2⟩
  have fin1 : ∀ (u : Nat) (x3 : Option Value), (cy_go I J i = true) → K u h 72 [some (.ref (J 1 0)), some (.ref (J 8 i)), some (.int 1), x3] [] := by
    intro u x3 hg
    refine rr_iload_n C 2 dX1_settle_72 rfl rfl ?_
    refine rr_if_ne C 80 dX1_settle_73 (by decide) (fun _ => ?_) (fun c => absurd c (by decide))
    refine rr_aload_n C 1 dX1_settle_80 rfl rfl ?_
    refine gs_X1_208 C dX1_settle_81 ?_
    refine cv_X1_211 C dX1_settle_84 (ct_X12_become hG hY hi hr (t := 0) (by decide)) (Or.inl hc) (kN (fun h1 e1 => ?_))
    exact rr_return C dX1_settle_87 ⟨rfl, by rw [seI, seJ, hg]; exact e1.1, e1.2⟩
  have mid : ∀ (d : Bool) (x2 x3 : Option Value), (decide (J 13 i = 2) && decide (I 18 i = I 1 0)) = d → K 2 h 26 [some (.ref (J 1 0)), some (.ref (J 8 i)), x2, x3] [.int (bI d)] := by
    intro d x2 x3 hd
    have tail : ∀ (u : Nat) (b3 : Bool), ((decide (J 13 i = 1) && (cy_ono I J i || (cy_stale I J i && cy_hop I J (I 12 i) (I 1 0)))) = b3) → K u h 71 [some (.ref (J 1 0)), some (.ref (J 8 i)), some (.int (bI d)), x3] [.int (bI b3)] := by
      intro u b3 hb
      have hgo : cy_go I J i = (d || b3) := by rw [cy_go, hd, hb]
      refine rr_istore_n C 3 dX1_settle_71 rfl (Nat.le_of_ble_eq_true rfl) rfl (Nat.le_of_ble_eq_true rfl) ?_
      cases d with
      | true => exact fin1 _ _ (by rw [hgo]; rfl)
      | false =>
        refine rr_iload_n C 2 dX1_settle_72 rfl rfl ?_
        refine rr_if_ne C 80 dX1_settle_73 (by decide) (fun c => absurd rfl c) (fun _ => ?_)
        exact fin _ _ (by rw [hgo]; rfl)
    refine rr_istore_n C 2 dX1_settle_26 rfl (Nat.le_of_ble_eq_true rfl) rfl (Nat.le_of_ble_eq_true rfl) ?_
    refine rr_aload_n C 1 dX1_settle_27 rfl rfl ?_
    refine gs_X1_161 C dX1_settle_28 ?_
    refine cv_X1_167 C dX1_settle_31 (ct_X12_is hG hY hi (t := 1) (by decide)) (Or.inl hc) (kVr ?_)
    refine rr_if_eq C 70 dX1_settle_34 (by decide) (fun c34 => ?_) (fun c34 => ?_)
    · refine rr_iconst C 0 dX1_settle_70 (by decide) ?_
      exact tail _ false (by rw [bI_eq0 c34]; rfl)
    · have hrun := bI_ne0 c34
      refine rr_aload_n C 1 dX1_settle_37 rfl rfl ?_
      refine cv_X1_241 C dX1_settle_38 (ct_X12_isOnOut hG hY hi) (Or.inl hc) (kVr ?_)
      refine rr_if_ne C 66 dX1_settle_41 (by decide) (fun c41 => ?_) (fun c41 => ?_)
      · refine rr_iconst C 1 dX1_settle_66 (by decide) ?_
        refine rr_goto C 71 dX1_settle_67 (by decide) ?_
        exact tail _ true (by rw [hrun, bI_ne0 c41]; rfl)
      · refine rr_aload_n C 1 dX1_settle_44 rfl rfl ?_
        refine cv_X1_148 C dX1_settle_45 (ct_X12_isStale hG hY hi) (Or.inl hc) (kVr ?_)
        refine rr_if_eq C 70 dX1_settle_48 (by decide) (fun c48 => ?_) (fun c48 => ?_)
        · refine rr_iconst C 0 dX1_settle_70 (by decide) ?_
          exact tail _ false (by rw [hrun, bI_eq0 c41, bI_eq0 c48]; rfl)
        · refine rr_aload_n C 0 dX1_settle_51 rfl rfl ?_
          refine rr_aload_n C 1 dX1_settle_52 rfl rfl ?_
          refine gf_X1_244 C dX1_settle_53 (Or.inl hc) ?_
          refine rr_aload_n C 0 dX1_settle_56 rfl rfl ?_
          refine gf_X1_155 C dX1_settle_57 (Or.inl hY.yard) ?_
          refine cv_X1_245 C dX1_settle_60 (ct_X1_hasOpen hG hY) (Or.inl hY.yard) (kVr ?_)
          refine rr_if_eq C 70 dX1_settle_63 (by decide) (fun c63 => ?_) (fun c63 => ?_)
          · refine rr_iconst C 0 dX1_settle_70 (by decide) ?_
            exact tail _ false (by rw [hrun, bI_eq0 c41, bI_ne0 c48, bI_eq0 c63]; rfl)
          · refine rr_iconst C 1 dX1_settle_66 (by decide) ?_
            refine rr_goto C 71 dX1_settle_67 (by decide) ?_
            exact tail _ true (by rw [hrun, bI_eq0 c41, bI_ne0 c48, bI_ne0 c63]; rfl)
  refine rr_aload_n C 1 dX1_settle_0 rfl rfl ?_
  refine gs_X1_235 C dX1_settle_1 ?_
  refine cv_X1_167 C dX1_settle_4 (ct_X12_is hG hY hi (t := 2) (by decide)) (Or.inl hc) (kVr ?_)
  refine rr_if_eq C 25 dX1_settle_7 (by decide) (fun c7 => ?_) (fun c7 => ?_)
  · refine rr_iconst C 0 dX1_settle_25 (by decide) ?_
    exact mid false _ _ (by rw [bI_eq0 c7]; rfl)
  · refine rr_aload_n C 1 dX1_settle_10 rfl rfl ?_
    refine gf_X1_238 C dX1_settle_11 (Or.inl hc) ?_
    refine rr_aload_n C 0 dX1_settle_14 rfl rfl ?_
    refine gf_X1_155 C dX1_settle_15 (Or.inl hY.yard) ?_
    refine rr_icmp_ne C 25 dX1_settle_18 (by decide) (fun c18 => ?_) (fun c18 => ?_)
    · refine rr_iconst C 0 dX1_settle_25 (by decide) ?_
      exact mid false _ _ (by rw [bI_ne0 c7, decide_eq_false c18]; rfl)
    · refine rr_iconst C 1 dX1_settle_21 (by decide) ?_
      refine rr_goto C 26 dX1_settle_22 (by decide) ?_
      exact mid true _ _ (by rw [bI_ne0 c7, decide_eq_true c18]; rfl)
end REQ
