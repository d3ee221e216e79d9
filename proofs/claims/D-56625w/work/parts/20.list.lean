/-! ArrayList and its iterator -/
set_option maxRecDepth 100000
theorem cy_up_up {h : Hp} {a : Nat} {e e' : va_E} : cy_up (cy_up h a e) a e' = cy_up h a e' := by
  funext b
  unfold cy_up
  split <;> rfl
theorem cy_up_old {h : Hp} {q b : Nat} {x e : va_E} (hq : h q = none) (hb : h b = some e) : cy_up h q x b = some e := by
  rw [cy_up_ne (fun z => by rw [z, hq] at hb; cases hb)]
  exact hb
theorem cy_up_sub {h : Hp} {q : Nat} {x : va_E} (hq : h q = none) : ∀ a e, h a = some e → cy_up h q x a = some e := fun _ _ hb => cy_up_old hq hb
/-- everything known in h is known in h' -/
def cy_le (h h' : Hp) : Prop := ∀ a e, h a = some e → h' a = some e
theorem cy_le.rf {h : Hp} : cy_le h h := fun _ _ q => q
theorem cy_le.tr {h h1 h2 : Hp} (a : cy_le h h1) (b : cy_le h1 h2) : cy_le h h2 := fun x e q => b x e (a x e q)
theorem cy_le.up {h : Hp} {q : Nat} {x : va_E} (hq : h q = none) : cy_le h (cy_up h q x) := cy_up_sub hq
/-- what is given of the constants: the empty elements; RESTS; the digits; the texts "!" and "" and their bytes -/
def cy_G (G : GT) : Prop :=
  (G.2.2.1 (G.2.2.2.2 10) = some (aO G 0 (fun _ => none)) ∧
  ∃ f : Nat → Int32, G.2.2.1 (G.2.2.2.2 9) = some (aI G 5 f) ∧ ∀ i, i < 5 → f i = nI (2 ^ i)) ∧
  (∀ i j : Nat, i < 9 → j < 9 → G.2.2.2.2 i = G.2.2.2.2 j → i = j) ∧ (∀ a, G.2.1 ≤ a → G.2.2.1 a = none)
theorem ct_J14_checkIndex {G : GT} {h : Hp} {k n : Nat} (hk : k < n) (hn : n < 2 ^ 31) : cy_Con G yJ14_checkIndex cJ14_checkIndex 3 (some .int) 0 0 [.int (nI k), .int (nI n), .null] h (qV (.int (nI k)) (fun h1 => h1 = h)) xF := by
  refine cy_in (own := RJ14) (lv0 := [some (.int (nI k)), some (.int (nI n)), some .null]) (by decide) rfl rfl rfl (Nat.le_of_ble_eq_true rfl) (fun K T C => ?_)
  refine rr_iload_n C 0 dJ14_checkIndex_0 rfl rfl ?_
  refine rr_if_lt C 9 dJ14_checkIndex_1 (by decide) (fun c => absurd c (nI_pos (by omega))) (fun c1 => ?_)
  refine rr_iload_n C 0 dJ14_checkIndex_4 rfl rfl ?_
  refine rr_iload_n C 1 dJ14_checkIndex_5 rfl rfl ?_
  refine rr_icmp_lt C 16 dJ14_checkIndex_6 (by decide) (fun c6 => ?_) (fun c6 => absurd (nI_lt hk hn) c6)
  refine rr_iload_n C 0 dJ14_checkIndex_16 rfl rfl ?_
  exact rr_ireturn C dJ14_checkIndex_17 ⟨rfl, rfl⟩
theorem ct_J13_checkIndex {G : GT} {h : Hp} {k n : Nat} (hk : k < n) (hn : n < 2 ^ 31) : cy_Con G yJ13_checkIndex cJ13_checkIndex 2 (some .int) 1 0 [.int (nI k), .int (nI n)] h (qV (.int (nI k)) (fun h1 => h1 = h)) xF := by
  refine cy_in (own := RJ13) (lv0 := [some (.int (nI k)), some (.int (nI n))]) (by decide) rfl rfl rfl (Nat.le_of_ble_eq_true rfl) (fun K T C => ?_)
  refine rr_iload_n C 0 dJ13_checkIndex_0 rfl rfl ?_
  refine rr_iload_n C 1 dJ13_checkIndex_1 rfl rfl ?_
  refine rr_aconst_null C dJ13_checkIndex_2 ?_
  refine cs_J13_105 C dJ13_checkIndex_3 (ct_J14_checkIndex hk hn) (kVr ?_)
  exact rr_ireturn C dJ13_checkIndex_6 ⟨rfl, rfl⟩
theorem ct_J0_init {G : GT} {h : Hp} {a : Nat} : cy_Con G yJ0_init cJ0_init 1 none 1 0 [.ref a] h (qN (fun h1 => h1 = h)) xF := by
  refine cy_in (own := RJ0) (lv0 := [some (.ref a)]) (by decide) rfl rfl rfl (Nat.le_of_ble_eq_true rfl) (fun K T C => ?_)
  refine rr_aload_n C 0 dJ0_init_0 rfl rfl ?_
  refine oi_J0_1 C dJ0_init_1 ?_
  exact rr_return C dJ0_init_4 ⟨rfl, rfl⟩
theorem ct_J1_init {G : GT} {h : Hp} {a : Nat} {mc : Int32} {v1 v2 : Value} (ha : h a = some (.inr (7, [.int mc, v1, v2]))) : cy_Con G yJ1_init cJ1_init 1 none 2 0 [.ref a] h (qN (fun h1 => h1 = cy_up h a (.inr (7, [.int 0, v1, v2])))) xF := by
  refine cy_in (own := RJ1) (lv0 := [some (.ref a)]) (by decide) rfl rfl rfl (Nat.le_of_ble_eq_true rfl) (fun K T C => ?_)
  refine rr_aload_n C 0 dJ1_init_0 rfl rfl ?_
  refine ci_J1_1 C dJ1_init_1 ct_J0_init (kNr ?_)
  refine rr_aload_n C 0 dJ1_init_4 rfl rfl ?_
  refine rr_iconst C 0 dJ1_init_5 (by decide) ?_
  refine pf_J1_7 C dJ1_init_6 ha ?_
  exact rr_return C dJ1_init_9 ⟨rfl, rfl⟩
theorem ct_J2_init {G : GT} {h : Hp} {a : Nat} {mc : Int32} {v1 v2 : Value} (ha : h a = some (.inr (7, [.int mc, v1, v2]))) : cy_Con G yJ2_init cJ2_init 1 none 3 0 [.ref a] h (qN (fun h1 => h1 = cy_up h a (.inr (7, [.int 0, .ref (G.2.2.2.2 10), v2])))) xF := by
  refine cy_in (own := RJ2) (lv0 := [some (.ref a)]) (by decide) rfl rfl rfl (Nat.le_of_ble_eq_true rfl) (fun K T C => ?_)
  refine rr_aload_n C 0 dJ2_init_0 rfl rfl ?_
  refine ci_J2_1 C dJ2_init_1 (ct_J1_init ha) (kN (fun h1 e1 => ?_))
  subst e1
  refine rr_aload_n C 0 dJ2_init_4 rfl rfl ?_
  refine gs_J2_39 C dJ2_init_5 ?_
  refine pf_J2_9 C dJ2_init_8 cy_up_eq rfl rfl ?_
  exact rr_return C dJ2_init_11 ⟨rfl, cy_up_up⟩
theorem ct_J2_size {G : GT} {h : Hp} {a : Nat} {v0 v1 : Value} {n : Int32} (ha : h a = some (.inr (7, [v0, v1, .int n]))) : cy_Con G yJ2_size cJ2_size 1 (some .int) 0 0 [.ref a] h (qV (.int n) (fun h1 => h1 = h)) xF := by
  refine cy_in (own := RJ2) (lv0 := [some (.ref a)]) (by decide) rfl rfl rfl (Nat.le_of_ble_eq_true rfl) (fun K T C => ?_)
  refine rr_aload_n C 0 dJ2_size_0 rfl rfl ?_
  refine gf_J2_48 C dJ2_size_1 (Or.inl ha) ?_
  exact rr_ireturn C dJ2_size_4 ⟨rfl, rfl⟩
theorem ct_J2_elementData {G : GT} {h : Hp} {a ea cap : Nat} {v0 v2 : Value} {f : Nat → Option Nat} {k : Nat} (ha : h a = some (.inr (7, [v0, .ref ea, v2]))) (he : cy_kn G h ea (aO G cap f)) (hk : k < cap) (hc : cap < 2 ^ 31) : cy_Con G yJ2_elementData cJ2_elementData 2 (some (.object "java/lang/Object")) 0 0 [.ref a, .int (nI k)] h (qV (va_rf (f k)) (fun h1 => h1 = h)) xF := by
  refine cy_in (own := RJ2) (lv0 := [some (.ref a), some (.int (nI k))]) (by decide) rfl rfl rfl (Nat.le_of_ble_eq_true rfl) (fun K T C => ?_)
  refine rr_aload_n C 0 dJ2_elementData_0 rfl rfl ?_
  refine gf_J2_9 C dJ2_elementData_1 (Or.inl ha) ?_
  refine rr_iload_n C 1 dJ2_elementData_4 rfl rfl ?_
  refine rr_aald C k dJ2_elementData_5 he rfl hk hc ?_
  exact rr_areturnq C dJ2_elementData_6 (by first | exact Or.inl ⟨_, rfl⟩ | exact Or.inr ⟨_, rfl⟩) ⟨rfl, rfl⟩
theorem ct_J2_get {G : GT} {h : Hp} {a ea cap : Nat} {v0 : Value} {f : Nat → Option Nat} {k n : Nat} (ha : h a = some (.inr (7, [v0, .ref ea, .int (nI n)]))) (he : cy_kn G h ea (aO G cap f)) (hk : k < n) (hn : n ≤ cap) (hc : cap < 2 ^ 31) : cy_Con G yJ2_get cJ2_get 2 (some (.object "java/lang/Object")) 2 0 [.ref a, .int (nI k)] h (qV (va_rf (f k)) (fun h1 => h1 = h)) xF := by
  refine cy_in (own := RJ2) (lv0 := [some (.ref a), some (.int (nI k))]) (by decide) rfl rfl rfl (Nat.le_of_ble_eq_true rfl) (fun K T C => ?_)
  refine rr_iload_n C 1 dJ2_get_0 rfl rfl ?_
  refine rr_aload_n C 0 dJ2_get_1 rfl rfl ?_
  refine gf_J2_48 C dJ2_get_2 (Or.inl ha) ?_
  refine cs_J2_118 C dJ2_get_5 (ct_J13_checkIndex hk (by omega)) (kVr ?_)
  refine rr_pop C dJ2_get_8 rfl ?_
  refine rr_aload_n C 0 dJ2_get_9 rfl rfl ?_
  refine rr_iload_n C 1 dJ2_get_10 rfl rfl ?_
  refine cv_J2_123 C dJ2_get_11 (ct_J2_elementData ha he (by omega) hc) (Or.inl ha) (kVr ?_)
  exact rr_areturnq C dJ2_get_14 (by first | exact Or.inl ⟨_, rfl⟩ | exact Or.inr ⟨_, rfl⟩) ⟨rfl, rfl⟩
/-! the iterator -/
theorem ct_J16_init {G : GT} {h : Hp} {q a : Nat} {v0 v1 v2 v3 w1 w2 : Value} {mc : Int32} (hq : h q = some (.inr (8, [v0, v1, v2, v3]))) (ha : h a = some (.inr (7, [.int mc, w1, w2]))) (hn : a ≠ q) : cy_Con G yJ16_init cJ16_init 2 none 1 0 [.ref q, .ref a] h (qN (fun h1 => h1 = cy_up h q (.inr (8, [v0, .int (-1), .int mc, .ref a])))) xF := by
  refine cy_in (own := RJ16) (lv0 := [some (.ref q), some (.ref a)]) (by decide) rfl rfl rfl (Nat.le_of_ble_eq_true rfl) (fun K T C => ?_)
  refine rr_aload_n C 0 dJ16_init_0 rfl rfl ?_
  refine rr_aload_n C 1 dJ16_init_1 rfl rfl ?_
  refine pf_J16_1 C dJ16_init_2 hq rfl rfl ?_
  refine rr_aload_n C 0 dJ16_init_5 rfl rfl ?_
  refine oi_J16_7 C dJ16_init_6 ?_
  refine rr_aload_n C 0 dJ16_init_9 rfl rfl ?_
  refine rr_iconst C (-1) dJ16_init_10 (by decide) ?_
  refine pf_J16_13 C dJ16_init_11 cy_up_eq ?_
  rw [cy_up_up]
  refine rr_aload_n C 0 dJ16_init_14 rfl rfl ?_
  refine rr_aload_n C 0 dJ16_init_15 rfl rfl ?_
  refine gf_J16_1 C dJ16_init_16 (Or.inl cy_up_eq) ?_
  refine gf_J16_17 C dJ16_init_19 (Or.inl ((cy_up_ne hn).trans ha)) ?_
  refine pf_J16_22 C dJ16_init_22 cy_up_eq ?_
  exact rr_return C dJ16_init_25 ⟨rfl, cy_up_up⟩
theorem ct_J2_iterator {G : GT} {h : Hp} {a : Nat} {w1 w2 : Value} {mc : Int32} (ha : h a = some (.inr (7, [.int mc, w1, w2]))) : cy_Con G yJ2_iterator cJ2_iterator 1 (some (.object "java/util/Iterator")) 2 1 [.ref a] h (qE (fun q => .ref q) (fun q h1 => (h q = none ∧ G.2.1 ≤ q) ∧ h1 = cy_up h q (.inr (8, [.int 0, .int (-1), .int mc, .ref a])))) xF := by
  refine cy_in (own := RJ2) (lv0 := [some (.ref a)]) (by decide) rfl rfl rfl (Nat.le_of_ble_eq_true rfl) (fun K T C => ?_)
  refine nw_J2_267 C dJ2_iterator_0 (fun q hq hz => ?_)
  have hn : a ≠ q := fun z => by rw [z, hq] at ha; cases ha
  refine rr_dup C dJ2_iterator_3 rfl ?_
  refine rr_aload_n C 0 dJ2_iterator_4 rfl rfl ?_
  refine ci_J2_269 C dJ2_iterator_5 (ct_J16_init cy_up_eq ((cy_up_ne hn).trans ha) hn) (kN (fun h1 e1 => ?_))
  subst e1
  rw [cy_up_up]
  exact rr_areturn C dJ2_iterator_8 (by first | exact Or.inl ⟨_, rfl⟩ | exact Or.inr ⟨_, rfl⟩) ⟨q, rfl, ⟨hq, hz⟩, rfl⟩
theorem ct_J16_hasNext {G : GT} {h : Hp} {q a : Nat} {v1 v2 w0 w1 : Value} {k n : Int32} (hq : h q = some (.inr (8, [.int k, v1, v2, .ref a]))) (ha : h a = some (.inr (7, [w0, w1, .int n]))) : cy_Con G yJ16_hasNext cJ16_hasNext 1 (some .boolean) 0 0 [.ref q] h (qV (.int (if k = n then 0 else 1)) (fun h1 => h1 = h)) xF := by
  refine cy_in (own := RJ16) (lv0 := [some (.ref q)]) (by decide) rfl rfl rfl (Nat.le_of_ble_eq_true rfl) (fun K T C => ?_)
  refine rr_aload_n C 0 dJ16_hasNext_0 rfl rfl ?_
  refine gf_J16_25 C dJ16_hasNext_1 (Or.inl hq) ?_
  refine rr_aload_n C 0 dJ16_hasNext_4 rfl rfl ?_
  refine gf_J16_1 C dJ16_hasNext_5 (Or.inl hq) ?_
  refine gf_J16_28 C dJ16_hasNext_8 (Or.inl ha) ?_
  refine rr_icmp_eq C 18 dJ16_hasNext_11 (by decide) (fun c11 => ?_) (fun c11 => ?_)
  · refine rr_iconst C 0 dJ16_hasNext_18 (by decide) ?_
    exact rr_zreturn C dJ16_hasNext_19 rfl ⟨by rw [if_pos c11], rfl⟩
  · refine rr_iconst C 1 dJ16_hasNext_14 (by decide) ?_
    refine rr_goto C 19 dJ16_hasNext_15 (by decide) ?_
    exact rr_zreturn C dJ16_hasNext_19 rfl ⟨by rw [if_neg c11], rfl⟩
theorem ct_J16_check {G : GT} {h : Hp} {q a : Nat} {v0 v1 w1 w2 : Value} {mc : Int32} (hq : h q = some (.inr (8, [v0, v1, .int mc, .ref a]))) (ha : h a = some (.inr (7, [.int mc, w1, w2]))) : cy_Con G yJ16_checkForComodification cJ16_checkForComodification 1 none 0 0 [.ref q] h (qN (fun h1 => h1 = h)) xF := by
  refine cy_in (own := RJ16) (lv0 := [some (.ref q)]) (by decide) rfl rfl rfl (Nat.le_of_ble_eq_true rfl) (fun K T C => ?_)
  refine rr_aload_n C 0 dJ16_checkForComodification_0 rfl rfl ?_
  refine gf_J16_1 C dJ16_checkForComodification_1 (Or.inl hq) ?_
  refine gf_J16_17 C dJ16_checkForComodification_4 (Or.inl ha) ?_
  refine rr_aload_n C 0 dJ16_checkForComodification_7 rfl rfl ?_
  refine gf_J16_22 C dJ16_checkForComodification_8 (Or.inl hq) ?_
  refine rr_icmp_eq C 22 dJ16_checkForComodification_11 (by decide) (fun _ => ?_) (fun c => absurd rfl c)
  exact rr_return C dJ16_checkForComodification_22 ⟨rfl, rfl⟩
theorem ct_J16_next {G : GT} {h : Hp} {q a ea cap k n : Nat} {v1 : Value} {mc : Int32} {f : Nat → Option Nat} (hq : h q = some (.inr (8, [.int (nI k), v1, .int mc, .ref a]))) (ha : h a = some (.inr (7, [.int mc, .ref ea, .int (nI n)]))) (he : cy_kn G h ea (aO G cap f)) (hk : k < n) (hn : n ≤ cap) (hc : cap < 2 ^ 31) : cy_Con G yJ16_next cJ16_next 3 (some (.object "java/lang/Object")) 1 0 [.ref q] h (qV (va_rf (f k)) (fun h1 => h1 = cy_up h q (.inr (8, [.int (nI (k + 1)), .int (nI k), .int mc, .ref a])))) xF := by
  have hne : a ≠ q := fun z => by rw [z, hq] at ha; cases ha
  have hea : cy_kn G (cy_up h q (.inr (8, [.int (nI (k + 1)), .int (nI k), .int mc, .ref a]))) ea (aO G cap f) := by
    rcases he with he | he
    · exact Or.inl ((cy_up_ne (fun z => by rw [z, hq] at he; cases he)).trans he)
    · exact Or.inr he
  refine cy_in (own := RJ16) (lv0 := [some (.ref q), none, none]) (by decide) rfl rfl rfl (Nat.le_of_ble_eq_true rfl) (fun K T C => ?_)
  refine rr_aload_n C 0 dJ16_next_0 rfl rfl ?_
  refine cv_J16_31 C dJ16_next_1 (ct_J16_check hq ha) (Or.inl hq) (kNr ?_)
  refine rr_aload_n C 0 dJ16_next_4 rfl rfl ?_
  refine gf_J16_25 C dJ16_next_5 (Or.inl hq) ?_
  refine rr_istore_n C 1 dJ16_next_8 rfl (Nat.le_of_ble_eq_true rfl) rfl (Nat.le_of_ble_eq_true rfl) ?_
  refine rr_iload_n C 1 dJ16_next_9 rfl rfl ?_
  refine rr_aload_n C 0 dJ16_next_10 rfl rfl ?_
  refine gf_J16_1 C dJ16_next_11 (Or.inl hq) ?_
  refine gf_J16_28 C dJ16_next_14 (Or.inl ha) ?_
  refine rr_icmp_lt C 28 dJ16_next_17 (by decide) (fun _ => ?_) (fun c => absurd (nI_lt hk (by omega)) c)
  refine rr_aload_n C 0 dJ16_next_28 rfl rfl ?_
  refine gf_J16_1 C dJ16_next_29 (Or.inl hq) ?_
  refine gf_J16_37 C dJ16_next_32 (Or.inl ha) ?_
  refine rr_astore_n C 2 dJ16_next_35 rfl (Nat.le_of_ble_eq_true rfl) rfl (Nat.le_of_ble_eq_true rfl) ?_
  refine rr_iload_n C 1 dJ16_next_36 rfl rfl ?_
  refine rr_aload_n C 2 dJ16_next_37 rfl rfl ?_
  refine rr_alen C 4 dJ16_next_38 he rfl ?_
  refine rr_icmp_lt C 50 dJ16_next_39 (by decide) (fun _ => ?_) (fun c => absurd (nI_lt (show k < cap by omega) (by omega)) c)
  refine rr_aload_n C 0 dJ16_next_50 rfl rfl ?_
  refine rr_iload_n C 1 dJ16_next_51 rfl rfl ?_
  refine rr_iconst C 1 dJ16_next_52 (by decide) ?_
  refine rr_iadd C dJ16_next_53 ?_
  rw [nI_1]
  refine pf_J16_25 C dJ16_next_54 hq ?_
  refine rr_aload_n C 2 dJ16_next_57 rfl rfl ?_
  refine rr_aload_n C 0 dJ16_next_58 rfl rfl ?_
  refine rr_iload_n C 1 dJ16_next_59 rfl rfl ?_
  refine rr_dup_x1 C dJ16_next_60 rfl rfl ?_
  refine pf_J16_13 C dJ16_next_61 cy_up_eq ?_
  rw [cy_up_up]
  refine rr_aald C k dJ16_next_64 hea rfl (by omega) hc ?_
  exact rr_areturnq C dJ16_next_65 (by first | exact Or.inl ⟨_, rfl⟩ | exact Or.inr ⟨_, rfl⟩) ⟨rfl, rfl⟩
