/-! ArrayList.add -/
set_option maxRecDepth 100000
section KGC
variable {G : GT} {own : String} {cc : ByteArray} {nL : Nat} {rt : Option FieldType} {L U : Nat} {ini : Bool} {tb : List ExceptionTableEntry} {Fn : List Frame → Array Value → State → State → Prop} {K : KT1} {T : KT2}
variable {u : Nat} {h : Hp} {pc : Nat} {lv : LV} {st : List Value}
/-- getClass() of an Object[]; its class constant -/
theorem rr_getC (C : cy_M G own cc nL rt L U ini tb Fn K T) {a n index : Nat} {f : Nat → Option Nat} (hlink : Cond.methodLink own index ⟨"java/lang/Object", "getClass", "()Ljava/lang/Class;"⟩ ∈ lw_all) (hd : decode cc pc = .ok (.invokevirtual index, 3)) (he : cy_kn G h a (aO G n f)) (hL : 1 ≤ L) (hcat : (st.map fun v => v.category).sum ≤ 8) (kk : K u h (pc + 3) lv (.ref (G.2.2.2.2 15) :: st)) : K u h pc lv (.ref a :: st) := by
  obtain ⟨p, l, e, R, s, m, args, below, meth, c, ⟨hx, hb, hml, hr, hlk, ho, hst, hin0⟩, ⟨hw, hE, htb, hLf, hLl, hUc, hUs⟩, rfl, rfl⟩ := C
  intro H locs cells slots ls hR hS hc0 hs0 hl
  have hat : H[a]? = some (vp_cell (G.2.2.2.1 4) (n, .inr (.inr (.inr (.inr f))))) := cy_known hE hR hS he
  obtain ⟨_, _, _, _, _, e1⟩ := (hE.1.2 4 _ rfl).2
  exact va_getC (C := "[Ljava/lang/Object;") hx hb (hml.trans hl.1.symm) ho (hw _ hlink) (va_Nw.use rfl (hE.2.1 _ q1791 rfl)) (hw _ q1790) (hw _ q369) (hw _ q395) hE.2.2.2.2.2.2.2.2.1 ⟨_, hat, rfl, e1⟩ (by omega) (by omega) hd (kk H locs cells slots ls hR hS hc0 hs0 hl)
theorem rr_ldcM (C : cy_M G own cc nL rt L U ini tb Fn K T) {index : Nat} (hlink : Cond.classLink own index "[Ljava/lang/Object;" ∈ lw_all) (hd : decode cc pc = .ok (.ldc index, 2)) (kk : K u h (pc + 2) lv (.ref (G.2.2.2.2 15) :: st)) : K u h pc lv st := by
  obtain ⟨p, l, e, R, s, m, args, below, meth, c, ⟨hx, hb, hml, hr, hlk, ho, hst, hin0⟩, ⟨hw, hE, htb, hLf, hLl, hUc, hUs⟩, rfl, rfl⟩ := C
  intro H locs cells slots ls hR hS hc0 hs0 hl
  exact va_ldcM hx hb ho (hw _ hlink) hE.2.2.2.2.2.2.2.2.1 hd (kk H locs cells slots ls hR hS hc0 hs0 hl)
end KGC
def cy_ar (n : Nat) (ad : Nat → Nat) : Nat → Option Nat := fun j => if j < n then some (ad j) else none
theorem cy_ar_cpy {n N : Nat} {ad : Nat → Nat} (h : n ≤ N) : va_cpy (cy_ar n ad) (fun _ => none) 0 0 N = cy_ar n ad := by
  funext j
  by_cases hj : j < N
  · rw [pk_cpy_in (by omega) (by omega)]
    simp
  · rw [pk_cpy_out (by omega)]
    unfold cy_ar
    rw [if_neg (by omega)]
theorem cy_ar_up {n v : Nat} {ad : Nat → Nat} : va_up (cy_ar n ad) n (some v) = cy_ar (n + 1) (va_up ad n v) := by
  funext j
  unfold va_up cy_ar
  by_cases h1 : j = n
  · subst h1; simp
  · by_cases h2 : j < n
    · simp [h1, h2, show j < n + 1 by omega]
    · simp [h1, h2, show ¬ j < n + 1 by omega]
theorem cy_ar_0 {ad : Nat → Nat} : cy_ar 0 ad = fun _ => none := rfl
theorem ct_J7_newLength {G : GT} {h : Hp} : cy_Con G yJ7_newLength cJ7_newLength 4 (some .int) 1 0 [.int (nI 10), .int 1, .int 5] h (qV (.int 15) (fun h1 => h1 = h)) xF := by
  refine cy_in (own := RJ7) (lv0 := [some (.int (nI 10)), some (.int 1), some (.int 5), none]) (by decide) rfl rfl rfl (Nat.le_of_ble_eq_true rfl) (fun K T C => ?_)
  refine rr_iload_n C 0 dJ7_newLength_0 rfl rfl ?_
  refine rr_iload_n C 1 dJ7_newLength_1 rfl rfl ?_
  refine rr_iload_n C 2 dJ7_newLength_2 rfl rfl ?_
  refine mm_J7_194 C dJ7_newLength_3 ?_
  refine rr_iadd C dJ7_newLength_6 ?_
  refine rr_istore_n C 3 dJ7_newLength_7 rfl (Nat.le_of_ble_eq_true rfl) rfl (Nat.le_of_ble_eq_true rfl) ?_
  refine rr_iconst C 0 dJ7_newLength_8 (by decide) ?_
  refine rr_iload_n C 3 dJ7_newLength_9 rfl rfl ?_
  refine rr_icmp_ge C 21 dJ7_newLength_10 (by decide) (fun c => absurd c (by decide)) (fun _ => ?_)
  refine rr_iload_n C 3 dJ7_newLength_13 rfl rfl ?_
  refine ld_J7_200 C dJ7_newLength_14 ?_
  refine rr_icmp_gt C 21 dJ7_newLength_16 (by decide) (fun c => absurd c (by decide)) (fun _ => ?_)
  refine rr_iload_n C 3 dJ7_newLength_19 rfl rfl ?_
  exact rr_ireturn C dJ7_newLength_20 ⟨rfl, rfl⟩
theorem ct_J9_copyOf_2 {G : GT} {h : Hp} {a n ci : Nat} {ad : Nat → Nat} {r : vw_C} (ha : h a = some (aO G 10 (cy_ar n ad))) (hn : n ≤ 10) (hcl : cy_cl[ci]? = some r) (hca : Cond.castable r.1 "java/lang/Object" ∈ lw_tbl) (hel : ∀ i, i < n → ∃ fs, h (ad i) = some (.inr (ci, fs))) : cy_Con G yJ9_copyOf_2 cJ9_copyOf_2 4 (some (.array (.object "java/lang/Object"))) 1 2 [.ref a, .int 15, .ref (G.2.2.2.2 15)] h (qE (fun q => .ref q) (fun q h1 => (h q = none ∧ G.2.1 ≤ q) ∧ h1 = cy_up h q (aO G 15 (cy_ar n ad)))) xF := by
  refine cy_in (own := RJ9) (lv0 := [some (.ref a), some (.int 15), some (.ref (G.2.2.2.2 15)), none]) (by decide) rfl rfl rfl (Nat.le_of_ble_eq_true rfl) (fun K T C => ?_)
  refine rr_aload_n C 2 dJ9_copyOf_2_0 rfl rfl ?_
  refine rr_ldcM C q399 dJ9_copyOf_2_1 ?_
  refine rr_acmp_ne C (some _) (some _) 13 dJ9_copyOf_2_3 (by decide) rfl rfl (fun c => absurd rfl c) (fun _ => ?_)
  refine rr_iload_n C 1 dJ9_copyOf_2_6 rfl rfl ?_
  refine na_J9_2 C 15 2 dJ9_copyOf_2_7 rfl (by decide) (by decide) (by decide) (fun q hq hz => ?_)
  refine rr_goto C 24 dJ9_copyOf_2_10 (by decide) ?_
  refine rr_astore_n C 3 dJ9_copyOf_2_24 rfl (Nat.le_of_ble_eq_true rfl) rfl (Nat.le_of_ble_eq_true rfl) ?_
  refine rr_aload_n C 0 dJ9_copyOf_2_25 rfl rfl ?_
  refine rr_iconst C 0 dJ9_copyOf_2_26 (by decide) ?_
  refine rr_aload_n C 3 dJ9_copyOf_2_27 rfl rfl ?_
  refine rr_iconst C 0 dJ9_copyOf_2_28 (by decide) ?_
  refine rr_aload_n C 0 dJ9_copyOf_2_29 rfl rfl ?_
  refine rr_alen C 4 dJ9_copyOf_2_30 (Or.inl (cy_up_old hq ha)) rfl ?_
  refine rr_iload_n C 1 dJ9_copyOf_2_31 rfl rfl ?_
  refine mm_J9_304 C dJ9_copyOf_2_32 ?_
  refine rr_copyq C (sp := 0) (dp := 0) (n := 10) q405 dJ9_copyOf_2_35 (cy_up_old hq ha) cy_up_eq rfl rfl rfl (by decide) (by decide) (by decide) (by decide) hcl hca (fun i hi y hy => ?_) (by decide) (Nat.le_of_ble_eq_true rfl) ?_
  · rw [Nat.zero_add] at hy
    unfold cy_ar at hy
    split at hy
    · rename_i hin
      cases hy
      obtain ⟨fs, hfs⟩ := hel i hin
      exact ⟨fs, cy_up_old hq hfs⟩
    · cases hy
  rw [cy_up_up, cy_ar_cpy hn]
  refine rr_aload_n C 3 dJ9_copyOf_2_38 rfl rfl ?_
  exact rr_areturn C dJ9_copyOf_2_39 (by first | exact Or.inl ⟨_, rfl⟩ | exact Or.inr ⟨_, rfl⟩) ⟨q, rfl, ⟨hq, hz⟩, rfl⟩
theorem ct_J9_copyOf {G : GT} {h : Hp} {a n ci : Nat} {ad : Nat → Nat} {r : vw_C} (ha : h a = some (aO G 10 (cy_ar n ad))) (hn : n ≤ 10) (hcl : cy_cl[ci]? = some r) (hca : Cond.castable r.1 "java/lang/Object" ∈ lw_tbl) (hel : ∀ i, i < n → ∃ fs, h (ad i) = some (.inr (ci, fs))) : cy_Con G yJ9_copyOf cJ9_copyOf 2 (some (.array (.object "java/lang/Object"))) 2 2 [.ref a, .int 15] h (qE (fun q => .ref q) (fun q h1 => (h q = none ∧ G.2.1 ≤ q) ∧ h1 = cy_up h q (aO G 15 (cy_ar n ad)))) xF := by
  refine cy_in (own := RJ9) (lv0 := [some (.ref a), some (.int 15)]) (by decide) rfl rfl rfl (Nat.le_of_ble_eq_true rfl) (fun K T C => ?_)
  refine rr_aload_n C 0 dJ9_copyOf_0 rfl rfl ?_
  refine rr_iload_n C 1 dJ9_copyOf_1 rfl rfl ?_
  refine rr_aload_n C 0 dJ9_copyOf_2 rfl rfl ?_
  refine rr_getC C q368 dJ9_copyOf_3 (Or.inl ha) (by decide) (Nat.le_of_ble_eq_true rfl) ?_
  refine cs_J9_300 C dJ9_copyOf_6 (ct_J9_copyOf_2 ha hn hcl hca hel) (kE (fun q h1 e1 => ?_))
  exact rr_areturn C dJ9_copyOf_9 (by first | exact Or.inl ⟨_, rfl⟩ | exact Or.inr ⟨_, rfl⟩) ⟨q, rfl, e1⟩
/-- how a list grows: from nothing to 10, from 10 to 15 -/
def cy_gr (G : GT) (h : Hp) (n cap ea : Nat) (ad : Nat → Nat) (ci cap' : Nat) : Prop := (n = 0 ∧ cap = 0 ∧ ea = G.2.2.2.2 10 ∧ cap' = 10) ∨ (n = 10 ∧ cap = 10 ∧ h ea = some (aO G 10 (cy_ar n ad)) ∧ cap' = 15 ∧ ∀ i, i < n → ∃ fs, h (ad i) = some (.inr (ci, fs)))
theorem ct_J2_grow_2 {G : GT} {h : Hp} (hG : cy_G G) {a n cap ea ci cap' : Nat} {ad : Nat → Nat} {mc : Int32} {r : vw_C} (ha : h a = some (.inr (7, [.int mc, .ref ea, .int (nI n)]))) (hg : cy_gr G h n cap ea ad ci cap') (hcl : cy_cl[ci]? = some r) (hca : Cond.castable r.1 "java/lang/Object" ∈ lw_tbl) : cy_Con G yJ2_grow_2 cJ2_grow_2 4 (some (.array (.object "java/lang/Object"))) 3 2 [.ref a, .int (nI (n + 1))] h (qE (fun q => .ref q) (fun q h1 => (h q = none ∧ G.2.1 ≤ q) ∧ h1 = cy_up (cy_up h q (aO G cap' (cy_ar n ad))) a (.inr (7, [.int mc, .ref q, .int (nI n)])))) xF := by
  refine cy_in (own := RJ2) (lv0 := [some (.ref a), some (.int (nI (n + 1))), none, none]) (by decide) rfl rfl rfl (Nat.le_of_ble_eq_true rfl) (fun K T C => ?_)
  rcases hg with ⟨rfl, rfl, rfl, rfl⟩ | ⟨rfl, rfl, hea, rfl, hel⟩
  · refine rr_aload_n C 0 dJ2_grow_2_0 rfl rfl ?_
    refine gf_J2_9 C dJ2_grow_2_1 (Or.inl ha) ?_
    refine rr_alen C 4 dJ2_grow_2_4 (Or.inr hG.1.1) rfl ?_
    refine rr_istore_n C 2 dJ2_grow_2_5 rfl (Nat.le_of_ble_eq_true rfl) rfl (Nat.le_of_ble_eq_true rfl) ?_
    refine rr_iload_n C 2 dJ2_grow_2_6 rfl rfl ?_
    refine rr_if_gt C 20 dJ2_grow_2_7 (by decide) (fun c => absurd c (by decide)) (fun _ => ?_)
    refine rr_aload_n C 0 dJ2_grow_2_10 rfl rfl ?_
    refine gf_J2_9 C dJ2_grow_2_11 (Or.inl ha) ?_
    refine gs_J2_39 C dJ2_grow_2_14 ?_
    refine rr_acmp_eq C (some _) (some _) 45 dJ2_grow_2_17 (by decide) rfl rfl (fun _ => ?_) (fun c => absurd rfl c)
    refine rr_aload_n C 0 dJ2_grow_2_45 rfl rfl ?_
    refine rr_bipush C 10 dJ2_grow_2_46 (by decide) ?_
    refine rr_iload_n C 1 dJ2_grow_2_48 rfl rfl ?_
    refine mm_J2_79 C dJ2_grow_2_49 ?_
    refine na_J2_7 C 10 1 dJ2_grow_2_52 rfl (by decide) (by decide) (by decide) (fun q hq hz => ?_)
    refine rr_dup_x1 C dJ2_grow_2_55 rfl rfl ?_
    refine pf_J2_9 C dJ2_grow_2_56 (cy_up_old hq ha) rfl rfl ?_
    exact rr_areturn C dJ2_grow_2_59 (by first | exact Or.inl ⟨_, rfl⟩ | exact Or.inr ⟨_, rfl⟩) ⟨q, rfl, ⟨hq, hz⟩, rfl⟩
  · refine rr_aload_n C 0 dJ2_grow_2_0 rfl rfl ?_
    refine gf_J2_9 C dJ2_grow_2_1 (Or.inl ha) ?_
    refine rr_alen C 4 dJ2_grow_2_4 (Or.inl hea) rfl ?_
    refine rr_istore_n C 2 dJ2_grow_2_5 rfl (Nat.le_of_ble_eq_true rfl) rfl (Nat.le_of_ble_eq_true rfl) ?_
    refine rr_iload_n C 2 dJ2_grow_2_6 rfl rfl ?_
    refine rr_if_gt C 20 dJ2_grow_2_7 (by decide) (fun _ => ?_) (fun c => absurd (show (0 : Int32) < nI 10 by decide) c)
    refine rr_iload_n C 2 dJ2_grow_2_20 rfl rfl ?_
    refine rr_iload_n C 1 dJ2_grow_2_21 rfl rfl ?_
    refine rr_iload_n C 2 dJ2_grow_2_22 rfl rfl ?_
    refine rr_isub C dJ2_grow_2_23 ?_
    refine rr_iload_n C 2 dJ2_grow_2_24 rfl rfl ?_
    refine rr_iconst C 1 dJ2_grow_2_25 (by decide) ?_
    refine rr_ishr C dJ2_grow_2_26 ?_
    rw [show nI (10 + 1) - nI 10 = 1 from by decide, show nI 10 >>> ((1 : Int32) &&& 31) = 5 from by decide]
    refine cs_J2_73 C dJ2_grow_2_27 ct_J7_newLength (kVr ?_)
    refine rr_istore_n C 3 dJ2_grow_2_30 rfl (Nat.le_of_ble_eq_true rfl) rfl (Nat.le_of_ble_eq_true rfl) ?_
    refine rr_aload_n C 0 dJ2_grow_2_31 rfl rfl ?_
    refine rr_aload_n C 0 dJ2_grow_2_32 rfl rfl ?_
    refine gf_J2_9 C dJ2_grow_2_33 (Or.inl ha) ?_
    refine rr_iload_n C 3 dJ2_grow_2_36 rfl rfl ?_
    refine cs_J2_66 C dJ2_grow_2_37 (ct_J9_copyOf hea (by decide) hcl hca hel) (kE (fun q h1 e1 => ?_))
    obtain ⟨⟨hq, hz⟩, rfl⟩ := e1
    refine rr_dup_x1 C dJ2_grow_2_40 rfl rfl ?_
    refine pf_J2_9 C dJ2_grow_2_41 (cy_up_old hq ha) rfl rfl ?_
    exact rr_areturn C dJ2_grow_2_44 (by first | exact Or.inl ⟨_, rfl⟩ | exact Or.inr ⟨_, rfl⟩) ⟨q, rfl, ⟨hq, hz⟩, rfl⟩
theorem ct_J2_grow {G : GT} {h : Hp} (hG : cy_G G) {a n cap ea ci cap' : Nat} {ad : Nat → Nat} {mc : Int32} {r : vw_C} (ha : h a = some (.inr (7, [.int mc, .ref ea, .int (nI n)]))) (hg : cy_gr G h n cap ea ad ci cap') (hcl : cy_cl[ci]? = some r) (hca : Cond.castable r.1 "java/lang/Object" ∈ lw_tbl) : cy_Con G yJ2_grow cJ2_grow 1 (some (.array (.object "java/lang/Object"))) 4 2 [.ref a] h (qE (fun q => .ref q) (fun q h1 => (h q = none ∧ G.2.1 ≤ q) ∧ h1 = cy_up (cy_up h q (aO G cap' (cy_ar n ad))) a (.inr (7, [.int mc, .ref q, .int (nI n)])))) xF := by
  refine cy_in (own := RJ2) (lv0 := [some (.ref a)]) (by decide) rfl rfl rfl (Nat.le_of_ble_eq_true rfl) (fun K T C => ?_)
  refine rr_aload_n C 0 dJ2_grow_0 rfl rfl ?_
  refine rr_aload_n C 0 dJ2_grow_1 rfl rfl ?_
  refine gf_J2_48 C dJ2_grow_2 (Or.inl ha) ?_
  refine rr_iconst C 1 dJ2_grow_5 (by decide) ?_
  refine rr_iadd C dJ2_grow_6 ?_
  rw [nI_1]
  refine cv_J2_69 C dJ2_grow_7 (ct_J2_grow_2 hG ha hg hcl hca) (Or.inl ha) (kE (fun q h1 e1 => ?_))
  exact rr_areturn C dJ2_grow_10 (by first | exact Or.inl ⟨_, rfl⟩ | exact Or.inr ⟨_, rfl⟩) ⟨q, rfl, e1⟩
/-- the world behind add: the array (old or new) and the list -/
def cy_ad (G : GT) (h h1 : Hp) (a n cap ea : Nat) (ad : Nat → Nat) (mc : Int32) (v : Nat) : Prop := ∃ ea' cap' : Nat, ((n < cap ∧ ea' = ea ∧ cap' = cap) ∨ (n = cap ∧ h ea' = none ∧ G.2.1 ≤ ea' ∧ ((cap = 0 ∧ cap' = 10) ∨ (cap = 10 ∧ cap' = 15)))) ∧ h1 = cy_up (cy_up h ea' (aO G cap' (cy_ar (n + 1) (va_up ad n v)))) a (.inr (7, [.int mc, .ref ea', .int (nI (n + 1))]))
/-- a list's array: none yet, or 10 or 15 places -/
def cy_la (G : GT) (h : Hp) (n cap ea : Nat) (ad : Nat → Nat) : Prop := n ≤ cap ∧ ((cap = 0 ∧ ea = G.2.2.2.2 10) ∨ ((cap = 10 ∨ cap = 15) ∧ h ea = some (aO G cap (cy_ar n ad))))
theorem ct_J2_add_2 {G : GT} {h : Hp} (hG : cy_G G) {a n cap ea ci v : Nat} {ad : Nat → Nat} {mc : Int32} {r : vw_C} {vs : List Value} (ha : h a = some (.inr (7, [.int mc, .ref ea, .int (nI n)]))) (hl : cy_la G h n cap ea ad) (hn : n < 15) (hv : h v = some (.inr (ci, vs))) (hel : ∀ i, i < n → ∃ fs, h (ad i) = some (.inr (ci, fs))) (hcl : cy_cl[ci]? = some r) (hca : Cond.castable r.1 "java/lang/Object" ∈ lw_tbl) (hci : ci ≠ 7) : cy_Con G yJ2_add_2 cJ2_add_2 4 none 5 2 [.ref a, .ref v, .ref ea, .int (nI n)] h (qN (fun h1 => cy_ad G h h1 a n cap ea ad mc v)) xF := by
  have hva : v ≠ a := fun z => by rw [z, ha] at hv; cases hv; exact hci rfl
  refine cy_in (own := RJ2) (lv0 := [some (.ref a), some (.ref v), some (.ref ea), some (.int (nI n))]) (by decide) rfl rfl rfl (Nat.le_of_ble_eq_true rfl) (fun K T C => ?_)
  obtain ⟨hnc, hl⟩ := hl
  have hkn : cy_kn G h ea (aO G cap (if cap = 0 then (fun _ => none) else cy_ar n ad)) := by
    rcases hl with ⟨rfl, rfl⟩ | ⟨hc, he⟩
    · exact Or.inr hG.1.1
    · rw [if_neg (by rcases hc with rfl | rfl <;> decide)]
      exact Or.inl he
  have hcap : cap < 16 := by rcases hl with ⟨rfl, -⟩ | ⟨rfl | rfl, -⟩ <;> decide
  refine rr_iload_n C 3 dJ2_add_2_0 rfl rfl ?_
  refine rr_aload_n C 2 dJ2_add_2_1 rfl rfl ?_
  refine rr_alen C 4 dJ2_add_2_2 hkn rfl ?_
  refine rr_icmp_ne C 11 dJ2_add_2_3 (by decide) (fun c3 => ?_) (fun c3 => ?_)
  · -- room is there
    have hlt : n < cap := by
      rcases Nat.lt_or_ge n cap with h1 | h1
      · exact h1
      · exact absurd (show nI n = nI cap by rw [show n = cap by omega]) c3
    have he : h ea = some (aO G cap (cy_ar n ad)) := by
      rcases hl with ⟨rfl, -⟩ | ⟨-, he⟩
      · omega
      · exact he
    have hae : a ≠ ea := fun z => by rw [← z, ha] at he; cases he
    refine rr_aload_n C 2 dJ2_add_2_11 rfl rfl ?_
    refine rr_iload_n C 3 dJ2_add_2_12 rfl rfl ?_
    refine rr_aload_n C 1 dJ2_add_2_13 rfl rfl ?_
    refine rr_aast C n dJ2_add_2_14 he hv hcl hca rfl hlt (by omega) ?_
    rw [cy_ar_up]
    refine rr_aload_n C 0 dJ2_add_2_15 rfl rfl ?_
    refine rr_iload_n C 3 dJ2_add_2_16 rfl rfl ?_
    refine rr_iconst C 1 dJ2_add_2_17 (by decide) ?_
    refine rr_iadd C dJ2_add_2_18 ?_
    rw [nI_1]
    refine pf_J2_48 C dJ2_add_2_19 ((cy_up_ne hae).trans ha) ?_
    exact rr_return C dJ2_add_2_22 ⟨rfl, ea, cap, Or.inl ⟨hlt, rfl, rfl⟩, rfl⟩
  · -- it grows
    have heq : n = cap := by
      have h3 : nI n = nI cap := c3
      exact (nI_eq (by omega) (by omega)).mp h3
    obtain ⟨cap', hg, hcc⟩ : ∃ cap', cy_gr G h n cap ea ad ci cap' ∧ ((cap = 0 ∧ cap' = 10) ∨ (cap = 10 ∧ cap' = 15)) := by
      rcases hl with ⟨rfl, rfl⟩ | ⟨hc, he⟩
      · exact ⟨10, Or.inl ⟨heq, rfl, rfl, rfl⟩, Or.inl ⟨rfl, rfl⟩⟩
      · have : cap = 10 := by omega
        subst this
        exact ⟨15, Or.inr ⟨heq, rfl, he, rfl, hel⟩, Or.inr ⟨rfl, rfl⟩⟩
    refine rr_aload_n C 0 dJ2_add_2_6 rfl rfl ?_
    refine cv_J2_129 C dJ2_add_2_7 (ct_J2_grow hG ha hg hcl hca) (Or.inl ha) (kE (fun q h1 e1 => ?_))
    obtain ⟨⟨hq, hz⟩, rfl⟩ := e1
    have hqa : q ≠ a := fun z => by rw [z, ha] at hq; cases hq
    refine rr_astore_n C 2 dJ2_add_2_10 rfl (Nat.le_of_ble_eq_true rfl) rfl (Nat.le_of_ble_eq_true rfl) ?_
    refine rr_aload_n C 2 dJ2_add_2_11 rfl rfl ?_
    refine rr_iload_n C 3 dJ2_add_2_12 rfl rfl ?_
    refine rr_aload_n C 1 dJ2_add_2_13 rfl rfl ?_
    refine rr_aast C n dJ2_add_2_14 ((cy_up_ne hqa).trans cy_up_eq) ((cy_up_ne hva).trans (cy_up_old hq hv)) hcl hca rfl (by omega) (by omega) ?_
    rw [cy_ar_up]
    refine rr_aload_n C 0 dJ2_add_2_15 rfl rfl ?_
    refine rr_iload_n C 3 dJ2_add_2_16 rfl rfl ?_
    refine rr_iconst C 1 dJ2_add_2_17 (by decide) ?_
    refine rr_iadd C dJ2_add_2_18 ?_
    rw [nI_1]
    refine pf_J2_48 C dJ2_add_2_19 ((cy_up_ne (Ne.symm hqa)).trans cy_up_eq) ?_
    refine rr_return C dJ2_add_2_22 ⟨rfl, q, cap', Or.inr ⟨heq, hq, hz, hcc⟩, ?_⟩
    funext b
    unfold cy_up
    by_cases hb1 : b = a <;> by_cases hb2 : b = q <;> simp [hb1, hb2, hqa]
theorem ct_J2_add {G : GT} {h : Hp} (hG : cy_G G) {a n cap ea ci v : Nat} {ad : Nat → Nat} {mc : Int32} {r : vw_C} {vs : List Value} (ha : h a = some (.inr (7, [.int mc, .ref ea, .int (nI n)]))) (hl : cy_la G h n cap ea ad) (hn : n < 15) (hv : h v = some (.inr (ci, vs))) (hel : ∀ i, i < n → ∃ fs, h (ad i) = some (.inr (ci, fs))) (hcl : cy_cl[ci]? = some r) (hca : Cond.castable r.1 "java/lang/Object" ∈ lw_tbl) (hci : ci ≠ 7) : cy_Con G yJ2_add cJ2_add 2 (some .boolean) 6 2 [.ref a, .ref v] h (qV (.int 1) (fun h1 => cy_ad G h h1 a n cap ea ad (mc + 1) v)) xF := by
  have hne : ∀ b x, h b = some (.inr (ci, x)) → b ≠ a := fun b x hb z => by rw [z, ha] at hb; cases hb; exact hci rfl
  have hea : (n < cap ∨ cap ≠ 0) → ea ≠ a := by
    intro _ z
    rcases hl.2 with ⟨rfl, -⟩ | ⟨-, he⟩
    · rename_i hh; rcases hh with hh | hh <;> omega
    · rw [z, ha] at he; cases he
  refine cy_in (own := RJ2) (lv0 := [some (.ref a), some (.ref v)]) (by decide) rfl rfl rfl (Nat.le_of_ble_eq_true rfl) (fun K T C => ?_)
  refine rr_aload_n C 0 dJ2_add_0 rfl rfl ?_
  refine rr_dup C dJ2_add_1 rfl ?_
  refine gf_J2_63 C dJ2_add_2 (Or.inl ha) ?_
  refine rr_iconst C 1 dJ2_add_5 (by decide) ?_
  refine rr_iadd C dJ2_add_6 ?_
  refine pf_J2_63 C dJ2_add_7 ha ?_
  refine rr_aload_n C 0 dJ2_add_10 rfl rfl ?_
  refine rr_aload_n C 1 dJ2_add_11 rfl rfl ?_
  refine rr_aload_n C 0 dJ2_add_12 rfl rfl ?_
  refine gf_J2_9 C dJ2_add_13 (Or.inl cy_up_eq) ?_
  refine rr_aload_n C 0 dJ2_add_16 rfl rfl ?_
  refine gf_J2_48 C dJ2_add_17 (Or.inl cy_up_eq) ?_
  refine cv_J2_131 C dJ2_add_20 (ct_J2_add_2 (mc := mc + 1) hG cy_up_eq ⟨hl.1, hl.2.imp id (fun q => ⟨q.1, (cy_up_ne (hea (Or.inr (by rcases q.1 with h | h <;> omega)))).trans q.2⟩)⟩ hn ((cy_up_ne (hne v vs hv)).trans hv) (fun i hi => by obtain ⟨fs, hfs⟩ := hel i hi; exact ⟨fs, (cy_up_ne (hne _ _ hfs)).trans hfs⟩) hcl hca hci) (Or.inl cy_up_eq) (kN (fun h1 e1 => ?_))
  refine rr_iconst C 1 dJ2_add_23 (by decide) ?_
  refine rr_zreturn C dJ2_add_24 rfl ⟨rfl, ?_⟩
  obtain ⟨ea', cap', hc, rfl⟩ := e1
  refine ⟨ea', cap', ?_, ?_⟩
  · rcases hc with hc | ⟨c1, c2, c3, c4⟩
    · exact Or.inl hc
    · refine Or.inr ⟨c1, ?_, c3, c4⟩
      cases hh : h ea' with
      | none => rfl
      | some x =>
        by_cases hz : ea' = a
        · rw [hz, cy_up_eq] at c2; cases c2
        · rw [cy_up_ne hz, hh] at c2; cases c2
  · funext b
    unfold cy_up
    by_cases hb1 : b = a <;> by_cases hb2 : b = ea' <;> simp [hb1, hb2]
