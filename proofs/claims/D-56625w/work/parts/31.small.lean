/-! the small classes -/
set_option maxRecDepth 100000
def bI : Bool → Int32
  | true => 1
  | false => 0
theorem ct_hn1 {G : GT} {h : Hp} {q a k n : Nat} {v1 v2 w0 w1 : Value} (hq : h q = some (.inr (8, [.int (nI k), v1, v2, .ref a]))) (ha : h a = some (.inr (7, [w0, w1, .int (nI n)]))) (hk : k < n) (hn : n < 2 ^ 31) : cy_Con G yJ16_hasNext cJ16_hasNext 1 (some .boolean) 0 0 [.ref q] h (qV (.int 1) (fun h1 => h1 = h)) xF := by
  have h1 := ct_J16_hasNext (G := G) hq ha
  rw [if_neg (fun z => absurd ((nI_eq (by omega) hn).mp z) (by omega))] at h1
  exact h1
theorem ct_hn0 {G : GT} {h : Hp} {q a k : Nat} {v1 v2 w0 w1 : Value} (hq : h q = some (.inr (8, [.int (nI k), v1, v2, .ref a]))) (ha : h a = some (.inr (7, [w0, w1, .int (nI k)]))) : cy_Con G yJ16_hasNext cJ16_hasNext 1 (some .boolean) 0 0 [.ref q] h (qV (.int 0) (fun h1 => h1 = h)) xF := by
  have h1 := ct_J16_hasNext (G := G) hq ha
  rw [if_pos rfl] at h1
  exact h1
theorem ct_nx {G : GT} {h : Hp} {q a ea cap k n x : Nat} {v1 : Value} {mc : Int32} {f : Nat → Option Nat} (hq : h q = some (.inr (8, [.int (nI k), v1, .int mc, .ref a]))) (ha : h a = some (.inr (7, [.int mc, .ref ea, .int (nI n)]))) (he : cy_kn G h ea (aO G cap f)) (hk : k < n) (hn : n ≤ cap) (hc : cap < 16) (hf : f k = some x) : cy_Con G yJ16_next cJ16_next 3 (some (.object "java/lang/Object")) 1 0 [.ref q] h (qV (.ref x) (fun h1 => h1 = cy_up h q (.inr (8, [.int (nI (k + 1)), .int (nI k), .int mc, .ref a])))) xF := by
  have h1 := ct_J16_next (G := G) hq ha he hk hn (by omega)
  rw [hf] at h1
  exact h1
theorem cy_kn.up {G : GT} {h : Hp} {q a : Nat} {x e : va_E} (hq : h q = none) (he : cy_kn G h a e) : cy_kn G (cy_up h q x) a e := he.imp (fun z => cy_up_old hq z) id
/-! Need, Window -/
theorem ct_X7_init {G : GT} {h : Hp} {a : Nat} {v0 v1 : Value} {x y : Int32} (ha : h a = some (.inr (9, [v0, v1]))) : cy_Con G yX7_init cX7_init 3 none 1 0 [.ref a, .int x, .int y] h (qN (fun h1 => h1 = cy_up h a (eNeed x y))) xF := by
  refine cy_in (own := RX7) (lv0 := [some (.ref a), some (.int x), some (.int y)]) (by decide) rfl rfl rfl (Nat.le_of_ble_eq_true rfl) (fun K T C => ?_)
  refine rr_aload_n C 0 dX7_init_0 rfl rfl ?_
  refine oi_X7_1 C dX7_init_1 ?_
  refine rr_aload_n C 0 dX7_init_4 rfl rfl ?_
  refine rr_iload_n C 1 dX7_init_5 rfl rfl ?_
  refine pf_X7_7 C dX7_init_6 ha ?_
  refine rr_aload_n C 0 dX7_init_9 rfl rfl ?_
  refine rr_iload_n C 2 dX7_init_10 rfl rfl ?_
  refine pf_X7_13 C dX7_init_11 cy_up_eq ?_
  exact rr_return C dX7_init_14 ⟨rfl, cy_up_up⟩
theorem ct_X7_cores {G : GT} {h : Hp} {a : Nat} {x y : Int32} (ha : h a = some (eNeed x y)) : cy_Con G yX7_cores cX7_cores 1 (some .int) 0 0 [.ref a] h (qV (.int x) (fun h1 => h1 = h)) xF := by
  refine cy_in (own := RX7) (lv0 := [some (.ref a)]) (by decide) rfl rfl rfl (Nat.le_of_ble_eq_true rfl) (fun K T C => ?_)
  refine rr_aload_n C 0 dX7_cores_0 rfl rfl ?_
  refine gf_X7_7 C dX7_cores_1 (Or.inl ha) ?_
  exact rr_ireturn C dX7_cores_4 ⟨rfl, rfl⟩
theorem ct_X7_memory {G : GT} {h : Hp} {a : Nat} {x y : Int32} (ha : h a = some (eNeed x y)) : cy_Con G yX7_memory cX7_memory 1 (some .int) 0 0 [.ref a] h (qV (.int y) (fun h1 => h1 = h)) xF := by
  refine cy_in (own := RX7) (lv0 := [some (.ref a)]) (by decide) rfl rfl rfl (Nat.le_of_ble_eq_true rfl) (fun K T C => ?_)
  refine rr_aload_n C 0 dX7_memory_0 rfl rfl ?_
  refine gf_X7_13 C dX7_memory_1 (Or.inl ha) ?_
  exact rr_ireturn C dX7_memory_4 ⟨rfl, rfl⟩
theorem ct_X10_init {G : GT} {h : Hp} {a : Nat} {v0 v1 v2 : Value} {x y z : Int32} (ha : h a = some (.inr (10, [v0, v1, v2]))) : cy_Con G yX10_init cX10_init 4 none 1 0 [.ref a, .int x, .int y, .int z] h (qN (fun h1 => h1 = cy_up h a (eWin x y z))) xF := by
  refine cy_in (own := RX10) (lv0 := [some (.ref a), some (.int x), some (.int y), some (.int z)]) (by decide) rfl rfl rfl (Nat.le_of_ble_eq_true rfl) (fun K T C => ?_)
  refine rr_aload_n C 0 dX10_init_0 rfl rfl ?_
  refine oi_X10_1 C dX10_init_1 ?_
  refine rr_aload_n C 0 dX10_init_4 rfl rfl ?_
  refine rr_iload_n C 1 dX10_init_5 rfl rfl ?_
  refine pf_X10_7 C dX10_init_6 ha ?_
  refine rr_aload_n C 0 dX10_init_9 rfl rfl ?_
  refine rr_iload_n C 2 dX10_init_10 rfl rfl ?_
  refine pf_X10_13 C dX10_init_11 cy_up_eq ?_
  rw [cy_up_up]
  refine rr_aload_n C 0 dX10_init_14 rfl rfl ?_
  refine rr_iload_n C 3 dX10_init_15 rfl rfl ?_
  refine pf_X10_16 C dX10_init_16 cy_up_eq ?_
  exact rr_return C dX10_init_19 ⟨rfl, cy_up_up⟩
theorem ct_X10_first {G : GT} {h : Hp} {a : Nat} {x y z : Int32} (ha : h a = some (eWin x y z)) : cy_Con G yX10_first cX10_first 1 (some .int) 0 0 [.ref a] h (qV (.int x) (fun h1 => h1 = h)) xF := by
  refine cy_in (own := RX10) (lv0 := [some (.ref a)]) (by decide) rfl rfl rfl (Nat.le_of_ble_eq_true rfl) (fun K T C => ?_)
  refine rr_aload_n C 0 dX10_first_0 rfl rfl ?_
  refine gf_X10_7 C dX10_first_1 (Or.inl ha) ?_
  exact rr_ireturn C dX10_first_4 ⟨rfl, rfl⟩
theorem ct_X10_length {G : GT} {h : Hp} {a : Nat} {x y z : Int32} (ha : h a = some (eWin x y z)) : cy_Con G yX10_length cX10_length 1 (some .int) 0 0 [.ref a] h (qV (.int y) (fun h1 => h1 = h)) xF := by
  refine cy_in (own := RX10) (lv0 := [some (.ref a)]) (by decide) rfl rfl rfl (Nat.le_of_ble_eq_true rfl) (fun K T C => ?_)
  refine rr_aload_n C 0 dX10_length_0 rfl rfl ?_
  refine gf_X10_13 C dX10_length_1 (Or.inl ha) ?_
  exact rr_ireturn C dX10_length_4 ⟨rfl, rfl⟩
theorem ct_X10_tenant {G : GT} {h : Hp} {a : Nat} {x y z : Int32} (ha : h a = some (eWin x y z)) : cy_Con G yX10_tenant cX10_tenant 1 (some .int) 0 0 [.ref a] h (qV (.int z) (fun h1 => h1 = h)) xF := by
  refine cy_in (own := RX10) (lv0 := [some (.ref a)]) (by decide) rfl rfl rfl (Nat.le_of_ble_eq_true rfl) (fun K T C => ?_)
  refine rr_aload_n C 0 dX10_tenant_0 rfl rfl ?_
  refine gf_X10_16 C dX10_tenant_1 (Or.inl ha) ?_
  exact rr_ireturn C dX10_tenant_4 ⟨rfl, rfl⟩
/-! Layer -/
theorem ct_X5_init {G : GT} {h : Hp} {a i : Nat} {v0 v1 v2 : Value} (ha : h a = some (.inr (2, [v0, v1, v2]))) : cy_Con G yX5_init cX5_init 2 none 1 0 [.ref a, .int (nI i)] h (qN (fun h1 => h1 = cy_up h a (.inr (2, [.int (cy_bit i), v1, v2])))) xF := by
  refine cy_in (own := RX5) (lv0 := [some (.ref a), some (.int (nI i))]) (by decide) rfl rfl rfl (Nat.le_of_ble_eq_true rfl) (fun K T C => ?_)
  refine rr_aload_n C 0 dX5_init_0 rfl rfl ?_
  refine oi_X5_1 C dX5_init_1 ?_
  refine rr_aload_n C 0 dX5_init_4 rfl rfl ?_
  refine rr_iconst C 1 dX5_init_5 (by decide) ?_
  refine rr_iload_n C 1 dX5_init_6 rfl rfl ?_
  refine rr_ishl C dX5_init_7 ?_
  refine pf_X5_7 C dX5_init_8 ha ?_
  exact rr_return C dX5_init_11 ⟨rfl, rfl⟩
/-- a withdrawn layer is out at an hour -/
def cy_out (w o hr : Int32) : Bool := !decide (w = 0) && !decide (hr < o)
theorem ct_X5_isOut {G : GT} {h : Hp} {a : Nat} {v0 : Value} {w o hr : Int32} (ha : h a = some (.inr (2, [v0, .int w, .int o]))) : cy_Con G yX5_isOut cX5_isOut 2 (some .boolean) 0 0 [.ref a, .int hr] h (qV (.int (bI (cy_out w o hr))) (fun h1 => h1 = h)) xF := by
  refine cy_in (own := RX5) (lv0 := [some (.ref a), some (.int hr)]) (by decide) rfl rfl rfl (Nat.le_of_ble_eq_true rfl) (fun K T C => ?_)
  refine rr_aload_n C 0 dX5_isOut_0 rfl rfl ?_
  refine gf_X5_13 C dX5_isOut_1 (Or.inl ha) ?_
  refine rr_if_eq C 19 dX5_isOut_4 (by decide) (fun c4 => ?_) (fun c4 => ?_)
  · refine rr_iconst C 0 dX5_isOut_19 (by decide) ?_
    exact rr_zreturn C dX5_isOut_20 rfl ⟨by simp [cy_out, c4, bI], rfl⟩
  · refine rr_iload_n C 1 dX5_isOut_7 rfl rfl ?_
    refine rr_aload_n C 0 dX5_isOut_8 rfl rfl ?_
    refine gf_X5_17 C dX5_isOut_9 (Or.inl ha) ?_
    refine rr_icmp_lt C 19 dX5_isOut_12 (by decide) (fun c12 => ?_) (fun c12 => ?_)
    · refine rr_iconst C 0 dX5_isOut_19 (by decide) ?_
      exact rr_zreturn C dX5_isOut_20 rfl ⟨by simp [cy_out, c4, c12, bI], rfl⟩
    · refine rr_iconst C 1 dX5_isOut_15 (by decide) ?_
      refine rr_goto C 20 dX5_isOut_16 (by decide) ?_
      exact rr_zreturn C dX5_isOut_20 rfl ⟨by simp [cy_out, c4, c12, bI], rfl⟩
/-! Image -/
theorem ct_X6_init {G : GT} {h : Hp} {a b : Nat} {o : Option Nat} {v0 v1 : Value} (ha : h a = some (.inr (3, [v0, v1]))) : cy_Con G yX6_init cX6_init 3 none 1 0 [.ref a, va_rf o, .ref b] h (qN (fun h1 => h1 = cy_up h a (.inr (3, [va_rf o, .ref b])))) xF := by
  refine cy_in (own := RX6) (lv0 := [some (.ref a), some (va_rf o), some (.ref b)]) (by decide) rfl rfl (by cases o <;> rfl) (by cases o <;> exact Nat.le_of_ble_eq_true rfl) (fun K T C => ?_)
  refine rr_aload_n C 0 dX6_init_0 rfl rfl ?_
  refine oi_X6_1 C dX6_init_1 ?_
  refine rr_aload_n C 0 dX6_init_4 rfl rfl ?_
  refine rr_aload_nq C 1 dX6_init_5 rfl rfl ?_
  refine pf_X6_7 C dX6_init_6 ha (by cases o <;> rfl) (by cases o <;> rfl) ?_
  refine rr_aload_n C 0 dX6_init_9 rfl rfl ?_
  refine rr_aload_n C 2 dX6_init_10 rfl rfl ?_
  refine pf_X6_13 C dX6_init_11 cy_up_eq rfl rfl ?_
  exact rr_return C dX6_init_14 ⟨rfl, cy_up_up⟩
/-- the images from which one comes, itself first; a place is a number from 1, 0 is none -/
def cy_ch (J : Nat → Nat → Nat) : Nat → Nat → List Nat
  | 0, _ => []
  | _ + 1, 0 => []
  | n + 1, i + 1 => i :: cy_ch J n (J 10 i)
/-- their layers, as bits -/
def cy_bits (J : Nat → Nat → Nat) (l : List Nat) : Int32 := l.foldr (fun k b => cy_bit (J 11 k) ||| b) 0
theorem ct_X6_layers {G : GT} {I : Nat → Nat → Int32} {J : Nat → Nat → Nat} {st : Int64} {h : Hp} (hY : cy_Y G I J st h) : ∀ n i : Nat, i < n → i < J 0 1 →
    cy_Con G yX6_layers cX6_layers 1 (some .int) (2 * i + 1) 0 [.ref (J 6 i)] h (qV (.int (cy_bits J (cy_ch J n (i + 1)))) (fun h1 => h1 = h)) xF ∧
    cy_Con G yX6_inherited cX6_inherited 1 (some .int) (2 * i) 0 [.ref (J 6 i)] h (qV (.int (cy_bits J (cy_ch J (n - 1) (J 10 i)))) (fun h1 => h1 = h)) xF := by
  intro n
  induction n with
  | zero => intro i hi; omega
  | succ n ih =>
    intro i hin hi
    obtain ⟨r1, r2⟩ := hY.2.2.2.2.1 i hi
    have him := hY.image hi
    have hinh : cy_Con G yX6_inherited cX6_inherited 1 (some .int) (2 * i) 0 [.ref (J 6 i)] h (qV (.int (cy_bits J (cy_ch J n (J 10 i)))) (fun h1 => h1 = h)) xF := by
      refine cy_in (own := RX6) (lv0 := [some (.ref (J 6 i))]) (by decide) rfl rfl rfl (Nat.le_of_ble_eq_true rfl) (fun K T C => ?_)
      refine rr_aload_n C 0 dX6_inherited_0 rfl rfl ?_
      refine gf_X6_7 C dX6_inherited_1 (Or.inl him) ?_
      refine rr_ifnonnull C (cy_o (J 6) (J 10 i)) 11 dX6_inherited_4 (by decide) rfl (fun a4 c4 => ?_) (fun c4 => ?_)
      · cases hp : J 10 i with
        | zero => rw [hp] at c4; cases c4
        | succ p =>
          rw [hp] at c4
          have e4 : a4 = J 6 p := (Option.some.inj c4).symm
          subst e4
          have hpn : p < n := by omega
          have hpl := (ih p hpn (by omega)).1
          have him2 : h (J 6 i) = some (.inr (3, [.ref (J 6 p), .ref (J 5 (J 11 i))])) := by
            have := him
            unfold eImage at this
            rw [hp] at this
            exact this
          refine rr_aload_n C 0 dX6_inherited_11 rfl rfl ?_
          refine gf_X6_7 C dX6_inherited_12 (Or.inl him2) ?_
          refine cv_X6_17 C dX6_inherited_15 hpl (Or.inl (hY.image (by omega))) (kVr ?_)
          exact rr_ireturn C dX6_inherited_18 ⟨by rw [hp], rfl⟩
      · cases hp : J 10 i with
        | succ p => rw [hp] at c4; cases c4
        | zero =>
          refine rr_iconst C 0 dX6_inherited_7 (by decide) ?_
          refine rr_goto C 18 dX6_inherited_8 (by decide) ?_
          exact rr_ireturn C dX6_inherited_18 ⟨by rw [hp]; cases n <;> rfl, rfl⟩
    refine ⟨?_, hinh⟩
    refine cy_in (own := RX6) (lv0 := [some (.ref (J 6 i))]) (by decide) rfl rfl rfl (Nat.le_of_ble_eq_true rfl) (fun K T C => ?_)
    refine rr_aload_n C 0 dX6_layers_0 rfl rfl ?_
    refine gf_X6_13 C dX6_layers_1 (Or.inl him) ?_
    refine gf_X6_21 C dX6_layers_4 (Or.inl (hY.layer r2)) ?_
    refine rr_aload_n C 0 dX6_layers_7 rfl rfl ?_
    refine cv_X6_27 C dX6_layers_8 hinh (Or.inl him) (kVr ?_)
    refine rr_ior C dX6_layers_11 ?_
    exact rr_ireturn C dX6_layers_12 ⟨rfl, rfl⟩
theorem ct_X6_comesFrom {G : GT} {I : Nat → Nat → Int32} {J : Nat → Nat → Nat} {st : Int64} {h : Hp} (hY : cy_Y G I J st h) {o : Nat} (ho : o < J 0 1) : ∀ n i : Nat, i < n → i < J 0 1 →
    cy_Con G yX6_comesFrom cX6_comesFrom 2 (some .boolean) i 0 [.ref (J 6 i), .ref (J 6 o)] h (qV (.int (bI (decide (o ∈ cy_ch J n (i + 1))))) (fun h1 => h1 = h)) xF := by
  intro n
  induction n with
  | zero => intro i hi; omega
  | succ n ih =>
    intro i hin hi
    obtain ⟨r1, r2⟩ := hY.2.2.2.2.1 i hi
    have him := hY.image hi
    refine cy_in (own := RX6) (lv0 := [some (.ref (J 6 i)), some (.ref (J 6 o))]) (by decide) rfl rfl rfl (Nat.le_of_ble_eq_true rfl) (fun K T C => ?_)
    refine rr_aload_n C 0 dX6_comesFrom_0 rfl rfl ?_
    refine rr_aload_n C 1 dX6_comesFrom_1 rfl rfl ?_
    refine rr_acmp_eq C (some _) (some _) 23 dX6_comesFrom_2 (by decide) rfl rfl (fun c2 => ?_) (fun c2 => ?_)
    · have hio : i = o := (hY.2.1 5 i 5 o (J 6 i) _ _ (if_pos hi) (by rw [Option.some.inj c2]; exact if_pos ho)).2
      refine rr_iconst C 1 dX6_comesFrom_23 (by decide) ?_
      refine rr_goto C 28 dX6_comesFrom_24 (by decide) ?_
      exact rr_zreturn C dX6_comesFrom_28 rfl ⟨by simp [cy_ch, hio, bI], rfl⟩
    · have hio : ¬ o = i := fun z => c2 (by rw [z])
      refine rr_aload_n C 0 dX6_comesFrom_5 rfl rfl ?_
      refine gf_X6_7 C dX6_comesFrom_6 (Or.inl him) ?_
      refine rr_ifnull C (cy_o (J 6) (J 10 i)) 27 dX6_comesFrom_9 (by decide) rfl (fun c9 => ?_) (fun a9 c9 => ?_)
      · cases hp : J 10 i with
        | succ p => rw [hp] at c9; cases c9
        | zero =>
          refine rr_iconst C 0 dX6_comesFrom_27 (by decide) ?_
          exact rr_zreturn C dX6_comesFrom_28 rfl ⟨by cases n <;> simp [cy_ch, hp, hio, bI], rfl⟩
      · cases hp : J 10 i with
        | zero => rw [hp] at c9; cases c9
        | succ p =>
          have hpn : p < n := by omega
          have hpl := ih p hpn (by omega)
          have him2 : h (J 6 i) = some (.inr (3, [.ref (J 6 p), .ref (J 5 (J 11 i))])) := by
            have := him
            unfold eImage at this
            rw [hp] at this
            exact this
          refine rr_aload_n C 0 dX6_comesFrom_12 rfl rfl ?_
          refine gf_X6_7 C dX6_comesFrom_13 (Or.inl him2) ?_
          refine rr_aload_n C 1 dX6_comesFrom_16 rfl rfl ?_
          refine cv_X6_30 C dX6_comesFrom_17 hpl (Or.inl (hY.image (by omega))) (kVr ?_)
          by_cases hm : o ∈ cy_ch J n (p + 1)
          · rw [show decide (o ∈ cy_ch J n (p + 1)) = true from decide_eq_true hm]
            refine rr_if_eq C 27 dX6_comesFrom_20 (by decide) (fun c => absurd c (by decide)) (fun _ => ?_)
            refine rr_iconst C 1 dX6_comesFrom_23 (by decide) ?_
            refine rr_goto C 28 dX6_comesFrom_24 (by decide) ?_
            exact rr_zreturn C dX6_comesFrom_28 rfl ⟨by simp [cy_ch, hp, hio, hm, bI], rfl⟩
          · rw [show decide (o ∈ cy_ch J n (p + 1)) = false from decide_eq_false hm]
            refine rr_if_eq C 27 dX6_comesFrom_20 (by decide) (fun _ => ?_) (fun c => absurd rfl c)
            refine rr_iconst C 0 dX6_comesFrom_27 (by decide) ?_
            exact rr_zreturn C dX6_comesFrom_28 rfl ⟨by simp [cy_ch, hp, hio, hm, bI], rfl⟩
/-! Opening -/
theorem ct_X11_init {G : GT} {h : Hp} {a w : Nat} {v0 v1 : Value} {x y z : Int32} (ha : h a = some (.inr (6, [v0, v1]))) (hw : h w = some (eWin x y z)) : cy_Con G yX11_init cX11_init 2 none 1 0 [.ref a, .ref w] h (qN (fun h1 => h1 = cy_up h a (.inr (6, [.ref w, .int z])))) xF := by
  have hne : w ≠ a := fun e => by rw [e, ha] at hw; cases hw
  refine cy_in (own := RX11) (lv0 := [some (.ref a), some (.ref w)]) (by decide) rfl rfl rfl (Nat.le_of_ble_eq_true rfl) (fun K T C => ?_)
  refine rr_aload_n C 0 dX11_init_0 rfl rfl ?_
  refine oi_X11_3 C dX11_init_1 ?_
  refine rr_aload_n C 0 dX11_init_4 rfl rfl ?_
  refine rr_aload_n C 1 dX11_init_5 rfl rfl ?_
  refine pf_X11_9 C dX11_init_6 ha rfl rfl ?_
  refine rr_aload_n C 0 dX11_init_9 rfl rfl ?_
  refine rr_aload_n C 1 dX11_init_10 rfl rfl ?_
  refine cv_X11_15 C dX11_init_11 (ct_X10_tenant ((cy_up_ne hne).trans hw)) (Or.inl ((cy_up_ne hne).trans hw)) (kVr ?_)
  refine pf_X11_21 C dX11_init_14 cy_up_eq ?_
  exact rr_return C dX11_init_17 ⟨rfl, cy_up_up⟩
/-- hour % 24 as the machine has it -/
def cy_rem (x y : Int32) : Int32 := x - x / y * y
def cy_opn (f l t asked hr : Int32) : Bool := decide (t = asked) && decide (cy_rem (cy_rem hr 24 - f + 24) 24 < l)
theorem ct_X11_isOpen {G : GT} {h : Hp} {a w : Nat} {f l z t asked hr : Int32} (ha : h a = some (.inr (6, [.ref w, .int t]))) (hw : h w = some (eWin f l z)) : cy_Con G yX11_isOpen cX11_isOpen 4 (some .boolean) 1 0 [.ref a, .int asked, .int hr] h (qV (.int (bI (cy_opn f l t asked hr))) (fun h1 => h1 = h)) xF := by
  refine cy_in (own := RX11) (lv0 := [some (.ref a), some (.int asked), some (.int hr), none]) (by decide) rfl rfl rfl (Nat.le_of_ble_eq_true rfl) (fun K T C => ?_)
  refine rr_iload_n C 2 dX11_isOpen_0 rfl rfl ?_
  refine rr_bipush C 24 dX11_isOpen_1 (by decide) ?_
  refine rr_irem C dX11_isOpen_3 (by decide) ?_
  refine rr_aload_n C 0 dX11_isOpen_4 rfl rfl ?_
  refine gf_X11_9 C dX11_isOpen_5 (Or.inl ha) ?_
  refine cv_X11_24 C dX11_isOpen_8 (ct_X10_first hw) (Or.inl hw) (kVr ?_)
  refine rr_isub C dX11_isOpen_11 ?_
  refine rr_bipush C 24 dX11_isOpen_12 (by decide) ?_
  refine rr_iadd C dX11_isOpen_14 ?_
  refine rr_bipush C 24 dX11_isOpen_15 (by decide) ?_
  refine rr_irem C dX11_isOpen_17 (by decide) ?_
  refine rr_istore_n C 3 dX11_isOpen_18 rfl (Nat.le_of_ble_eq_true rfl) rfl (Nat.le_of_ble_eq_true rfl) ?_
  refine rr_aload_n C 0 dX11_isOpen_19 rfl rfl ?_
  refine gf_X11_21 C dX11_isOpen_20 (Or.inl ha) ?_
  refine rr_iload_n C 1 dX11_isOpen_23 rfl rfl ?_
  refine rr_icmp_ne C 42 dX11_isOpen_24 (by decide) (fun c24 => ?_) (fun c24 => ?_)
  · refine rr_iconst C 0 dX11_isOpen_42 (by decide) ?_
    exact rr_zreturn C dX11_isOpen_43 rfl ⟨by simp [cy_opn, c24, bI], rfl⟩
  · refine rr_iload_n C 3 dX11_isOpen_27 rfl rfl ?_
    refine rr_aload_n C 0 dX11_isOpen_28 rfl rfl ?_
    refine gf_X11_9 C dX11_isOpen_29 (Or.inl ha) ?_
    refine cv_X11_27 C dX11_isOpen_32 (ct_X10_length hw) (Or.inl hw) (kVr ?_)
    refine rr_icmp_ge C 42 dX11_isOpen_35 (by decide) (fun c35 => ?_) (fun c35 => ?_)
    · refine rr_iconst C 0 dX11_isOpen_42 (by decide) ?_
      exact rr_zreturn C dX11_isOpen_43 rfl ⟨by
        have : ¬ cy_rem (cy_rem hr 24 - f + 24) 24 < l := by rw [Int32.not_lt]; exact c35
        simp [cy_opn, this, bI], rfl⟩
    · refine rr_iconst C 1 dX11_isOpen_38 (by decide) ?_
      refine rr_goto C 43 dX11_isOpen_39 (by decide) ?_
      exact rr_zreturn C dX11_isOpen_43 rfl ⟨by
        have : cy_rem (cy_rem hr 24 - f + 24) 24 < l := by rw [← Int32.not_le]; exact c35
        simp [cy_opn, c24, this, bI], rfl⟩
/-! Room, Host -/
theorem ct_X8_init {G : GT} {h : Hp} {a nd : Nat} {v0 v1 v2 v3 : Value} {x y : Int32} (ha : h a = some (.inr (4, [v0, v1, v2, v3]))) (hw : h nd = some (eNeed x y)) : cy_Con G yX8_init cX8_init 2 none 1 0 [.ref a, .ref nd] h (qN (fun h1 => h1 = cy_up h a (.inr (4, [.ref nd, .int x, .int y, v3])))) xF := by
  have hne : nd ≠ a := fun e => by rw [e, ha] at hw; cases hw
  refine cy_in (own := RX8) (lv0 := [some (.ref a), some (.ref nd)]) (by decide) rfl rfl rfl (Nat.le_of_ble_eq_true rfl) (fun K T C => ?_)
  refine rr_aload_n C 0 dX8_init_0 rfl rfl ?_
  refine oi_X8_1 C dX8_init_1 ?_
  refine rr_aload_n C 0 dX8_init_4 rfl rfl ?_
  refine rr_aload_n C 1 dX8_init_5 rfl rfl ?_
  refine pf_X8_7 C dX8_init_6 ha rfl rfl ?_
  refine rr_aload_n C 0 dX8_init_9 rfl rfl ?_
  refine rr_aload_n C 1 dX8_init_10 rfl rfl ?_
  refine cv_X8_13 C dX8_init_11 (ct_X7_cores ((cy_up_ne hne).trans hw)) (Or.inl ((cy_up_ne hne).trans hw)) (kVr ?_)
  refine pf_X8_19 C dX8_init_14 cy_up_eq ?_
  rw [cy_up_up]
  refine rr_aload_n C 0 dX8_init_17 rfl rfl ?_
  refine rr_aload_n C 1 dX8_init_18 rfl rfl ?_
  refine cv_X8_22 C dX8_init_19 (ct_X7_memory ((cy_up_ne hne).trans hw)) (Or.inl ((cy_up_ne hne).trans hw)) (kVr ?_)
  refine pf_X8_25 C dX8_init_22 cy_up_eq ?_
  exact rr_return C dX8_init_25 ⟨rfl, cy_up_up⟩
/-- there is room for a need -/
def cy_fit (fc fm x y : Int32) : Bool := !decide (fc < x) && !decide (fm < y)
theorem ct_X8_fits {G : GT} {h : Hp} {a nd : Nat} {v0 v3 : Value} {fc fm x y : Int32} (ha : h a = some (.inr (4, [v0, .int fc, .int fm, v3]))) (hw : h nd = some (eNeed x y)) : cy_Con G yX8_fits cX8_fits 2 (some .boolean) 1 0 [.ref a, .ref nd] h (qV (.int (bI (cy_fit fc fm x y))) (fun h1 => h1 = h)) xF := by
  refine cy_in (own := RX8) (lv0 := [some (.ref a), some (.ref nd)]) (by decide) rfl rfl rfl (Nat.le_of_ble_eq_true rfl) (fun K T C => ?_)
  refine rr_aload_n C 1 dX8_fits_0 rfl rfl ?_
  refine cv_X8_13 C dX8_fits_1 (ct_X7_cores hw) (Or.inl hw) (kVr ?_)
  refine rr_aload_n C 0 dX8_fits_4 rfl rfl ?_
  refine gf_X8_19 C dX8_fits_5 (Or.inl ha) ?_
  refine rr_icmp_gt C 26 dX8_fits_8 (by decide) (fun c8 => ?_) (fun c8 => ?_)
  · refine rr_iconst C 0 dX8_fits_26 (by decide) ?_
    exact rr_zreturn C dX8_fits_27 rfl ⟨by simp [cy_fit, c8, bI], rfl⟩
  · refine rr_aload_n C 1 dX8_fits_11 rfl rfl ?_
    refine cv_X8_22 C dX8_fits_12 (ct_X7_memory hw) (Or.inl hw) (kVr ?_)
    refine rr_aload_n C 0 dX8_fits_15 rfl rfl ?_
    refine gf_X8_25 C dX8_fits_16 (Or.inl ha) ?_
    refine rr_icmp_gt C 26 dX8_fits_19 (by decide) (fun c19 => ?_) (fun c19 => ?_)
    · refine rr_iconst C 0 dX8_fits_26 (by decide) ?_
      exact rr_zreturn C dX8_fits_27 rfl ⟨by simp [cy_fit, c19, bI], rfl⟩
    · refine rr_iconst C 1 dX8_fits_22 (by decide) ?_
      refine rr_goto C 27 dX8_fits_23 (by decide) ?_
      exact rr_zreturn C dX8_fits_27 rfl ⟨by simp [cy_fit, c8, c19, bI], rfl⟩
theorem ct_X8_take {G : GT} {h : Hp} {a nd : Nat} {v0 v3 : Value} {fc fm x y : Int32} (ha : h a = some (.inr (4, [v0, .int fc, .int fm, v3]))) (hw : h nd = some (eNeed x y)) : cy_Con G yX8_take cX8_take 2 none 1 0 [.ref a, .ref nd] h (qN (fun h1 => h1 = cy_up h a (.inr (4, [v0, .int (fc - x), .int (fm - y), v3])))) xF := by
  have hne : nd ≠ a := fun e => by rw [e, ha] at hw; cases hw
  refine cy_in (own := RX8) (lv0 := [some (.ref a), some (.ref nd)]) (by decide) rfl rfl rfl (Nat.le_of_ble_eq_true rfl) (fun K T C => ?_)
  refine rr_aload_n C 0 dX8_take_0 rfl rfl ?_
  refine rr_dup C dX8_take_1 rfl ?_
  refine gf_X8_19 C dX8_take_2 (Or.inl ha) ?_
  refine rr_aload_n C 1 dX8_take_5 rfl rfl ?_
  refine cv_X8_13 C dX8_take_6 (ct_X7_cores hw) (Or.inl hw) (kVr ?_)
  refine rr_isub C dX8_take_9 ?_
  refine pf_X8_19 C dX8_take_10 ha ?_
  refine rr_aload_n C 0 dX8_take_13 rfl rfl ?_
  refine rr_dup C dX8_take_14 rfl ?_
  refine gf_X8_25 C dX8_take_15 (Or.inl cy_up_eq) ?_
  refine rr_aload_n C 1 dX8_take_18 rfl rfl ?_
  refine cv_X8_22 C dX8_take_19 (ct_X7_memory ((cy_up_ne hne).trans hw)) (Or.inl ((cy_up_ne hne).trans hw)) (kVr ?_)
  refine rr_isub C dX8_take_22 ?_
  refine pf_X8_25 C dX8_take_23 cy_up_eq ?_
  exact rr_return C dX8_take_26 ⟨rfl, cy_up_up⟩
theorem ct_X8_give {G : GT} {h : Hp} {a nd : Nat} {v0 v3 : Value} {fc fm x y : Int32} (ha : h a = some (.inr (4, [v0, .int fc, .int fm, v3]))) (hw : h nd = some (eNeed x y)) : cy_Con G yX8_give cX8_give 2 none 1 0 [.ref a, .ref nd] h (qN (fun h1 => h1 = cy_up h a (.inr (4, [v0, .int (fc + x), .int (fm + y), v3])))) xF := by
  have hne : nd ≠ a := fun e => by rw [e, ha] at hw; cases hw
  refine cy_in (own := RX8) (lv0 := [some (.ref a), some (.ref nd)]) (by decide) rfl rfl rfl (Nat.le_of_ble_eq_true rfl) (fun K T C => ?_)
  refine rr_aload_n C 0 dX8_give_0 rfl rfl ?_
  refine rr_dup C dX8_give_1 rfl ?_
  refine gf_X8_19 C dX8_give_2 (Or.inl ha) ?_
  refine rr_aload_n C 1 dX8_give_5 rfl rfl ?_
  refine cv_X8_13 C dX8_give_6 (ct_X7_cores hw) (Or.inl hw) (kVr ?_)
  refine rr_iadd C dX8_give_9 ?_
  refine pf_X8_19 C dX8_give_10 ha ?_
  refine rr_aload_n C 0 dX8_give_13 rfl rfl ?_
  refine rr_dup C dX8_give_14 rfl ?_
  refine gf_X8_25 C dX8_give_15 (Or.inl cy_up_eq) ?_
  refine rr_aload_n C 1 dX8_give_18 rfl rfl ?_
  refine cv_X8_22 C dX8_give_19 (ct_X7_memory ((cy_up_ne hne).trans hw)) (Or.inl ((cy_up_ne hne).trans hw)) (kVr ?_)
  refine rr_iadd C dX8_give_22 ?_
  refine pf_X8_25 C dX8_give_23 cy_up_eq ?_
  exact rr_return C dX8_give_26 ⟨rfl, cy_up_up⟩
theorem ct_X9_init_2 {G : GT} {h : Hp} {a nd : Nat} {v0 v1 v2 v3 : Value} {i x y : Int32} (ha : h a = some (.inr (4, [v0, v1, v2, v3]))) (hw : h nd = some (eNeed x y)) : cy_Con G yX9_init_2 cX9_init_2 3 none 2 0 [.ref a, .int i, .ref nd] h (qN (fun h1 => h1 = cy_up h a (.inr (4, [.ref nd, .int x, .int y, .int i])))) xF := by
  refine cy_in (own := RX9) (lv0 := [some (.ref a), some (.int i), some (.ref nd)]) (by decide) rfl rfl rfl (Nat.le_of_ble_eq_true rfl) (fun K T C => ?_)
  refine rr_aload_n C 0 dX9_init_2_0 rfl rfl ?_
  refine rr_aload_n C 2 dX9_init_2_1 rfl rfl ?_
  refine ci_X9_1 C dX9_init_2_2 (ct_X8_init ha hw) (kN (fun h1 e1 => ?_))
  subst e1
  refine rr_aload_n C 0 dX9_init_2_5 rfl rfl ?_
  refine rr_iload_n C 1 dX9_init_2_6 rfl rfl ?_
  refine pf_X9_7 C dX9_init_2_7 cy_up_eq ?_
  exact rr_return C dX9_init_2_10 ⟨rfl, cy_up_up⟩
theorem ct_X9_init {G : GT} {h : Hp} {a b nd : Nat} {v0 v1 v2 v3 w1 w2 : Value} {i x y : Int32} (ha : h a = some (.inr (4, [v0, v1, v2, v3]))) (hb : h b = some (.inr (4, [.ref nd, w1, w2, .int i]))) (hw : h nd = some (eNeed x y)) : cy_Con G yX9_init cX9_init 2 none 3 0 [.ref a, .ref b] h (qN (fun h1 => h1 = cy_up h a (.inr (4, [.ref nd, .int x, .int y, .int i])))) xF := by
  refine cy_in (own := RX9) (lv0 := [some (.ref a), some (.ref b)]) (by decide) rfl rfl rfl (Nat.le_of_ble_eq_true rfl) (fun K T C => ?_)
  refine rr_aload_n C 0 dX9_init_0 rfl rfl ?_
  refine rr_aload_n C 1 dX9_init_1 rfl rfl ?_
  refine gf_X9_7 C dX9_init_2 (Or.inl hb) ?_
  refine rr_aload_n C 1 dX9_init_5 rfl rfl ?_
  refine gf_X9_13 C dX9_init_6 (Or.inl hb) ?_
  refine ci_X9_17 C dX9_init_9 (ct_X9_init_2 ha hw) (kN (fun h1 e1 => ?_))
  exact rr_return C dX9_init_12 ⟨rfl, e1⟩
