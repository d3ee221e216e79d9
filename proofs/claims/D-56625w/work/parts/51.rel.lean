/-! the model and the yard: what is the same; the model's own searches -/
set_option maxRecDepth 100000
def cy_chr : Nat → Int32
  | 0 => 119
  | 1 => 114
  | 2 => 115
  | _ => 120
theorem cy_chr_w {t : Nat} : cy_chr t = 119 ↔ t = 0 := by
  match t with
  | 0 => exact ⟨fun _ => rfl, fun _ => rfl⟩
  | 1 => exact ⟨fun z => absurd z (by decide), fun z => absurd z (by decide)⟩
  | 2 => exact ⟨fun z => absurd z (by decide), fun z => absurd z (by decide)⟩
  | n + 3 => exact ⟨fun z => absurd (show (120 : Int32) = 119 from z) (by decide), fun z => by omega⟩
theorem cy_chr_r {t : Nat} : cy_chr t = 114 ↔ t = 1 := by
  match t with
  | 0 => exact ⟨fun z => absurd z (by decide), fun z => absurd z (by decide)⟩
  | 1 => exact ⟨fun _ => rfl, fun _ => rfl⟩
  | 2 => exact ⟨fun z => absurd z (by decide), fun z => absurd z (by decide)⟩
  | n + 3 => exact ⟨fun z => absurd (show (120 : Int32) = 114 from z) (by decide), fun z => by omega⟩
theorem cy_chr_s {t : Nat} : cy_chr t = 115 ↔ t = 2 := by
  match t with
  | 0 => exact ⟨fun z => absurd z (by decide), fun z => absurd z (by decide)⟩
  | 1 => exact ⟨fun z => absurd z (by decide), fun z => absurd z (by decide)⟩
  | 2 => exact ⟨fun _ => rfl, fun _ => rfl⟩
  | n + 3 => exact ⟨fun z => absurd (show (120 : Int32) = 115 from z) (by decide), fun z => by omega⟩
theorem cy_chr_x {t : Nat} (ht : t < 4) : cy_chr t = 120 ↔ t = 3 := by
  match t, ht with
  | 0, _ => exact ⟨fun z => absurd z (by decide), fun z => absurd z (by decide)⟩
  | 1, _ => exact ⟨fun z => absurd z (by decide), fun z => absurd z (by decide)⟩
  | 2, _ => exact ⟨fun z => absurd z (by decide), fun z => absurd z (by decide)⟩
  | 3, _ => exact ⟨fun _ => rfl, fun _ => rfl⟩
/-- the row of failures that the model keeps -/
def cy_rw (I : Nat → Nat → Int32) (J : Nat → Nat → Nat) (i : Nat) : Int32 := if J 13 i = 1 then cy_fl I i else I 17 i
def cy_Rl (I : Nat → Nat → Int32) (J : Nat → Nat → Nat) (M : Nat → Nat → Int32) : Prop :=
  (M 1 0 = I 1 0) ∧
  (M 2 0 = nI (J 0 0)) ∧
  (M 5 0 = nI (J 0 1)) ∧
  (M 8 0 = nI (J 0 4)) ∧
  (M 11 0 = nI (J 0 2)) ∧
  (M 15 0 = I 1 1) ∧
  (M 16 0 = nI (J 0 3)) ∧
  (∀ i, i < J 0 0 → M 3 i = I 2 i) ∧
  (∀ i, i < J 0 0 → M 4 i = I 3 i) ∧
  (∀ i, i < J 0 1 → M 6 i = nI (J 10 i) - 1) ∧
  (∀ i, i < J 0 1 → M 7 i = nI (J 11 i)) ∧
  (∀ i, i < J 0 4 → M 9 i = I 4 i) ∧
  (∀ i, i < J 0 4 → M 10 i = I 5 i) ∧
  (∀ i, i < J 0 2 → M 12 i = I 8 i) ∧
  (∀ i, i < J 0 2 → M 13 i = I 9 i) ∧
  (∀ i, i < J 0 2 → M 14 i = I 11 i) ∧
  (∀ i, i < J 0 3 → M 17 i = I 12 i) ∧
  (∀ i, i < J 0 3 → M 18 i = nI (J 12 i)) ∧
  (∀ i, i < J 0 3 → M 19 i = I 13 i) ∧
  (∀ i, i < J 0 3 → M 20 i = I 14 i) ∧
  (∀ i, i < J 0 3 → M 21 i = cy_chr (J 13 i)) ∧
  (∀ i, i < J 0 3 → J 13 i = 1 → M 22 i = nI (J 14 i - 1)) ∧
  (∀ i, i < J 0 3 → M 23 i = I 15 i) ∧
  (∀ i, i < J 0 3 → M 24 i = I 16 i) ∧
  (∀ i, i < J 0 3 → M 25 i = I 18 i) ∧
  (∀ i, i < J 0 3 → M 26 i = cy_rw I J i) ∧
  (∀ i, J 0 0 ≤ i → M 3 i = 0 ∧ M 4 i = 0) ∧
  (∀ i, J 0 3 ≤ i → M 23 i = 0 ∧ M 24 i = 0 ∧ M 25 i = 0 ∧ M 26 i = 0)
section RELACC
variable {I : Nat → Nat → Int32} {J : Nat → Nat → Nat} {M : Nat → Nat → Int32}
theorem cy_Rl.hour (hR : cy_Rl I J M) : M 1 0 = I 1 0 := hR.1
theorem cy_Rl.nL (hR : cy_Rl I J M) : M 2 0 = nI (J 0 0) := hR.2.1
theorem cy_Rl.nIm (hR : cy_Rl I J M) : M 5 0 = nI (J 0 1) := hR.2.2.1
theorem cy_Rl.nH (hR : cy_Rl I J M) : M 8 0 = nI (J 0 4) := hR.2.2.2.1
theorem cy_Rl.nW (hR : cy_Rl I J M) : M 11 0 = nI (J 0 2) := hR.2.2.2.2.1
theorem cy_Rl.lic (hR : cy_Rl I J M) : M 15 0 = I 1 1 := hR.2.2.2.2.2.1
theorem cy_Rl.nC (hR : cy_Rl I J M) : M 16 0 = nI (J 0 3) := hR.2.2.2.2.2.2.1
theorem cy_Rl.wd (hR : cy_Rl I J M) : ∀ i, i < J 0 0 → M 3 i = I 2 i := hR.2.2.2.2.2.2.2.1
theorem cy_Rl.oa (hR : cy_Rl I J M) : ∀ i, i < J 0 0 → M 4 i = I 3 i := hR.2.2.2.2.2.2.2.2.1
theorem cy_Rl.par (hR : cy_Rl I J M) : ∀ i, i < J 0 1 → M 6 i = nI (J 10 i) - 1 := hR.2.2.2.2.2.2.2.2.2.1
theorem cy_Rl.ownl (hR : cy_Rl I J M) : ∀ i, i < J 0 1 → M 7 i = nI (J 11 i) := hR.2.2.2.2.2.2.2.2.2.2.1
theorem cy_Rl.hc (hR : cy_Rl I J M) : ∀ i, i < J 0 4 → M 9 i = I 4 i := hR.2.2.2.2.2.2.2.2.2.2.2.1
theorem cy_Rl.hm (hR : cy_Rl I J M) : ∀ i, i < J 0 4 → M 10 i = I 5 i := hR.2.2.2.2.2.2.2.2.2.2.2.2.1
theorem cy_Rl.w1 (hR : cy_Rl I J M) : ∀ i, i < J 0 2 → M 12 i = I 8 i := hR.2.2.2.2.2.2.2.2.2.2.2.2.2.1
theorem cy_Rl.w2 (hR : cy_Rl I J M) : ∀ i, i < J 0 2 → M 13 i = I 9 i := hR.2.2.2.2.2.2.2.2.2.2.2.2.2.2.1
theorem cy_Rl.w3 (hR : cy_Rl I J M) : ∀ i, i < J 0 2 → M 14 i = I 11 i := hR.2.2.2.2.2.2.2.2.2.2.2.2.2.2.2.1
theorem cy_Rl.ten (hR : cy_Rl I J M) : ∀ i, i < J 0 3 → M 17 i = I 12 i := hR.2.2.2.2.2.2.2.2.2.2.2.2.2.2.2.2.1
theorem cy_Rl.img (hR : cy_Rl I J M) : ∀ i, i < J 0 3 → M 18 i = nI (J 12 i) := hR.2.2.2.2.2.2.2.2.2.2.2.2.2.2.2.2.2.1
theorem cy_Rl.nc (hR : cy_Rl I J M) : ∀ i, i < J 0 3 → M 19 i = I 13 i := hR.2.2.2.2.2.2.2.2.2.2.2.2.2.2.2.2.2.2.1
theorem cy_Rl.nm (hR : cy_Rl I J M) : ∀ i, i < J 0 3 → M 20 i = I 14 i := hR.2.2.2.2.2.2.2.2.2.2.2.2.2.2.2.2.2.2.2.1
theorem cy_Rl.sta (hR : cy_Rl I J M) : ∀ i, i < J 0 3 → M 21 i = cy_chr (J 13 i) := hR.2.2.2.2.2.2.2.2.2.2.2.2.2.2.2.2.2.2.2.2.1
theorem cy_Rl.host (hR : cy_Rl I J M) : ∀ i, i < J 0 3 → J 13 i = 1 → M 22 i = nI (J 14 i - 1) := hR.2.2.2.2.2.2.2.2.2.2.2.2.2.2.2.2.2.2.2.2.2.1
theorem cy_Rl.wi (hR : cy_Rl I J M) : ∀ i, i < J 0 3 → M 23 i = I 15 i := hR.2.2.2.2.2.2.2.2.2.2.2.2.2.2.2.2.2.2.2.2.2.2.1
theorem cy_Rl.start (hR : cy_Rl I J M) : ∀ i, i < J 0 3 → M 24 i = I 16 i := hR.2.2.2.2.2.2.2.2.2.2.2.2.2.2.2.2.2.2.2.2.2.2.2.1
theorem cy_Rl.unt (hR : cy_Rl I J M) : ∀ i, i < J 0 3 → M 25 i = I 18 i := hR.2.2.2.2.2.2.2.2.2.2.2.2.2.2.2.2.2.2.2.2.2.2.2.2.1
theorem cy_Rl.row (hR : cy_Rl I J M) : ∀ i, i < J 0 3 → M 26 i = cy_rw I J i := hR.2.2.2.2.2.2.2.2.2.2.2.2.2.2.2.2.2.2.2.2.2.2.2.2.2.1
theorem cy_Rl.zL (hR : cy_Rl I J M) : ∀ i, J 0 0 ≤ i → M 3 i = 0 ∧ M 4 i = 0 := hR.2.2.2.2.2.2.2.2.2.2.2.2.2.2.2.2.2.2.2.2.2.2.2.2.2.2.1
theorem cy_Rl.zC (hR : cy_Rl I J M) : ∀ i, J 0 3 ≤ i → M 23 i = 0 ∧ M 24 i = 0 ∧ M 25 i = 0 ∧ M 26 i = 0 := hR.2.2.2.2.2.2.2.2.2.2.2.2.2.2.2.2.2.2.2.2.2.2.2.2.2.2.2
end RELACC
theorem cy_Rl.cong {I : Nat → Nat → Int32} {J : Nat → Nat → Nat} {M M' : Nat → Nat → Int32} (hR : cy_Rl I J M) (h : ∀ r, r ≠ 0 → r ≠ 28 → r ≠ 29 → M' r = M r) : cy_Rl I J M' := by
  have e1 := h 1 (by decide) (by decide) (by decide)
  have e2 := h 2 (by decide) (by decide) (by decide)
  have e3 := h 3 (by decide) (by decide) (by decide)
  have e4 := h 4 (by decide) (by decide) (by decide)
  have e5 := h 5 (by decide) (by decide) (by decide)
  have e6 := h 6 (by decide) (by decide) (by decide)
  have e7 := h 7 (by decide) (by decide) (by decide)
  have e8 := h 8 (by decide) (by decide) (by decide)
  have e9 := h 9 (by decide) (by decide) (by decide)
  have e10 := h 10 (by decide) (by decide) (by decide)
  have e11 := h 11 (by decide) (by decide) (by decide)
  have e12 := h 12 (by decide) (by decide) (by decide)
  have e13 := h 13 (by decide) (by decide) (by decide)
  have e14 := h 14 (by decide) (by decide) (by decide)
  have e15 := h 15 (by decide) (by decide) (by decide)
  have e16 := h 16 (by decide) (by decide) (by decide)
  have e17 := h 17 (by decide) (by decide) (by decide)
  have e18 := h 18 (by decide) (by decide) (by decide)
  have e19 := h 19 (by decide) (by decide) (by decide)
  have e20 := h 20 (by decide) (by decide) (by decide)
  have e21 := h 21 (by decide) (by decide) (by decide)
  have e22 := h 22 (by decide) (by decide) (by decide)
  have e23 := h 23 (by decide) (by decide) (by decide)
  have e24 := h 24 (by decide) (by decide) (by decide)
  have e25 := h 25 (by decide) (by decide) (by decide)
  have e26 := h 26 (by decide) (by decide) (by decide)
  exact ⟨by rw [e1]; exact hR.hour, by rw [e2]; exact hR.nL, by rw [e5]; exact hR.nIm, by rw [e8]; exact hR.nH, by rw [e11]; exact hR.nW, by rw [e15]; exact hR.lic, by rw [e16]; exact hR.nC, by rw [e3]; exact hR.wd, by rw [e4]; exact hR.oa, by rw [e6]; exact hR.par, by rw [e7]; exact hR.ownl, by rw [e9]; exact hR.hc, by rw [e10]; exact hR.hm, by rw [e12]; exact hR.w1, by rw [e13]; exact hR.w2, by rw [e14]; exact hR.w3, by rw [e17]; exact hR.ten, by rw [e18]; exact hR.img, by rw [e19]; exact hR.nc, by rw [e20]; exact hR.nm, by rw [e21]; exact hR.sta, by rw [e22]; exact hR.host, by rw [e23]; exact hR.wi, by rw [e24]; exact hR.start, by rw [e25]; exact hR.unt, by rw [e26]; exact hR.row, by rw [e3, e4]; exact hR.zL, by rw [e23, e24, e25, e26]; exact hR.zC⟩
theorem cy_Rl.thr {I : Nat → Nat → Int32} {J : Nat → Nat → Nat} {M : Nat → Nat → Int32} (hR : cy_Rl I J M) (v : Int32) : cy_Rl I J (u2 M 0 0 v) := hR.cong (fun r h0 _ _ => u2_row h0)
/-- bits of those that are -/
def cy_ob (p : Nat → Bool) : Nat → Int32
  | 0 => 0
  | n + 1 => cy_ob p n ||| (if p n then cy_bit n else 0)
/-- the sum over those that are -/
def cy_sm (p : Nat → Bool) (f : Nat → Int32) : Nat → Int32
  | 0 => 0
  | n + 1 => cy_sm p f n + (if p n then f n else 0)
theorem i32_or_assoc (a b c : Int32) : a ||| b ||| c = a ||| (b ||| c) := Int32.or_assoc a b c
theorem nI_m1 {p : Nat} (hp : p < 2 ^ 31) : nI p - 1 = -1 ↔ p = 0 := by
  constructor
  · intro h
    cases p with
    | zero => rfl
    | succ i =>
      rw [nI_pred] at h
      exact absurd (show nI i < 0 by rw [h]; decide) (nI_pos (by omega))
  · intro h
    rw [h]
    rfl
section REL
variable {G : GT} {A : Nat → Nat} {M : Nat → Nat → Int32} {st : Int64} {h : Hp} {I : Nat → Nat → Int32} {J : Nat → Nat → Nat}
theorem ct_X3_set (hM : cy_Mo G A M st h) (hR : cy_Rl I J M) (hr : cy_Yr G J) {i : Nat} (hi : i < J 0 1) : cy_Con G yX3_set cX3_set 4 (some .int) 0 0 [.ref (A 0), .int (nI i)] h (qV (.int (cy_lay J i)) (fun h1 => h1 = h)) xF := by
  have r0 := hr.2.1
  refine cy_in (own := RX3) (lv0 := [some (.ref (A 0)), some (.int (nI i)), none, none]) (by decide) rfl rfl rfl (Nat.le_of_ble_eq_true rfl) (fun K T C => ?_)
  have loop : ∀ (n p : Nat) (b : Int32), p ≤ n → p ≤ J 0 1 → b ||| cy_bits J (cy_ch J n p) = cy_lay J i → K 0 h 4 [some (.ref (A 0)), some (.int (nI i)), some (.int b), some (.int (nI p - 1))] [] := by
    intro n
    induction n with
    | zero =>
      intro p b hp hpl e
      have hp0 : p = 0 := by omega
      subst hp0
      refine rr_iload_n C 3 dX3_set_4 rfl rfl ?_
      refine rr_iconst C (-1) dX3_set_5 (by decide) ?_
      refine rr_icmp_eq C 30 dX3_set_6 (by decide) (fun _ => ?_) (fun c => absurd rfl c)
      refine rr_iload_n C 2 dX3_set_30 rfl rfl ?_
      exact rr_ireturn C dX3_set_31 ⟨by rw [← e]; show _ = some (Value.int (b ||| 0)); rw [Int32.or_zero], rfl⟩
    | succ n ih =>
      intro p b hp hpl e
      cases p with
      | zero =>
        refine rr_iload_n C 3 dX3_set_4 rfl rfl ?_
        refine rr_iconst C (-1) dX3_set_5 (by decide) ?_
        refine rr_icmp_eq C 30 dX3_set_6 (by decide) (fun _ => ?_) (fun c => absurd rfl c)
        refine rr_iload_n C 2 dX3_set_30 rfl rfl ?_
        exact rr_ireturn C dX3_set_31 ⟨by rw [← e]; show _ = some (Value.int (b ||| 0)); rw [Int32.or_zero], rfl⟩
      | succ p =>
        have hpi : p < J 0 1 := by omega
        have hpa := (hr.2.2.1 p hpi).1
        rw [nI_pred]
        refine rr_iload_n C 3 dX3_set_4 rfl rfl ?_
        refine rr_iconst C (-1) dX3_set_5 (by decide) ?_
        refine rr_icmp_eq C 30 dX3_set_6 (by decide) (fun c => absurd (show nI p < 0 by rw [c]; decide) (nI_pos (by omega))) (fun _ => ?_)
        refine rr_iload_n C 2 dX3_set_9 rfl rfl ?_
        refine rr_iconst C 1 dX3_set_10 (by decide) ?_
        refine rr_aload_n C 0 dX3_set_11 rfl rfl ?_
        refine gf_X3_20 C dX3_set_12 (Or.inl hM.obj) ?_
        refine rr_iload_n C 3 dX3_set_15 rfl rfl ?_
        refine rr_iald C p dX3_set_16 (Or.inl (hM.row rfl)) rfl (by omega) (by decide) ?_
        rw [hR.ownl p hpi]
        refine rr_ishl C dX3_set_17 ?_
        refine rr_ior C dX3_set_18 ?_
        refine rr_istore_n C 2 dX3_set_19 rfl (Nat.le_of_ble_eq_true rfl) rfl (Nat.le_of_ble_eq_true rfl) ?_
        refine rr_aload_n C 0 dX3_set_20 rfl rfl ?_
        refine gf_X3_17 C dX3_set_21 (Or.inl hM.obj) ?_
        refine rr_iload_n C 3 dX3_set_24 rfl rfl ?_
        refine rr_iald C p dX3_set_25 (Or.inl (hM.row rfl)) rfl (by omega) (by decide) ?_
        rw [hR.par p hpi]
        refine rr_istore_n C 3 dX3_set_26 rfl (Nat.le_of_ble_eq_true rfl) rfl (Nat.le_of_ble_eq_true rfl) ?_
        refine rr_goto C 4 dX3_set_27 (by decide) ?_
        exact ih (J 10 p) (b ||| cy_bit (J 11 p)) (by omega) (by omega) (by rw [← e, i32_or_assoc]; rfl)
  refine rr_iconst C 0 dX3_set_0 (by decide) ?_
  refine rr_istore_n C 2 dX3_set_1 rfl (Nat.le_of_ble_eq_true rfl) rfl (Nat.le_of_ble_eq_true rfl) ?_
  refine rr_iload_n C 1 dX3_set_2 rfl rfl ?_
  refine rr_istore_n C 3 dX3_set_3 rfl (Nat.le_of_ble_eq_true rfl) rfl (Nat.le_of_ble_eq_true rfl) ?_
  have l0 := loop (i + 1) (i + 1) 0 (Nat.le_refl _) (by omega) (by rw [Int32.zero_or]; rfl)
  rw [nI_pred] at l0
  exact l0
theorem ct_X3_isOutNow (hM : cy_Mo G A M st h) (hR : cy_Rl I J M) (hr : cy_Yr G J) {i : Nat} (hi : i < J 0 0) : cy_Con G yX3_isOutNow cX3_isOutNow 2 (some .boolean) 0 0 [.ref (A 0), .int (nI i)] h (qV (.int (bI (cy_out (I 2 i) (I 3 i) (I 1 0)))) (fun h1 => h1 = h)) xF := by
  have r0 := hr.2.1
  refine cy_in (own := RX3) (lv0 := [some (.ref (A 0)), some (.int (nI i))]) (by decide) rfl rfl rfl (Nat.le_of_ble_eq_true rfl) (fun K T C => ?_)
  refine rr_aload_n C 0 dX3_isOutNow_0 rfl rfl ?_
  refine gf_X3_7 C dX3_isOutNow_1 (Or.inl hM.obj) ?_
  refine rr_iload_n C 1 dX3_isOutNow_4 rfl rfl ?_
  refine rr_zald C i dX3_isOutNow_5 (Or.inl (hM.row rfl)) rfl (by omega) (by decide) ?_
  rw [hR.wd i hi]
  refine rr_if_eq C 26 dX3_isOutNow_6 (by decide) (fun c6 => ?_) (fun c6 => ?_)
  · refine rr_iconst C 0 dX3_isOutNow_26 (by decide) ?_
    exact rr_zreturn C dX3_isOutNow_27 rfl ⟨by rw [cy_out, decide_eq_true c6]; rfl, rfl⟩
  · refine rr_aload_n C 0 dX3_isOutNow_9 rfl rfl ?_
    refine gf_X3_98 C dX3_isOutNow_10 (Or.inl hM.obj) ?_
    refine rr_aload_n C 0 dX3_isOutNow_13 rfl rfl ?_
    refine gf_X3_13 C dX3_isOutNow_14 (Or.inl hM.obj) ?_
    refine rr_iload_n C 1 dX3_isOutNow_17 rfl rfl ?_
    refine rr_iald C i dX3_isOutNow_18 (Or.inl (hM.row rfl)) rfl (by omega) (by decide) ?_
    rw [hR.hour, hR.oa i hi]
    refine rr_icmp_lt C 26 dX3_isOutNow_19 (by decide) (fun c19 => ?_) (fun c19 => ?_)
    · refine rr_iconst C 0 dX3_isOutNow_26 (by decide) ?_
      exact rr_zreturn C dX3_isOutNow_27 rfl ⟨by rw [cy_out, decide_eq_true c19, Bool.and_comm]; rfl, rfl⟩
    · refine rr_iconst C 1 dX3_isOutNow_22 (by decide) ?_
      refine rr_goto C 27 dX3_isOutNow_23 (by decide) ?_
      exact rr_zreturn C dX3_isOutNow_27 rfl ⟨by rw [cy_out, decide_eq_false c6, decide_eq_false c19]; rfl, rfl⟩
theorem ct_X3_outNow (hM : cy_Mo G A M st h) (hR : cy_Rl I J M) (hr : cy_Yr G J) : cy_Con G yX3_outNow cX3_outNow 3 (some .int) 1 0 [.ref (A 0)] h (qV (.int (cy_ob (fun k => cy_out (I 2 k) (I 3 k) (I 1 0)) (J 0 0))) (fun h1 => h1 = h)) xF := by
  have r0 := hr.2.1
  refine cy_in (own := RX3) (lv0 := [some (.ref (A 0)), none, none]) (by decide) rfl rfl rfl (Nat.le_of_ble_eq_true rfl) (fun K T C => ?_)
  have loop : ∀ (d k : Nat), k + d = J 0 0 → K 0 h 4 [some (.ref (A 0)), some (.int (cy_ob (fun k => cy_out (I 2 k) (I 3 k) (I 1 0)) k)), some (.int (nI k))] [] := by
    intro d
    induction d with
    | zero =>
      intro k hk
      have hkn : k = J 0 0 := by omega
      subst hkn
      refine rr_iload_n C 2 dX3_outNow_4 rfl rfl ?_
      refine rr_aload_n C 0 dX3_outNow_5 rfl rfl ?_
      refine gf_X3_82 C dX3_outNow_6 (Or.inl hM.obj) ?_
      rw [hR.nL]
      refine rr_icmp_ge C 36 dX3_outNow_9 (by decide) (fun _ => ?_) (fun c => absurd (nI_le (Nat.le_refl _) (by omega)) c)
      refine rr_iload_n C 1 dX3_outNow_36 rfl rfl ?_
      exact rr_ireturn C dX3_outNow_37 ⟨rfl, rfl⟩
    | succ d ih =>
      intro k hk
      refine rr_iload_n C 2 dX3_outNow_4 rfl rfl ?_
      refine rr_aload_n C 0 dX3_outNow_5 rfl rfl ?_
      refine gf_X3_82 C dX3_outNow_6 (Or.inl hM.obj) ?_
      rw [hR.nL]
      refine rr_icmp_ge C 36 dX3_outNow_9 (by decide) (fun c => absurd c (nI_ge (by omega) (by omega))) (fun _ => ?_)
      refine rr_iload_n C 1 dX3_outNow_12 rfl rfl ?_
      refine rr_aload_n C 0 dX3_outNow_13 rfl rfl ?_
      refine rr_iload_n C 2 dX3_outNow_14 rfl rfl ?_
      refine cv_X3_101 C dX3_outNow_15 (ct_X3_isOutNow hM hR hr (i := k) (by omega)) (Or.inl hM.obj) (kVr ?_)
      have nx : ∀ b : Bool, cy_out (I 2 k) (I 3 k) (I 1 0) = b → K 0 h 28 [some (.ref (A 0)), some (.int (cy_ob (fun k => cy_out (I 2 k) (I 3 k) (I 1 0)) k)), some (.int (nI k))] [.int (if b then cy_bit k else 0), .int (cy_ob (fun k => cy_out (I 2 k) (I 3 k) (I 1 0)) k)] := by
        intro b hb
        subst hb
        refine rr_ior C dX3_outNow_28 ?_
        refine rr_istore_n C 1 dX3_outNow_29 rfl (Nat.le_of_ble_eq_true rfl) rfl (Nat.le_of_ble_eq_true rfl) ?_
        refine rr_iinc C (nI (k + 1)) dX3_outNow_30 rfl (nI_1 k) (Nat.le_of_ble_eq_true rfl) rfl (Nat.le_of_ble_eq_true rfl) ?_
        refine rr_goto C 4 dX3_outNow_33 (by decide) ?_
        exact ih (k + 1) (by omega)
      refine rr_if_eq C 27 dX3_outNow_18 (by decide) (fun c18 => ?_) (fun c18 => ?_)
      · refine rr_iconst C 0 dX3_outNow_27 (by decide) ?_
        exact nx false (bI_eq0 c18)
      · refine rr_iconst C 1 dX3_outNow_21 (by decide) ?_
        refine rr_iload_n C 2 dX3_outNow_22 rfl rfl ?_
        refine rr_ishl C dX3_outNow_23 ?_
        refine rr_goto C 28 dX3_outNow_24 (by decide) ?_
        exact nx true (bI_ne0 c18)
  refine rr_iconst C 0 dX3_outNow_0 (by decide) ?_
  refine rr_istore_n C 1 dX3_outNow_1 rfl (Nat.le_of_ble_eq_true rfl) rfl (Nat.le_of_ble_eq_true rfl) ?_
  refine rr_iconst C 0 dX3_outNow_2 (by decide) ?_
  refine rr_istore_n C 2 dX3_outNow_3 rfl (Nat.le_of_ble_eq_true rfl) rfl (Nat.le_of_ble_eq_true rfl) ?_
  exact loop (J 0 0) 0 (by omega)
theorem ct_X3_withdrawn (hM : cy_Mo G A M st h) (hR : cy_Rl I J M) (hr : cy_Yr G J) : cy_Con G yX3_withdrawn cX3_withdrawn 3 (some .int) 0 0 [.ref (A 0)] h (qV (.int (cy_ob (fun k => !decide (I 2 k = 0)) (J 0 0))) (fun h1 => h1 = h)) xF := by
  have r0 := hr.2.1
  refine cy_in (own := RX3) (lv0 := [some (.ref (A 0)), none, none]) (by decide) rfl rfl rfl (Nat.le_of_ble_eq_true rfl) (fun K T C => ?_)
  have loop : ∀ (d k : Nat), k + d = J 0 0 → K 0 h 4 [some (.ref (A 0)), some (.int (cy_ob (fun k => !decide (I 2 k = 0)) k)), some (.int (nI k))] [] := by
    intro d
    induction d with
    | zero =>
      intro k hk
      have hkn : k = J 0 0 := by omega
      subst hkn
      refine rr_iload_n C 2 dX3_withdrawn_4 rfl rfl ?_
      refine rr_aload_n C 0 dX3_withdrawn_5 rfl rfl ?_
      refine gf_X3_82 C dX3_withdrawn_6 (Or.inl hM.obj) ?_
      rw [hR.nL]
      refine rr_icmp_ge C 37 dX3_withdrawn_9 (by decide) (fun _ => ?_) (fun c => absurd (nI_le (Nat.le_refl _) (by omega)) c)
      refine rr_iload_n C 1 dX3_withdrawn_37 rfl rfl ?_
      exact rr_ireturn C dX3_withdrawn_38 ⟨rfl, rfl⟩
    | succ d ih =>
      intro k hk
      refine rr_iload_n C 2 dX3_withdrawn_4 rfl rfl ?_
      refine rr_aload_n C 0 dX3_withdrawn_5 rfl rfl ?_
      refine gf_X3_82 C dX3_withdrawn_6 (Or.inl hM.obj) ?_
      rw [hR.nL]
      refine rr_icmp_ge C 37 dX3_withdrawn_9 (by decide) (fun c => absurd c (nI_ge (by omega) (by omega))) (fun _ => ?_)
      refine rr_iload_n C 1 dX3_withdrawn_12 rfl rfl ?_
      refine rr_aload_n C 0 dX3_withdrawn_13 rfl rfl ?_
      refine gf_X3_7 C dX3_withdrawn_14 (Or.inl hM.obj) ?_
      refine rr_iload_n C 2 dX3_withdrawn_17 rfl rfl ?_
      refine rr_zald C k dX3_withdrawn_18 (Or.inl (hM.row rfl)) rfl (by omega) (by decide) ?_
      rw [hR.wd k (by omega)]
      have nx : ∀ b : Bool, (!decide (I 2 k = 0)) = b → K 0 h 29 [some (.ref (A 0)), some (.int (cy_ob (fun k => !decide (I 2 k = 0)) k)), some (.int (nI k))] [.int (if b then cy_bit k else 0), .int (cy_ob (fun k => !decide (I 2 k = 0)) k)] := by
        intro b hb
        subst hb
        refine rr_ior C dX3_withdrawn_29 ?_
        refine rr_istore_n C 1 dX3_withdrawn_30 rfl (Nat.le_of_ble_eq_true rfl) rfl (Nat.le_of_ble_eq_true rfl) ?_
        refine rr_iinc C (nI (k + 1)) dX3_withdrawn_31 rfl (nI_1 k) (Nat.le_of_ble_eq_true rfl) rfl (Nat.le_of_ble_eq_true rfl) ?_
        refine rr_goto C 4 dX3_withdrawn_34 (by decide) ?_
        exact ih (k + 1) (by omega)
      refine rr_if_eq C 28 dX3_withdrawn_19 (by decide) (fun c19 => ?_) (fun c19 => ?_)
      · refine rr_iconst C 0 dX3_withdrawn_28 (by decide) ?_
        exact nx false (by rw [decide_eq_true c19]; rfl)
      · refine rr_iconst C 1 dX3_withdrawn_22 (by decide) ?_
        refine rr_iload_n C 2 dX3_withdrawn_23 rfl rfl ?_
        refine rr_ishl C dX3_withdrawn_24 ?_
        refine rr_goto C 29 dX3_withdrawn_25 (by decide) ?_
        exact nx true (by rw [decide_eq_false c19]; rfl)
  refine rr_iconst C 0 dX3_withdrawn_0 (by decide) ?_
  refine rr_istore_n C 1 dX3_withdrawn_1 rfl (Nat.le_of_ble_eq_true rfl) rfl (Nat.le_of_ble_eq_true rfl) ?_
  refine rr_iconst C 0 dX3_withdrawn_2 (by decide) ?_
  refine rr_istore_n C 2 dX3_withdrawn_3 rfl (Nat.le_of_ble_eq_true rfl) rfl (Nat.le_of_ble_eq_true rfl) ?_
  exact loop (J 0 0) 0 (by omega)
theorem ct_X3_isStaleNow (hM : cy_Mo G A M st h) (hR : cy_Rl I J M) (hr : cy_Yr G J) {i : Nat} (hi : i < J 0 3) : cy_Con G yX3_isStaleNow cX3_isStaleNow 2 (some .boolean) 1 0 [.ref (A 0), .int (nI i)] h (qV (.int (bI (cy_stale I J i))) (fun h1 => h1 = h)) xF := by
  have r0 := hr.2.1
  refine cy_in (own := RX3) (lv0 := [some (.ref (A 0)), some (.int (nI i))]) (by decide) rfl rfl rfl (Nat.le_of_ble_eq_true rfl) (fun K T C => ?_)
  refine rr_aload_n C 0 dX3_isStaleNow_0 rfl rfl ?_
  refine gf_X3_54 C dX3_isStaleNow_1 (Or.inl hM.obj) ?_
  refine rr_iload_n C 1 dX3_isStaleNow_4 rfl rfl ?_
  refine rr_cald C i dX3_isStaleNow_5 (Or.inl (hM.row rfl)) rfl (by omega) (by decide) ?_
  rw [hR.sta i hi]
  refine rr_bipush C 114 dX3_isStaleNow_6 (by decide) ?_
  refine rr_icmp_ne C 37 dX3_isStaleNow_8 (by decide) (fun c8 => ?_) (fun c8 => ?_)
  · refine rr_iconst C 0 dX3_isStaleNow_37 (by decide) ?_
    exact rr_zreturn C dX3_isStaleNow_38 rfl ⟨by rw [cy_stale, decide_eq_false (fun z => c8 (cy_chr_r.mpr z))]; rfl, rfl⟩
  · have hrun := cy_chr_r.mp c8
    refine rr_aload_n C 0 dX3_isStaleNow_11 rfl rfl ?_
    refine gf_X3_61 C dX3_isStaleNow_12 (Or.inl hM.obj) ?_
    refine rr_iload_n C 1 dX3_isStaleNow_15 rfl rfl ?_
    refine rr_iald C i dX3_isStaleNow_16 (Or.inl (hM.row rfl)) rfl (by omega) (by decide) ?_
    refine rr_aload_n C 0 dX3_isStaleNow_17 rfl rfl ?_
    refine rr_aload_n C 0 dX3_isStaleNow_18 rfl rfl ?_
    refine gf_X3_45 C dX3_isStaleNow_19 (Or.inl hM.obj) ?_
    refine rr_iload_n C 1 dX3_isStaleNow_22 rfl rfl ?_
    refine rr_iald C i dX3_isStaleNow_23 (Or.inl (hM.row rfl)) rfl (by omega) (by decide) ?_
    rw [hR.img i hi, hR.wi i hi]
    refine cv_X3_105 C dX3_isStaleNow_24 (ct_X3_set hM hR hr (hr.2.2.2 i hi).1) (Or.inl hM.obj) (kVr ?_)
    refine rr_iconst C (-1) dX3_isStaleNow_27 (by decide) ?_
    refine rr_ixor C dX3_isStaleNow_28 ?_
    refine rr_iand C dX3_isStaleNow_29 ?_
    refine rr_if_eq C 37 dX3_isStaleNow_30 (by decide) (fun c30 => ?_) (fun c30 => ?_)
    · refine rr_iconst C 0 dX3_isStaleNow_37 (by decide) ?_
      exact rr_zreturn C dX3_isStaleNow_38 rfl ⟨by rw [cy_stale, decide_eq_true c30, decide_eq_true hrun]; rfl, rfl⟩
    · refine rr_iconst C 1 dX3_isStaleNow_33 (by decide) ?_
      refine rr_goto C 38 dX3_isStaleNow_34 (by decide) ?_
      exact rr_zreturn C dX3_isStaleNow_38 rfl ⟨by rw [cy_stale, decide_eq_false c30, decide_eq_true hrun]; rfl, rfl⟩
end REL
