/-! a yard anew -/
set_option maxRecDepth 100000
def in0I : Nat → Nat → Int32 := fun r i => if r = 1 ∧ i = 1 then 16 else 0
def in0J (G : GT) (ya pa l0 l1 l2 l3 l4 : Nat) : Nat → Nat → Nat
  | 1, i => if i = 0 then ya else pa
  | 2, i => if i = 0 then l0 else if i = 1 then l1 else if i = 2 then l2 else if i = 3 then l3 else l4
  | 3, _ => G.2.2.2.2 10
  | _, _ => 0
theorem cy_Y.anew {G : GT} {h : Hp} {ya pa l0 l1 l2 l3 l4 : Nat} (h0 : h ya = some (.inr (0, [.ref l0, .ref l1, .ref l2, .ref l3, .ref pa, .int 0, .long 0]))) (h1 : h pa = some (.inr (1, [.ref l4, .int 16, .int 0])))
    (k0 : h l0 = some (.inr (7, [.int 0, .ref (G.2.2.2.2 10), .int 0]))) (k1 : h l1 = some (.inr (7, [.int 0, .ref (G.2.2.2.2 10), .int 0]))) (k2 : h l2 = some (.inr (7, [.int 0, .ref (G.2.2.2.2 10), .int 0]))) (k3 : h l3 = some (.inr (7, [.int 0, .ref (G.2.2.2.2 10), .int 0]))) (k4 : h l4 = some (.inr (7, [.int 0, .ref (G.2.2.2.2 10), .int 0])))
    (hne : [l0, l1, l2, l3, l4].Nodup) : cy_Y G in0I (in0J G ya pa l0 l1 l2 l3 l4) 0 h := by
  have hl : ∀ i, i < 5 → h (in0J G ya pa l0 l1 l2 l3 l4 2 i) = some (.inr (7, [.int 0, .ref (G.2.2.2.2 10), .int 0])) := by
    intro i hi
    match i, hi with
    | 0, _ => exact k0
    | 1, _ => exact k1
    | 2, _ => exact k2
    | 3, _ => exact k3
    | 4, _ => exact k4
  have hli : ∀ i j, i < 5 → j < 5 → in0J G ya pa l0 l1 l2 l3 l4 2 i = in0J G ya pa l0 l1 l2 l3 l4 2 j → i = j := by
    simp only [List.nodup_cons, List.mem_cons, List.not_mem_nil, or_false, not_or] at hne
    obtain ⟨⟨a1, a2, a3, a4⟩, ⟨b2, b3, b4⟩, ⟨c3, c4⟩, d4, -⟩ := hne
    intro i j hi hj e
    match i, hi, j, hj, e with
    | 0, _, 0, _, _ => rfl
    | 1, _, 1, _, _ => rfl
    | 2, _, 2, _, _ => rfl
    | 3, _, 3, _, _ => rfl
    | 4, _, 4, _, _ => rfl
    | 0, _, 1, _, e => exact absurd e a1
    | 0, _, 2, _, e => exact absurd e a2
    | 0, _, 3, _, e => exact absurd e a3
    | 0, _, 4, _, e => exact absurd e a4
    | 1, _, 0, _, e => exact absurd e.symm a1
    | 1, _, 2, _, e => exact absurd e b2
    | 1, _, 3, _, e => exact absurd e b3
    | 1, _, 4, _, e => exact absurd e b4
    | 2, _, 0, _, e => exact absurd e.symm a2
    | 2, _, 1, _, e => exact absurd e.symm b2
    | 2, _, 3, _, e => exact absurd e c3
    | 2, _, 4, _, e => exact absurd e c4
    | 3, _, 0, _, e => exact absurd e.symm a3
    | 3, _, 1, _, e => exact absurd e.symm b3
    | 3, _, 2, _, e => exact absurd e.symm c3
    | 3, _, 4, _, e => exact absurd e d4
    | 4, _, 0, _, e => exact absurd e.symm a4
    | 4, _, 1, _, e => exact absurd e.symm b4
    | 4, _, 2, _, e => exact absurd e.symm c4
    | 4, _, 3, _, e => exact absurd e.symm d4
  have key : ∀ k i a e, cy_Yc G in0I (in0J G ya pa l0 l1 l2 l3 l4) 0 k i = some (a, e) → h a = some e ∧ ((k = 0 ∧ i = 0 ∧ a = ya) ∨ (k = 1 ∧ i = 0 ∧ a = pa) ∨ (k = 2 ∧ i < 5 ∧ a = in0J G ya pa l0 l1 l2 l3 l4 2 i)) := by
    intro k i a e hx
    match k, hx with
    | 0, hx =>
      obtain ⟨hi, hx⟩ := cy_ifp hx
      cases hx
      exact ⟨h0, Or.inl ⟨rfl, hi, rfl⟩⟩
    | 1, hx =>
      obtain ⟨hi, hx⟩ := cy_ifp hx
      cases hx
      exact ⟨h1, Or.inr (Or.inl ⟨rfl, hi, rfl⟩)⟩
    | 2, hx =>
      obtain ⟨hi, hx⟩ := cy_ifp hx
      cases hx
      exact ⟨hl i hi, Or.inr (Or.inr ⟨rfl, hi, rfl⟩)⟩
    | 3, hx => obtain ⟨z, _⟩ := cy_ifp hx; exact absurd rfl z.2
    | 4, hx => cases (show (none : Option (Nat × va_E)) = some (a, e) from hx)
    | 5, hx => cases (show (none : Option (Nat × va_E)) = some (a, e) from hx)
    | 6, hx => cases (show (none : Option (Nat × va_E)) = some (a, e) from hx)
    | 7, hx => cases (show (none : Option (Nat × va_E)) = some (a, e) from hx)
    | 8, hx => cases (show (none : Option (Nat × va_E)) = some (a, e) from hx)
    | 9, hx => cases (show (none : Option (Nat × va_E)) = some (a, e) from hx)
    | 10, hx => cases (show (none : Option (Nat × va_E)) = some (a, e) from hx)
    | 11, hx => cases (show (none : Option (Nat × va_E)) = some (a, e) from hx)
    | _ + 12, hx => cases hx
  refine ⟨fun k i a e hx => (key k i a e hx).1, fun k i k' i' a e e' hx hy => ?_, fun k hk => ⟨Nat.le_refl 0, Or.inl ⟨rfl, rfl⟩⟩, ⟨Nat.zero_le _, Nat.zero_le _, Nat.zero_le _, Nat.zero_le _, Nat.zero_le _⟩, fun i hi => absurd hi (Nat.not_lt_zero _), fun i hi => absurd hi (Nat.not_lt_zero _)⟩
  have h2a := (key k i a e hx).2
  have h2b := (key k' i' a e' hy).2
  rcases h2a with ⟨rfl, rfl, ea⟩ | ⟨rfl, rfl, ea⟩ | ⟨rfl, hi, ea⟩ <;> rcases h2b with ⟨rfl, rfl, eb⟩ | ⟨rfl, rfl, eb⟩ | ⟨rfl, hj, eb⟩
  · exact ⟨rfl, rfl⟩
  · rw [← ea, eb, h1] at h0; cases h0
  · have := hl i' hj; rw [← eb, ea, h0] at this; cases this
  · rw [← ea, eb, h0] at h1; cases h1
  · exact ⟨rfl, rfl⟩
  · have := hl i' hj; rw [← eb, ea, h1] at this; cases this
  · have := hl i hi; rw [← ea, eb, h0] at this; cases this
  · have := hl i hi; rw [← ea, eb, h1] at this; cases this
  · exact ⟨rfl, hli i i' hi hj (by rw [← ea, ← eb])⟩
theorem ct_X1_init {G : GT} {h : Hp} {ya : Nat} (hy : h ya = some (.inr (0, [.null, .null, .null, .null, .null, .int 0, .long 0]))) : cy_Con G yX1_init cX1_init 1 none 20 8 [.ref ya] h (qN (fun h1 => ∃ pa l0 l1 l2 l3 l4, cy_Y G in0I (in0J G ya pa l0 l1 l2 l3 l4) 0 h1 ∧ ∀ a e, a ≠ ya → h a = some e → h1 a = some e)) xF := by
  refine cy_in (own := RX1) (lv0 := [some (.ref ya)]) (by decide) rfl rfl rfl (Nat.le_of_ble_eq_true rfl) (fun K T C => ?_)
  refine rr_aload_n C 0 dX1_init_0 rfl rfl ?_
  refine oi_X1_22 C dX1_init_1 ?_
  refine rr_aload_n C 0 dX1_init_4 rfl rfl ?_
  refine nw_X1_25 C dX1_init_5 (fun l0 hl0 hz0 => ?_)
  have n0 : ya ≠ l0 := fun z => by rw [z, hl0] at hy; cases hy
  refine rr_dup C dX1_init_8 rfl ?_
  refine ci_X1_27 C dX1_init_9 (ct_J2_init cy_up_eq) (kN (fun h1 e1 => ?_))
  subst e1
  rw [cy_up_up]
  refine pf_X1_28 C dX1_init_12 (cy_up_old hl0 hy) rfl rfl ?_
  refine kG (P := fun h1 => h1 ya = some (.inr (0, [.ref l0, .null, .null, .null, .null, .int 0, .long 0])) ∧ h1 l0 = some (.inr (7, [.int 0, .ref (G.2.2.2.2 10), .int 0])) ∧ ∀ a e, a ≠ ya → h a = some e → h1 a = some e) ⟨cy_up_eq, by rw [cy_up_ne (Ne.symm n0)]; exact cy_up_eq, fun a e ha he => by rw [cy_up_ne ha]; exact cy_up_old hl0 he⟩ (fun h1 e1 => ?_)
  obtain ⟨y1, a0, f1⟩ := e1
  refine rr_aload_n C 0 dX1_init_15 rfl rfl ?_
  refine nw_X1_25 C dX1_init_16 (fun l1 hl1 hz1 => ?_)
  have n1 : ya ≠ l1 := fun z => by rw [z, hl1] at y1; cases y1
  have n01 : l0 ≠ l1 := fun z => by rw [z, hl1] at a0; cases a0
  refine rr_dup C dX1_init_19 rfl ?_
  refine ci_X1_27 C dX1_init_20 (ct_J2_init cy_up_eq) (kN (fun h2 e2 => ?_))
  subst e2
  rw [cy_up_up]
  refine pf_X1_34 C dX1_init_23 (cy_up_old hl1 y1) rfl rfl ?_
  refine kG (P := fun h2 => h2 ya = some (.inr (0, [.ref l0, .ref l1, .null, .null, .null, .int 0, .long 0])) ∧ (h2 l0 = some (.inr (7, [.int 0, .ref (G.2.2.2.2 10), .int 0])) ∧ h2 l1 = some (.inr (7, [.int 0, .ref (G.2.2.2.2 10), .int 0]))) ∧ ∀ a e, a ≠ ya → h a = some e → h2 a = some e) ⟨cy_up_eq, ⟨by rw [cy_up_ne (Ne.symm n0)]; exact cy_up_old hl1 a0, by rw [cy_up_ne (Ne.symm n1)]; exact cy_up_eq⟩, fun a e ha he => by rw [cy_up_ne ha]; exact cy_up_old hl1 (f1 a e ha he)⟩ (fun h2 e2 => ?_)
  obtain ⟨y2, ⟨b0, b1⟩, f2⟩ := e2
  refine rr_aload_n C 0 dX1_init_26 rfl rfl ?_
  refine nw_X1_25 C dX1_init_27 (fun l2 hl2 hz2 => ?_)
  have n2 : ya ≠ l2 := fun z => by rw [z, hl2] at y2; cases y2
  have n02 : l0 ≠ l2 := fun z => by rw [z, hl2] at b0; cases b0
  have n12 : l1 ≠ l2 := fun z => by rw [z, hl2] at b1; cases b1
  refine rr_dup C dX1_init_30 rfl ?_
  refine ci_X1_27 C dX1_init_31 (ct_J2_init cy_up_eq) (kN (fun h3 e3 => ?_))
  subst e3
  rw [cy_up_up]
  refine pf_X1_37 C dX1_init_34 (cy_up_old hl2 y2) rfl rfl ?_
  refine kG (P := fun h3 => h3 ya = some (.inr (0, [.ref l0, .ref l1, .ref l2, .null, .null, .int 0, .long 0])) ∧ (h3 l0 = some (.inr (7, [.int 0, .ref (G.2.2.2.2 10), .int 0])) ∧ h3 l1 = some (.inr (7, [.int 0, .ref (G.2.2.2.2 10), .int 0])) ∧ h3 l2 = some (.inr (7, [.int 0, .ref (G.2.2.2.2 10), .int 0]))) ∧ ∀ a e, a ≠ ya → h a = some e → h3 a = some e) ⟨cy_up_eq, ⟨by rw [cy_up_ne (Ne.symm n0)]; exact cy_up_old hl2 b0, by rw [cy_up_ne (Ne.symm n1)]; exact cy_up_old hl2 b1, by rw [cy_up_ne (Ne.symm n2)]; exact cy_up_eq⟩, fun a e ha he => by rw [cy_up_ne ha]; exact cy_up_old hl2 (f2 a e ha he)⟩ (fun h3 e3 => ?_)
  obtain ⟨y3, ⟨c0, c1, c2⟩, f3⟩ := e3
  refine rr_aload_n C 0 dX1_init_37 rfl rfl ?_
  refine nw_X1_25 C dX1_init_38 (fun l3 hl3 hz3 => ?_)
  have n3 : ya ≠ l3 := fun z => by rw [z, hl3] at y3; cases y3
  have n03 : l0 ≠ l3 := fun z => by rw [z, hl3] at c0; cases c0
  have n13 : l1 ≠ l3 := fun z => by rw [z, hl3] at c1; cases c1
  have n23 : l2 ≠ l3 := fun z => by rw [z, hl3] at c2; cases c2
  refine rr_dup C dX1_init_41 rfl ?_
  refine ci_X1_27 C dX1_init_42 (ct_J2_init cy_up_eq) (kN (fun h4 e4 => ?_))
  subst e4
  rw [cy_up_up]
  refine pf_X1_40 C dX1_init_45 (cy_up_old hl3 y3) rfl rfl ?_
  refine kG (P := fun h4 => h4 ya = some (.inr (0, [.ref l0, .ref l1, .ref l2, .ref l3, .null, .int 0, .long 0])) ∧ (h4 l0 = some (.inr (7, [.int 0, .ref (G.2.2.2.2 10), .int 0])) ∧ h4 l1 = some (.inr (7, [.int 0, .ref (G.2.2.2.2 10), .int 0])) ∧ h4 l2 = some (.inr (7, [.int 0, .ref (G.2.2.2.2 10), .int 0])) ∧ h4 l3 = some (.inr (7, [.int 0, .ref (G.2.2.2.2 10), .int 0]))) ∧ ∀ a e, a ≠ ya → h a = some e → h4 a = some e) ⟨cy_up_eq, ⟨by rw [cy_up_ne (Ne.symm n0)]; exact cy_up_old hl3 c0, by rw [cy_up_ne (Ne.symm n1)]; exact cy_up_old hl3 c1, by rw [cy_up_ne (Ne.symm n2)]; exact cy_up_old hl3 c2, by rw [cy_up_ne (Ne.symm n3)]; exact cy_up_eq⟩, fun a e ha he => by rw [cy_up_ne ha]; exact cy_up_old hl3 (f3 a e ha he)⟩ (fun h4 e4 => ?_)
  obtain ⟨y4, ⟨d0, d1, d2, d3⟩, f4⟩ := e4
  refine rr_aload_n C 0 dX1_init_48 rfl rfl ?_
  refine nw_X1_43 C dX1_init_49 (fun pa hpa hzp => ?_)
  refine rr_dup C dX1_init_52 rfl ?_
  refine ci_X1_45 C dX1_init_53 (ct_X2_init cy_up_eq) (kN (fun h5 e5 => ?_))
  obtain ⟨l4, ⟨hl4, hz4⟩, rfl⟩ := e5
  have np4 : pa ≠ l4 := fun z => by rw [z, cy_up_eq] at hl4; cases hl4
  rw [cy_up_ne (Ne.symm np4)] at hl4
  have up : ∀ e1 e2 e3 a e, h4 a = some e → cy_up (cy_up (cy_up h4 pa e1) l4 e2) pa e3 a = some e := by
    intro e1 e2 e3 a e ha
    rw [cy_up_ne (fun z => by rw [z, hpa] at ha; cases ha), cy_up_ne (fun z => by rw [z, hl4] at ha; cases ha), cy_up_ne (fun z => by rw [z, hpa] at ha; cases ha)]
    exact ha
  have np : ya ≠ pa := fun z => by rw [z, hpa] at y4; cases y4
  have n4 : ya ≠ l4 := fun z => by rw [z, hl4] at y4; cases y4
  have n04 : l0 ≠ l4 := fun z => by rw [z, hl4] at d0; cases d0
  have n14 : l1 ≠ l4 := fun z => by rw [z, hl4] at d1; cases d1
  have n24 : l2 ≠ l4 := fun z => by rw [z, hl4] at d2; cases d2
  have n34 : l3 ≠ l4 := fun z => by rw [z, hl4] at d3; cases d3
  refine pf_X1_46 C dX1_init_56 (up _ _ _ _ _ y4) rfl rfl ?_
  exact rr_return C dX1_init_59 ⟨rfl, pa, l0, l1, l2, l3, l4, cy_Y.anew cy_up_eq (by rw [cy_up_ne (Ne.symm np)]; exact cy_up_eq) (by rw [cy_up_ne (Ne.symm n0)]; exact up _ _ _ _ _ d0) (by rw [cy_up_ne (Ne.symm n1)]; exact up _ _ _ _ _ d1) (by rw [cy_up_ne (Ne.symm n2)]; exact up _ _ _ _ _ d2) (by rw [cy_up_ne (Ne.symm n3)]; exact up _ _ _ _ _ d3) (by rw [cy_up_ne (Ne.symm n4), cy_up_ne (Ne.symm np4)]; exact cy_up_eq) (by simp only [List.nodup_cons, List.mem_cons, List.not_mem_nil, or_false, not_or]; exact ⟨⟨n01, n02, n03, n04⟩, ⟨n12, n13, n14⟩, ⟨n23, n24⟩, n34, fun z => z, List.nodup_nil⟩), fun a e ha he => by rw [cy_up_ne ha]; exact up _ _ _ _ _ (f4 a e ha he)⟩
