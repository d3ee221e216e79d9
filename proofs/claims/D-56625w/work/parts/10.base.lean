/-! BASE: the functional heap and the hidden judgement K -/
set_option maxRecDepth 100000
abbrev cy_cl : List vw_C := [(RX1, TX1, 7), (RX2, TX2, 3), (RX5, TX5, 3), (RX6, TX6, 2), (RX9, TX9, 4), (RX12, TX12, 11), (RX11, TX11, 2), (RJ2, TJ2, 3), (RJ16, TJ16, 4), (RX7, TX7, 2), (RX10, TX10, 3), (RX3, TX3, 30), (RX4, TX4, 5), (RJ20, TJ20, 4), (RJ12, TJ12, 4)]
/-- what is known of the heap -/
abbrev Hp : Type := Nat → Option va_E
abbrev LV : Type := List (Option Value)
/-- what holds all through: class numbers; the old heap's size; its constant cells; array classes (int, boolean, char, byte, Object); constants' addresses -/
abbrev GT : Type := va_G × Nat × Hp × (Nat → ClassId) × (Nat → Nat)
abbrev cy_ty (G : GT) : List (ClassId × FieldType) := [(G.2.2.2.1 0, .int), (G.2.2.2.1 1, .boolean), (G.2.2.2.1 2, .char), (G.2.2.2.1 3, .byte), (G.2.2.2.1 4, .object "java/lang/Object")]
def cy_FA (G : GT) : Nat → Prop := fun q => G.2.1 ≤ q
def cy_Rep (G : GT) (H : Heap) (h : Hp) : Prop := ∀ (a : Nat) (e : va_E), h a = some e → G.2.1 ≤ a ∧ va_at G.1 cy_cl (a, e) H
def cy_up (h : Hp) (a : Nat) (e : va_E) : Hp := fun b => if b = a then some e else h b
theorem cy_up_eq {h : Hp} {a : Nat} {e : va_E} : cy_up h a e a = some e := if_pos rfl
theorem cy_up_ne {h : Hp} {a b : Nat} {e : va_E} (hn : b ≠ a) : cy_up h a e b = h b := if_neg hn
/-! the cells below n that are known, as a world of the kit's -/
def cy_wl (h : Hp) (n : Nat) : va_W := (List.range n).filterMap (fun a => (h a).map (fun e => (a, e)))
theorem cy_wl_mem {h : Hp} {n : Nat} {q : Nat × va_E} : q ∈ cy_wl h n ↔ q.1 < n ∧ h q.1 = some q.2 := by
  obtain ⟨a, e⟩ := q
  constructor
  · intro hq
    obtain ⟨b, hb, hm⟩ := List.mem_filterMap.mp hq
    cases hh : h b with
    | none => rw [hh] at hm; cases hm
    | some e' => rw [hh] at hm; cases hm; exact ⟨List.mem_range.mp hb, hh⟩
  · intro ⟨h1, h2⟩
    refine List.mem_filterMap.mpr ⟨a, List.mem_range.mpr h1, ?_⟩
    show (h a).map _ = _
    rw [h2]; rfl
theorem cy_wl_pw (h : Hp) (n : Nat) : (cy_wl h n).Pairwise (fun p q => p.1 ≠ q.1) := by
  unfold cy_wl
  refine List.Pairwise.filterMap _ ?_ (List.nodup_range (n := n))
  intro a a' haa b hb c hc hbc
  refine haa ?_
  cases hh : h a with
  | none => rw [hh] at hb; cases hb
  | some e =>
    cases hh' : h a' with
    | none => rw [hh'] at hc; cases hc
    | some e' => rw [hh] at hb; rw [hh'] at hc; cases hb; cases hc; exact hbc
theorem cy_pw_inj {l : va_W} (h : l.Pairwise (fun p q => p.1 ≠ q.1)) : ∀ (i j : Nat) (p q : Nat × va_E), l[i]? = some p → l[j]? = some q → p.1 = q.1 → i = j := by
  intro i j p q hi hj e
  obtain ⟨hil, rfl⟩ := List.getElem?_eq_some_iff.mp hi
  obtain ⟨hjl, rfl⟩ := List.getElem?_eq_some_iff.mp hj
  have hp := List.pairwise_iff_getElem.mp h
  rcases Nat.lt_trichotomy i j with h1 | h1 | h1
  · exact absurd e (hp i j hil hjl h1)
  · exact h1
  · exact absurd e.symm (hp j i hjl hil h1)
theorem cy_wl_D {G : GT} {H : Heap} {h : Hp} {n : Nat} (hR : cy_Rep G H h) : va_D (cy_FA G) (cy_wl h n) :=
  ⟨cy_pw_inj (cy_wl_pw h n), fun _ q hq => (hR q.1 q.2 (cy_wl_mem.mp (List.mem_of_getElem? hq)).2).1⟩
theorem cy_wl_P {G : GT} {H : Heap} {h : Hp} {n : Nat} (hR : cy_Rep G H h) : va_P G.1 cy_cl (cy_wl h n) H :=
  fun _ q hq => (hR q.1 q.2 (cy_wl_mem.mp (List.mem_of_getElem? hq)).2).2
theorem cy_wl_at {G : GT} {H : Heap} {h : Hp} (hR : cy_Rep G H h) {a : Nat} {e : va_E} (ha : h a = some e) : ∃ q0 : Nat, (cy_wl h H.size)[q0]? = some (a, e) :=
  List.getElem?_of_mem (cy_wl_mem.mpr ⟨(hR a e ha).2.lt, ha⟩)
theorem cy_wl_set {G : GT} {H H1 : Heap} {h : Hp} (hR : cy_Rep G H h) {a q0 : Nat} {e e' : va_E} (hq : (cy_wl h H.size)[q0]? = some (a, e)) (hP : va_P G.1 cy_cl ((cy_wl h H.size).set q0 (a, e')) H1) : cy_Rep G H1 (cy_up h a e') := by
  have ha := (cy_wl_mem.mp (List.mem_of_getElem? hq)).2
  have hl := (List.getElem?_eq_some_iff.mp hq).1
  intro b eb hb
  by_cases hba : b = a
  · subst hba
    rw [cy_up_eq] at hb
    cases hb
    exact ⟨(hR b e ha).1, hP q0 (b, e') (List.getElem?_set_self hl)⟩
  · rw [cy_up_ne hba] at hb
    obtain ⟨k, hk⟩ := cy_wl_at hR hb
    have hne : q0 ≠ k := by
      intro z
      subst z
      rw [hq] at hk
      cases hk
      exact hba rfl
    exact ⟨(hR b eb hb).1, hP k (b, eb) (by rw [List.getElem?_set_ne hne]; exact hk)⟩
theorem cy_wl_app {G : GT} {H H1 : Heap} {h : Hp} (hR : cy_Rep G H h) {q : Nat} {e : va_E} (hz : G.2.1 ≤ q) (hP : va_P G.1 cy_cl (cy_wl h H.size ++ [(q, e)]) H1) : cy_Rep G H1 (cy_up h q e) := by
  intro b eb hb
  by_cases hba : b = q
  · subst hba
    rw [cy_up_eq] at hb
    cases hb
    exact ⟨hz, hP _ (b, e) (by rw [List.getElem?_append_right (Nat.le_refl _), Nat.sub_self]; rfl)⟩
  · rw [cy_up_ne hba] at hb
    obtain ⟨k, hk⟩ := cy_wl_at hR hb
    exact ⟨(hR b eb hb).1, hP k (b, eb) (by rw [List.getElem?_append_left (List.getElem?_eq_some_iff.mp hk).1]; exact hk)⟩
theorem cy_Rep.sub {G : GT} {H : Heap} {h h' : Hp} (hR : cy_Rep G H h) (hs : ∀ a e, h' a = some e → h a = some e) : cy_Rep G H h' := fun a e ha => hR a e (hs a e ha)
/-! locals by position -/
def cy_L (ls : Array Slot) (n : Nat) (lv : LV) : Prop := ls.size = n ∧ lv_wf ls ∧ ∀ (i : Nat) (v : Value), lv[i]? = some (some v) → ls[i]? = some (.val v)
def cy_prs (lv : LV) : List (Nat × Value) := (List.range lv.length).filterMap (fun i => (lv[i]?.getD none).map (fun v => (i, v)))
theorem cy_prs_mem {lv : LV} {q : Nat × Value} : q ∈ cy_prs lv ↔ lv[q.1]? = some (some q.2) := by
  obtain ⟨i, v⟩ := q
  constructor
  · intro h
    obtain ⟨b, hb, hm⟩ := List.mem_filterMap.mp h
    cases hh : lv[b]? with
    | none => rw [hh] at hm; cases hm
    | some o =>
      cases o with
      | none => rw [hh] at hm; cases hm
      | some w => rw [hh] at hm; cases hm; exact hh
  · intro h
    have h : lv[i]? = some (some v) := h
    refine List.mem_filterMap.mpr ⟨i, List.mem_range.mpr (List.getElem?_eq_some_iff.mp h).1, ?_⟩
    rw [h]; rfl
theorem cy_L.has {ls : Array Slot} {n : Nat} {lv : LV} (h : cy_L ls n lv) : lv_has ls n (cy_prs lv) := ⟨h.1, h.2.1, fun q hq => h.2.2 q.1 q.2 (cy_prs_mem.mp hq)⟩
def cy_ok (lv : LV) (i : Nat) : Bool := match i with
  | 0 => true
  | j + 1 => match lv[j]? with
    | some (some v) => v.category != 2
    | _ => true
theorem cy_L.set1 {ls : Array Slot} {n i : Nat} {lv : LV} {v : Value} (hi : i < lv.length) (hok : cy_ok lv i = true) (h : lv_has ls n ((i, v) :: (cy_prs lv).filter (fun q => !(q.1 == i) && !(q.1 + 1 == i && q.2.category == 2)))) : cy_L ls n (lv.set i (some v)) := by
  refine ⟨h.1, h.2.1, fun j w hj => ?_⟩
  by_cases hij : j = i
  · subst hij
    rw [List.getElem?_set_self hi] at hj
    cases hj
    exact h.2.2 (j, v) List.mem_cons_self
  · rw [List.getElem?_set_ne (Ne.symm hij)] at hj
    refine h.2.2 (j, w) (List.mem_cons_of_mem _ (List.mem_filter.mpr ⟨cy_prs_mem.mpr hj, ?_⟩))
    have h1 : (j == i) = false := by simpa using hij
    by_cases hj1 : j + 1 = i
    · subst hj1
      have h2 : (w.category != 2) = true := by
        have h3 := hok
        unfold cy_ok at h3
        simp only [hj] at h3
        exact h3
      have h4 : (w.category == 2) = false := by
        revert h2
        cases hq : (w.category == 2) <;> simp [bne, hq]
      simp [h4]
    · have h2 : (j + 1 == i) = false := by simpa using hj1
      simp [h1, h2]
theorem cy_L.set2 {ls : Array Slot} {n i : Nat} {lv : LV} {v : Value} (hi : i + 1 < lv.length) (hok : cy_ok lv i = true) (h : lv_has ls n ((i, v) :: (cy_prs lv).filter (fun q => !(q.1 == i) && (!(q.1 == i + 1) && !(q.1 + 1 == i && q.2.category == 2))))) : cy_L ls n ((lv.set i (some v)).set (i + 1) none) := by
  refine ⟨h.1, h.2.1, fun j w hj => ?_⟩
  by_cases hij : j = i
  · subst hij
    rw [List.getElem?_set_ne (by omega), List.getElem?_set_self (by omega)] at hj
    cases hj
    exact h.2.2 (j, v) List.mem_cons_self
  · by_cases hj2 : j = i + 1
    · subst hj2
      rw [List.getElem?_set_self (by rw [List.length_set]; exact hi)] at hj
      cases hj
    · rw [List.getElem?_set_ne (Ne.symm hj2), List.getElem?_set_ne (Ne.symm hij)] at hj
      refine h.2.2 (j, w) (List.mem_cons_of_mem _ (List.mem_filter.mpr ⟨cy_prs_mem.mpr hj, ?_⟩))
      have h1 : (j == i) = false := by simpa using hij
      have h0 : (j == i + 1) = false := by simpa using hj2
      by_cases hj1 : j + 1 = i
      · subst hj1
        have h2 : (w.category != 2) = true := by
          have h3 := hok
          unfold cy_ok at h3
          simp only [hj] at h3
          exact h3
        have h4 : (w.category == 2) = false := by
          revert h2
          cases hq : (w.category == 2) <;> simp [bne, hq]
        simp [h4]
        omega
      · have h2 : (j + 1 == i) = false := by simpa using hj1
        simp [h1, h0, h2]
