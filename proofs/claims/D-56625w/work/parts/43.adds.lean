/-! the world behind an add (printed by gen/adds.py) -/
set_option maxRecDepth 100000
theorem cy_ifp {c : Prop} [Decidable c] {α : Type} {x y : α} (h : (if c then some x else none) = some y) : c ∧ x = y := by
  split at h
  · exact ⟨by assumption, Option.some.inj h⟩
  · cases h
section ADDS
variable {G : GT} {I I' : Nat → Nat → Int32} {J J' : Nat → Nat → Nat} {st : Int64} {h : Hp}
theorem cy_Y.add {c n q ea nd kx : Nat} {eo en el er : va_E} (hY : cy_Y G I J st h) (hq : h q = none) (hea : (J 4 c ≠ 0 ∧ ea = J 3 c ∧ c < 5) ∨ (h ea = none ∧ ea ≠ q)) (hc : c < 5)
    (hnd : kx = 99 ∨ (h nd = some en ∧ ∀ k i e, cy_Yc G I J st k i ≠ some (nd, e)))
    (hcls : ∀ k i a e, cy_Yc G I' J' st k i = some (a, e) → (cy_Yc G I J st k i = some (a, e) ∧ ¬ (k = 2 ∧ i = c) ∧ ¬ (k = 3 ∧ i = c)) ∨ (k = 2 ∧ i = c ∧ a = J 2 c ∧ e = el) ∨ (k = 3 ∧ i = c ∧ a = ea ∧ e = er) ∨ (k = 4 + c ∧ i = n ∧ a = q ∧ e = eo) ∨ (kx ≠ 99 ∧ k = kx ∧ i = n ∧ a = nd ∧ e = en))
    (hr : cy_Yr G J') : cy_Y G I' J' st (cy_up (cy_up (cy_up h q eo) ea er) (J 2 c) el) := by
  have hl2 : h (J 2 c) = some (eList I J c) := hY.list hc
  have hnea : ∀ k i a e, cy_Yc G I J st k i = some (a, e) → ¬ (k = 3 ∧ i = c) → a ≠ ea := by
    intro k i a e hx hn z
    rcases hea with ⟨h4, h3, _⟩ | ⟨h3, _⟩
    · have := hY.2.1 k i 3 c a e _ hx (by rw [z, h3]; exact if_pos ⟨hc, h4⟩)
      exact hn this
    · rw [← z, hY.1 k i a e hx] at h3; cases h3
  have hlq : J 2 c ≠ q := fun z => by rw [z, hq] at hl2; cases hl2
  have hle : J 2 c ≠ ea := hnea 2 c _ _ (if_pos hc) (fun z => absurd z.1 (by decide))
  have hqe : q ≠ ea := by
    rcases hea with ⟨h4, h3, _⟩ | ⟨_, h3⟩
    · intro z; have := hY.arr hc h4; rw [← h3, ← z, hq] at this; cases this
    · exact Ne.symm h3
  -- whose an address is
  have key : ∀ k i a e, cy_Yc G I' J' st k i = some (a, e) → cy_up (cy_up (cy_up h q eo) ea er) (J 2 c) el a = some e ∧ ((∃ e0, cy_Yc G I J st k i = some (a, e0)) ∨ (k = 3 ∧ i = c ∧ a = ea ∧ h ea = none ∧ ea ≠ q) ∨ (k = 4 + c ∧ i = n ∧ a = q) ∨ (kx ≠ 99 ∧ k = kx ∧ i = n ∧ a = nd)) := by
    intro k i a e hx
    rcases hcls k i a e hx with ⟨h1, h2, h3⟩ | ⟨rfl, rfl, rfl, rfl⟩ | ⟨rfl, rfl, rfl, rfl⟩ | ⟨rfl, rfl, rfl, rfl⟩ | ⟨hk, rfl, rfl, rfl, rfl⟩
    · have ha := hY.1 k i a e h1
      refine ⟨?_, Or.inl ⟨e, h1⟩⟩
      rw [cy_up_ne (fun z => h2 (hY.2.1 k i 2 c a e _ h1 (by rw [z]; exact if_pos hc))), cy_up_ne (hnea k i a e h1 h3), cy_up_ne (fun z => by rw [z, hq] at ha; cases ha)]
      exact ha
    · exact ⟨cy_up_eq, Or.inl ⟨_, if_pos hc⟩⟩
    · refine ⟨by rw [cy_up_ne (Ne.symm hle)]; exact cy_up_eq, ?_⟩
      rcases hea with ⟨h4, h3, _⟩ | ⟨h3, h4⟩
      · exact Or.inl ⟨_, by rw [h3]; exact if_pos ⟨hc, h4⟩⟩
      · exact Or.inr (Or.inl ⟨rfl, rfl, rfl, h3, h4⟩)
    · exact ⟨by rw [cy_up_ne (Ne.symm hlq), cy_up_ne hqe]; exact cy_up_eq, Or.inr (Or.inr (Or.inl ⟨rfl, rfl, rfl⟩))⟩
    · rcases hnd with hnd | ⟨hn1, hn2⟩
      · exact absurd hnd hk
      refine ⟨?_, Or.inr (Or.inr (Or.inr ⟨hk, rfl, rfl, rfl⟩))⟩
      rw [cy_up_ne (fun z => hn2 2 c _ (by rw [z]; exact if_pos hc)), cy_up_ne ?_, cy_up_ne (fun z => by rw [z, hq] at hn1; cases hn1)]
      · exact hn1
      · intro z
        rcases hea with ⟨h4, h3, _⟩ | ⟨h3, h4⟩
        · exact hn2 3 c _ (by rw [z, h3]; exact if_pos ⟨hc, h4⟩)
        · rw [← z, hn1] at h3; cases h3
  refine ⟨fun k i a e hx => (key k i a e hx).1, fun k i k' i' a e e' hx hy => ?_, hr⟩
  have hx := (key k i a e hx).2
  have hy := (key k' i' a e' hy).2
  rcases hx with ⟨e1, hx⟩ | ⟨rfl, rfl, rfl, x1, x2⟩ | ⟨rfl, rfl, rfl⟩ | ⟨x0, rfl, rfl, rfl⟩ <;> rcases hy with ⟨e2, hy⟩ | ⟨y1, y2, y3, y4, y5⟩ | ⟨y1, y2, y3⟩ | ⟨y0, y1, y2, y3⟩
  · exact hY.2.1 k i k' i' a e1 e2 hx hy
  · rw [← y3, hY.1 _ _ _ _ hx] at y4; cases y4
  · rw [← y3, hY.1 _ _ _ _ hx] at hq; cases hq
  · rcases hnd with hnd | ⟨-, hn2⟩
    · exact absurd hnd y0
    · exact absurd hx (by rw [y3]; exact hn2 _ _ _)
  · rw [hY.1 _ _ _ _ hy] at x1; cases x1
  · exact ⟨y1.symm, y2.symm⟩
  · exact absurd y3 x2
  · rcases hnd with hnd | ⟨hn1, -⟩
    · exact absurd hnd y0
    · rw [← y3, x1] at hn1; cases hn1
  · rw [hY.1 _ _ _ _ hy] at hq; cases hq
  · exact absurd y3.symm y5
  · exact ⟨y1.symm, y2.symm⟩
  · rcases hnd with hnd | ⟨hn1, -⟩
    · exact absurd hnd y0
    · rw [← y3, hq] at hn1; cases hn1
  · rcases hnd with hnd | ⟨-, hn2⟩
    · exact absurd hnd x0
    · exact absurd hy (hn2 _ _ _)
  · rcases hnd with hnd | ⟨hn1, -⟩
    · exact absurd hnd x0
    · rw [y3, y4] at hn1; cases hn1
  · rcases hnd with hnd | ⟨hn1, -⟩
    · exact absurd hnd x0
    · rw [y3, hq] at hn1; cases hn1
  · exact ⟨y1.symm, y2.symm⟩
def adLJ (J : Nat → Nat → Nat) (n q ea cap : Nat)  : Nat → Nat → Nat := (u2 (u2 (u2 (u2 J 5 n q) 0 0 (n + 1)) 3 0 ea) 4 0 cap)
def adLI (I : Nat → Nat → Int32) (n : Nat)  : Nat → Nat → Int32 := (u2 (u2 (u2 I 0 0 (I 0 0 + 1)) 2 n 0) 3 n 0)
def adIJ (J : Nat → Nat → Nat) (n q ea cap : Nat) (pp lj : Nat) : Nat → Nat → Nat := (u2 (u2 (u2 (u2 (u2 (u2 J 6 n q) 0 1 (n + 1)) 3 1 ea) 4 1 cap) 10 n pp) 11 n lj)
def adII (I : Nat → Nat → Int32) (n : Nat)  : Nat → Nat → Int32 := (u2 I 0 1 (I 0 1 + 1))
def adWJ (J : Nat → Nat → Nat) (n q ea cap : Nat) (nd : Nat) : Nat → Nat → Nat := (u2 (u2 (u2 (u2 (u2 J 7 n q) 0 2 (n + 1)) 3 2 ea) 4 2 cap) 17 n nd)
def adWI (I : Nat → Nat → Int32) (n : Nat) (x y z : Int32) : Nat → Nat → Int32 := (u2 (u2 (u2 (u2 (u2 I 0 2 (I 0 2 + 1)) 8 n x) 9 n y) 10 n z) 11 n z)
def adCJ (J : Nat → Nat → Nat) (n q ea cap : Nat) (nd im : Nat) : Nat → Nat → Nat := (u2 (u2 (u2 (u2 (u2 (u2 (u2 (u2 J 8 n q) 0 3 (n + 1)) 3 3 ea) 4 3 cap) 12 n im) 13 n 0) 14 n 0) 16 n nd)
def adCI (I : Nat → Nat → Int32) (n : Nat) (t x y : Int32) : Nat → Nat → Int32 := (u2 (u2 (u2 (u2 (u2 (u2 (u2 (u2 I 0 3 (I 0 3 + 1)) 12 n t) 13 n x) 14 n y) 15 n 0) 16 n 0) 17 n 0) 18 n 0)
def adHJ (J : Nat → Nat → Nat) (n q ea cap : Nat) (nd : Nat) : Nat → Nat → Nat := (u2 (u2 (u2 (u2 (u2 J 9 n q) 0 4 (n + 1)) 3 4 ea) 4 4 cap) 15 n nd)
def adHI (I : Nat → Nat → Int32) (n : Nat) (x y : Int32) : Nat → Nat → Int32 := (u2 (u2 (u2 (u2 (u2 I 0 4 (I 0 4 + 1)) 4 n x) 5 n y) 6 n x) 7 n y)
theorem cy_Y.adL {n q ea cap : Nat} (hY : cy_Y G I J st h) (hn : n = J 0 0) (hmax : n < 12) (hq : h q = none) (hea : (n < J 4 0 ∧ ea = J 3 0 ∧ cap = J 4 0) ∨ (h ea = none ∧ ea ≠ q ∧ (cap = 10 ∨ cap = 15) ∧ n < cap)) : cy_Y G (adLI I n) (adLJ J n q ea cap) st (cy_up (cy_up (cy_up h q (.inr (2, [.int (cy_bit n), .int 0, .int 0]))) ea (aO G cap (cy_ar (n + 1) (va_up (J 5) n q)))) (J 2 0) (.inr (7, [.int (I 0 0 + 1), .ref ea, .int (nI (n + 1))]))) := by
  have hrow : (adLJ J n q ea cap) 5 = va_up (J 5) n q := by
    funext z
    simp [adLJ, u2, va_up]
  refine hY.add (c := 0) (n := n) (nd := 0) (kx := 99) (en := (.inr (99, []))) hq (by rcases hea with ⟨h1, h2, _⟩ | ⟨h1, h2, _⟩; exact Or.inl ⟨by omega, h2, by decide⟩; exact Or.inr ⟨h1, h2⟩) (by decide) (Or.inl rfl) ?_ ?_
  · intro k i a e hx
    match k, hx with
    | 0, hx => exact Or.inl ⟨hx, fun z => absurd z.1 (by decide), fun z => absurd z.1 (by decide)⟩
    | 1, hx => exact Or.inl ⟨hx, fun z => absurd z.1 (by decide), fun z => absurd z.1 (by decide)⟩
    | 2, hx =>
      obtain ⟨h1, h2⟩ := cy_ifp hx
      by_cases hi : i = 0
      · subst hi; cases h2; exact Or.inr (Or.inl ⟨rfl, rfl, rfl, rfl⟩)
      · refine Or.inl ⟨?_, fun z => hi z.2, fun z => hi z.2⟩
        rw [← h2]
        simp [cy_Yc, h1, adLJ, adLI, u2, hi, eList]
    | 3, hx =>
      obtain ⟨h1, h2⟩ := cy_ifp hx
      by_cases hi : i = 0
      · subst hi; cases h2
        have e0 : (adLJ J n q ea cap) 0 0 = n + 1 := by simp [adLJ, u2]
        have e4 : (adLJ J n q ea cap) 4 0 = cap := by simp [adLJ, u2]
        have e3 : (adLJ J n q ea cap) 3 0 = ea := by simp [adLJ, u2]
        exact Or.inr (Or.inr (Or.inl ⟨rfl, rfl, e3, by rw [e0, e4, show (adLJ J n q ea cap) (5 + 0) = va_up (J 5) n q from hrow]⟩))
      · refine Or.inl ⟨?_, fun z => hi z.2, fun z => hi z.2⟩
        have hj4 : (adLJ J n q ea cap) 4 i = J 4 i := by simp [adLJ, u2, hi]
        have hj0 : (adLJ J n q ea cap) 0 i = J 0 i := by simp [adLJ, u2, hi]
        have hj3 : (adLJ J n q ea cap) 3 i = J 3 i := by simp [adLJ, u2, hi]
        have hjr : (adLJ J n q ea cap) (5 + i) = J (5 + i) := by
          have hi5 := h1.1
          funext z
          simp [adLJ, u2, hi, show ¬ 5 + i = 5 by omega, show ¬ 5 + i = 0 by omega, show ¬ 5 + i = 3 by omega, show ¬ 5 + i = 4 by omega, show ¬ 5 + i = 10 by omega, show ¬ 5 + i = 11 by omega, show ¬ 5 + i = 12 by omega, show ¬ 5 + i = 13 by omega, show ¬ 5 + i = 14 by omega, show ¬ 5 + i = 15 by omega, show ¬ 5 + i = 16 by omega, show ¬ 5 + i = 17 by omega]
        rw [← h2, hj4, hj0, hj3, hjr]
        rw [hj4] at h1
        exact if_pos h1
    | 4, hx =>
      obtain ⟨h1, h2⟩ := cy_ifp hx
      have h1 : i < n + 1 := h1
      by_cases hi : i = n
      · have hi := hi.symm
        subst hi
        cases h2
        exact Or.inr (Or.inr (Or.inr (Or.inl ⟨rfl, rfl, by simp [adLJ, u2], by simp [eLayer, adLJ, adLI, u2, u2_row, cy_o, va_rf]⟩)))
      · have hin : i < J 0 0 := by omega
        refine Or.inl ⟨?_, fun z => absurd z.1 (by decide), fun z => absurd z.1 (by decide)⟩
        rw [← h2]
        show (if i < J 0 0 then _ else _) = _
        rw [if_pos (by omega)]
        simp [eLayer, adLJ, adLI, u2, hi]
    | 5, hx =>
      obtain ⟨h1, h2⟩ := cy_ifp hx
      have h1 : i < J 0 1 := h1
      have e5 : adLJ J n q ea cap 5 (J 11 i) = J 5 (J 11 i) := by
        have := (hY.2.2.2.2.1 i h1).2
        simp [adLJ, u2, show ¬ J 11 i = n by omega]
      have ee : eImage (adLJ J n q ea cap) i = eImage J i := by
        show (.inr (3, [va_rf (cy_o (J 6) (J 10 i)), .ref (adLJ J n q ea cap 5 (J 11 i))]) : va_E) = _
        rw [e5]
      refine Or.inl ⟨?_, fun z => absurd z.1 (by decide), fun z => absurd z.1 (by decide)⟩
      rw [← h2, ee]
      exact if_pos h1
    | 6, hx => exact Or.inl ⟨hx, fun z => absurd z.1 (by decide), fun z => absurd z.1 (by decide)⟩
    | 7, hx => exact Or.inl ⟨hx, fun z => absurd z.1 (by decide), fun z => absurd z.1 (by decide)⟩
    | 8, hx => exact Or.inl ⟨hx, fun z => absurd z.1 (by decide), fun z => absurd z.1 (by decide)⟩
    | 9, hx => exact Or.inl ⟨hx, fun z => absurd z.1 (by decide), fun z => absurd z.1 (by decide)⟩
    | 10, hx => exact Or.inl ⟨hx, fun z => absurd z.1 (by decide), fun z => absurd z.1 (by decide)⟩
    | 11, hx => exact Or.inl ⟨hx, fun z => absurd z.1 (by decide), fun z => absurd z.1 (by decide)⟩
    | _ + 12, hx => cases hx
  · refine ⟨fun k hk => ?_, ⟨(by show n + 1 ≤ 12; omega), hY.2.2.2.1.2.1, hY.2.2.2.1.2.2.1, hY.2.2.2.1.2.2.2.1, hY.2.2.2.1.2.2.2.2⟩, (fun i hi => ⟨(hY.2.2.2.2.1 i hi).1, Nat.lt_succ_of_lt (by rw [hn]; exact (hY.2.2.2.2.1 i hi).2)⟩), hY.2.2.2.2.2⟩
    by_cases hkc : k = 0
    · subst hkc
      have e0 : (adLJ J n q ea cap) 0 0 = n + 1 := by simp [adLJ, u2]
      have e4 : (adLJ J n q ea cap) 4 0 = cap := by simp [adLJ, u2]
      have e3 : (adLJ J n q ea cap) 3 0 = ea := by simp [adLJ, u2]
      rw [e0, e4, e3]
      have h9 := hY.2.2.1 0 (by decide)
      rcases hea with ⟨h1, h2, h3⟩ | ⟨_, _, h2, h3⟩
      · rw [h3, h2]
        refine ⟨h1, ?_⟩
        rcases h9.2 with ⟨z, _⟩ | z
        · omega
        · exact Or.inr z
      · exact ⟨h3, Or.inr h2⟩
    · have e0 : (adLJ J n q ea cap) 0 k = J 0 k := by simp [adLJ, u2, hkc]
      have e4 : (adLJ J n q ea cap) 4 k = J 4 k := by simp [adLJ, u2, hkc]
      have e3 : (adLJ J n q ea cap) 3 k = J 3 k := by simp [adLJ, u2, hkc]
      rw [e0, e4, e3]
      exact hY.2.2.1 k hk
theorem cy_Y.adI {n q ea cap : Nat} {pp lj : Nat} (hY : cy_Y G I J st h) (hn : n = J 0 1) (hmax : n < 8) (hq : h q = none) (hea : (n < J 4 1 ∧ ea = J 3 1 ∧ cap = J 4 1) ∨ (h ea = none ∧ ea ≠ q ∧ (cap = 10 ∨ cap = 15) ∧ n < cap)) (hpp : pp ≤ n) (hlj : lj < J 0 0) : cy_Y G (adII I n) (adIJ J n q ea cap pp lj) st (cy_up (cy_up (cy_up h q (.inr (3, [va_rf (cy_o (J 6) pp), .ref (J 5 lj)]))) ea (aO G cap (cy_ar (n + 1) (va_up (J 6) n q)))) (J 2 1) (.inr (7, [.int (I 0 1 + 1), .ref ea, .int (nI (n + 1))]))) := by
  have hrow : (adIJ J n q ea cap pp lj) 6 = va_up (J 6) n q := by
    funext z
    simp [adIJ, u2, va_up]
  refine hY.add (c := 1) (n := n) (nd := 0) (kx := 99) (en := (.inr (99, []))) hq (by rcases hea with ⟨h1, h2, _⟩ | ⟨h1, h2, _⟩; exact Or.inl ⟨by omega, h2, by decide⟩; exact Or.inr ⟨h1, h2⟩) (by decide) (Or.inl rfl) ?_ ?_
  · intro k i a e hx
    match k, hx with
    | 0, hx => exact Or.inl ⟨hx, fun z => absurd z.1 (by decide), fun z => absurd z.1 (by decide)⟩
    | 1, hx => exact Or.inl ⟨hx, fun z => absurd z.1 (by decide), fun z => absurd z.1 (by decide)⟩
    | 2, hx =>
      obtain ⟨h1, h2⟩ := cy_ifp hx
      by_cases hi : i = 1
      · subst hi; cases h2; exact Or.inr (Or.inl ⟨rfl, rfl, rfl, rfl⟩)
      · refine Or.inl ⟨?_, fun z => hi z.2, fun z => hi z.2⟩
        rw [← h2]
        simp [cy_Yc, h1, adIJ, adII, u2, hi, eList]
    | 3, hx =>
      obtain ⟨h1, h2⟩ := cy_ifp hx
      by_cases hi : i = 1
      · subst hi; cases h2
        have e0 : (adIJ J n q ea cap pp lj) 0 1 = n + 1 := by simp [adIJ, u2]
        have e4 : (adIJ J n q ea cap pp lj) 4 1 = cap := by simp [adIJ, u2]
        have e3 : (adIJ J n q ea cap pp lj) 3 1 = ea := by simp [adIJ, u2]
        exact Or.inr (Or.inr (Or.inl ⟨rfl, rfl, e3, by rw [e0, e4, show (adIJ J n q ea cap pp lj) (5 + 1) = va_up (J 6) n q from hrow]⟩))
      · refine Or.inl ⟨?_, fun z => hi z.2, fun z => hi z.2⟩
        have hj4 : (adIJ J n q ea cap pp lj) 4 i = J 4 i := by simp [adIJ, u2, hi]
        have hj0 : (adIJ J n q ea cap pp lj) 0 i = J 0 i := by simp [adIJ, u2, hi]
        have hj3 : (adIJ J n q ea cap pp lj) 3 i = J 3 i := by simp [adIJ, u2, hi]
        have hjr : (adIJ J n q ea cap pp lj) (5 + i) = J (5 + i) := by
          have hi5 := h1.1
          funext z
          simp [adIJ, u2, hi, show ¬ 5 + i = 6 by omega, show ¬ 5 + i = 0 by omega, show ¬ 5 + i = 3 by omega, show ¬ 5 + i = 4 by omega, show ¬ 5 + i = 10 by omega, show ¬ 5 + i = 11 by omega, show ¬ 5 + i = 12 by omega, show ¬ 5 + i = 13 by omega, show ¬ 5 + i = 14 by omega, show ¬ 5 + i = 15 by omega, show ¬ 5 + i = 16 by omega, show ¬ 5 + i = 17 by omega]
        rw [← h2, hj4, hj0, hj3, hjr]
        rw [hj4] at h1
        exact if_pos h1
    | 4, hx => exact Or.inl ⟨hx, fun z => absurd z.1 (by decide), fun z => absurd z.1 (by decide)⟩
    | 5, hx =>
      obtain ⟨h1, h2⟩ := cy_ifp hx
      have h1 : i < n + 1 := h1
      by_cases hi : i = n
      · have hi := hi.symm
        subst hi
        cases h2
        have hp : cy_o (adIJ J n q ea cap pp lj 6) pp = cy_o (J 6) pp := by
          cases hz : pp with
          | zero => rfl
          | succ w => simp [cy_o, adIJ, u2, show ¬ w = n by omega]
        refine Or.inr (Or.inr (Or.inr (Or.inl ⟨rfl, rfl, by simp [adIJ, u2], ?_⟩)))
        rw [eImage, show adIJ J n q ea cap pp lj 10 n = pp by simp [adIJ, u2], show adIJ J n q ea cap pp lj 11 n = lj by simp [adIJ, u2], hp]
        rfl
      · have hin : i < J 0 1 := by omega
        refine Or.inl ⟨?_, fun z => absurd z.1 (by decide), fun z => absurd z.1 (by decide)⟩
        have hp : cy_o (adIJ J n q ea cap pp lj 6) (J 10 i) = cy_o (J 6) (J 10 i) := by
          have hle := (hY.2.2.2.2.1 i hin).1
          cases hz : J 10 i with
          | zero => rfl
          | succ w => simp [cy_o, adIJ, u2, show ¬ w = n by omega]
        have e10 : adIJ J n q ea cap pp lj 10 i = J 10 i := by simp [adIJ, u2, hi]
        have e11 : adIJ J n q ea cap pp lj 11 i = J 11 i := by simp [adIJ, u2, hi]
        have e6 : adIJ J n q ea cap pp lj 6 i = J 6 i := by simp [adIJ, u2, hi]
        rw [← h2]
        show (if i < J 0 1 then _ else _) = _
        rw [if_pos (by omega), eImage, eImage, e10, e11, e6, hp]
        rfl
    | 6, hx => exact Or.inl ⟨hx, fun z => absurd z.1 (by decide), fun z => absurd z.1 (by decide)⟩
    | 7, hx =>
      obtain ⟨h1, h2⟩ := cy_ifp hx
      have h1 : i < J 0 3 := h1
      have e6 : adIJ J n q ea cap pp lj 6 (J 12 i) = J 6 (J 12 i) := by
        have := (hY.2.2.2.2.2 i h1).1
        simp [adIJ, u2, show ¬ J 12 i = n by omega]
      have ee : eCont G (adII I n) (adIJ J n q ea cap pp lj) i = eCont G I J i := by
        show (.inr (5, [.int (nI i), .int (I 12 i), .ref (adIJ J n q ea cap pp lj 6 (J 12 i)), .ref (J 16 i), .ref (G.2.2.2.2 (J 13 i)), va_rf (cy_o (J 9) (J 14 i)), .int (I 15 i), .int (I 16 i), .int (I 17 i), .int (I 18 i), .ref (J 1 0)]) : va_E) = _
        rw [e6]
      refine Or.inl ⟨?_, fun z => absurd z.1 (by decide), fun z => absurd z.1 (by decide)⟩
      rw [← h2, ee]
      exact if_pos h1
    | 8, hx => exact Or.inl ⟨hx, fun z => absurd z.1 (by decide), fun z => absurd z.1 (by decide)⟩
    | 9, hx => exact Or.inl ⟨hx, fun z => absurd z.1 (by decide), fun z => absurd z.1 (by decide)⟩
    | 10, hx => exact Or.inl ⟨hx, fun z => absurd z.1 (by decide), fun z => absurd z.1 (by decide)⟩
    | 11, hx => exact Or.inl ⟨hx, fun z => absurd z.1 (by decide), fun z => absurd z.1 (by decide)⟩
    | _ + 12, hx => cases hx
  · refine ⟨fun k hk => ?_, ⟨hY.2.2.2.1.1, (by show n + 1 ≤ 8; omega), hY.2.2.2.1.2.2.1, hY.2.2.2.1.2.2.2.1, hY.2.2.2.1.2.2.2.2⟩, (fun i hi => by
      have hi : i < n + 1 := hi
      by_cases hin : i = n
      · subst hin; exact ⟨by simp [adIJ, u2]; exact hpp, by simp [adIJ, u2]; exact hlj⟩
      · have := hY.2.2.2.2.1 i (by omega)
        simp [adIJ, u2, hin]; exact this), (fun i hi => ⟨Nat.lt_succ_of_lt (by rw [hn]; exact (hY.2.2.2.2.2 i hi).1), (hY.2.2.2.2.2 i hi).2⟩)⟩
    by_cases hkc : k = 1
    · subst hkc
      have e0 : (adIJ J n q ea cap pp lj) 0 1 = n + 1 := by simp [adIJ, u2]
      have e4 : (adIJ J n q ea cap pp lj) 4 1 = cap := by simp [adIJ, u2]
      have e3 : (adIJ J n q ea cap pp lj) 3 1 = ea := by simp [adIJ, u2]
      rw [e0, e4, e3]
      have h9 := hY.2.2.1 1 (by decide)
      rcases hea with ⟨h1, h2, h3⟩ | ⟨_, _, h2, h3⟩
      · rw [h3, h2]
        refine ⟨h1, ?_⟩
        rcases h9.2 with ⟨z, _⟩ | z
        · omega
        · exact Or.inr z
      · exact ⟨h3, Or.inr h2⟩
    · have e0 : (adIJ J n q ea cap pp lj) 0 k = J 0 k := by simp [adIJ, u2, hkc]
      have e4 : (adIJ J n q ea cap pp lj) 4 k = J 4 k := by simp [adIJ, u2, hkc]
      have e3 : (adIJ J n q ea cap pp lj) 3 k = J 3 k := by simp [adIJ, u2, hkc]
      rw [e0, e4, e3]
      exact hY.2.2.1 k hk
theorem cy_Y.adW {n q ea cap : Nat} {nd : Nat} {x y z : Int32} (hY : cy_Y G I J st h) (hn : n = J 0 2) (hmax : n < 6) (hq : h q = none) (hea : (n < J 4 2 ∧ ea = J 3 2 ∧ cap = J 4 2) ∨ (h ea = none ∧ ea ≠ q ∧ (cap = 10 ∨ cap = 15) ∧ n < cap)) (hnd : h nd = some (eWin x y z)) (hnn : ∀ k i e, cy_Yc G I J st k i ≠ some (nd, e)) : cy_Y G (adWI I n x y z) (adWJ J n q ea cap nd) st (cy_up (cy_up (cy_up h q (.inr (6, [.ref nd, .int z]))) ea (aO G cap (cy_ar (n + 1) (va_up (J 7) n q)))) (J 2 2) (.inr (7, [.int (I 0 2 + 1), .ref ea, .int (nI (n + 1))]))) := by
  have hrow : (adWJ J n q ea cap nd) 7 = va_up (J 7) n q := by
    funext z
    simp [adWJ, u2, va_up]
  refine hY.add (c := 2) (n := n) (nd := nd) (kx := 11) (en := (eWin x y z)) hq (by rcases hea with ⟨h1, h2, _⟩ | ⟨h1, h2, _⟩; exact Or.inl ⟨by omega, h2, by decide⟩; exact Or.inr ⟨h1, h2⟩) (by decide) (Or.inr ⟨hnd, hnn⟩) ?_ ?_
  · intro k i a e hx
    match k, hx with
    | 0, hx => exact Or.inl ⟨hx, fun z => absurd z.1 (by decide), fun z => absurd z.1 (by decide)⟩
    | 1, hx => exact Or.inl ⟨hx, fun z => absurd z.1 (by decide), fun z => absurd z.1 (by decide)⟩
    | 2, hx =>
      obtain ⟨h1, h2⟩ := cy_ifp hx
      by_cases hi : i = 2
      · subst hi; cases h2; exact Or.inr (Or.inl ⟨rfl, rfl, rfl, rfl⟩)
      · refine Or.inl ⟨?_, fun z => hi z.2, fun z => hi z.2⟩
        rw [← h2]
        simp [cy_Yc, h1, adWJ, adWI, u2, hi, eList]
    | 3, hx =>
      obtain ⟨h1, h2⟩ := cy_ifp hx
      by_cases hi : i = 2
      · subst hi; cases h2
        have e0 : (adWJ J n q ea cap nd) 0 2 = n + 1 := by simp [adWJ, u2]
        have e4 : (adWJ J n q ea cap nd) 4 2 = cap := by simp [adWJ, u2]
        have e3 : (adWJ J n q ea cap nd) 3 2 = ea := by simp [adWJ, u2]
        exact Or.inr (Or.inr (Or.inl ⟨rfl, rfl, e3, by rw [e0, e4, show (adWJ J n q ea cap nd) (5 + 2) = va_up (J 7) n q from hrow]⟩))
      · refine Or.inl ⟨?_, fun z => hi z.2, fun z => hi z.2⟩
        have hj4 : (adWJ J n q ea cap nd) 4 i = J 4 i := by simp [adWJ, u2, hi]
        have hj0 : (adWJ J n q ea cap nd) 0 i = J 0 i := by simp [adWJ, u2, hi]
        have hj3 : (adWJ J n q ea cap nd) 3 i = J 3 i := by simp [adWJ, u2, hi]
        have hjr : (adWJ J n q ea cap nd) (5 + i) = J (5 + i) := by
          have hi5 := h1.1
          funext z
          simp [adWJ, u2, hi, show ¬ 5 + i = 7 by omega, show ¬ 5 + i = 0 by omega, show ¬ 5 + i = 3 by omega, show ¬ 5 + i = 4 by omega, show ¬ 5 + i = 10 by omega, show ¬ 5 + i = 11 by omega, show ¬ 5 + i = 12 by omega, show ¬ 5 + i = 13 by omega, show ¬ 5 + i = 14 by omega, show ¬ 5 + i = 15 by omega, show ¬ 5 + i = 16 by omega, show ¬ 5 + i = 17 by omega]
        rw [← h2, hj4, hj0, hj3, hjr]
        rw [hj4] at h1
        exact if_pos h1
    | 4, hx => exact Or.inl ⟨hx, fun z => absurd z.1 (by decide), fun z => absurd z.1 (by decide)⟩
    | 5, hx => exact Or.inl ⟨hx, fun z => absurd z.1 (by decide), fun z => absurd z.1 (by decide)⟩
    | 6, hx =>
      obtain ⟨h1, h2⟩ := cy_ifp hx
      have h1 : i < n + 1 := h1
      by_cases hi : i = n
      · have hi := hi.symm
        subst hi
        cases h2
        exact Or.inr (Or.inr (Or.inr (Or.inl ⟨rfl, rfl, by simp [adWJ, u2], by simp [eOpen, adWJ, adWI, u2, u2_row, cy_o, va_rf]⟩)))
      · have hin : i < J 0 2 := by omega
        refine Or.inl ⟨?_, fun z => absurd z.1 (by decide), fun z => absurd z.1 (by decide)⟩
        rw [← h2]
        show (if i < J 0 2 then _ else _) = _
        rw [if_pos (by omega)]
        simp [eOpen, adWJ, adWI, u2, hi]
    | 7, hx => exact Or.inl ⟨hx, fun z => absurd z.1 (by decide), fun z => absurd z.1 (by decide)⟩
    | 8, hx => exact Or.inl ⟨hx, fun z => absurd z.1 (by decide), fun z => absurd z.1 (by decide)⟩
    | 9, hx => exact Or.inl ⟨hx, fun z => absurd z.1 (by decide), fun z => absurd z.1 (by decide)⟩
    | 10, hx => exact Or.inl ⟨hx, fun z => absurd z.1 (by decide), fun z => absurd z.1 (by decide)⟩
    | 11, hx =>
      obtain ⟨h1, h2⟩ := cy_ifp hx
      have h1 : i < n + 1 := h1
      by_cases hi : i = n
      · subst hi
        cases h2
        exact Or.inr (Or.inr (Or.inr (Or.inr ⟨by decide, rfl, rfl, by simp [adWJ, u2], by simp [adWI, u2]⟩)))
      · refine Or.inl ⟨?_, fun z => absurd z.1 (by decide), fun z => absurd z.1 (by decide)⟩
        rw [← h2]
        show (if i < J 0 2 then _ else _) = _
        rw [if_pos (by omega)]
        simp [adWJ, adWI, u2, hi]
    | _ + 12, hx => cases hx
  · refine ⟨fun k hk => ?_, ⟨hY.2.2.2.1.1, hY.2.2.2.1.2.1, (by show n + 1 ≤ 6; omega), hY.2.2.2.1.2.2.2.1, hY.2.2.2.1.2.2.2.2⟩, hY.2.2.2.2.1, hY.2.2.2.2.2⟩
    by_cases hkc : k = 2
    · subst hkc
      have e0 : (adWJ J n q ea cap nd) 0 2 = n + 1 := by simp [adWJ, u2]
      have e4 : (adWJ J n q ea cap nd) 4 2 = cap := by simp [adWJ, u2]
      have e3 : (adWJ J n q ea cap nd) 3 2 = ea := by simp [adWJ, u2]
      rw [e0, e4, e3]
      have h9 := hY.2.2.1 2 (by decide)
      rcases hea with ⟨h1, h2, h3⟩ | ⟨_, _, h2, h3⟩
      · rw [h3, h2]
        refine ⟨h1, ?_⟩
        rcases h9.2 with ⟨z, _⟩ | z
        · omega
        · exact Or.inr z
      · exact ⟨h3, Or.inr h2⟩
    · have e0 : (adWJ J n q ea cap nd) 0 k = J 0 k := by simp [adWJ, u2, hkc]
      have e4 : (adWJ J n q ea cap nd) 4 k = J 4 k := by simp [adWJ, u2, hkc]
      have e3 : (adWJ J n q ea cap nd) 3 k = J 3 k := by simp [adWJ, u2, hkc]
      rw [e0, e4, e3]
      exact hY.2.2.1 k hk
theorem cy_Y.adC {n q ea cap : Nat} {nd im : Nat} {t x y : Int32} (hY : cy_Y G I J st h) (hn : n = J 0 3) (hmax : n < 12) (hq : h q = none) (hea : (n < J 4 3 ∧ ea = J 3 3 ∧ cap = J 4 3) ∨ (h ea = none ∧ ea ≠ q ∧ (cap = 10 ∨ cap = 15) ∧ n < cap)) (him : im < J 0 1) (hnd : h nd = some (eNeed x y)) (hnn : ∀ k i e, cy_Yc G I J st k i ≠ some (nd, e)) : cy_Y G (adCI I n t x y) (adCJ J n q ea cap nd im) st (cy_up (cy_up (cy_up h q (.inr (5, [.int (nI n), .int t, .ref (J 6 im), .ref nd, .ref (G.2.2.2.2 0), .null, .int 0, .int 0, .int 0, .int 0, .ref (J 1 0)]))) ea (aO G cap (cy_ar (n + 1) (va_up (J 8) n q)))) (J 2 3) (.inr (7, [.int (I 0 3 + 1), .ref ea, .int (nI (n + 1))]))) := by
  have hrow : (adCJ J n q ea cap nd im) 8 = va_up (J 8) n q := by
    funext z
    simp [adCJ, u2, va_up]
  refine hY.add (c := 3) (n := n) (nd := nd) (kx := 10) (en := (eNeed x y)) hq (by rcases hea with ⟨h1, h2, _⟩ | ⟨h1, h2, _⟩; exact Or.inl ⟨by omega, h2, by decide⟩; exact Or.inr ⟨h1, h2⟩) (by decide) (Or.inr ⟨hnd, hnn⟩) ?_ ?_
  · intro k i a e hx
    match k, hx with
    | 0, hx => exact Or.inl ⟨hx, fun z => absurd z.1 (by decide), fun z => absurd z.1 (by decide)⟩
    | 1, hx => exact Or.inl ⟨hx, fun z => absurd z.1 (by decide), fun z => absurd z.1 (by decide)⟩
    | 2, hx =>
      obtain ⟨h1, h2⟩ := cy_ifp hx
      by_cases hi : i = 3
      · subst hi; cases h2; exact Or.inr (Or.inl ⟨rfl, rfl, rfl, rfl⟩)
      · refine Or.inl ⟨?_, fun z => hi z.2, fun z => hi z.2⟩
        rw [← h2]
        simp [cy_Yc, h1, adCJ, adCI, u2, hi, eList]
    | 3, hx =>
      obtain ⟨h1, h2⟩ := cy_ifp hx
      by_cases hi : i = 3
      · subst hi; cases h2
        have e0 : (adCJ J n q ea cap nd im) 0 3 = n + 1 := by simp [adCJ, u2]
        have e4 : (adCJ J n q ea cap nd im) 4 3 = cap := by simp [adCJ, u2]
        have e3 : (adCJ J n q ea cap nd im) 3 3 = ea := by simp [adCJ, u2]
        exact Or.inr (Or.inr (Or.inl ⟨rfl, rfl, e3, by rw [e0, e4, show (adCJ J n q ea cap nd im) (5 + 3) = va_up (J 8) n q from hrow]⟩))
      · refine Or.inl ⟨?_, fun z => hi z.2, fun z => hi z.2⟩
        have hj4 : (adCJ J n q ea cap nd im) 4 i = J 4 i := by simp [adCJ, u2, hi]
        have hj0 : (adCJ J n q ea cap nd im) 0 i = J 0 i := by simp [adCJ, u2, hi]
        have hj3 : (adCJ J n q ea cap nd im) 3 i = J 3 i := by simp [adCJ, u2, hi]
        have hjr : (adCJ J n q ea cap nd im) (5 + i) = J (5 + i) := by
          have hi5 := h1.1
          funext z
          simp [adCJ, u2, hi, show ¬ 5 + i = 8 by omega, show ¬ 5 + i = 0 by omega, show ¬ 5 + i = 3 by omega, show ¬ 5 + i = 4 by omega, show ¬ 5 + i = 10 by omega, show ¬ 5 + i = 11 by omega, show ¬ 5 + i = 12 by omega, show ¬ 5 + i = 13 by omega, show ¬ 5 + i = 14 by omega, show ¬ 5 + i = 15 by omega, show ¬ 5 + i = 16 by omega, show ¬ 5 + i = 17 by omega]
        rw [← h2, hj4, hj0, hj3, hjr]
        rw [hj4] at h1
        exact if_pos h1
    | 4, hx => exact Or.inl ⟨hx, fun z => absurd z.1 (by decide), fun z => absurd z.1 (by decide)⟩
    | 5, hx => exact Or.inl ⟨hx, fun z => absurd z.1 (by decide), fun z => absurd z.1 (by decide)⟩
    | 6, hx => exact Or.inl ⟨hx, fun z => absurd z.1 (by decide), fun z => absurd z.1 (by decide)⟩
    | 7, hx =>
      obtain ⟨h1, h2⟩ := cy_ifp hx
      have h1 : i < n + 1 := h1
      by_cases hi : i = n
      · have hi := hi.symm
        subst hi
        cases h2
        exact Or.inr (Or.inr (Or.inr (Or.inl ⟨rfl, rfl, by simp [adCJ, u2], by simp [eCont, adCJ, adCI, u2, u2_row, cy_o, va_rf]⟩)))
      · have hin : i < J 0 3 := by omega
        refine Or.inl ⟨?_, fun z => absurd z.1 (by decide), fun z => absurd z.1 (by decide)⟩
        rw [← h2]
        show (if i < J 0 3 then _ else _) = _
        rw [if_pos (by omega)]
        simp [eCont, adCJ, adCI, u2_row, u2, hi]
    | 8, hx => exact Or.inl ⟨hx, fun z => absurd z.1 (by decide), fun z => absurd z.1 (by decide)⟩
    | 9, hx => exact Or.inl ⟨hx, fun z => absurd z.1 (by decide), fun z => absurd z.1 (by decide)⟩
    | 10, hx =>
      obtain ⟨h1, h2⟩ := cy_ifp hx
      have h1 : i < n + 1 := h1
      by_cases hi : i = n
      · subst hi
        cases h2
        exact Or.inr (Or.inr (Or.inr (Or.inr ⟨by decide, rfl, rfl, by simp [adCJ, u2], by simp [adCI, u2]⟩)))
      · refine Or.inl ⟨?_, fun z => absurd z.1 (by decide), fun z => absurd z.1 (by decide)⟩
        rw [← h2]
        show (if i < J 0 3 then _ else _) = _
        rw [if_pos (by omega)]
        simp [adCJ, adCI, u2, hi]
    | 11, hx => exact Or.inl ⟨hx, fun z => absurd z.1 (by decide), fun z => absurd z.1 (by decide)⟩
    | _ + 12, hx => cases hx
  · refine ⟨fun k hk => ?_, ⟨hY.2.2.2.1.1, hY.2.2.2.1.2.1, hY.2.2.2.1.2.2.1, (by show n + 1 ≤ 12; omega), hY.2.2.2.1.2.2.2.2⟩, hY.2.2.2.2.1, (fun i hi => by
      have hi : i < n + 1 := hi
      by_cases hin : i = n
      · subst hin; exact ⟨by simp [adCJ, u2]; exact him, by simp [adCJ, u2], by simp [adCJ, u2]⟩
      · have := hY.2.2.2.2.2 i (by omega)
        simp [adCJ, u2, hin]; exact this)⟩
    by_cases hkc : k = 3
    · subst hkc
      have e0 : (adCJ J n q ea cap nd im) 0 3 = n + 1 := by simp [adCJ, u2]
      have e4 : (adCJ J n q ea cap nd im) 4 3 = cap := by simp [adCJ, u2]
      have e3 : (adCJ J n q ea cap nd im) 3 3 = ea := by simp [adCJ, u2]
      rw [e0, e4, e3]
      have h9 := hY.2.2.1 3 (by decide)
      rcases hea with ⟨h1, h2, h3⟩ | ⟨_, _, h2, h3⟩
      · rw [h3, h2]
        refine ⟨h1, ?_⟩
        rcases h9.2 with ⟨z, _⟩ | z
        · omega
        · exact Or.inr z
      · exact ⟨h3, Or.inr h2⟩
    · have e0 : (adCJ J n q ea cap nd im) 0 k = J 0 k := by simp [adCJ, u2, hkc]
      have e4 : (adCJ J n q ea cap nd im) 4 k = J 4 k := by simp [adCJ, u2, hkc]
      have e3 : (adCJ J n q ea cap nd im) 3 k = J 3 k := by simp [adCJ, u2, hkc]
      rw [e0, e4, e3]
      exact hY.2.2.1 k hk
theorem cy_Y.adH {n q ea cap : Nat} {nd : Nat} {x y : Int32} (hY : cy_Y G I J st h) (hn : n = J 0 4) (hmax : n < 4) (hq : h q = none) (hea : (n < J 4 4 ∧ ea = J 3 4 ∧ cap = J 4 4) ∨ (h ea = none ∧ ea ≠ q ∧ (cap = 10 ∨ cap = 15) ∧ n < cap)) (hnd : h nd = some (eNeed x y)) (hnn : ∀ k i e, cy_Yc G I J st k i ≠ some (nd, e)) : cy_Y G (adHI I n x y) (adHJ J n q ea cap nd) st (cy_up (cy_up (cy_up h q (.inr (4, [.ref nd, .int x, .int y, .int (nI n)]))) ea (aO G cap (cy_ar (n + 1) (va_up (J 9) n q)))) (J 2 4) (.inr (7, [.int (I 0 4 + 1), .ref ea, .int (nI (n + 1))]))) := by
  have hrow : (adHJ J n q ea cap nd) 9 = va_up (J 9) n q := by
    funext z
    simp [adHJ, u2, va_up]
  refine hY.add (c := 4) (n := n) (nd := nd) (kx := 9) (en := (eNeed x y)) hq (by rcases hea with ⟨h1, h2, _⟩ | ⟨h1, h2, _⟩; exact Or.inl ⟨by omega, h2, by decide⟩; exact Or.inr ⟨h1, h2⟩) (by decide) (Or.inr ⟨hnd, hnn⟩) ?_ ?_
  · intro k i a e hx
    match k, hx with
    | 0, hx => exact Or.inl ⟨hx, fun z => absurd z.1 (by decide), fun z => absurd z.1 (by decide)⟩
    | 1, hx => exact Or.inl ⟨hx, fun z => absurd z.1 (by decide), fun z => absurd z.1 (by decide)⟩
    | 2, hx =>
      obtain ⟨h1, h2⟩ := cy_ifp hx
      by_cases hi : i = 4
      · subst hi; cases h2; exact Or.inr (Or.inl ⟨rfl, rfl, rfl, rfl⟩)
      · refine Or.inl ⟨?_, fun z => hi z.2, fun z => hi z.2⟩
        rw [← h2]
        simp [cy_Yc, h1, adHJ, adHI, u2, hi, eList]
    | 3, hx =>
      obtain ⟨h1, h2⟩ := cy_ifp hx
      by_cases hi : i = 4
      · subst hi; cases h2
        have e0 : (adHJ J n q ea cap nd) 0 4 = n + 1 := by simp [adHJ, u2]
        have e4 : (adHJ J n q ea cap nd) 4 4 = cap := by simp [adHJ, u2]
        have e3 : (adHJ J n q ea cap nd) 3 4 = ea := by simp [adHJ, u2]
        exact Or.inr (Or.inr (Or.inl ⟨rfl, rfl, e3, by rw [e0, e4, show (adHJ J n q ea cap nd) (5 + 4) = va_up (J 9) n q from hrow]⟩))
      · refine Or.inl ⟨?_, fun z => hi z.2, fun z => hi z.2⟩
        have hj4 : (adHJ J n q ea cap nd) 4 i = J 4 i := by simp [adHJ, u2, hi]
        have hj0 : (adHJ J n q ea cap nd) 0 i = J 0 i := by simp [adHJ, u2, hi]
        have hj3 : (adHJ J n q ea cap nd) 3 i = J 3 i := by simp [adHJ, u2, hi]
        have hjr : (adHJ J n q ea cap nd) (5 + i) = J (5 + i) := by
          have hi5 := h1.1
          funext z
          simp [adHJ, u2, hi, show ¬ 5 + i = 9 by omega, show ¬ 5 + i = 0 by omega, show ¬ 5 + i = 3 by omega, show ¬ 5 + i = 4 by omega, show ¬ 5 + i = 10 by omega, show ¬ 5 + i = 11 by omega, show ¬ 5 + i = 12 by omega, show ¬ 5 + i = 13 by omega, show ¬ 5 + i = 14 by omega, show ¬ 5 + i = 15 by omega, show ¬ 5 + i = 16 by omega, show ¬ 5 + i = 17 by omega]
        rw [← h2, hj4, hj0, hj3, hjr]
        rw [hj4] at h1
        exact if_pos h1
    | 4, hx => exact Or.inl ⟨hx, fun z => absurd z.1 (by decide), fun z => absurd z.1 (by decide)⟩
    | 5, hx => exact Or.inl ⟨hx, fun z => absurd z.1 (by decide), fun z => absurd z.1 (by decide)⟩
    | 6, hx => exact Or.inl ⟨hx, fun z => absurd z.1 (by decide), fun z => absurd z.1 (by decide)⟩
    | 7, hx =>
      obtain ⟨h1, h2⟩ := cy_ifp hx
      have h1 : i < J 0 3 := h1
      have hp : cy_o (adHJ J n q ea cap nd 9) (J 14 i) = cy_o (J 9) (J 14 i) := by
        have := (hY.2.2.2.2.2 i h1).2.2
        cases hz : J 14 i with
        | zero => rfl
        | succ w => simp [cy_o, adHJ, u2, show ¬ w = n by omega]
      have ee : eCont G (adHI I n x y) (adHJ J n q ea cap nd) i = eCont G I J i := by
        show (.inr (5, [.int (nI i), .int (I 12 i), .ref (J 6 (J 12 i)), .ref (J 16 i), .ref (G.2.2.2.2 (J 13 i)), va_rf (cy_o (adHJ J n q ea cap nd 9) (J 14 i)), .int (I 15 i), .int (I 16 i), .int (I 17 i), .int (I 18 i), .ref (J 1 0)]) : va_E) = _
        rw [hp]
      refine Or.inl ⟨?_, fun z => absurd z.1 (by decide), fun z => absurd z.1 (by decide)⟩
      rw [← h2, ee]
      exact if_pos h1
    | 8, hx =>
      obtain ⟨h1, h2⟩ := cy_ifp hx
      have h1 : i < n + 1 := h1
      by_cases hi : i = n
      · have hi := hi.symm
        subst hi
        cases h2
        exact Or.inr (Or.inr (Or.inr (Or.inl ⟨rfl, rfl, by simp [adHJ, u2], by simp [eHost, adHJ, adHI, u2, u2_row, cy_o, va_rf]⟩)))
      · have hin : i < J 0 4 := by omega
        refine Or.inl ⟨?_, fun z => absurd z.1 (by decide), fun z => absurd z.1 (by decide)⟩
        rw [← h2]
        show (if i < J 0 4 then _ else _) = _
        rw [if_pos (by omega)]
        simp [eHost, adHJ, adHI, u2, hi]
    | 9, hx =>
      obtain ⟨h1, h2⟩ := cy_ifp hx
      have h1 : i < n + 1 := h1
      by_cases hi : i = n
      · subst hi
        cases h2
        exact Or.inr (Or.inr (Or.inr (Or.inr ⟨by decide, rfl, rfl, by simp [adHJ, u2], by simp [adHI, u2]⟩)))
      · refine Or.inl ⟨?_, fun z => absurd z.1 (by decide), fun z => absurd z.1 (by decide)⟩
        rw [← h2]
        show (if i < J 0 4 then _ else _) = _
        rw [if_pos (by omega)]
        simp [adHJ, adHI, u2, hi]
    | 10, hx => exact Or.inl ⟨hx, fun z => absurd z.1 (by decide), fun z => absurd z.1 (by decide)⟩
    | 11, hx => exact Or.inl ⟨hx, fun z => absurd z.1 (by decide), fun z => absurd z.1 (by decide)⟩
    | _ + 12, hx => cases hx
  · refine ⟨fun k hk => ?_, ⟨hY.2.2.2.1.1, hY.2.2.2.1.2.1, hY.2.2.2.1.2.2.1, hY.2.2.2.1.2.2.2.1, (by show n + 1 ≤ 4; omega)⟩, hY.2.2.2.2.1, (fun i hi => ⟨(hY.2.2.2.2.2 i hi).1, (hY.2.2.2.2.2 i hi).2.1, Nat.le_succ_of_le (by rw [hn]; exact (hY.2.2.2.2.2 i hi).2.2)⟩)⟩
    by_cases hkc : k = 4
    · subst hkc
      have e0 : (adHJ J n q ea cap nd) 0 4 = n + 1 := by simp [adHJ, u2]
      have e4 : (adHJ J n q ea cap nd) 4 4 = cap := by simp [adHJ, u2]
      have e3 : (adHJ J n q ea cap nd) 3 4 = ea := by simp [adHJ, u2]
      rw [e0, e4, e3]
      have h9 := hY.2.2.1 4 (by decide)
      rcases hea with ⟨h1, h2, h3⟩ | ⟨_, _, h2, h3⟩
      · rw [h3, h2]
        refine ⟨h1, ?_⟩
        rcases h9.2 with ⟨z, _⟩ | z
        · omega
        · exact Or.inr z
      · exact ⟨h3, Or.inr h2⟩
    · have e0 : (adHJ J n q ea cap nd) 0 k = J 0 k := by simp [adHJ, u2, hkc]
      have e4 : (adHJ J n q ea cap nd) 4 k = J 4 k := by simp [adHJ, u2, hkc]
      have e3 : (adHJ J n q ea cap nd) 3 k = J 3 k := by simp [adHJ, u2, hkc]
      rw [e0, e4, e3]
      exact hY.2.2.1 k hk
end ADDS
