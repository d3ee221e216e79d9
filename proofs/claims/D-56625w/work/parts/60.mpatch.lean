/-! the model: patch -/
set_option maxRecDepth 100000
theorem cy_ch_fuel {J : Nat → Nat → Nat} {c : Nat} (hp : ∀ i, i < c → J 10 i ≤ i) : ∀ n m p, p ≤ n → p ≤ m → p ≤ c → cy_ch J n p = cy_ch J m p := by
  intro n
  induction n with
  | zero =>
    intro m p h1 h2 h3
    have : p = 0 := by omega
    subst this
    cases m <;> rfl
  | succ n ih =>
    intro m p h1 h2 h3
    cases p with
    | zero => cases m <;> rfl
    | succ i =>
      cases m with
      | zero => omega
      | succ m =>
        have := hp i (by omega)
        rw [cy_ch, cy_ch, ih m (J 10 i) (by omega) (by omega) (by omega)]
theorem cy_ch_lt {J : Nat → Nat → Nat} {c : Nat} (hp : ∀ i, i < c → J 10 i ≤ i) : ∀ n p k, p ≤ c → k ∈ cy_ch J n p → k < p := by
  intro n
  induction n with
  | zero => intro p k _ h; cases h
  | succ n ih =>
    intro p k hc h
    cases p with
    | zero => cases h
    | succ i =>
      rw [cy_ch] at h
      rcases List.mem_cons.mp h with e | e
      · omega
      · have := ih (J 10 i) k (by have := hp i (by omega); omega) e
        have := hp i (by omega)
        omega
/-- of two in a chain the one lies above the other -/
theorem cy_ch_two {J : Nat → Nat → Nat} {c : Nat} (hp : ∀ i, i < c → J 10 i ≤ i) : ∀ n p m k, p ≤ c → p ≤ n → m ∈ cy_ch J n p → k ∈ cy_ch J n p → k ≠ m → k ∈ cy_ch J m (J 10 m) ∨ m ∈ cy_ch J (k + 1) (k + 1) := by
  intro n
  induction n with
  | zero => intro p m k _ _ h; cases h
  | succ n ih =>
    intro p m k hc hn hm hk hne
    cases p with
    | zero => cases hm
    | succ i =>
      have hpi := hp i (by omega)
      rw [cy_ch] at hm hk
      rcases List.mem_cons.mp hm with e | e <;> rcases List.mem_cons.mp hk with f | f
      · exact absurd (f.trans e.symm) hne
      · subst e
        left
        rw [cy_ch_fuel hp m n (J 10 m) hpi (by omega) (by omega)]
        exact f
      · subst f
        right
        rw [cy_ch]
        rw [cy_ch_fuel hp k n (J 10 k) hpi (by omega) (by omega)]
        exact List.mem_cons_of_mem _ e
      · exact ih (J 10 i) m k (by omega) (by omega) e f hne
theorem cy_bit_and : ∀ a, a < 12 → ∀ b, b < 12 → (decide (cy_bit a &&& cy_bit b = 0) = !decide (a = b)) := by decide +kernel
theorem i32_or_and (a b x : Int32) : (a ||| b) &&& x = (a &&& x) ||| (b &&& x) := by
  rw [Int32.and_comm, i32_and_or, Int32.and_comm x a, Int32.and_comm x b]
theorem cy_bits_any {J : Nat → Nat → Nat} {b : Nat} (hb : b < 12) : ∀ l : List Nat, (∀ k, k ∈ l → J 11 k < 12) → (!decide (cy_bits J l &&& cy_bit b = 0)) = l.any (fun k => decide (J 11 k = b)) := by
  intro l
  induction l with
  | nil => intro _; show (!decide (0 &&& cy_bit b = 0)) = false; rw [Int32.zero_and]; rfl
  | cons k l ih =>
    intro h
    have e : cy_bits J (k :: l) = cy_bit (J 11 k) ||| cy_bits J l := rfl
    rw [e, i32_or_and, List.any_cons, ← ih (fun k hk => h k (List.mem_cons_of_mem _ hk))]
    have e2 := cy_bit_and (J 11 k) (h k List.mem_cons_self) b hb
    have e3 : decide (cy_bit (J 11 k) &&& cy_bit b ||| cy_bits J l &&& cy_bit b = 0) = (decide (cy_bit (J 11 k) &&& cy_bit b = 0) && decide (cy_bits J l &&& cy_bit b = 0)) := by
      rw [Bool.eq_iff_iff]
      simp [Int32.or_eq_zero_iff]
    rw [e3, e2]
    cases decide (J 11 k = b) <;> cases decide (cy_bits J l &&& cy_bit b = 0) <;> rfl
theorem cy_any_iff (p : Nat → Bool) : ∀ n, cy_any p n = true ↔ ∃ k, k < n ∧ p k = true := by
  intro n
  induction n with
  | zero => exact ⟨fun h => Bool.noConfusion h, fun q => (by obtain ⟨k, h, _⟩ := q; omega)⟩
  | succ n ih =>
    rw [cy_any, Bool.or_eq_true, ih]
    constructor
    · rintro (⟨k, h1, h2⟩ | h)
      · exact ⟨k, by omega, h2⟩
      · exact ⟨n, by omega, h⟩
    · rintro ⟨k, h1, h2⟩
      by_cases e : k = n
      · exact Or.inr (e ▸ h2)
      · exact Or.inl ⟨k, by omega, h2⟩
/-- twice, as the model looks: down each chain -/
def cy_t2 (J : Nat → Nat → Nat) (m l d : Nat) : Bool := (cy_ch J (d + 1) (d + 1)).any (fun k => decide (k = m)) && (cy_ch J (d + 1) (d + 1)).any (fun k => !decide (k = m) && decide (J 11 k = l))
theorem cy_tw_t2 {J : Nat → Nat → Nat} {m l : Nat} (hp : ∀ i, i < J 0 1 → J 10 i ≤ i ∧ J 11 i < 12) (hm : m < J 0 1) (hl : l < 12) : cy_any (cy_t2 J m l) (J 0 1) = cy_tw J m l := by
  have hp1 : ∀ i, i < J 0 1 → J 10 i ≤ i := fun i hi => (hp i hi).1
  rw [Bool.eq_iff_iff, cy_any_iff]
  unfold cy_tw cy_inh
  have hmp := hp1 m hm
  rw [cy_bits_any hl _ (fun k hk => (hp k (by have := cy_ch_lt hp1 _ _ k (by omega) hk; omega)).2), Bool.or_eq_true, cy_any_iff, List.any_eq_true]
  constructor
  · rintro ⟨d, hd, h⟩
    unfold cy_t2 at h
    rw [Bool.and_eq_true, List.any_eq_true, List.any_eq_true] at h
    obtain ⟨⟨m', hm', e⟩, k, hk, e2⟩ := h
    rw [Bool.and_eq_true] at e2
    have e := of_decide_eq_true e
    subst e
    have hne : k ≠ m' := by have := e2.1; intro z; rw [z] at this; simp at this
    rcases cy_ch_two hp1 (d + 1) (d + 1) m' k (by omega) (Nat.le_refl _) hm' hk hne with a | a
    · exact Or.inl ⟨k, a, e2.2⟩
    · refine Or.inr ⟨k, by have := cy_ch_lt hp1 _ _ k (by omega) hk; omega, ?_⟩
      rw [Bool.and_eq_true, Bool.and_eq_true]
      exact ⟨e2.1, decide_eq_true a, e2.2⟩
  · rintro (⟨k, hk, e⟩ | ⟨k, hk, e⟩)
    · have hkm := cy_ch_lt hp1 _ _ k (by omega) hk
      refine ⟨m, hm, ?_⟩
      unfold cy_t2
      rw [Bool.and_eq_true, List.any_eq_true, List.any_eq_true]
      refine ⟨⟨m, by rw [cy_ch]; exact List.mem_cons_self, decide_eq_true rfl⟩, k, by rw [cy_ch]; exact List.mem_cons_of_mem _ hk, ?_⟩
      rw [Bool.and_eq_true]
      exact ⟨by rw [decide_eq_false (by omega)]; rfl, e⟩
    · rw [Bool.and_eq_true, Bool.and_eq_true] at e
      refine ⟨k, hk, ?_⟩
      unfold cy_t2
      rw [Bool.and_eq_true, List.any_eq_true, List.any_eq_true]
      refine ⟨⟨m, of_decide_eq_true e.2.1, decide_eq_true rfl⟩, k, by rw [cy_ch]; exact List.mem_cons_self, ?_⟩
      rw [Bool.and_eq_true]
      exact ⟨e.1, e.2.2⟩
