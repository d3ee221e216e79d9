/-! the model: patch -/
set_option maxRecDepth 100000
theorem cy_ch_fuel {J : Nat → Nat → Nat} {c : Nat} (hp : ∀ i, i < c → J 10 i ≤ i) : ∀ n m p, p ≤ n → p ≤ m → p ≤ c → cy_ch J n p = cy_ch J m p := by
  intro n
  induction n with
  | zero =>
    intro m p h1 h2 h3
    have : p = 0 := by omega
    subst this
    cases m <;> rfl
  | succ n ih =>
    intro m p h1 h2 h3
    cases p with
    | zero => cases m <;> rfl
    | succ i =>
      cases m with
      | zero => omega
      | succ m =>
        have := hp i (by omega)
        rw [cy_ch, cy_ch, ih m (J 10 i) (by omega) (by omega) (by omega)]
theorem cy_ch_lt {J : Nat → Nat → Nat} {c : Nat} (hp : ∀ i, i < c → J 10 i ≤ i) : ∀ n p k, p ≤ c → k ∈ cy_ch J n p → k < p := by
  intro n
  induction n with
  | zero => intro p k _ h; cases h
  | succ n ih =>
    intro p k hc h
    cases p with
    | zero => cases h
    | succ i =>
      rw [cy_ch] at h
      rcases List.mem_cons.mp h with e | e
      · omega
      · have := ih (J 10 i) k (by have := hp i (by omega); omega) e
        have := hp i (by omega)
        omega
/-- of two in a chain the one lies above the other -/
theorem cy_ch_two {J : Nat → Nat → Nat} {c : Nat} (hp : ∀ i, i < c → J 10 i ≤ i) : ∀ n p m k, p ≤ c → p ≤ n → m ∈ cy_ch J n p → k ∈ cy_ch J n p → k ≠ m → k ∈ cy_ch J m (J 10 m) ∨ m ∈ cy_ch J (k + 1) (k + 1) := by
  intro n
  induction n with
  | zero => intro p m k _ _ h; cases h
  | succ n ih =>
    intro p m k hc hn hm hk hne
    cases p with
    | zero => cases hm
    | succ i =>
      have hpi := hp i (by omega)
      rw [cy_ch] at hm hk
      rcases List.mem_cons.mp hm with e | e <;> rcases List.mem_cons.mp hk with f | f
      · exact absurd (f.trans e.symm) hne
      · subst e
        left
        rw [cy_ch_fuel hp m n (J 10 m) hpi (by omega) (by omega)]
        exact f
      · subst f
        right
        rw [cy_ch]
        rw [cy_ch_fuel hp k n (J 10 k) hpi (by omega) (by omega)]
        exact List.mem_cons_of_mem _ e
      · exact ih (J 10 i) m k (by omega) (by omega) e f hne
