/-! what stays true of the yard -/
set_option maxRecDepth 100000
theorem cy_sm_eq {p p' : Nat → Bool} {f f' : Nat → Int32} : ∀ n, (∀ k, k < n → p k = p' k ∧ f k = f' k) → cy_sm p f n = cy_sm p' f' n := by
  intro n
  induction n with
  | zero => intro _; rfl
  | succ n ih =>
    intro h
    rw [cy_sm, cy_sm, ih (fun k hk => h k (by omega)), (h n (Nat.lt_succ_self n)).1, (h n (Nat.lt_succ_self n)).2]
theorem cy_sm_ad {p p' : Nat → Bool} {f : Nat → Int32} {j : Nat} (h0 : p j = false) (h1 : p' j = true) : ∀ n, j < n → (∀ k, k < n → k ≠ j → p' k = p k) → cy_sm p' f n = cy_sm p f n + f j := by
  intro n
  induction n with
  | zero => intro h; omega
  | succ n ih =>
    intro hj h
    rw [cy_sm, cy_sm]
    by_cases e : j = n
    · subst e
      rw [h0, h1, if_pos rfl, if_neg (by decide), cy_sm_eq (p := p') (p' := p) (f' := f) j (fun k hk => ⟨h k (by omega) (by omega), rfl⟩), Int32.add_zero]
    · rw [ih (by omega) (fun k hk => h k (by omega)), h n (Nat.lt_succ_self n) (fun z => e z.symm), Int32.add_assoc, Int32.add_comm (f j), ← Int32.add_assoc]
theorem cy_sm_rm {p p' : Nat → Bool} {f : Nat → Int32} {j n : Nat} (h0 : p j = true) (h1 : p' j = false) (hj : j < n) (h : ∀ k, k < n → k ≠ j → p' k = p k) : cy_sm p' f n = cy_sm p f n - f j := by
  rw [cy_sm_ad (p := p') (p' := p) (f := f) h1 h0 n hj (fun k hk hne => (h k hk hne).symm), Int32.sub_eq_add_neg, Int32.add_assoc, Int32.add_neg_eq_sub, Int32.sub_self, Int32.add_zero]
def cy_Iv (H N : Nat) (I : Nat → Nat → Int32) (J : Nat → Nat → Nat) : Prop :=
  cy_okJ J ∧ (∀ i, i < J 0 3 → J 13 i ≠ 1 → J 14 i = 0) ∧ cy_free I J ∧ I 1 2 = cy_sm (cy_run1 J) (I 13) (J 0 3) ∧ I 1 0 = nI H ∧ (∀ i, i < J 0 0 → I 2 i = 0 ∨ I 2 i = 1) ∧
  (∀ i, i < J 0 3 → (∃ c, I 13 i = nI c ∧ c ≤ 16) ∧ (∃ S, I 16 i = nI S ∧ S ≤ H) ∧ (∃ m, I 17 i = nI m ∧ m ≤ N) ∧ (J 13 i = 2 → ∃ U, I 18 i = nI U ∧ H < U ∧ U ≤ 1100))
section INV
variable {G : GT} {I : Nat → Nat → Int32} {J : Nat → Nat → Nat} {H N : Nat}
theorem cy_Iv.ok (h : cy_Iv H N I J) : cy_okJ J := h.1
theorem cy_Iv.no (h : cy_Iv H N I J) : ∀ i, i < J 0 3 → J 13 i ≠ 1 → J 14 i = 0 := h.2.1
theorem cy_Iv.free (h : cy_Iv H N I J) : cy_free I J := h.2.2.1
theorem cy_Iv.tk (h : cy_Iv H N I J) : I 1 2 = cy_sm (cy_run1 J) (I 13) (J 0 3) := h.2.2.2.1
theorem cy_Iv.hr (h : cy_Iv H N I J) : I 1 0 = nI H := h.2.2.2.2.1
theorem cy_Iv.wd (h : cy_Iv H N I J) : ∀ i, i < J 0 0 → I 2 i = 0 ∨ I 2 i = 1 := h.2.2.2.2.2.1
theorem cy_Iv.co (h : cy_Iv H N I J) : ∀ i, i < J 0 3 → (∃ c, I 13 i = nI c ∧ c ≤ 16) ∧ (∃ S, I 16 i = nI S ∧ S ≤ H) ∧ (∃ m, I 17 i = nI m ∧ m ≤ N) ∧ (J 13 i = 2 → ∃ U, I 18 i = nI U ∧ H < U ∧ U ≤ 1100) := h.2.2.2.2.2.2
theorem cy_Iv.more (h : cy_Iv H N I J) {N' : Nat} (hN : N ≤ N') : cy_Iv H N' I J := ⟨h.ok, h.no, h.free, h.tk, h.hr, h.wd, fun i hi => ⟨(h.co i hi).1, (h.co i hi).2.1, (h.co i hi).2.2.1.imp (fun m q => ⟨q.1, Nat.le_trans q.2 hN⟩), (h.co i hi).2.2.2⟩⟩
/-- the failures that count, as a number -/
theorem cy_Iv.fl (h : cy_Iv H N I J) {i : Nat} (hi : i < J 0 3) : ∃ m, cy_fl I i = nI m ∧ m ≤ N := by
  obtain ⟨m, e, hm⟩ := (h.co i hi).2.2.1
  unfold cy_fl
  split
  · exact ⟨m, e, hm⟩
  · exact ⟨0, rfl, Nat.zero_le _⟩
theorem cy_sm_le {p : Nat → Bool} {f : Nat → Int32} : ∀ n, (∀ k, k < n → ∃ c, f k = nI c ∧ c ≤ 16) → ∃ t, cy_sm p f n = nI t ∧ t ≤ 16 * n := by
  intro n
  induction n with
  | zero => intro _; exact ⟨0, rfl, Nat.le_refl _⟩
  | succ n ih =>
    intro h
    obtain ⟨t, e, ht⟩ := ih (fun k hk => h k (by omega))
    obtain ⟨c, ec, hc⟩ := h n (Nat.lt_succ_self n)
    rw [cy_sm, e]
    split
    · exact ⟨t + c, by rw [ec, nI_add], by omega⟩
    · exact ⟨t, by rw [Int32.add_zero], by omega⟩
theorem cy_Iv.tk_n (h : cy_Iv H N I J) (hr : cy_Yr G J) : ∃ t, cy_sm (cy_run1 J) (I 13) (J 0 3) = nI t ∧ t < 193 := by
  obtain ⟨t, e, ht⟩ := cy_sm_le (p := cy_run1 J) (f := I 13) (J 0 3) (fun k hk => (h.co k hk).1)
  have := hr.2.1.2.2.2.1
  exact ⟨t, e, by omega⟩
theorem cy_Yr.bc (hr : cy_Yr G J) {j t : Nat} (ht : t < 4) : cy_Yr G (bcJ J j t) := by
  have e : ∀ r, r ≠ 13 → r ≠ 14 → bcJ J j t r = J r := fun r a b => bcJ_r a b
  refine ⟨?_, ?_, ?_, ?_⟩
  · rw [e 0 (by decide) (by decide), e 4 (by decide) (by decide), e 3 (by decide) (by decide)]; exact hr.1
  · rw [e 0 (by decide) (by decide)]; exact hr.2.1
  · rw [e 0 (by decide) (by decide), e 10 (by decide) (by decide), e 11 (by decide) (by decide)]; exact hr.2.2.1
  · rw [e 0 (by decide) (by decide), e 12 (by decide) (by decide)]
    intro i hi
    obtain ⟨a, b, c⟩ := hr.2.2.2 i hi
    refine ⟨a, ?_, ?_⟩
    · unfold bcJ
      by_cases z : i = j
      · rw [z, u2_eq]; exact ht
      · rw [u2_i z]
        split
        · rw [u2_row (by decide)]; exact b
        · exact b
    · unfold bcJ
      rw [u2_row (show (14 : Nat) ≠ 13 by decide)]
      split
      · by_cases z : i = j
        · rw [z, u2_eq]; exact Nat.zero_le _
        · rw [u2_i z]; exact c
      · exact c
/-- a container leaves its host, or none -/
theorem cy_Iv.bc (h : cy_Iv H N I J) (hr : cy_Yr G J) {j t : Nat} (hj : j < J 0 3) (ht : t ≠ 1) (hu : t = 2 → ∃ U, I 18 j = nI U ∧ H < U ∧ U ≤ 1100) : cy_Iv H N (bcI I J j) (bcJ J j t) := by
  by_cases hrun : J 13 j = 1
  · rw [bcI, bcJ, if_pos hrun, if_pos hrun]
    have h14 := h.ok j hj hrun
    have h14l := (hr.2.2.2 j hj).2.2
    refine ⟨?_, ?_, ?_, ?_, ?_, ?_, ?_⟩
    · intro i hi
      show (if i = j then t else J 13 i) = 1 → (if i = j then 0 else J 14 i) ≠ 0
      by_cases e : i = j
      · rw [if_pos e]; intro z; exact absurd z ht
      · rw [if_neg e, if_neg e]; exact h.ok i hi
    · intro i hi
      show (if i = j then t else J 13 i) ≠ 1 → (if i = j then 0 else J 14 i) = 0
      by_cases e : i = j
      · rw [if_pos e, if_pos e]; intro _; rfl
      · rw [if_neg e, if_neg e]; exact h.no i hi
    · intro i hi
      have hi : i < J 0 4 := hi
      have hf := h.free i hi
      have e13 : ∀ k, k ≠ j → cy_on (u2 (u2 J 14 j 0) 13 j t) i k = cy_on J i k := by
        intro k hk
        unfold cy_on
        show ((decide ((if k = j then t else J 13 k) = 1)) && decide ((if k = j then 0 else J 14 k) = i + 1)) = _
        rw [if_neg hk, if_neg hk]
      have ej : cy_on (u2 (u2 J 14 j 0) 13 j t) i j = false := by
        unfold cy_on
        rw [u2_eq, decide_eq_false ht]; rfl
      show (if i = J 14 j - 1 then I 6 (J 14 j - 1) + I 13 j else I 6 i) = I 4 i - cy_sm (cy_on (u2 (u2 J 14 j 0) 13 j t) i) (I 13) (J 0 3) ∧ (if i = J 14 j - 1 then I 7 (J 14 j - 1) + I 14 j else I 7 i) = I 5 i - cy_sm (cy_on (u2 (u2 J 14 j 0) 13 j t) i) (I 14) (J 0 3)
      by_cases e : i = J 14 j - 1
      · have eo : cy_on J i j = true := by unfold cy_on; rw [decide_eq_true hrun, decide_eq_true (by omega)]; rfl
        rw [if_pos e, if_pos e, cy_sm_rm eo ej hj (fun k _ hk => e13 k hk), cy_sm_rm eo ej hj (fun k _ hk => e13 k hk), ← e, hf.1, hf.2]
        constructor
        · rw [Int32.sub_eq_add_neg, Int32.sub_eq_add_neg (I 4 i), Int32.neg_sub, Int32.sub_eq_add_neg, Int32.add_comm (I 13 j), Int32.add_assoc]
        · rw [Int32.sub_eq_add_neg, Int32.sub_eq_add_neg (I 5 i), Int32.neg_sub, Int32.sub_eq_add_neg, Int32.add_comm (I 14 j), Int32.add_assoc]
      · have eo : cy_on J i j = false := by unfold cy_on; rw [decide_eq_false (show ¬ J 14 j = i + 1 by omega), Bool.and_false]
        have es : ∀ f : Nat → Int32, cy_sm (cy_on (u2 (u2 J 14 j 0) 13 j t) i) f (J 0 3) = cy_sm (cy_on J i) f (J 0 3) := fun f => cy_sm_eq _ (fun k _ => ⟨by
          by_cases z : k = j
          · rw [z, ej, eo]
          · exact e13 k z, rfl⟩)
        rw [if_neg e, if_neg e, es, es]
        exact hf
    · show I 1 2 - I 13 j = cy_sm (cy_run1 (u2 (u2 J 14 j 0) 13 j t)) (I 13) (J 0 3)
      rw [cy_sm_rm (p := cy_run1 J) (decide_eq_true hrun) (show cy_run1 (u2 (u2 J 14 j 0) 13 j t) j = false by unfold cy_run1; rw [u2_eq]; exact decide_eq_false ht) hj (fun k _ hk => by unfold cy_run1; rw [u2_i hk, u2_row (show (13 : Nat) ≠ 14 by decide)]), h.tk]
    · exact h.hr
    · exact h.wd
    · intro i hi
      have hi : i < J 0 3 := hi
      obtain ⟨a, b, c, d⟩ := h.co i hi
      refine ⟨a, b, ?_, ?_⟩
      · show ∃ m, (if i = j then cy_fl I j else I 17 i) = nI m ∧ m ≤ N
        by_cases e : i = j
        · rw [if_pos e]; exact h.fl hj
        · rw [if_neg e]; exact c
      · show (if i = j then t else J 13 i) = 2 → ∃ U, I 18 i = nI U ∧ H < U ∧ U ≤ 1100
        by_cases e : i = j
        · rw [if_pos e, e]; exact hu
        · rw [if_neg e]; exact d
  · rw [bcI, bcJ, if_neg hrun, if_neg hrun]
    have e13 : ∀ k, decide (u2 J 13 j t 13 k = 1) = decide (J 13 k = 1) := by
      intro k
      by_cases z : k = j
      · rw [z, u2_eq, decide_eq_false ht, decide_eq_false hrun]
      · rw [u2_i z]
    refine ⟨?_, ?_, ?_, ?_, h.hr, h.wd, ?_⟩
    · intro i hi
      show (if i = j then t else J 13 i) = 1 → J 14 i ≠ 0
      by_cases e : i = j
      · rw [if_pos e]; intro z; exact absurd z ht
      · rw [if_neg e]; exact h.ok i hi
    · intro i hi
      show (if i = j then t else J 13 i) ≠ 1 → J 14 i = 0
      by_cases e : i = j
      · intro _; rw [e]; exact h.no j hj hrun
      · rw [if_neg e]; exact h.no i hi
    · intro i hi
      have es : ∀ f : Nat → Int32, cy_sm (cy_on (u2 J 13 j t) i) f (J 0 3) = cy_sm (cy_on J i) f (J 0 3) := fun f => cy_sm_eq _ (fun k _ => ⟨by unfold cy_on; rw [e13, u2_row (show (14 : Nat) ≠ 13 by decide)], rfl⟩)
      show I 6 i = I 4 i - cy_sm (cy_on (u2 J 13 j t) i) (I 13) (J 0 3) ∧ I 7 i = I 5 i - cy_sm (cy_on (u2 J 13 j t) i) (I 14) (J 0 3)
      rw [es, es]
      exact h.free i hi
    · show I 1 2 = cy_sm (cy_run1 (u2 J 13 j t)) (I 13) (J 0 3)
      rw [h.tk]
      exact cy_sm_eq _ (fun k _ => ⟨(e13 k).symm, rfl⟩)
    · intro i hi
      obtain ⟨a, b, c, d⟩ := h.co i hi
      refine ⟨a, b, c, ?_⟩
      show (if i = j then t else J 13 i) = 2 → _
      by_cases e : i = j
      · rw [if_pos e, e]; exact hu
      · rw [if_neg e]; exact d
end INV
