/-! an hour; pass -/
set_option maxRecDepth 100000
/-- steps from k on, d of them -/
def itd {α : Type} (f : α → Nat → α) : α → Nat → Nat → α
  | s, _, 0 => s
  | s, k, d + 1 => itd f (f s k) (k + 1) d
/-- the kinds that the component's world holds -/
def cy_yk : va_E → Bool
  | .inl (_, _, .inr _) => true
  | .inl (_, _, .inl _) => false
  | .inr (c, _) => decide (c < 8) || decide (c = 9) || decide (c = 10)
theorem cy_ifs {c : Prop} [Decidable c] {a x : Nat} {e y : va_E} (h : (if c then some (x, y) else none) = some (a, e)) : e = y := by
  split at h
  · exact (Prod.mk.inj (Option.some.inj h)).2.symm
  · cases h
theorem cy_Yc_yk {G : GT} {I : Nat → Nat → Int32} {J : Nat → Nat → Nat} {st : Int64} {k i a : Nat} {e : va_E} (h : cy_Yc G I J st k i = some (a, e)) : cy_yk e = true := by
  match k, h with
  | 0, h => rw [cy_ifs h]; rfl
  | 1, h => rw [cy_ifs h]; rfl
  | 2, h => rw [cy_ifs h]; rfl
  | 3, h => rw [cy_ifs h]; rfl
  | 4, h => rw [cy_ifs h]; rfl
  | 5, h => rw [cy_ifs h]; rfl
  | 6, h => rw [cy_ifs h]; rfl
  | 7, h => rw [cy_ifs h]; rfl
  | 8, h => rw [cy_ifs h]; rfl
  | 9, h => rw [cy_ifs h]; rfl
  | 10, h => rw [cy_ifs h]; rfl
  | 11, h => rw [cy_ifs h]; rfl
  | _ + 12, h => cases h
theorem cy_Y.out {G : GT} {I : Nat → Nat → Int32} {J : Nat → Nat → Nat} {st : Int64} {h : Hp} {q : Nat} {e e' : va_E} (hY : cy_Y G I J st h) (hq : h q = some e) (he : cy_yk e = false) : cy_Y G I J st (cy_up h q e') := by
  refine ⟨fun k i a x hx => ?_, hY.2⟩
  have h1 := hY.1 k i a x hx
  by_cases hz : a = q
  · rw [hz, hq] at h1
    cases h1
    rw [cy_Yc_yk hx] at he
    cases he
  · rw [cy_up_ne hz]
    exact h1
/-- a cell that is not the component's -/
theorem cy_Fr.it {h h1 : Hp} {q : Nat} {e' : va_E} (hF : cy_Fr h h1) (h0 : ∀ e, h q = some e → cy_yd e = true) : cy_Fr h (cy_up h1 q e') := fun x e2 z r => by
  rw [cy_up_ne (fun w => by rw [w] at z; rw [h0 e2 z] at r; cases r)]
  exact hF x e2 z r
theorem cy_Fr.ny {h h1 : Hp} {q : Nat} (hF : cy_Fr h h1) (hn : h1 q = none) : ∀ e, h q = some e → cy_yd e = true := fun e he => by
  cases hy : cy_yd e with
  | true => rfl
  | false => rw [hF q e he hy] at hn; cases hn
def cy_okJ (J : Nat → Nat → Nat) : Prop := ∀ i, i < J 0 3 → J 13 i = 1 → J 14 i ≠ 0
theorem bcJ_r {J : Nat → Nat → Nat} {i t r : Nat} (h1 : r ≠ 13) (h2 : r ≠ 14) : bcJ J i t r = J r := by
  unfold bcJ
  rw [u2_row h1]
  split
  · exact u2_row h2
  · rfl
theorem bcI_0 {I : Nat → Nat → Int32} {J : Nat → Nat → Nat} {i : Nat} : bcI I J i 0 = I 0 := by
  unfold bcI
  split
  · rw [u2_row (by decide), u2_row (by decide), u2_row (by decide), u2_row (by decide)]
  · rfl
theorem bcJ_ok {J : Nat → Nat → Nat} {i t : Nat} (ht : t ≠ 1) (h : cy_okJ J) : cy_okJ (bcJ J i t) := by
  intro j hj h13
  rw [bcJ_r (by decide) (by decide)] at hj
  by_cases hji : j = i
  · subst hji
    unfold bcJ at h13
    rw [u2_eq] at h13
    exact absurd h13 ht
  · unfold bcJ at h13 ⊢
    rw [u2_i hji] at h13
    rw [u2_i hji]
    split at h13
    · rename_i hc
      rw [u2_i hji] at h13
      rw [if_pos hc, u2_i hji]
      exact h j hj h13
    · rename_i hc
      rw [if_neg hc]
      exact h j hj h13
abbrev cyIJ : Type := (Nat → Nat → Int32) × (Nat → Nat → Nat)
abbrev cyIJS : Type := (Nat → Nat → Int32) × (Nat → Nat → Nat) × Int64
def se2 (s : cyIJ) (i : Nat) : cyIJ := (seI s.1 s.2 i, seJ s.1 s.2 i)
def cy_st (I : Nat → Nat → Int32) (J : Nat → Nat → Nat) (i : Nat) : Bool := decide (J 13 i = 0) && decide (cy_bar I J (I 1 1) (I 1 2) (I 6) (I 7) (J 0 4) i = 4)
def cy_bh (I : Nat → Nat → Int32) (J : Nat → Nat → Nat) (i : Nat) : Nat := cy_be (I 6) (I 7) (I 13 i) (I 14 i) (J 0 4) - 1
def sa3 (s : cyIJS) (i : Nat) : cyIJS := if cy_st s.1 s.2.1 i then (stI s.1 s.2.1 i (cy_bh s.1 s.2.1 i), stJ s.2.1 i (cy_bh s.1 s.2.1 i), s.2.2 + 1) else s
/-- an hour -/
def tkS (s : cyIJS) : cyIJS := itd sa3 ((itd se2 (u2 s.1 1 0 (s.1 1 0 + 1), s.2.1) 0 (s.2.1 0 3)).1, (itd se2 (u2 s.1 1 0 (s.1 1 0 + 1), s.2.1) 0 (s.2.1 0 3)).2, s.2.2) 0 (s.2.1 0 3)
theorem seJ_r {I : Nat → Nat → Int32} {J : Nat → Nat → Nat} {i r : Nat} (h1 : r ≠ 13) (h2 : r ≠ 14) : seJ I J i r = J r := by
  unfold seJ
  split
  · exact bcJ_r h1 h2
  · rfl
theorem seI_0 {I : Nat → Nat → Int32} {J : Nat → Nat → Nat} {i : Nat} : seI I J i 0 = I 0 := by
  unfold seI
  split
  · exact bcI_0
  · rfl
theorem seJ_ok {I : Nat → Nat → Int32} {J : Nat → Nat → Nat} {i : Nat} (h : cy_okJ J) : cy_okJ (seJ I J i) := by
  unfold seJ
  split
  · exact bcJ_ok (by decide) h
  · exact h
theorem stJ_r {J : Nat → Nat → Nat} {i b r : Nat} (h1 : r ≠ 13) (h2 : r ≠ 14) : stJ J i b r = J r := by
  unfold stJ
  rw [u2_row h1, u2_row h2]
theorem stI_0 {I : Nat → Nat → Int32} {J : Nat → Nat → Nat} {i b : Nat} : stI I J i b 0 = I 0 := by
  unfold stI
  rw [u2_row (by decide), u2_row (by decide), u2_row (by decide), u2_row (by decide), u2_row (by decide)]
theorem stJ_ok {J : Nat → Nat → Nat} {i b : Nat} (h : cy_okJ J) : cy_okJ (stJ J i b) := by
  intro j hj h13
  rw [stJ_r (by decide) (by decide)] at hj
  unfold stJ at h13 ⊢
  rw [u2_r (by decide)]
  by_cases hji : j = i
  · subst hji
    rw [u2_eq]
    exact Nat.succ_ne_zero b
  · rw [u2_i hji] at h13 ⊢
    rw [u2_r (by decide)] at h13
    exact h j hj h13
theorem sa3_r {s : cyIJS} {i r : Nat} (h1 : r ≠ 13) (h2 : r ≠ 14) : (sa3 s i).2.1 r = s.2.1 r := by
  unfold sa3
  split
  · exact stJ_r h1 h2
  · rfl
theorem sa3_0 {s : cyIJS} {i : Nat} : (sa3 s i).1 0 = s.1 0 := by
  unfold sa3
  split
  · exact stI_0 (I := s.1) (J := s.2.1) (i := i) (b := cy_bh s.1 s.2.1 i)
  · rfl
theorem sa3_ok {s : cyIJS} {i : Nat} (h : cy_okJ s.2.1) : cy_okJ (sa3 s i).2.1 := by
  unfold sa3
  split
  · exact stJ_ok h
  · exact h
/-- what steps keep -/
theorem itd_keep {α : Type} {f : α → Nat → α} {P : α → Prop} (hf : ∀ s k, P s → P (f s k)) : ∀ (d k : Nat) (s : α), P s → P (itd f s k d) := by
  intro d
  induction d with
  | zero => intro k s h; exact h
  | succ d ih => intro k s h; exact ih (k + 1) (f s k) (hf s k h)
theorem tkS_ok {s : cyIJS} (h : cy_okJ s.2.1) : cy_okJ (tkS s).2.1 := by
  unfold tkS
  refine itd_keep (P := fun z : cyIJS => cy_okJ z.2.1) (fun z k hz => sa3_ok hz) _ _ _ ?_
  exact itd_keep (P := fun z : cyIJ => cy_okJ z.2) (fun z k hz => seJ_ok hz) _ _ _ h
theorem tkS_r {s : cyIJS} {r : Nat} (h1 : r ≠ 13) (h2 : r ≠ 14) : (tkS s).2.1 r = s.2.1 r := by
  unfold tkS
  have e1 : (itd se2 (u2 s.1 1 0 (s.1 1 0 + 1), s.2.1) 0 (s.2.1 0 3)).2 r = s.2.1 r := itd_keep (P := fun z : cyIJ => z.2 r = s.2.1 r) (fun z k hz => (seJ_r h1 h2).trans hz) _ _ _ rfl
  exact itd_keep (P := fun z : cyIJS => z.2.1 r = s.2.1 r) (fun z k hz => (sa3_r h1 h2).trans hz) _ _ _ e1
theorem tkS_0 {s : cyIJS} : (tkS s).1 0 = s.1 0 := by
  unfold tkS
  have e1 : (itd se2 (u2 s.1 1 0 (s.1 1 0 + 1), s.2.1) 0 (s.2.1 0 3)).1 0 = s.1 0 := itd_keep (P := fun z : cyIJ => z.1 0 = s.1 0) (fun z k hz => seI_0.trans hz) _ _ _ (show u2 s.1 1 0 (s.1 1 0 + 1) 0 = s.1 0 from u2_row (by decide))
  exact itd_keep (P := fun z : cyIJS => z.1 0 = s.1 0) (fun z k hz => sa3_0.trans hz) _ _ _ e1
section TICK
variable {G : GT} {I : Nat → Nat → Int32} {J : Nat → Nat → Nat} {st : Int64} {h : Hp}
set_option maxHeartbeats 2000000 in
theorem ct_X1_tick (hG : cy_G G) (hY : cy_Y G I J st h) (hok : cy_okJ J) : cy_Con G yX1_tick cX1_tick 3 none 19 62 [.ref (J 1 0)] h (qN (fun h1 => cy_Y G (tkS (I, J, st)).1 (tkS (I, J, st)).2.1 (tkS (I, J, st)).2.2 h1 ∧ cy_Fr h h1)) xF := by
  have r0 := hY.2.2.2.1
  refine cy_in (own := RX1) (lv0 := [some (.ref (J 1 0)), none, none]) (by decide) rfl rfl rfl (Nat.le_of_ble_eq_true rfl) (fun K T C => ?_)
  -- the starts
  have loop2 : ∀ (d k : Nat) (I1 : Nat → Nat → Int32) (J1 : Nat → Nat → Nat) (s1 : Int64) (lr : Value) (x2 : Option Value) (q : Nat) (h1 : Hp), k + d = J1 0 3 → J1 0 3 ≤ 12 → cy_Y G I1 J1 s1 h1 → cy_Fr h h1 → (∀ e, h q = some e → cy_yd e = true) → h1 q = some (.inr (8, [.int (nI k), lr, .int (I1 0 3), .ref (J1 2 3)])) → itd sa3 (I1, J1, s1) k d = tkS (I, J, st) → K (3 * d) h1 57 [some (.ref (J1 1 0)), some (.ref q), x2] [] := by
    intro d
    induction d with
    | zero =>
      intro k I1 J1 s1 lr x2 q h1 hk hn hY1 hF hq0 hq e
      have hkn : k = J1 0 3 := by omega
      subst hkn
      refine rr_aload_n C 1 dX1_tick_57 rfl rfl ?_
      refine cf_X1_126 C dX1_tick_58 (ct_hn0 hq (hY1.list (i := 3) (by decide))) (Or.inl hq) (kVr ?_)
      refine rr_if_eq C 107 dX1_tick_63 (by decide) (fun _ => ?_) (fun c => absurd rfl c)
      refine rr_return C dX1_tick_107 ⟨rfl, ?_, hF⟩
      rw [← e]
      exact hY1
    | succ d ih =>
      intro k I1 J1 s1 lr x2 q h1 hk hn hY1 hF hq0 hq e
      have hla := hY1.list (i := 3) (by decide)
      refine rr_aload_n C 1 dX1_tick_57 rfl rfl ?_
      refine cf_X1_126 C dX1_tick_58 (ct_hn1 hq hla (n := J1 0 3) (by omega) (by omega)) (Or.inl hq) (kVr ?_)
      refine rr_if_eq C 107 dX1_tick_63 (by decide) (fun c => absurd c (by decide)) (fun _ => ?_)
      refine rr_aload_n C 1 dX1_tick_66 rfl rfl ?_
      refine cf_X1_132 C dX1_tick_67 (ct_nx hq hla (hY1.kn hG (by decide)) (by omega) (hY1.2.2.1 3 (by decide)).1 (hY1.cap (by decide)) (hY1.el (i := 3) (by decide) (by omega))) (Or.inl hq) (kV (fun h2 e2 => ?_))
      have hY2 : cy_Y G I1 J1 s1 h2 := by rw [e2]; exact hY1.out hq rfl
      have hF2 : cy_Fr h h2 := by rw [e2]; exact hF.it hq0
      have hq2 : h2 q = some (.inr (8, [.int (nI (k + 1)), .int (nI k), .int (I1 0 3), .ref (J1 2 3)])) := by rw [e2]; exact cy_up_eq
      have hkc := hY2.cont (i := k) (by omega)
      refine cc_X1_73 C dX1_tick_72 (Or.inl hkc) ?_
      refine rr_astore_n C 2 dX1_tick_75 rfl (Nat.le_of_ble_eq_true rfl) rfl (Nat.le_of_ble_eq_true rfl) ?_
      have next : cy_st I1 J1 k = false → K (3 * d) h2 57 [some (.ref (J1 1 0)), some (.ref q), some (.ref (J1 8 k))] [] := by
        intro hs
        refine ih (k + 1) I1 J1 s1 _ _ q h2 (by omega) hn hY2 hF2 hq0 hq2 ?_
        rw [← e, itd]
        have : sa3 (I1, J1, s1) k = (I1, J1, s1) := by unfold sa3; rw [hs]; rfl
        rw [this]
      refine rr_aload_n C 2 dX1_tick_76 rfl rfl ?_
      refine gs_X1_208 C dX1_tick_77 ?_
      refine cv_X1_167 C dX1_tick_80 (ct_X12_is hG hY2 (i := k) (by omega) (t := 0) (by decide)) (Or.inl hkc) (kVr ?_)
      refine rr_if_eq C 104 dX1_tick_83 (by decide) (fun c83 => ?_) (fun c83 => ?_)
      · refine rr_goto C 57 dX1_tick_104 (by decide) ?_
        exact rr_less C (by omega) (next (by rw [cy_st, bI_eq0 c83]; rfl))
      · refine rr_aload_n C 2 dX1_tick_86 rfl rfl ?_
        refine rr_aload_n C 0 dX1_tick_87 rfl rfl ?_
        refine gf_X1_46 C dX1_tick_88 (Or.inl hY2.yard) ?_
        refine cv_X1_252 C dX1_tick_91 (ct_X12_bar hG hY2 (by omega) (hY2.pk hG)) (Or.inl hkc) (kVr ?_)
        refine gs_X1_256 C dX1_tick_94 ?_
        refine rr_acmp_ne C (some _) (some _) 104 dX1_tick_97 (by decide) rfl rfl (fun c97 => ?_) (fun c97 => ?_)
        · refine rr_goto C 57 dX1_tick_104 (by decide) ?_
          refine rr_less C (by omega) (next ?_)
          rw [cy_st, bI_ne0 c83, decide_eq_false (fun z => c97 (by rw [z]))]
          rfl
        · have hb4 : cy_bar I1 J1 (I1 1 1) (I1 1 2) (I1 6) (I1 7) (J1 0 4) k = 4 := hG.2.1 _ _ (by unfold cy_bar; split; decide; split; decide; split <;> decide) (by decide) (Option.some.inj c97)
          have hbe : cy_be (I1 6) (I1 7) (I1 13 k) (I1 14 k) (J1 0 4) = cy_bh I1 J1 k + 1 := by
            have : cy_be (I1 6) (I1 7) (I1 13 k) (I1 14 k) (J1 0 4) ≠ 0 := by
              intro z
              unfold cy_bar at hb4
              rw [if_pos z] at hb4
              split at hb4
              · exact absurd hb4 (by decide)
              · split at hb4 <;> exact absurd hb4 (by decide)
            unfold cy_bh
            omega
          have hst : sa3 (I1, J1, s1) k = (stI I1 J1 k (cy_bh I1 J1 k), stJ J1 k (cy_bh I1 J1 k), s1 + 1) := by
            unfold sa3
            rw [show cy_st I1 J1 k = true by rw [cy_st, bI_ne0 c83, decide_eq_true hb4]; rfl]
            rfl
          refine rr_aload_n C 2 dX1_tick_100 rfl rfl ?_
          refine cv_X1_262 C dX1_tick_101 (ct_X12_start hG hY2 (by omega) hbe) (Or.inl hkc) (kN (fun h3 e3 => ?_))
          obtain ⟨hY3, hF3⟩ := e3
          refine rr_goto C 57 dX1_tick_104 (by decide) ?_
          refine rr_less C (u' := 3 * d) (by omega) ?_
          have h4 := ih (k + 1) (stI I1 J1 k (cy_bh I1 J1 k)) (stJ J1 k (cy_bh I1 J1 k)) (s1 + 1) (.int (nI k)) (some (.ref (J1 8 k))) q h3
          rw [stJ_r (by decide) (by decide), stJ_r (by decide) (by decide), stJ_r (by decide) (by decide), stI_0] at h4
          exact h4 (by omega) hn hY3 (hF2.tr hF3) hq0 (hF3 q _ hq2 rfl) (by rw [← e, itd, hst])
  -- what is settled
  have loop1 : ∀ (d k : Nat) (I1 : Nat → Nat → Int32) (J1 : Nat → Nat → Nat) (lr : Value) (x2 : Option Value) (q : Nat) (h1 : Hp), k + d = J1 0 3 → J1 0 3 ≤ 12 → J1 0 3 = J 0 3 → cy_Y G I1 J1 st h1 → cy_okJ J1 → cy_Fr h h1 → (∀ e, h q = some e → cy_yd e = true) → h1 q = some (.inr (8, [.int (nI k), lr, .int (I1 0 3), .ref (J1 2 3)])) → itd se2 (I1, J1) k d = itd se2 (u2 I 1 0 (I 1 0 + 1), J) 0 (J 0 3) → K (2 * d + 37) h1 20 [some (.ref (J1 1 0)), some (.ref q), x2] [] := by
    intro d
    induction d with
    | zero =>
      intro k I1 J1 lr x2 q h1 hk hn hn3 hY1 hok1 hF hq0 hq e
      have hkn : k = J1 0 3 := by omega
      subst hkn
      have hla := hY1.list (i := 3) (by decide)
      refine rr_aload_n C 1 dX1_tick_20 rfl rfl ?_
      refine cf_X1_126 C dX1_tick_21 (ct_hn0 hq hla) (Or.inl hq) (kVr ?_)
      refine rr_if_eq C 47 dX1_tick_26 (by decide) (fun _ => ?_) (fun c => absurd rfl c)
      refine rr_aload_n C 0 dX1_tick_47 rfl rfl ?_
      refine gf_X1_40 C dX1_tick_48 (Or.inl hY1.yard) ?_
      refine cf_X1_122 C dX1_tick_51 (ct_J2_iterator hla) (Or.inl hla) (kE (fun q2 h2 e2 => ?_))
      obtain ⟨⟨hq2, hz2⟩, rfl⟩ := e2
      have hq20 := hF.ny hq2
      refine rr_astore_n C 1 dX1_tick_56 rfl (Nat.le_of_ble_eq_true rfl) rfl (Nat.le_of_ble_eq_true rfl) ?_
      refine rr_less C (u' := 3 * J1 0 3) (by omega) ?_
      refine loop2 (J1 0 3) 0 I1 J1 st _ _ q2 _ (by omega) hn (hY1.mono (cy_up_sub hq2)) (hF.tr (cy_Fr.new hq2)) hq20 cy_up_eq ?_
      rw [tkS, ← e, hn3]
      rfl
    | succ d ih =>
      intro k I1 J1 lr x2 q h1 hk hn hn3 hY1 hok1 hF hq0 hq e
      have hla := hY1.list (i := 3) (by decide)
      refine rr_aload_n C 1 dX1_tick_20 rfl rfl ?_
      refine cf_X1_126 C dX1_tick_21 (ct_hn1 hq hla (n := J1 0 3) (by omega) (by omega)) (Or.inl hq) (kVr ?_)
      refine rr_if_eq C 47 dX1_tick_26 (by decide) (fun c => absurd c (by decide)) (fun _ => ?_)
      refine rr_aload_n C 1 dX1_tick_29 rfl rfl ?_
      refine cf_X1_132 C dX1_tick_30 (ct_nx hq hla (hY1.kn hG (by decide)) (by omega) (hY1.2.2.1 3 (by decide)).1 (hY1.cap (by decide)) (hY1.el (i := 3) (by decide) (by omega))) (Or.inl hq) (kV (fun h2 e2 => ?_))
      have hY2 : cy_Y G I1 J1 st h2 := by rw [e2]; exact hY1.out hq rfl
      have hF2 : cy_Fr h h2 := by rw [e2]; exact hF.it hq0
      have hq2 : h2 q = some (.inr (8, [.int (nI (k + 1)), .int (nI k), .int (I1 0 3), .ref (J1 2 3)])) := by rw [e2]; exact cy_up_eq
      refine cc_X1_73 C dX1_tick_35 (Or.inl (hY2.cont (i := k) (by omega))) ?_
      refine rr_astore_n C 2 dX1_tick_38 rfl (Nat.le_of_ble_eq_true rfl) rfl (Nat.le_of_ble_eq_true rfl) ?_
      refine rr_aload_n C 0 dX1_tick_39 rfl rfl ?_
      refine rr_aload_n C 2 dX1_tick_40 rfl rfl ?_
      refine cv_X1_248 C dX1_tick_41 (ct_X1_settle hG hY2 (i := k) (by omega) (hok1 k (by omega))) (Or.inl hY2.yard) (kN (fun h3 e3 => ?_))
      obtain ⟨hY3, hF3⟩ := e3
      refine rr_goto C 20 dX1_tick_44 (by decide) ?_
      refine rr_less C (u' := 2 * d + 37) (by omega) ?_
      have h4 := ih (k + 1) (seI I1 J1 k) (seJ I1 J1 k) (.int (nI k)) (some (.ref (J1 8 k))) q h3
      rw [seJ_r (by decide) (by decide), seJ_r (by decide) (by decide), seJ_r (by decide) (by decide), seI_0] at h4
      exact h4 (by omega) hn hn3 hY3 (seJ_ok hok1) (hF2.tr hF3) hq0 (hF3 q _ hq2 rfl) (by rw [← e, itd]; rfl)
  refine rr_aload_n C 0 dX1_tick_0 rfl rfl ?_
  refine rr_dup C dX1_tick_1 rfl ?_
  refine gf_X1_155 C dX1_tick_2 (Or.inl hY.yard) ?_
  refine rr_iconst C 1 dX1_tick_5 (by decide) ?_
  refine rr_iadd C dX1_tick_6 ?_
  refine pf_X1_155 C dX1_tick_7 hY.yard ?_
  refine kG (P := fun h1 => cy_Y G (u2 I 1 0 (I 1 0 + 1)) J st h1 ∧ cy_Fr h h1) ⟨hY.w_hour _, cy_Fr.up hY.yard rfl⟩ (fun h1 hh1 => ?_)
  obtain ⟨hY1, hF1⟩ := hh1
  have hla := hY1.list (i := 3) (by decide)
  refine rr_aload_n C 0 dX1_tick_10 rfl rfl ?_
  refine gf_X1_40 C dX1_tick_11 (Or.inl hY1.yard) ?_
  refine cf_X1_122 C dX1_tick_14 (ct_J2_iterator hla) (Or.inl hla) (kE (fun q h2 e2 => ?_))
  obtain ⟨⟨hq, hz⟩, rfl⟩ := e2
  refine rr_astore_n C 1 dX1_tick_19 rfl (Nat.le_of_ble_eq_true rfl) rfl (Nat.le_of_ble_eq_true rfl) ?_
  refine rr_less C (u' := 2 * J 0 3 + 37) (by omega) ?_
  exact loop1 (J 0 3) 0 _ J _ _ q _ (by omega) r0.2.2.2.1 rfl (hY1.mono (cy_up_sub hq)) hok (hF1.tr (cy_Fr.new hq)) (hF1.ny hq) cy_up_eq rfl
end TICK
