/-! a park anew; laid anew -/
set_option maxRecDepth 100000
/-- a park in the making: k hosts of it are laid; h is the heap before -/
def cy_pi (G : GT) (h hh : Hp) (pb lb eb cb k : Nat) (mb lic : Int32) (wa ad : Nat → Nat) (wx wy : Nat → Int32) : Prop :=
  hh pb = some (.inr (1, [.ref lb, .int lic, .int 0])) ∧ hh lb = some (.inr (7, [.int mb, .ref eb, .int (nI k)])) ∧ cy_la G hh k cb eb ad ∧ h lb = none ∧ (cb ≠ 0 → h eb = none) ∧
  (∀ i, i < k → hh (ad i) = some (.inr (4, [.ref (wa i), .int (wx i), .int (wy i), .int (nI i)])) ∧ h (ad i) = none) ∧ (∀ i j, i < k → j < k → ad i = ad j → i = j) ∧ (∀ a e, a ≠ pb → h a = some e → hh a = some e)
theorem cy_la.mono {G : GT} {h h' : Hp} {n cap ea : Nat} {ad : Nat → Nat} (hl : cy_la G h n cap ea ad) (he : ∀ e, h ea = some e → cap ≠ 0 → h' ea = some e) : cy_la G h' n cap ea ad := by
  refine ⟨hl.1, ?_⟩
  rcases hl.2 with z | ⟨z, w⟩
  · exact Or.inl z
  · exact Or.inr ⟨z, he _ w (by omega)⟩
theorem cy_la.cell {G : GT} {h : Hp} {n cap ea : Nat} {ad : Nat → Nat} (hl : cy_la G h n cap ea ad) (hc : cap ≠ 0) : h ea = some (aO G cap (cy_ar n ad)) := by
  rcases hl.2 with ⟨z, _⟩ | ⟨_, w⟩
  · exact absurd z hc
  · exact w
theorem cy_pi.it {G : GT} {h hh : Hp} {pb lb eb cb k q : Nat} {mb lic : Int32} {wa ad : Nat → Nat} {wx wy : Nat → Int32} {fs fs' : List Value} (hp : cy_pi G h hh pb lb eb cb k mb lic wa ad wx wy) (hq : hh q = some (.inr (8, fs))) (h0 : h q = none) : cy_pi G h (cy_up hh q (.inr (8, fs'))) pb lb eb cb k mb lic wa ad wx wy := by
  obtain ⟨h1, h2, h3, h4, h5, h6, h7, h8⟩ := hp
  refine ⟨?_, ?_, h3.mono (fun e he hc => ?_), h4, h5, fun i hi => ⟨?_, (h6 i hi).2⟩, h7, fun a e ha he => ?_⟩
  · rw [cy_up_ne (fun z => by rw [z, hq] at h1; cases h1)]; exact h1
  · rw [cy_up_ne (fun z => by rw [z, hq] at h2; cases h2)]; exact h2
  · rw [cy_up_ne (fun z => by have := h3.cell hc; rw [z, hq] at this; cases this)]; exact he
  · rw [cy_up_ne (fun z => by have := (h6 i hi).1; rw [z, hq] at this; cases this)]; exact (h6 i hi).1
  · rw [cy_up_ne (fun z => by rw [z, h0] at he; cases he)]; exact h8 a e ha he
theorem cy_pi.step {G : GT} {h hh h2 : Hp} {pb lb eb cb k x : Nat} {mb lic : Int32} {wa ad : Nat → Nat} {wx wy : Nat → Int32} (hp : cy_pi G h hh pb lb eb cb k mb lic wa ad wx wy) (hx : hh x = none) (hk : k < 4) (had : cy_ad G (cy_up hh x (.inr (4, [.ref (wa k), .int (wx k), .int (wy k), .int (nI k)]))) h2 lb k cb eb ad (mb + 1) x) :
    (∃ eb' cb', cy_pi G h h2 pb lb eb' cb' (k + 1) (mb + 1) lic wa (va_up ad k x) wx wy) ∧ ∀ q fs, hh q = some (.inr (8, fs)) → h2 q = some (.inr (8, fs)) := by
  obtain ⟨h1, h2l, h3, h4, h5, h6, h7, h8⟩ := hp
  obtain ⟨eb', cb', hc, rfl⟩ := cy_ad_out hx had
  have hxp : pb ≠ x := fun z => by rw [z, hx] at h1; cases h1
  have hxl : lb ≠ x := fun z => by rw [z, hx] at h2l; cases h2l
  have hpl : pb ≠ lb := fun z => by rw [z, h2l] at h1; cases h1
  have hcb : cb' ≠ 0 := by omega
  -- the array is old or new
  have hne : ∀ a e, hh a = some e → (∀ f, e ≠ aO G cb f) → a ≠ eb' := by
    intro a e ha hn z
    rcases hc with ⟨c1, c2, c3⟩ | ⟨c1, c2⟩
    · have := h3.cell (by omega)
      rw [← c2, ← z, ha] at this
      exact hn _ (Option.some.inj this)
    · rw [← z, ha] at c1; cases c1
  have hxe : x ≠ eb' := by
    rcases hc with ⟨c1, c2, c3⟩ | ⟨c1, c2, _⟩
    · intro z
      have := h3.cell (by omega)
      rw [← c2, ← z, hx] at this
      cases this
    · exact Ne.symm c2
  have he0 : h eb' = none := by
    rcases hc with ⟨c1, c2, c3⟩ | ⟨c1, c2, _⟩
    · rw [c2]; exact h5 (by omega)
    · cases hz : h eb' with
      | none => rfl
      | some e =>
        by_cases hzp : eb' = pb
        · rw [hzp, h1] at c1; cases c1
        · rw [h8 _ _ hzp hz] at c1; cases c1
  have hx0 : h x = none := by
    cases hz : h x with
    | none => rfl
    | some e => rw [h8 _ _ (Ne.symm hxp) hz] at hx; cases hx
  have hadx : ∀ i, i < k → ad i ≠ x := fun i hi z => by have := (h6 i hi).1; rw [z, hx] at this; cases this
  refine ⟨⟨eb', cb', ?_, cy_up_eq, ⟨?_, Or.inr ⟨?_, ?_⟩⟩, h4, fun _ => he0, fun i hi => ?_, fun i j hi hj hij => ?_, fun a e ha he => ?_⟩, fun q fs hq => ?_⟩
  · rw [cy_up_ne hpl, cy_up_ne (hne _ _ h1 (fun f z => by cases z)), cy_up_ne hxp]
    exact h1
  · rcases hc with ⟨c1, c2, c3⟩ | ⟨c1, c2, c3, c4⟩ <;> omega
  · rcases hc with ⟨c1, c2, c3⟩ | ⟨c1, c2, c3, c4⟩
    · rcases h3.2 with ⟨z, _⟩ | ⟨z, _⟩ <;> omega
    · exact c3
  · rw [cy_up_ne (Ne.symm (hne _ _ h2l (fun f z => by cases z)))]
    exact cy_up_eq
  · by_cases hik : i = k
    · subst hik
      have e1 : va_up ad i x i = x := by simp [va_up]
      rw [e1]
      refine ⟨?_, hx0⟩
      rw [cy_up_ne (Ne.symm hxl), cy_up_ne hxe]
      exact cy_up_eq
    · have e1 : va_up ad k x i = ad i := by simp [va_up, hik]
      rw [e1]
      have h6i := h6 i (by omega)
      refine ⟨?_, h6i.2⟩
      rw [cy_up_ne (fun z => by rw [z, h2l] at h6i; cases h6i.1), cy_up_ne (hne _ _ h6i.1 (fun f z => by cases z)), cy_up_ne (hadx i (by omega))]
      exact h6i.1
  · by_cases hik : i = k
    · by_cases hjk : j = k
      · rw [hik, hjk]
      · rw [show va_up ad k x i = x by simp [va_up, hik], show va_up ad k x j = ad j by simp [va_up, hjk]] at hij
        exact absurd hij.symm (hadx j (by omega))
    · by_cases hjk : j = k
      · rw [show va_up ad k x i = ad i by simp [va_up, hik], show va_up ad k x j = x by simp [va_up, hjk]] at hij
        exact absurd hij (hadx i (by omega))
      · rw [show va_up ad k x i = ad i by simp [va_up, hik], show va_up ad k x j = ad j by simp [va_up, hjk]] at hij
        exact h7 i j (by omega) (by omega) hij
  · rw [cy_up_ne (fun z => by rw [z, h4] at he; cases he), cy_up_ne (fun z => by rw [z, he0] at he; cases he), cy_up_ne (fun z => by rw [z, hx0] at he; cases he)]
    exact h8 a e ha he
  · rw [cy_up_ne (fun z => by rw [z, h2l] at hq; cases hq), cy_up_ne (hne _ _ hq (fun f z => by cases z)), cy_up_ne (fun z => by rw [z, hx] at hq; cases hq)]
    exact hq
theorem cy_kn.keep {G : GT} {h hh : Hp} {a pb : Nat} {e e' : va_E} (he : cy_kn G h a e) (hb : h pb = some e') (hn : e ≠ e') (hk : ∀ a e, a ≠ pb → h a = some e → hh a = some e) : cy_kn G hh a e := by
  rcases he with he | he
  · exact Or.inl (hk _ _ (fun z => hn (by rw [z, hb] at he; exact (Option.some.inj he).symm)) he)
  · exact Or.inr he
theorem ct_X2_init_2 {G : GT} {h : Hp} (hG : cy_G G) {pa la ea cap n pb : Nat} {mc lic tak : Int32} {F : Nat → Option Nat} {ad wa : Nat → Nat} {wx wy fc fm : Nat → Int32} {v0 v1 : Value} (hp : cy_pk G h pa la ea cap n mc lic tak F ad (fun i => .ref (wa i)) fc fm) (hn : n ≤ 4) (hw : ∀ i, i < n → h (wa i) = some (eNeed (wx i) (wy i))) (hb : h pb = some (.inr (1, [v0, v1, .int 0]))) (hne : pa ≠ pb) :
    cy_Con G yX2_init_2 cX2_init_2 4 none 7 40 [.ref pb, .ref pa] h (qN (fun h1 => ∃ lb eb cb mb F' ad', cy_pk G h1 pb lb eb cb n mb lic 0 F' ad' (fun i => .ref (wa i)) wx wy ∧ (∀ i, i < n → h (ad' i) = none) ∧ (∀ i j, i < n → j < n → ad' i = ad' j → i = j) ∧ ∀ a e, a ≠ pb → h a = some e → h1 a = some e)) xF := by
  obtain ⟨hp1, hp2, hp3, hp4, hp5, hp6⟩ := hp
  refine cy_in (own := RX2) (lv0 := [some (.ref pb), some (.ref pa), none, none]) (by decide) rfl rfl rfl (Nat.le_of_ble_eq_true rfl) (fun K T C => ?_)
  refine rr_aload_n C 0 dX2_init_2_0 rfl rfl ?_
  refine ci_X2_20 C dX2_init_2_1 (ct_X2_init hb) (kN (fun h1 e1 => ?_))
  obtain ⟨lb, ⟨hlb, hlz⟩, rfl⟩ := e1
  have hlp : pb ≠ lb := fun z => by rw [z, hlb] at hb; cases hb
  have kp : ∀ e : va_E, ∀ a e', a ≠ pb → h a = some e' → cy_up (cy_up h lb (.inr (7, [.int 0, .ref (G.2.2.2.2 10), .int 0]))) pb e a = some e' := fun e a e' ha he => by
    rw [cy_up_ne ha, cy_up_ne (fun z => by rw [z, hlb] at he; cases he)]
    exact he
  refine rr_aload_n C 0 dX2_init_2_4 rfl rfl ?_
  refine rr_aload_n C 1 dX2_init_2_5 rfl rfl ?_
  refine gf_X2_16 C dX2_init_2_6 (Or.inl (kp _ _ _ hne hp1)) ?_
  refine pf_X2_16 C dX2_init_2_9 cy_up_eq ?_
  rw [cy_up_up]
  refine rr_aload_n C 1 dX2_init_2_12 rfl rfl ?_
  refine gf_X2_10 C dX2_init_2_13 (Or.inl (kp _ _ _ hne hp1)) ?_
  have hnl : la ≠ pb := fun z => by rw [z, hb] at hp2; cases hp2
  refine cf_X2_21 C dX2_init_2_16 (ct_J2_iterator (kp _ _ _ hnl hp2)) (Or.inl (kp _ _ _ hnl hp2)) (kE (fun q h1 e1 => ?_))
  obtain ⟨⟨hq, hz⟩, rfl⟩ := e1
  refine rr_astore_n C 2 dX2_init_2_21 rfl (Nat.le_of_ble_eq_true rfl) rfl (Nat.le_of_ble_eq_true rfl) ?_
  have hq0 : h q = none := by
    cases hz : h q with
    | none => rfl
    | some e =>
      by_cases hzp : q = pb
      · rw [hzp, cy_up_eq] at hq; cases hq
      · rw [kp _ _ _ hzp hz] at hq; cases hq
  have loop : ∀ (d k : Nat) (lr : Value) (x3 : Option Value) (hh : Hp) (eb cb : Nat) (mb : Int32) (ad' : Nat → Nat), k + d = n → cy_pi G h hh pb lb eb cb k mb lic wa ad' wx wy → hh q = some (.inr (8, [.int (nI k), lr, .int mc, .ref la])) → K (4 * d) hh 22 [some (.ref pb), some (.ref pa), some (.ref q), x3] [] := by
    intro d
    induction d with
    | zero =>
      intro k lr x3 hh eb cb mb ad' hk hI hqq
      have hkn : k = n := by omega
      subst hkn
      refine rr_aload_n C 2 dX2_init_2_22 rfl rfl ?_
      refine cf_X2_27 C dX2_init_2_23 (ct_hn0 hqq (hI.2.2.2.2.2.2.2 _ _ hnl hp2)) (Or.inl hqq) (kVr ?_)
      refine rr_if_eq C 62 dX2_init_2_28 (by decide) (fun _ => ?_) (fun c => absurd rfl c)
      refine rr_return C dX2_init_2_62 ⟨rfl, lb, eb, cb, mb, if cb = 0 then (fun _ => none) else cy_ar k ad', ad', ⟨hI.1, hI.2.1, ?_, ⟨hI.2.2.1.1, ?_⟩, fun i hi => ?_, fun i hi => (hI.2.2.2.2.2.1 i hi).1⟩, fun i hi => (hI.2.2.2.2.2.1 i hi).2, hI.2.2.2.2.2.2.1, hI.2.2.2.2.2.2.2⟩
      · rcases hI.2.2.1.2 with ⟨z, w⟩ | ⟨z, w⟩
        · rw [z, w, if_pos rfl]; exact Or.inr hG.1.1
        · rw [if_neg (by omega)]; exact Or.inl w
      · rcases hI.2.2.1.2 with ⟨z, w⟩ | ⟨z, w⟩ <;> omega
      · rw [if_neg (by have := hI.2.2.1.1; omega), cy_ar, if_pos hi]
    | succ d ih =>
      intro k lr x3 hh eb cb mb ad' hk hI hqq
      have hhla := hI.2.2.2.2.2.2.2 _ _ hnl hp2
      refine rr_aload_n C 2 dX2_init_2_22 rfl rfl ?_
      refine cf_X2_27 C dX2_init_2_23 (ct_hn1 hqq hhla (n := n) (by omega) (by omega)) (Or.inl hqq) (kVr ?_)
      refine rr_if_eq C 62 dX2_init_2_28 (by decide) (fun c => absurd c (by decide)) (fun _ => ?_)
      refine rr_aload_n C 2 dX2_init_2_31 rfl rfl ?_
      refine cf_X2_33 C dX2_init_2_32 (ct_nx hqq hhla (hp3.keep hb (fun z => by cases z) hI.2.2.2.2.2.2.2) (by omega) hp4.1 hp4.2 (hp5 k (by omega))) (Or.inl hqq) (kV (fun h2 e2 => ?_))
      have hI2 := hI.it (fs' := [.int (nI (k + 1)), .int (nI k), .int mc, .ref la]) hqq hq0
      rw [← e2] at hI2
      have hqq2 : h2 q = some (.inr (8, [.int (nI (k + 1)), .int (nI k), .int mc, .ref la])) := by rw [e2]; exact cy_up_eq
      have hho := hI2.2.2.2.2.2.2.2 _ _ (fun z => by have := hp6 k (by omega); rw [z, hb] at this; cases this) (hp6 k (by omega))
      have hwo := hI2.2.2.2.2.2.2.2 _ _ (fun z => by have := hw k (by omega); rw [z, hb] at this; cases this) (hw k (by omega))
      refine cc_X2_37 C dX2_init_2_37 (Or.inl hho) ?_
      refine rr_astore_n C 3 dX2_init_2_40 rfl (Nat.le_of_ble_eq_true rfl) rfl (Nat.le_of_ble_eq_true rfl) ?_
      refine rr_aload_n C 0 dX2_init_2_41 rfl rfl ?_
      refine gf_X2_10 C dX2_init_2_42 (Or.inl hI2.1) ?_
      refine nw_X2_37 C dX2_init_2_45 (fun x hx hz => ?_)
      refine rr_dup C dX2_init_2_48 rfl ?_
      refine rr_aload_n C 3 dX2_init_2_49 rfl rfl ?_
      refine ci_X2_39 C dX2_init_2_50 (ct_X9_init cy_up_eq (cy_up_old hx hho) (cy_up_old hx hwo)) (kN (fun h3 e3 => ?_))
      subst e3
      rw [cy_up_up]
      refine cf_X2_42 C dX2_init_2_53 (ct_J2_add hG (ci := 4) (cy_up_old hx hI2.2.1) (hI2.2.2.1.mono (fun e he _ => cy_up_old hx he)) (by omega) cy_up_eq (fun i hi => ⟨_, cy_up_old hx (hI2.2.2.2.2.2.1 i hi).1⟩) rfl q1780 (by decide)) (Or.inl (cy_up_old hx hI2.2.1)) (kV (fun h4 e4 => ?_))
      obtain ⟨⟨eb', cb', hI4⟩, hq4⟩ := hI2.step hx (by omega) e4
      refine rr_pop C dX2_init_2_58 rfl ?_
      refine rr_goto C 22 dX2_init_2_59 (by decide) ?_
      refine rr_less C (u' := 4 * d) (by omega) ?_
      exact ih (k + 1) _ _ h4 eb' cb' _ _ (by omega) hI4 (hq4 _ _ hqq2)
  refine rr_less C (u' := 4 * n) (by omega) ?_
  refine loop n 0 _ _ _ (G.2.2.2.2 10) 0 0 (fun _ => 0) (by omega) ⟨?_, ?_, ⟨Nat.le_refl 0, Or.inl ⟨rfl, rfl⟩⟩, hlb, fun z => absurd rfl z, fun i hi => by omega, fun i j hi => by omega, fun a e ha he => cy_up_old hq (kp _ a e ha he)⟩ cy_up_eq
  · exact cy_up_old hq cy_up_eq
  · exact cy_up_old hq (by rw [cy_up_ne (Ne.symm hlp)]; exact cy_up_eq)
theorem cy_pk.take {G : GT} {hh : Hp} {pb lb eb cb n b : Nat} {mb lic tak x y : Int32} {F : Nat → Option Nat} {ad : Nat → Nat} {wh : Nat → Value} {fc fm : Nat → Int32} (hp : cy_pk G hh pb lb eb cb n mb lic tak F ad wh fc fm) (hb : b < n) (hj : ∀ i j, i < n → j < n → ad i = ad j → i = j) :
    cy_pk G (cy_up (cy_up hh (ad b) (.inr (4, [wh b, .int (fc b - x), .int (fm b - y), .int (nI b)]))) pb (.inr (1, [.ref lb, .int lic, .int (tak + x)]))) pb lb eb cb n mb lic (tak + x) F ad wh (va_up fc b (fc b - x)) (va_up fm b (fm b - y)) := by
  obtain ⟨h1, h2, h3, h4, h5, h6⟩ := hp
  have hbb := h6 b hb
  refine ⟨cy_up_eq, ?_, ?_, h4, h5, fun i hi => ?_⟩
  · rw [cy_up_ne (fun z => by rw [z, h1] at h2; cases h2), cy_up_ne (fun z => by rw [z, hbb] at h2; cases h2)]
    exact h2
  · refine h3.imp (fun z => ?_) id
    rw [cy_up_ne (fun w => by rw [w, h1] at z; cases z), cy_up_ne (fun w => by rw [w, hbb] at z; cases z)]
    exact z
  · have h6i := h6 i hi
    rw [cy_up_ne (fun z => by rw [z, h1] at h6i; cases h6i)]
    by_cases hib : i = b
    · subst hib
      rw [cy_up_eq]
      simp [va_up]
    · rw [cy_up_ne (fun z => hib (hj i b hi hb z)), h6i]
      simp [va_up, hib]
abbrev cyL : Type := Int32 × (Nat → Int32) × (Nat → Int32) × Nat
def ly_b (I : Nat → Nat → Int32) (J : Nat → Nat → Nat) (s : cyL) (k : Nat) : Bool := (decide (J 13 k = 0) || decide (J 13 k = 1)) && decide (cy_bar I J (I 1 1) s.1 s.2.1 s.2.2.1 (J 0 4) k = 4)
def ly_h (I : Nat → Nat → Int32) (J : Nat → Nat → Nat) (s : cyL) (k : Nat) : Nat := cy_be s.2.1 s.2.2.1 (I 13 k) (I 14 k) (J 0 4) - 1
def ly1 (I : Nat → Nat → Int32) (J : Nat → Nat → Nat) (s : cyL) (k : Nat) : cyL :=
  if ly_b I J s k then (s.1 + I 13 k, va_up s.2.1 (ly_h I J s k) (s.2.1 (ly_h I J s k) - I 13 k), va_up s.2.2.1 (ly_h I J s k) (s.2.2.1 (ly_h I J s k) - I 14 k), s.2.2.2 + 1) else s
def cy_ly (I : Nat → Nat → Int32) (J : Nat → Nat → Nat) : Nat := (itd (ly1 I J) (0, I 4, I 5, 0) 0 (J 0 3)).2.2.2
section LAID
variable {G : GT} {I : Nat → Nat → Int32} {J : Nat → Nat → Nat} {st : Int64} {h : Hp}
theorem ct_X1_laidAnew (hG : cy_G G) (hY : cy_Y G I J st h) : cy_Con G yX1_laidAnew cX1_laidAnew 6 (some .int) 20 80 [.ref (J 1 0)] h (qV (.int (nI (cy_ly I J))) (fun h1 => h1 = h)) xF := by
  have r0 := hY.2.2.2.1
  have hla := hY.list (i := 3) (by decide)
  have hcap := hY.cap (i := 3) (by decide)
  have hnc := (hY.2.2.1 3 (by decide)).1
  refine cy_in (own := RX1) (lv0 := [some (.ref (J 1 0)), none, none, none, none, none]) (by decide) rfl rfl rfl (Nat.le_of_ble_eq_true rfl) (fun K T C => ?_)
  refine nw_X1_43 C dX1_laidAnew_0 (fun pb hpb hpz => ?_)
  refine rr_dup C dX1_laidAnew_3 rfl ?_
  refine rr_aload_n C 0 dX1_laidAnew_4 rfl rfl ?_
  refine gf_X1_46 C dX1_laidAnew_5 (Or.inl (cy_up_old hpb hY.yard)) ?_
  refine ci_X1_305 C dX1_laidAnew_8 (ct_X2_init_2 hG ((hY.pk hG).up hpb) r0.2.2.2.2 (fun i hi => cy_up_old hpb (hY.hneed hi)) cy_up_eq (fun z => by have := hY.park; rw [z, hpb] at this; cases this)) (kN (fun h1 e1 => ?_))
  obtain ⟨lb, eb, cb, mb, F, ad, hp1, hfr, hinj, hkeep⟩ := e1
  have hle1 : cy_le h h1 := fun a e ha => hkeep a e (fun z => by rw [z, hpb] at ha; cases ha) (cy_up_old hpb ha)
  have had : ∀ i, i < J 0 4 → h (ad i) = none := fun i hi => by
    have := hfr i hi
    rw [cy_up_ne (fun z => by rw [z, cy_up_eq] at this; cases this)] at this
    exact this
  refine rr_astore_n C 1 dX1_laidAnew_11 rfl (Nat.le_of_ble_eq_true rfl) rfl (Nat.le_of_ble_eq_true rfl) ?_
  refine rr_iconst C 0 dX1_laidAnew_12 (by decide) ?_
  refine rr_istore_n C 2 dX1_laidAnew_13 rfl (Nat.le_of_ble_eq_true rfl) rfl (Nat.le_of_ble_eq_true rfl) ?_
  refine rr_aload_n C 0 dX1_laidAnew_14 rfl rfl ?_
  refine gf_X1_40 C dX1_laidAnew_15 (Or.inl (hle1 _ _ hY.yard)) ?_
  refine cf_X1_122 C dX1_laidAnew_18 (ct_J2_iterator (hle1 _ _ hla)) (Or.inl (hle1 _ _ hla)) (kE (fun q h2 e2 => ?_))
  obtain ⟨⟨hq, hz⟩, rfl⟩ := e2
  refine rr_astore_n C 3 dX1_laidAnew_23 rfl (Nat.le_of_ble_eq_true rfl) rfl (Nat.le_of_ble_eq_true rfl) ?_
  have hq0 : h q = none := by
    cases hz : h q with
    | none => rfl
    | some e => rw [hle1 _ _ hz] at hq; cases hq
  have loop : ∀ (d k : Nat) (s : cyL) (lr : Value) (x4 x5 : Option Value) (hh : Hp), k + d = J 0 3 → cy_le h hh → hh q = some (.inr (8, [.int (nI k), lr, .int (I 0 3), .ref (J 2 3)])) → cy_pk G hh pb lb eb cb (J 0 4) mb (I 1 1) s.1 F ad (fun i => .ref (J 15 i)) s.2.1 s.2.2.1 → itd (ly1 I J) s k d = itd (ly1 I J) (0, I 4, I 5, 0) 0 (J 0 3) → (∀ v, x4 = some v → v.category = 1) → (∀ v, x5 = some v → v.category = 1) → K (3 * d) hh 24 [some (.ref (J 1 0)), some (.ref pb), some (.int (nI s.2.2.2)), some (.ref q), x4, x5] [] := by
    intro d
    induction d with
    | zero =>
      intro k s lr x4 x5 hh hk hle hqq hp e c4 c5
      have hkn : k = J 0 3 := by omega
      subst hkn
      refine rr_aload_n C 3 dX1_laidAnew_24 rfl rfl ?_
      refine cf_X1_126 C dX1_laidAnew_25 (ct_hn0 hqq (hle _ _ hla)) (Or.inl hqq) (kVr ?_)
      refine rr_if_eq C 114 dX1_laidAnew_30 (by decide) (fun _ => ?_) (fun c => absurd rfl c)
      refine rr_forget C hle ?_
      refine rr_iload_n C 2 dX1_laidAnew_114 rfl rfl ?_
      exact rr_ireturn C dX1_laidAnew_115 ⟨by rw [cy_ly, ← e]; rfl, rfl⟩
    | succ d ih =>
      intro k s lr x4 x5 hh hk hle hqq hp e c4 c5
      have hY1 := hY.mono hle
      have hla1 := hle _ _ hla
      refine rr_aload_n C 3 dX1_laidAnew_24 rfl rfl ?_
      refine cf_X1_126 C dX1_laidAnew_25 (ct_hn1 hqq hla1 (n := J 0 3) (by omega) (by omega)) (Or.inl hqq) (kVr ?_)
      refine rr_if_eq C 114 dX1_laidAnew_30 (by decide) (fun c => absurd c (by decide)) (fun _ => ?_)
      refine rr_aload_n C 3 dX1_laidAnew_33 rfl rfl ?_
      refine cf_X1_132 C dX1_laidAnew_34 (ct_nx hqq hla1 (hY1.kn hG (by decide)) (by omega) hnc hcap (hY1.el (i := 3) (by decide) (by omega))) (Or.inl hqq) (kV (fun h2 e2 => ?_))
      have hle2 : cy_le h h2 := by
        intro a e ha
        rw [e2, cy_up_ne (fun z => by rw [z, hq0] at ha; cases ha)]
        exact hle a e ha
      have hqq2 : h2 q = some (.inr (8, [.int (nI (k + 1)), .int (nI k), .int (I 0 3), .ref (J 2 3)])) := by rw [e2]; exact cy_up_eq
      have hp2 : cy_pk G h2 pb lb eb cb (J 0 4) mb (I 1 1) s.1 F ad (fun i => .ref (J 15 i)) s.2.1 s.2.2.1 := by
        obtain ⟨p1, p2, p3, p4, p5, p6⟩ := hp
        rw [e2]
        refine ⟨?_, ?_, p3.imp (fun z => ?_) id, p4, p5, fun i hi => ?_⟩
        · rw [cy_up_ne (fun z => by rw [z, hqq] at p1; cases p1)]; exact p1
        · rw [cy_up_ne (fun z => by rw [z, hqq] at p2; cases p2)]; exact p2
        · rw [cy_up_ne (fun w => by rw [w, hqq] at z; cases z)]; exact z
        · have := p6 i hi
          rw [cy_up_ne (fun z => by rw [z, hqq] at this; cases this)]; exact this
      have hY2 := hY.mono hle2
      have hkl := hY2.cont (i := k) (by omega)
      have hnd := hY2.cneed (i := k) (by omega)
      refine cc_X1_73 C dX1_laidAnew_39 (Or.inl hkl) ?_
      refine rr_astore C dX1_laidAnew_42 (Nat.le_of_ble_eq_true rfl) rfl (Nat.le_of_ble_eq_true rfl) ?_
      rw [itd] at e
      -- not laid
      have skip : ∀ (x5 : Option Value), ly_b I J s k = false → (∀ v, x5 = some v → v.category = 1) → K (3 * d) h2 111 [some (.ref (J 1 0)), some (.ref pb), some (.int (nI s.2.2.2)), some (.ref q), some (.ref (J 8 k)), x5] [] := by
        intro x5 hb c5
        refine rr_goto C 24 dX1_laidAnew_111 (by decide) ?_
        have e' := e
        rw [ly1, hb] at e'
        exact ih (k + 1) s _ _ _ h2 (by omega) hle2 hqq2 hp2 e' (fun v hv => by cases hv; rfl) c5
      have k71 : ∀ b : Bool, (decide (J 13 k = 0) || decide (J 13 k = 1)) = b → K (3 * d + 3) h2 71 [some (.ref (J 1 0)), some (.ref pb), some (.int (nI s.2.2.2)), some (.ref q), some (.ref (J 8 k)), x5] [.int (bI b)] := by
        intro b hb
        refine rr_istore C dX1_laidAnew_71 (Nat.le_of_ble_eq_true rfl) rfl (Nat.le_of_ble_eq_true rfl) ?_
        refine rr_iload C dX1_laidAnew_73 rfl ?_
        refine rr_if_eq C 111 dX1_laidAnew_75 (by decide) (fun c75 => ?_) (fun c75 => ?_)
        · exact rr_less C (by omega) (skip (some (.int (bI b))) (by rw [ly_b, hb, bI_eq0 c75]; rfl) (fun v hv => by cases hv; rfl))
        · have hb1 := bI_ne0 c75
          subst hb1
          refine rr_aload C dX1_laidAnew_78 rfl ?_
          refine rr_aload_n C 1 dX1_laidAnew_80 rfl rfl ?_
          refine cv_X1_252 C dX1_laidAnew_81 (ct_X12_bar hG hY2 (i := k) (by omega) hp2) (Or.inl hkl) (kVr ?_)
          refine gs_X1_256 C dX1_laidAnew_84 ?_
          refine rr_acmp_ne C (some _) (some _) 111 dX1_laidAnew_87 (by decide) rfl rfl (fun c87 => ?_) (fun c87 => ?_)
          · exact rr_less C (by omega) (skip (some (.int (bI true))) (by rw [ly_b, hb, decide_eq_false (fun z => c87 (by rw [z]))]; rfl) (fun v hv => by cases hv; rfl))
          · have hb4 : cy_bar I J (I 1 1) s.1 s.2.1 s.2.2.1 (J 0 4) k = 4 := hG.2.1 _ _ (by unfold cy_bar; split; decide; split; decide; split <;> decide) (by decide) (Option.some.inj c87)
            have hlb : ly_b I J s k = true := by rw [ly_b, hb, decide_eq_true hb4]; rfl
            have hbn : cy_be s.2.1 s.2.2.1 (I 13 k) (I 14 k) (J 0 4) = ly_h I J s k + 1 := by
              have : cy_be s.2.1 s.2.2.1 (I 13 k) (I 14 k) (J 0 4) ≠ 0 := by
                intro z
                unfold cy_bar at hb4
                rw [if_pos z] at hb4
                split at hb4
                · exact absurd hb4 (by decide)
                · split at hb4 <;> exact absurd hb4 (by decide)
              unfold ly_h
              omega
            have hbl : ly_h I J s k < J 0 4 := by have := cy_be_le s.2.1 s.2.2.1 (I 13 k) (I 14 k) (J 0 4); omega
            obtain ⟨b, hbe⟩ : ∃ b, b = ly_h I J s k := ⟨_, rfl⟩
            rw [← hbe] at hbn hbl
            have e' := e
            rw [ly1, if_pos hlb, ← hbe] at e'
            refine rr_aload_n C 1 dX1_laidAnew_90 rfl rfl ?_
            refine rr_aload_n C 1 dX1_laidAnew_91 rfl rfl ?_
            refine rr_aload C dX1_laidAnew_92 rfl ?_
            refine gf_X1_300 C dX1_laidAnew_94 (Or.inl hkl) ?_
            refine cv_X1_308 C dX1_laidAnew_97 (ct_X2_best hp2 hnd) (Or.inl hp2.1) (kVr ?_)
            rw [hbn]
            refine rr_aload C dX1_laidAnew_100 rfl ?_
            refine gf_X1_300 C dX1_laidAnew_102 (Or.inl hkl) ?_
            refine cv_X1_312 C dX1_laidAnew_105 (ct_X2_take hp2.1 (hp2.2.2.2.2.2 b hbl) hnd) (Or.inl hp2.1) (kN (fun h3 e3 => ?_))
            have hle3 : cy_le h h3 := by
              intro a e ha
              rw [e3, cy_up_ne (fun z => by rw [z, hpb] at ha; cases ha), cy_up_ne (fun z => by rw [z, had b hbl] at ha; cases ha)]
              exact hle2 a e ha
            have hqq3 : h3 q = some (.inr (8, [.int (nI (k + 1)), .int (nI k), .int (I 0 3), .ref (J 2 3)])) := by
              have p1 := hp2.1
              have p6 := hp2.2.2.2.2.2 b hbl
              rw [e3, cy_up_ne (fun z => by rw [← z, hqq2] at p1; cases p1), cy_up_ne (fun z => by rw [← z, hqq2] at p6; cases p6)]
              exact hqq2
            have hp3 := hp2.take (x := I 13 k) (y := I 14 k) hbl hinj
            rw [← e3] at hp3
            refine rr_iinc C (nI (s.2.2.2 + 1)) dX1_laidAnew_108 rfl (nI_1 _) (Nat.le_of_ble_eq_true rfl) rfl (Nat.le_of_ble_eq_true rfl) ?_
            refine rr_goto C 24 dX1_laidAnew_111 (by decide) ?_
            exact rr_less C (by omega) (ih (k + 1) (s.1 + I 13 k, va_up s.2.1 b (s.2.1 b - I 13 k), va_up s.2.2.1 b (s.2.2.1 b - I 14 k), s.2.2.2 + 1) _ _ _ h3 (by omega) hle3 hqq3 hp3 e' (fun v hv => by cases hv; rfl) (fun v hv => by cases hv; rfl))
      refine rr_aload C dX1_laidAnew_44 rfl ?_
      refine gs_X1_208 C dX1_laidAnew_46 ?_
      refine cv_X1_167 C dX1_laidAnew_49 (ct_X12_is hG hY2 (i := k) (by omega) (t := 0) (by decide)) (Or.inl hkl) (kVr ?_)
      refine rr_if_ne C 66 dX1_laidAnew_52 (by decide) (fun c52 => ?_) (fun c52 => ?_)
      · refine rr_iconst C 1 dX1_laidAnew_66 (by decide) ?_
        refine rr_goto C 71 dX1_laidAnew_67 (by decide) ?_
        exact rr_less C (by omega) <| k71 true (by rw [bI_ne0 c52]; rfl)
      · refine rr_aload C dX1_laidAnew_55 rfl ?_
        refine gs_X1_161 C dX1_laidAnew_57 ?_
        refine cv_X1_167 C dX1_laidAnew_60 (ct_X12_is hG hY2 (i := k) (by omega) (t := 1) (by decide)) (Or.inl hkl) (kVr ?_)
        refine rr_if_eq C 70 dX1_laidAnew_63 (by decide) (fun c63 => ?_) (fun c63 => ?_)
        · refine rr_iconst C 0 dX1_laidAnew_70 (by decide) ?_
          exact rr_less C (by omega) <| k71 false (by rw [bI_eq0 c52, bI_eq0 c63]; rfl)
        · refine rr_iconst C 1 dX1_laidAnew_66 (by decide) ?_
          refine rr_goto C 71 dX1_laidAnew_67 (by decide) ?_
          exact rr_less C (by omega) <| k71 true (by rw [bI_ne0 c63, Bool.or_true])
  refine rr_less C (u' := 3 * J 0 3) (by omega) ?_
  exact loop (J 0 3) 0 (0, I 4, I 5, 0) _ none none _ (by omega) (hle1.tr (cy_le.up hq)) cy_up_eq (hp1.up hq) rfl (fun v hv => by cases hv) (fun v hv => by cases hv)
end LAID
