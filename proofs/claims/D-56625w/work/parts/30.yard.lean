/-! THE COMPONENT's WORLD. I: numbers, J: counts, addresses and indices (legend in NOTES.md) -/
set_option maxRecDepth 100000
def cy_bit (i : Nat) : Int32 := (1 : Int32) <<< (nI i &&& 31)
def cy_o (ad : Nat → Nat) : Nat → Option Nat
  | 0 => none
  | k + 1 => some (ad k)
def u2 {α : Type} (I : Nat → Nat → α) (r i : Nat) (v : α) : Nat → Nat → α := fun r' i' => if r' = r then (if i' = i then v else I r' i') else I r' i'
theorem u2_eq {α : Type} {I : Nat → Nat → α} {r i : Nat} {v : α} : u2 I r i v r i = v := by simp [u2]
theorem u2_r {α : Type} {I : Nat → Nat → α} {r i r' i' : Nat} {v : α} (h : r' ≠ r) : u2 I r i v r' i' = I r' i' := by simp [u2, h]
theorem u2_row {α : Type} {I : Nat → Nat → α} {r i r' : Nat} {v : α} (h : r' ≠ r) : u2 I r i v r' = I r' := funext fun j => u2_r h
theorem u2_i {α : Type} {I : Nat → Nat → α} {r i r' i' : Nat} {v : α} (h : i' ≠ i) : u2 I r i v r' i' = I r' i' := by simp [u2, h]
abbrev eYard (I : Nat → Nat → Int32) (J : Nat → Nat → Nat) (st : Int64) : va_E := .inr (0, [.ref (J 2 0), .ref (J 2 1), .ref (J 2 2), .ref (J 2 3), .ref (J 1 1), .int (I 1 0), .long st])
abbrev ePark (I : Nat → Nat → Int32) (J : Nat → Nat → Nat) : va_E := .inr (1, [.ref (J 2 4), .int (I 1 1), .int (I 1 2)])
abbrev eList (I : Nat → Nat → Int32) (J : Nat → Nat → Nat) (i : Nat) : va_E := .inr (7, [.int (I 0 i), .ref (J 3 i), .int (nI (J 0 i))])
abbrev eLayer (I : Nat → Nat → Int32) (i : Nat) : va_E := .inr (2, [.int (cy_bit i), .int (I 2 i), .int (I 3 i)])
abbrev eImage (J : Nat → Nat → Nat) (i : Nat) : va_E := .inr (3, [va_rf (cy_o (J 6) (J 10 i)), .ref (J 5 (J 11 i))])
abbrev eOpen (I : Nat → Nat → Int32) (J : Nat → Nat → Nat) (i : Nat) : va_E := .inr (6, [.ref (J 17 i), .int (I 11 i)])
abbrev eCont (G : GT) (I : Nat → Nat → Int32) (J : Nat → Nat → Nat) (i : Nat) : va_E := .inr (5, [.int (nI i), .int (I 12 i), .ref (J 6 (J 12 i)), .ref (J 16 i), .ref (G.2.2.2.2 (J 13 i)), va_rf (cy_o (J 9) (J 14 i)), .int (I 15 i), .int (I 16 i), .int (I 17 i), .int (I 18 i), .ref (J 1 0)])
abbrev eHost (I : Nat → Nat → Int32) (J : Nat → Nat → Nat) (i : Nat) : va_E := .inr (4, [.ref (J 15 i), .int (I 6 i), .int (I 7 i), .int (nI i)])
abbrev eNeed (x y : Int32) : va_E := .inr (9, [.int x, .int y])
abbrev eWin (x y z : Int32) : va_E := .inr (10, [.int x, .int y, .int z])
def cy_Yc (G : GT) (I : Nat → Nat → Int32) (J : Nat → Nat → Nat) (st : Int64) : Nat → Nat → Option (Nat × va_E)
  | 0, i => if i = 0 then some (J 1 0, eYard I J st) else none
  | 1, i => if i = 0 then some (J 1 1, ePark I J) else none
  | 2, i => if i < 5 then some (J 2 i, eList I J i) else none
  | 3, i => if i < 5 ∧ J 4 i ≠ 0 then some (J 3 i, aO G (J 4 i) (cy_ar (J 0 i) (J (5 + i)))) else none
  | 4, i => if i < J 0 0 then some (J 5 i, eLayer I i) else none
  | 5, i => if i < J 0 1 then some (J 6 i, eImage J i) else none
  | 6, i => if i < J 0 2 then some (J 7 i, eOpen I J i) else none
  | 7, i => if i < J 0 3 then some (J 8 i, eCont G I J i) else none
  | 8, i => if i < J 0 4 then some (J 9 i, eHost I J i) else none
  | 9, i => if i < J 0 4 then some (J 15 i, eNeed (I 4 i) (I 5 i)) else none
  | 10, i => if i < J 0 3 then some (J 16 i, eNeed (I 13 i) (I 14 i)) else none
  | 11, i => if i < J 0 2 then some (J 17 i, eWin (I 8 i) (I 9 i) (I 10 i)) else none
  | _, _ => none
def cy_Yr (G : GT) (J : Nat → Nat → Nat) : Prop :=
  (∀ k, k < 5 → J 0 k ≤ J 4 k ∧ ((J 4 k = 0 ∧ J 3 k = G.2.2.2.2 10) ∨ J 4 k = 10 ∨ J 4 k = 15)) ∧
  (J 0 0 ≤ 12 ∧ J 0 1 ≤ 8 ∧ J 0 2 ≤ 6 ∧ J 0 3 ≤ 12 ∧ J 0 4 ≤ 4) ∧
  (∀ i, i < J 0 1 → J 10 i ≤ i ∧ J 11 i < J 0 0) ∧
  (∀ i, i < J 0 3 → J 12 i < J 0 1 ∧ J 13 i < 4 ∧ J 14 i ≤ J 0 4)
def cy_Y (G : GT) (I : Nat → Nat → Int32) (J : Nat → Nat → Nat) (st : Int64) (h : Hp) : Prop :=
  (∀ (k i a : Nat) (e : va_E), cy_Yc G I J st k i = some (a, e) → h a = some e) ∧
  (∀ (k i k' i' a : Nat) (e e' : va_E), cy_Yc G I J st k i = some (a, e) → cy_Yc G I J st k' i' = some (a, e') → k = k' ∧ i = i') ∧
  cy_Yr G J
section YARD
variable {G : GT} {I I' : Nat → Nat → Int32} {J J' : Nat → Nat → Nat} {st st' : Int64} {h h' : Hp} {i : Nat}
theorem cy_Y.mono (hY : cy_Y G I J st h) (hl : cy_le h h') : cy_Y G I J st h' := ⟨fun k i a e q => hl a e (hY.1 k i a e q), hY.2⟩
theorem cy_Y.yard (hY : cy_Y G I J st h) : h (J 1 0) = some (eYard I J st) := hY.1 0 0 _ _ rfl
theorem cy_Y.park (hY : cy_Y G I J st h) : h (J 1 1) = some (ePark I J) := hY.1 1 0 _ _ rfl
theorem cy_Y.list (hY : cy_Y G I J st h) (hi : i < 5) : h (J 2 i) = some (eList I J i) := hY.1 2 i _ _ (if_pos hi)
theorem cy_Y.arr (hY : cy_Y G I J st h) (hi : i < 5) (hc : J 4 i ≠ 0) : h (J 3 i) = some (aO G (J 4 i) (cy_ar (J 0 i) (J (5 + i)))) := hY.1 3 i _ _ (if_pos ⟨hi, hc⟩)
theorem cy_Y.layer (hY : cy_Y G I J st h) (hi : i < J 0 0) : h (J 5 i) = some (eLayer I i) := hY.1 4 i _ _ (if_pos hi)
theorem cy_Y.image (hY : cy_Y G I J st h) (hi : i < J 0 1) : h (J 6 i) = some (eImage J i) := hY.1 5 i _ _ (if_pos hi)
theorem cy_Y.opn (hY : cy_Y G I J st h) (hi : i < J 0 2) : h (J 7 i) = some (eOpen I J i) := hY.1 6 i _ _ (if_pos hi)
theorem cy_Y.cont (hY : cy_Y G I J st h) (hi : i < J 0 3) : h (J 8 i) = some (eCont G I J i) := hY.1 7 i _ _ (if_pos hi)
theorem cy_Y.host (hY : cy_Y G I J st h) (hi : i < J 0 4) : h (J 9 i) = some (eHost I J i) := hY.1 8 i _ _ (if_pos hi)
theorem cy_Y.hneed (hY : cy_Y G I J st h) (hi : i < J 0 4) : h (J 15 i) = some (eNeed (I 4 i) (I 5 i)) := hY.1 9 i _ _ (if_pos hi)
theorem cy_Y.cneed (hY : cy_Y G I J st h) (hi : i < J 0 3) : h (J 16 i) = some (eNeed (I 13 i) (I 14 i)) := hY.1 10 i _ _ (if_pos hi)
theorem cy_Y.win (hY : cy_Y G I J st h) (hi : i < J 0 2) : h (J 17 i) = some (eWin (I 8 i) (I 9 i) (I 10 i)) := hY.1 11 i _ _ (if_pos hi)
theorem cy_Y.la (hY : cy_Y G I J st h) (hi : i < 5) : cy_la G h (J 0 i) (J 4 i) (J 3 i) (J (5 + i)) := by
  obtain ⟨h1, h2⟩ := hY.2.2.1 i hi
  refine ⟨h1, ?_⟩
  rcases h2 with h2 | h2
  · exact Or.inl h2
  · exact Or.inr ⟨h2, hY.arr hi (by omega)⟩
/-- a list's array, as it is read -/
theorem cy_Y.kn (hG : cy_G G) (hY : cy_Y G I J st h) (hi : i < 5) : cy_kn G h (J 3 i) (aO G (J 4 i) (if J 4 i = 0 then (fun _ => none) else cy_ar (J 0 i) (J (5 + i)))) := by
  obtain ⟨h1, h2⟩ := hY.2.2.1 i hi
  rcases h2 with ⟨h2, h3⟩ | h2
  · rw [h2, h3, if_pos rfl]
    exact Or.inr hG.1.1
  · rw [if_neg (by omega)]
    exact Or.inl (hY.arr hi (by omega))
theorem cy_Y.el (hY : cy_Y G I J st h) (hi : i < 5) {k : Nat} (hk : k < J 0 i) : (if J 4 i = 0 then (fun _ => none) else cy_ar (J 0 i) (J (5 + i))) k = some (J (5 + i) k) := by
  obtain ⟨h1, -⟩ := hY.2.2.1 i hi
  rw [if_neg (by omega)]
  exact if_pos hk
theorem cy_Y.cap (hY : cy_Y G I J st h) (hi : i < 5) : J 4 i < 16 := by
  obtain ⟨-, h2⟩ := hY.2.2.1 i hi
  omega
/-- one cell is changed -/
theorem cy_Y.upd {k a : Nat} {e e' : va_E} (hY : cy_Y G I J st h) (hc : cy_Yc G I J st k i = some (a, e)) (h1 : ∀ k' i', ¬ (k' = k ∧ i' = i) → cy_Yc G I' J' st' k' i' = cy_Yc G I J st k' i') (h2 : cy_Yc G I' J' st' k i = some (a, e')) (hr : cy_Yr G J') : cy_Y G I' J' st' (cy_up h a e') := by
  have key : ∀ (k' i' b : Nat) (x : va_E), cy_Yc G I' J' st' k' i' = some (b, x) → (∃ y, cy_Yc G I J st k' i' = some (b, y)) ∧ cy_up h a e' b = some x := by
    intro k' i' b x hx
    by_cases hk : k' = k ∧ i' = i
    · obtain ⟨rfl, rfl⟩ := hk
      rw [h2] at hx
      cases hx
      exact ⟨⟨e, hc⟩, cy_up_eq⟩
    · rw [h1 k' i' hk] at hx
      refine ⟨⟨x, hx⟩, ?_⟩
      rw [cy_up_ne (fun z => hk (hY.2.1 k' i' k i b x e hx (by rw [z]; exact hc)))]
      exact hY.1 k' i' b x hx
  refine ⟨fun k' i' b x hx => (key k' i' b x hx).2, fun k1 i1 k2 i2 b x y hx hy => ?_, hr⟩
  obtain ⟨⟨x', hx'⟩, -⟩ := key k1 i1 b x hx
  obtain ⟨⟨y', hy'⟩, -⟩ := key k2 i2 b y hy
  exact hY.2.1 k1 i1 k2 i2 b x' y' hx' hy'
/-- an address of the world is no other thing's -/
theorem cy_Y.fresh (hY : cy_Y G I J st h) {q : Nat} (hq : h q = none) : ∀ k i e, cy_Yc G I J st k i ≠ some (q, e) := fun k i e z => by rw [hY.1 k i q e z] at hq; cases hq
theorem cy_Y.u_wd (hY : cy_Y G I J st h) (hi : i < J 0 0) (v : Int32) : cy_Y G (u2 I 2 i v) J st (cy_up h (J 5 i) (eLayer (u2 I 2 i v) i)) := by
  refine hY.upd (k := 4) (i := i) (if_pos hi) (fun k' i' hne => ?_) (if_pos hi) hY.2.2
  match k' with
  | 0 => rfl
  | 1 => rfl
  | 2 => rfl
  | 3 => rfl
  | 4 => first | rfl | (have hn : i' ≠ i := (fun z => hne ⟨rfl, z⟩); simp [cy_Yc, u2_row, u2, hn, eLayer, eImage, eOpen, eCont, eHost])
  | 5 => rfl
  | 6 => first | rfl | (have hn : i' ≠ i := (fun z => hne ⟨rfl, z⟩); simp [cy_Yc, u2_row, u2, hn, eLayer, eImage, eOpen, eCont, eHost])
  | 7 => first | rfl | (have hn : i' ≠ i := (fun z => hne ⟨rfl, z⟩); simp [cy_Yc, u2_row, u2, hn, eLayer, eImage, eOpen, eCont, eHost])
  | 8 => first | rfl | (have hn : i' ≠ i := (fun z => hne ⟨rfl, z⟩); simp [cy_Yc, u2_row, u2, hn, eLayer, eImage, eOpen, eCont, eHost])
  | 9 => rfl
  | 10 => rfl
  | 11 => rfl
  | _ + 12 => rfl
theorem cy_Y.u_oa (hY : cy_Y G I J st h) (hi : i < J 0 0) (v : Int32) : cy_Y G (u2 I 3 i v) J st (cy_up h (J 5 i) (eLayer (u2 I 3 i v) i)) := by
  refine hY.upd (k := 4) (i := i) (if_pos hi) (fun k' i' hne => ?_) (if_pos hi) hY.2.2
  match k' with
  | 0 => rfl
  | 1 => rfl
  | 2 => rfl
  | 3 => rfl
  | 4 => first | rfl | (have hn : i' ≠ i := (fun z => hne ⟨rfl, z⟩); simp [cy_Yc, u2_row, u2, hn, eLayer, eImage, eOpen, eCont, eHost])
  | 5 => rfl
  | 6 => first | rfl | (have hn : i' ≠ i := (fun z => hne ⟨rfl, z⟩); simp [cy_Yc, u2_row, u2, hn, eLayer, eImage, eOpen, eCont, eHost])
  | 7 => first | rfl | (have hn : i' ≠ i := (fun z => hne ⟨rfl, z⟩); simp [cy_Yc, u2_row, u2, hn, eLayer, eImage, eOpen, eCont, eHost])
  | 8 => first | rfl | (have hn : i' ≠ i := (fun z => hne ⟨rfl, z⟩); simp [cy_Yc, u2_row, u2, hn, eLayer, eImage, eOpen, eCont, eHost])
  | 9 => rfl
  | 10 => rfl
  | 11 => rfl
  | _ + 12 => rfl
theorem cy_Y.u_hc (hY : cy_Y G I J st h) (hi : i < J 0 4) (v : Int32) : cy_Y G (u2 I 6 i v) J st (cy_up h (J 9 i) (eHost (u2 I 6 i v) J i)) := by
  refine hY.upd (k := 8) (i := i) (if_pos hi) (fun k' i' hne => ?_) (if_pos hi) hY.2.2
  match k' with
  | 0 => rfl
  | 1 => rfl
  | 2 => rfl
  | 3 => rfl
  | 4 => first | rfl | (have hn : i' ≠ i := (fun z => hne ⟨rfl, z⟩); simp [cy_Yc, u2_row, u2, hn, eLayer, eImage, eOpen, eCont, eHost])
  | 5 => rfl
  | 6 => first | rfl | (have hn : i' ≠ i := (fun z => hne ⟨rfl, z⟩); simp [cy_Yc, u2_row, u2, hn, eLayer, eImage, eOpen, eCont, eHost])
  | 7 => first | rfl | (have hn : i' ≠ i := (fun z => hne ⟨rfl, z⟩); simp [cy_Yc, u2_row, u2, hn, eLayer, eImage, eOpen, eCont, eHost])
  | 8 => first | rfl | (have hn : i' ≠ i := (fun z => hne ⟨rfl, z⟩); simp [cy_Yc, u2_row, u2, hn, eLayer, eImage, eOpen, eCont, eHost])
  | 9 => rfl
  | 10 => rfl
  | 11 => rfl
  | _ + 12 => rfl
theorem cy_Y.u_hm (hY : cy_Y G I J st h) (hi : i < J 0 4) (v : Int32) : cy_Y G (u2 I 7 i v) J st (cy_up h (J 9 i) (eHost (u2 I 7 i v) J i)) := by
  refine hY.upd (k := 8) (i := i) (if_pos hi) (fun k' i' hne => ?_) (if_pos hi) hY.2.2
  match k' with
  | 0 => rfl
  | 1 => rfl
  | 2 => rfl
  | 3 => rfl
  | 4 => first | rfl | (have hn : i' ≠ i := (fun z => hne ⟨rfl, z⟩); simp [cy_Yc, u2_row, u2, hn, eLayer, eImage, eOpen, eCont, eHost])
  | 5 => rfl
  | 6 => first | rfl | (have hn : i' ≠ i := (fun z => hne ⟨rfl, z⟩); simp [cy_Yc, u2_row, u2, hn, eLayer, eImage, eOpen, eCont, eHost])
  | 7 => first | rfl | (have hn : i' ≠ i := (fun z => hne ⟨rfl, z⟩); simp [cy_Yc, u2_row, u2, hn, eLayer, eImage, eOpen, eCont, eHost])
  | 8 => first | rfl | (have hn : i' ≠ i := (fun z => hne ⟨rfl, z⟩); simp [cy_Yc, u2_row, u2, hn, eLayer, eImage, eOpen, eCont, eHost])
  | 9 => rfl
  | 10 => rfl
  | 11 => rfl
  | _ + 12 => rfl
theorem cy_Y.u_ot (hY : cy_Y G I J st h) (hi : i < J 0 2) (v : Int32) : cy_Y G (u2 I 11 i v) J st (cy_up h (J 7 i) (eOpen (u2 I 11 i v) J i)) := by
  refine hY.upd (k := 6) (i := i) (if_pos hi) (fun k' i' hne => ?_) (if_pos hi) hY.2.2
  match k' with
  | 0 => rfl
  | 1 => rfl
  | 2 => rfl
  | 3 => rfl
  | 4 => first | rfl | (have hn : i' ≠ i := (fun z => hne ⟨rfl, z⟩); simp [cy_Yc, u2_row, u2, hn, eLayer, eImage, eOpen, eCont, eHost])
  | 5 => rfl
  | 6 => first | rfl | (have hn : i' ≠ i := (fun z => hne ⟨rfl, z⟩); simp [cy_Yc, u2_row, u2, hn, eLayer, eImage, eOpen, eCont, eHost])
  | 7 => first | rfl | (have hn : i' ≠ i := (fun z => hne ⟨rfl, z⟩); simp [cy_Yc, u2_row, u2, hn, eLayer, eImage, eOpen, eCont, eHost])
  | 8 => first | rfl | (have hn : i' ≠ i := (fun z => hne ⟨rfl, z⟩); simp [cy_Yc, u2_row, u2, hn, eLayer, eImage, eOpen, eCont, eHost])
  | 9 => rfl
  | 10 => rfl
  | 11 => rfl
  | _ + 12 => rfl
theorem cy_Y.u_cl (hY : cy_Y G I J st h) (hi : i < J 0 3) (v : Int32) : cy_Y G (u2 I 15 i v) J st (cy_up h (J 8 i) (eCont G (u2 I 15 i v) J i)) := by
  refine hY.upd (k := 7) (i := i) (if_pos hi) (fun k' i' hne => ?_) (if_pos hi) hY.2.2
  match k' with
  | 0 => rfl
  | 1 => rfl
  | 2 => rfl
  | 3 => rfl
  | 4 => first | rfl | (have hn : i' ≠ i := (fun z => hne ⟨rfl, z⟩); simp [cy_Yc, u2_row, u2, hn, eLayer, eImage, eOpen, eCont, eHost])
  | 5 => rfl
  | 6 => first | rfl | (have hn : i' ≠ i := (fun z => hne ⟨rfl, z⟩); simp [cy_Yc, u2_row, u2, hn, eLayer, eImage, eOpen, eCont, eHost])
  | 7 => first | rfl | (have hn : i' ≠ i := (fun z => hne ⟨rfl, z⟩); simp [cy_Yc, u2_row, u2, hn, eLayer, eImage, eOpen, eCont, eHost])
  | 8 => first | rfl | (have hn : i' ≠ i := (fun z => hne ⟨rfl, z⟩); simp [cy_Yc, u2_row, u2, hn, eLayer, eImage, eOpen, eCont, eHost])
  | 9 => rfl
  | 10 => rfl
  | 11 => rfl
  | _ + 12 => rfl
theorem cy_Y.u_cs (hY : cy_Y G I J st h) (hi : i < J 0 3) (v : Int32) : cy_Y G (u2 I 16 i v) J st (cy_up h (J 8 i) (eCont G (u2 I 16 i v) J i)) := by
  refine hY.upd (k := 7) (i := i) (if_pos hi) (fun k' i' hne => ?_) (if_pos hi) hY.2.2
  match k' with
  | 0 => rfl
  | 1 => rfl
  | 2 => rfl
  | 3 => rfl
  | 4 => first | rfl | (have hn : i' ≠ i := (fun z => hne ⟨rfl, z⟩); simp [cy_Yc, u2_row, u2, hn, eLayer, eImage, eOpen, eCont, eHost])
  | 5 => rfl
  | 6 => first | rfl | (have hn : i' ≠ i := (fun z => hne ⟨rfl, z⟩); simp [cy_Yc, u2_row, u2, hn, eLayer, eImage, eOpen, eCont, eHost])
  | 7 => first | rfl | (have hn : i' ≠ i := (fun z => hne ⟨rfl, z⟩); simp [cy_Yc, u2_row, u2, hn, eLayer, eImage, eOpen, eCont, eHost])
  | 8 => first | rfl | (have hn : i' ≠ i := (fun z => hne ⟨rfl, z⟩); simp [cy_Yc, u2_row, u2, hn, eLayer, eImage, eOpen, eCont, eHost])
  | 9 => rfl
  | 10 => rfl
  | 11 => rfl
  | _ + 12 => rfl
theorem cy_Y.u_cf (hY : cy_Y G I J st h) (hi : i < J 0 3) (v : Int32) : cy_Y G (u2 I 17 i v) J st (cy_up h (J 8 i) (eCont G (u2 I 17 i v) J i)) := by
  refine hY.upd (k := 7) (i := i) (if_pos hi) (fun k' i' hne => ?_) (if_pos hi) hY.2.2
  match k' with
  | 0 => rfl
  | 1 => rfl
  | 2 => rfl
  | 3 => rfl
  | 4 => first | rfl | (have hn : i' ≠ i := (fun z => hne ⟨rfl, z⟩); simp [cy_Yc, u2_row, u2, hn, eLayer, eImage, eOpen, eCont, eHost])
  | 5 => rfl
  | 6 => first | rfl | (have hn : i' ≠ i := (fun z => hne ⟨rfl, z⟩); simp [cy_Yc, u2_row, u2, hn, eLayer, eImage, eOpen, eCont, eHost])
  | 7 => first | rfl | (have hn : i' ≠ i := (fun z => hne ⟨rfl, z⟩); simp [cy_Yc, u2_row, u2, hn, eLayer, eImage, eOpen, eCont, eHost])
  | 8 => first | rfl | (have hn : i' ≠ i := (fun z => hne ⟨rfl, z⟩); simp [cy_Yc, u2_row, u2, hn, eLayer, eImage, eOpen, eCont, eHost])
  | 9 => rfl
  | 10 => rfl
  | 11 => rfl
  | _ + 12 => rfl
theorem cy_Y.u_cu (hY : cy_Y G I J st h) (hi : i < J 0 3) (v : Int32) : cy_Y G (u2 I 18 i v) J st (cy_up h (J 8 i) (eCont G (u2 I 18 i v) J i)) := by
  refine hY.upd (k := 7) (i := i) (if_pos hi) (fun k' i' hne => ?_) (if_pos hi) hY.2.2
  match k' with
  | 0 => rfl
  | 1 => rfl
  | 2 => rfl
  | 3 => rfl
  | 4 => first | rfl | (have hn : i' ≠ i := (fun z => hne ⟨rfl, z⟩); simp [cy_Yc, u2_row, u2, hn, eLayer, eImage, eOpen, eCont, eHost])
  | 5 => rfl
  | 6 => first | rfl | (have hn : i' ≠ i := (fun z => hne ⟨rfl, z⟩); simp [cy_Yc, u2_row, u2, hn, eLayer, eImage, eOpen, eCont, eHost])
  | 7 => first | rfl | (have hn : i' ≠ i := (fun z => hne ⟨rfl, z⟩); simp [cy_Yc, u2_row, u2, hn, eLayer, eImage, eOpen, eCont, eHost])
  | 8 => first | rfl | (have hn : i' ≠ i := (fun z => hne ⟨rfl, z⟩); simp [cy_Yc, u2_row, u2, hn, eLayer, eImage, eOpen, eCont, eHost])
  | 9 => rfl
  | 10 => rfl
  | 11 => rfl
  | _ + 12 => rfl
theorem cy_Y.u_lic (hY : cy_Y G I J st h) (v : Int32) : cy_Y G (u2 I 1 1 v) J st (cy_up h (J 1 1) (ePark (u2 I 1 1 v) J)) := by
  refine hY.upd (k := 1) (i := 0) rfl (fun k' i' hne => ?_) rfl hY.2.2
  match k' with
  | 0 => rfl
  | 1 => exact (if_neg (fun z => hne ⟨rfl, z⟩)).trans (if_neg (fun z => hne ⟨rfl, z⟩)).symm
  | 2 => rfl
  | 3 => rfl
  | 4 => rfl
  | 5 => rfl
  | 6 => rfl
  | 7 => rfl
  | 8 => rfl
  | 9 => rfl
  | 10 => rfl
  | 11 => rfl
  | _ + 12 => rfl
theorem cy_Y.u_tak (hY : cy_Y G I J st h) (v : Int32) : cy_Y G (u2 I 1 2 v) J st (cy_up h (J 1 1) (ePark (u2 I 1 2 v) J)) := by
  refine hY.upd (k := 1) (i := 0) rfl (fun k' i' hne => ?_) rfl hY.2.2
  match k' with
  | 0 => rfl
  | 1 => exact (if_neg (fun z => hne ⟨rfl, z⟩)).trans (if_neg (fun z => hne ⟨rfl, z⟩)).symm
  | 2 => rfl
  | 3 => rfl
  | 4 => rfl
  | 5 => rfl
  | 6 => rfl
  | 7 => rfl
  | 8 => rfl
  | 9 => rfl
  | 10 => rfl
  | 11 => rfl
  | _ + 12 => rfl
theorem cy_Y.u_hour (hY : cy_Y G I J st h) (v : Int32) : cy_Y G (u2 I 1 0 v) J st (cy_up h (J 1 0) (eYard (u2 I 1 0 v) J st)) := by
  refine hY.upd (k := 0) (i := 0) rfl (fun k' i' hne => ?_) rfl hY.2.2
  match k' with
  | 0 => exact (if_neg (fun z => hne ⟨rfl, z⟩)).trans (if_neg (fun z => hne ⟨rfl, z⟩)).symm
  | 1 => rfl
  | 2 => rfl
  | 3 => rfl
  | 4 => rfl
  | 5 => rfl
  | 6 => rfl
  | 7 => rfl
  | 8 => rfl
  | 9 => rfl
  | 10 => rfl
  | 11 => rfl
  | _ + 12 => rfl
theorem cy_Y.u_starts (hY : cy_Y G I J st h) (v : Int64) : cy_Y G I J v (cy_up h (J 1 0) (eYard I J v)) := by
  refine hY.upd (k := 0) (i := 0) rfl (fun k' i' hne => ?_) rfl hY.2.2
  match k' with
  | 0 => exact (if_neg (fun z => hne ⟨rfl, z⟩)).trans (if_neg (fun z => hne ⟨rfl, z⟩)).symm
  | 1 => rfl
  | 2 => rfl
  | 3 => rfl
  | 4 => rfl
  | 5 => rfl
  | 6 => rfl
  | 7 => rfl
  | 8 => rfl
  | 9 => rfl
  | 10 => rfl
  | 11 => rfl
  | _ + 12 => rfl
theorem cy_Y.u_own (hY : cy_Y G I J st h) (hi : i < J 0 1) (v : Nat) (hv : v < J 0 0) : cy_Y G I (u2 J 11 i v) st (cy_up h (J 6 i) (eImage (u2 J 11 i v) i)) := by
  refine hY.upd (k := 5) (i := i) (if_pos hi) (fun k' i' hne => ?_) (if_pos hi) ⟨hY.2.2.1, hY.2.2.2.1, fun j hj => ⟨(hY.2.2.2.2.1 j hj).1, ?_⟩, hY.2.2.2.2.2⟩
  · match k' with
    | 0 => rfl
    | 1 => rfl
    | 2 => rfl
    | 3 =>
      by_cases h5 : i' < 5
      · have e1 : u2 J 11 i v (5 + i') = J (5 + i') := u2_row (by omega)
        show (if i' < 5 ∧ J 4 i' ≠ 0 then some (J 3 i', aO G (J 4 i') (cy_ar (J 0 i') (u2 J 11 i v (5 + i')))) else none) = _
        rw [e1]
        rfl
      · exact (if_neg (fun z => h5 z.1)).trans (if_neg (fun z => h5 z.1)).symm
    | 4 => rfl
    | 5 => first | rfl | (have hn : i' ≠ i := (fun z => hne ⟨rfl, z⟩); simp [cy_Yc, u2_row, u2, hn, eLayer, eImage, eOpen, eCont, eHost])
    | 6 => rfl
    | 7 => first | rfl | (have hn : i' ≠ i := (fun z => hne ⟨rfl, z⟩); simp [cy_Yc, u2_row, u2, hn, eLayer, eImage, eOpen, eCont, eHost])
    | 8 => rfl
    | 9 => rfl
    | 10 => rfl
    | 11 => rfl
    | _ + 12 => rfl
  · show u2 J 11 i v 11 j < _
    by_cases hji : j = i
    · subst hji; rw [u2_eq]; exact hv
    · rw [u2_i hji]; exact (hY.2.2.2.2.1 j hj).2
theorem cy_Y.u_st (hY : cy_Y G I J st h) (hi : i < J 0 3) (v : Nat) (hv : v < 4) : cy_Y G I (u2 J 13 i v) st (cy_up h (J 8 i) (eCont G I (u2 J 13 i v) i)) := by
  refine hY.upd (k := 7) (i := i) (if_pos hi) (fun k' i' hne => ?_) (if_pos hi) ⟨hY.2.2.1, hY.2.2.2.1, hY.2.2.2.2.1, fun j hj => ⟨(hY.2.2.2.2.2 j hj).1, ?_, (hY.2.2.2.2.2 j hj).2.2⟩⟩
  · match k' with
    | 0 => rfl
    | 1 => rfl
    | 2 => rfl
    | 3 =>
      by_cases h5 : i' < 5
      · have e1 : u2 J 13 i v (5 + i') = J (5 + i') := u2_row (by omega)
        show (if i' < 5 ∧ J 4 i' ≠ 0 then some (J 3 i', aO G (J 4 i') (cy_ar (J 0 i') (u2 J 13 i v (5 + i')))) else none) = _
        rw [e1]
        rfl
      · exact (if_neg (fun z => h5 z.1)).trans (if_neg (fun z => h5 z.1)).symm
    | 4 => rfl
    | 5 => first | rfl | (have hn : i' ≠ i := (fun z => hne ⟨rfl, z⟩); simp [cy_Yc, u2_row, u2, hn, eLayer, eImage, eOpen, eCont, eHost])
    | 6 => rfl
    | 7 => first | rfl | (have hn : i' ≠ i := (fun z => hne ⟨rfl, z⟩); simp [cy_Yc, u2_row, u2, hn, eLayer, eImage, eOpen, eCont, eHost])
    | 8 => rfl
    | 9 => rfl
    | 10 => rfl
    | 11 => rfl
    | _ + 12 => rfl
  · show u2 J 13 i v 13 j < _
    by_cases hji : j = i
    · subst hji; rw [u2_eq]; exact hv
    · rw [u2_i hji]; exact (hY.2.2.2.2.2 j hj).2.1
theorem cy_Y.u_ho (hY : cy_Y G I J st h) (hi : i < J 0 3) (v : Nat) (hv : v ≤ J 0 4) : cy_Y G I (u2 J 14 i v) st (cy_up h (J 8 i) (eCont G I (u2 J 14 i v) i)) := by
  refine hY.upd (k := 7) (i := i) (if_pos hi) (fun k' i' hne => ?_) (if_pos hi) ⟨hY.2.2.1, hY.2.2.2.1, hY.2.2.2.2.1, fun j hj => ⟨(hY.2.2.2.2.2 j hj).1, (hY.2.2.2.2.2 j hj).2.1, ?_⟩⟩
  · match k' with
    | 0 => rfl
    | 1 => rfl
    | 2 => rfl
    | 3 =>
      by_cases h5 : i' < 5
      · have e1 : u2 J 14 i v (5 + i') = J (5 + i') := u2_row (by omega)
        show (if i' < 5 ∧ J 4 i' ≠ 0 then some (J 3 i', aO G (J 4 i') (cy_ar (J 0 i') (u2 J 14 i v (5 + i')))) else none) = _
        rw [e1]
        rfl
      · exact (if_neg (fun z => h5 z.1)).trans (if_neg (fun z => h5 z.1)).symm
    | 4 => rfl
    | 5 => first | rfl | (have hn : i' ≠ i := (fun z => hne ⟨rfl, z⟩); simp [cy_Yc, u2_row, u2, hn, eLayer, eImage, eOpen, eCont, eHost])
    | 6 => rfl
    | 7 => first | rfl | (have hn : i' ≠ i := (fun z => hne ⟨rfl, z⟩); simp [cy_Yc, u2_row, u2, hn, eLayer, eImage, eOpen, eCont, eHost])
    | 8 => rfl
    | 9 => rfl
    | 10 => rfl
    | 11 => rfl
    | _ + 12 => rfl
  · show u2 J 14 i v 14 j ≤ _
    by_cases hji : j = i
    · subst hji; rw [u2_eq]; exact hv
    · rw [u2_i hji]; exact (hY.2.2.2.2.2 j hj).2.2
end YARD
