/-! the model: twice -/
set_option maxRecDepth 100000
section MP
variable {G : GT} {A : Nat → Nat} {M : Nat → Nat → Int32} {st : Int64} {h : Hp} {I : Nat → Nat → Int32} {J : Nat → Nat → Nat}
theorem ct_X3_twice (hM : cy_Mo G A M st h) (hR : cy_Rl I J M) (hr : cy_Yr G J) {m l : Nat} (hm : m < J 0 1) (hl : l < J 0 0) : cy_Con G yX3_twice cX3_twice 8 (some .boolean) 1 0 [.ref (A 0), .int (nI m), .int (nI l)] h (qV (.int (bI (cy_tw J m l))) (fun h1 => h1 = h)) xF := by
  have r0 := hr.2.1
  have hp1 : ∀ i, i < J 0 1 → J 10 i ≤ i := fun i hi => (hr.2.2.1 i hi).1
  refine cy_in (own := RX3) (lv0 := [some (.ref (A 0)), some (.int (nI m)), some (.int (nI l)), none, none, none, none, none]) (by decide) rfl rfl rfl (Nat.le_of_ble_eq_true rfl) (fun K T C => ?_)
  have loop : ∀ (e d : Nat) (x5 x6 x7 : Option Value), d + e = J 0 1 → (∀ v, x5 = some v → v.category = 1) → (∀ v, x6 = some v → v.category = 1) → (∀ v, x7 = some v → v.category = 1) → K 0 h 5 [some (.ref (A 0)), some (.int (nI m)), some (.int (nI l)), some (.int (bI (cy_any (cy_t2 J m l) d))), some (.int (nI d)), x5, x6, x7] [] := by
    intro e
    induction e with
    | zero =>
      intro d x5 x6 x7 hd c5 c6 c7
      have hdn : d = J 0 1 := by omega
      subst hdn
      refine rr_iload C dX3_twice_5 rfl ?_
      refine rr_aload_n C 0 dX3_twice_7 rfl rfl ?_
      refine gf_X3_89 C dX3_twice_8 (Or.inl hM.obj) ?_
      rw [hR.nIm]
      refine rr_icmp_ge C 115 dX3_twice_11 (by decide) (fun _ => ?_) (fun c => absurd (nI_le (Nat.le_refl _) (by omega)) c)
      refine rr_iload_n C 3 dX3_twice_115 rfl rfl ?_
      exact rr_zreturn C dX3_twice_116 (by cases cy_any _ _ <;> rfl) ⟨by rw [cy_tw_t2 (fun i hi => ⟨hp1 i hi, by have := (hr.2.2.1 i hi).2; omega⟩) hm (by omega)], rfl⟩
    | succ e ih =>
      intro d x5 x6 x7 hd c5 c6 c7
      have hdl : d < J 0 1 := by omega
      refine rr_iload C dX3_twice_5 rfl ?_
      refine rr_aload_n C 0 dX3_twice_7 rfl rfl ?_
      refine gf_X3_89 C dX3_twice_8 (Or.inl hM.obj) ?_
      rw [hR.nIm]
      refine rr_icmp_ge C 115 dX3_twice_11 (by decide) (fun c => absurd c (nI_ge (by omega) (by omega))) (fun _ => ?_)
      have inner : ∀ (n p : Nat) (co ha : Bool), p ≤ n → p ≤ J 0 1 → (co || (cy_ch J n p).any (fun k => decide (k = m))) = (cy_ch J (d + 1) (d + 1)).any (fun k => decide (k = m)) → (ha || (cy_ch J n p).any (fun k => !decide (k = m) && decide (J 11 k = l))) = (cy_ch J (d + 1) (d + 1)).any (fun k => !decide (k = m) && decide (J 11 k = l)) → K 0 h 24 [some (.ref (A 0)), some (.int (nI m)), some (.int (nI l)), some (.int (bI (cy_any (cy_t2 J m l) d))), some (.int (nI d)), some (.int (bI co)), some (.int (bI ha)), some (.int (nI p - 1))] [] := by
        have out : ∀ (co ha : Bool) (x : Int32), co = (cy_ch J (d + 1) (d + 1)).any (fun k => decide (k = m)) → ha = (cy_ch J (d + 1) (d + 1)).any (fun k => !decide (k = m) && decide (J 11 k = l)) → K 0 h 89 [some (.ref (A 0)), some (.int (nI m)), some (.int (nI l)), some (.int (bI (cy_any (cy_t2 J m l) d))), some (.int (nI d)), some (.int (bI co)), some (.int (bI ha)), some (.int x)] [] := by
          intro co ha x e1 e2
          have et : cy_any (cy_t2 J m l) (d + 1) = (cy_any (cy_t2 J m l) d || (co && ha)) := by rw [cy_any, e1, e2]; rfl
          have nx : ∀ b : Bool, cy_any (cy_t2 J m l) (d + 1) = b → K 0 h 108 [some (.ref (A 0)), some (.int (nI m)), some (.int (nI l)), some (.int (bI (cy_any (cy_t2 J m l) d))), some (.int (nI d)), some (.int (bI co)), some (.int (bI ha)), some (.int x)] [.int (bI b)] := by
            intro b hb
            subst hb
            refine rr_istore_n C 3 dX3_twice_108 rfl (Nat.le_of_ble_eq_true rfl) rfl (Nat.le_of_ble_eq_true rfl) ?_
            refine rr_iinc C (nI (d + 1)) dX3_twice_109 rfl (nI_1 d) (Nat.le_of_ble_eq_true rfl) rfl (Nat.le_of_ble_eq_true rfl) ?_
            refine rr_goto C 5 dX3_twice_112 (by decide) ?_
            exact ih (d + 1) _ _ _ (by omega) (fun v hv => by cases hv; rfl) (fun v hv => by cases hv; rfl) (fun v hv => by cases hv; rfl)
          refine rr_iload_n C 3 dX3_twice_89 rfl rfl ?_
          refine rr_if_ne C 103 dX3_twice_90 (by decide) (fun c90 => ?_) (fun c90 => ?_)
          · refine rr_iconst C 1 dX3_twice_103 (by decide) ?_
            refine rr_goto C 108 dX3_twice_104 (by decide) ?_
            exact nx true (by rw [et, bI_ne0 c90]; rfl)
          · refine rr_iload C dX3_twice_93 rfl ?_
            refine rr_if_eq C 107 dX3_twice_95 (by decide) (fun c95 => ?_) (fun c95 => ?_)
            · refine rr_iconst C 0 dX3_twice_107 (by decide) ?_
              exact nx false (by rw [et, bI_eq0 c90, bI_eq0 c95]; rfl)
            · refine rr_iload C dX3_twice_98 rfl ?_
              refine rr_if_eq C 107 dX3_twice_100 (by decide) (fun c100 => ?_) (fun c100 => ?_)
              · refine rr_iconst C 0 dX3_twice_107 (by decide) ?_
                exact nx false (by rw [et, bI_eq0 c90, bI_eq0 c100, Bool.and_false]; rfl)
              · refine rr_iconst C 1 dX3_twice_103 (by decide) ?_
                refine rr_goto C 108 dX3_twice_104 (by decide) ?_
                exact nx true (by rw [et, bI_ne0 c95, bI_ne0 c100]; exact Bool.or_true _)
        intro n
        induction n with
        | zero =>
          intro p co ha hpn hpl e1 e2
          have hp0 : p = 0 := by omega
          subst hp0
          refine rr_iload C dX3_twice_24 rfl ?_
          refine rr_iconst C (-1) dX3_twice_26 (by decide) ?_
          refine rr_icmp_eq C 89 dX3_twice_27 (by decide) (fun _ => ?_) (fun c => absurd rfl c)
          exact out co ha _ (by rw [← e1]; cases co <;> rfl) (by rw [← e2]; cases ha <;> rfl)
        | succ n ihn =>
          intro p co ha hpn hpl e1 e2
          cases p with
          | zero =>
            refine rr_iload C dX3_twice_24 rfl ?_
            refine rr_iconst C (-1) dX3_twice_26 (by decide) ?_
            refine rr_icmp_eq C 89 dX3_twice_27 (by decide) (fun _ => ?_) (fun c => absurd rfl c)
            exact out co ha _ (by rw [← e1]; cases co <;> rfl) (by rw [← e2]; cases ha <;> rfl)
          | succ p =>
            have hpi : p < J 0 1 := by omega
            have hpa := hp1 p hpi
            rw [nI_pred]
            rw [cy_ch, List.any_cons, ← Bool.or_assoc] at e1 e2
            have k77 : ∀ ha' : Bool, (ha || (!decide (p = m) && decide (J 11 p = l))) = ha' → ∀ co' : Bool, (co || decide (p = m)) = co' → K 0 h 75 [some (.ref (A 0)), some (.int (nI m)), some (.int (nI l)), some (.int (bI (cy_any (cy_t2 J m l) d))), some (.int (nI d)), some (.int (bI co')), some (.int (bI ha)), some (.int (nI p))] [.int (bI ha')] := by
              intro ha' eh co' ec
              rw [ec] at e1
              rw [eh] at e2
              refine rr_istore C dX3_twice_75 (Nat.le_of_ble_eq_true rfl) rfl (Nat.le_of_ble_eq_true rfl) ?_
              refine rr_aload_n C 0 dX3_twice_77 rfl rfl ?_
              refine gf_X3_17 C dX3_twice_78 (Or.inl hM.obj) ?_
              refine rr_iload C dX3_twice_81 rfl ?_
              refine rr_iald C p dX3_twice_83 (Or.inl (hM.row rfl)) rfl (by omega) (by decide) ?_
              rw [hR.par p hpi]
              refine rr_istore C dX3_twice_84 (Nat.le_of_ble_eq_true rfl) rfl (Nat.le_of_ble_eq_true rfl) ?_
              refine rr_goto C 24 dX3_twice_86 (by decide) ?_
              exact ihn (J 10 p) co' ha' (by omega) (by omega) e1 e2
            have k46 : ∀ co' : Bool, (co || decide (p = m)) = co' → K 0 h 46 [some (.ref (A 0)), some (.int (nI m)), some (.int (nI l)), some (.int (bI (cy_any (cy_t2 J m l) d))), some (.int (nI d)), some (.int (bI co)), some (.int (bI ha)), some (.int (nI p))] [.int (bI co')] := by
              intro co' ec
              refine rr_istore C dX3_twice_46 (Nat.le_of_ble_eq_true rfl) rfl (Nat.le_of_ble_eq_true rfl) ?_
              refine rr_iload C dX3_twice_48 rfl ?_
              refine rr_if_ne C 70 dX3_twice_50 (by decide) (fun c50 => ?_) (fun c50 => ?_)
              · refine rr_iconst C 1 dX3_twice_70 (by decide) ?_
                refine rr_goto C 75 dX3_twice_71 (by decide) ?_
                exact k77 true (by rw [bI_ne0 c50]; rfl) co' ec
              · have hf := bI_eq0 c50
                refine rr_iload C dX3_twice_53 rfl ?_
                refine rr_iload_n C 1 dX3_twice_55 rfl rfl ?_
                refine rr_icmp_eq C 74 dX3_twice_56 (by decide) (fun c56 => ?_) (fun c56 => ?_)
                · have := (nI_eq (by omega) (by omega)).mp c56
                  refine rr_iconst C 0 dX3_twice_74 (by decide) ?_
                  exact k77 false (by rw [hf, decide_eq_true this]; rfl) co' ec
                · have hne : ¬ p = m := fun z => c56 (by rw [z])
                  refine rr_aload_n C 0 dX3_twice_59 rfl rfl ?_
                  refine gf_X3_20 C dX3_twice_60 (Or.inl hM.obj) ?_
                  refine rr_iload C dX3_twice_63 rfl ?_
                  refine rr_iald C p dX3_twice_65 (Or.inl (hM.row rfl)) rfl (by omega) (by decide) ?_
                  rw [hR.ownl p hpi]
                  refine rr_iload_n C 2 dX3_twice_66 rfl rfl ?_
                  have hol := (hr.2.2.1 p hpi).2
                  refine rr_icmp_ne C 74 dX3_twice_67 (by decide) (fun c67 => ?_) (fun c67 => ?_)
                  · refine rr_iconst C 0 dX3_twice_74 (by decide) ?_
                    exact k77 false (by rw [hf, decide_eq_false hne, decide_eq_false (fun z => c67 (by rw [z]))]; rfl) co' ec
                  · have := (nI_eq (by omega) (by omega)).mp c67
                    refine rr_iconst C 1 dX3_twice_70 (by decide) ?_
                    refine rr_goto C 75 dX3_twice_71 (by decide) ?_
                    exact k77 true (by rw [decide_eq_false hne, decide_eq_true this, hf]; rfl) co' ec
            refine rr_iload C dX3_twice_24 rfl ?_
            refine rr_iconst C (-1) dX3_twice_26 (by decide) ?_
            refine rr_icmp_eq C 89 dX3_twice_27 (by decide) (fun c => absurd (show nI p < 0 by rw [c]; decide) (nI_pos (by omega))) (fun _ => ?_)
            refine rr_iload C dX3_twice_30 rfl ?_
            refine rr_if_ne C 41 dX3_twice_32 (by decide) (fun c32 => ?_) (fun c32 => ?_)
            · refine rr_iconst C 1 dX3_twice_41 (by decide) ?_
              refine rr_goto C 46 dX3_twice_42 (by decide) ?_
              exact k46 true (by rw [bI_ne0 c32]; rfl)
            · have hf := bI_eq0 c32
              refine rr_iload C dX3_twice_35 rfl ?_
              refine rr_iload_n C 1 dX3_twice_37 rfl rfl ?_
              refine rr_icmp_ne C 45 dX3_twice_38 (by decide) (fun c38 => ?_) (fun c38 => ?_)
              · refine rr_iconst C 0 dX3_twice_45 (by decide) ?_
                exact k46 false (by rw [hf, decide_eq_false (fun z => c38 (by rw [z]))]; rfl)
              · have := (nI_eq (by omega) (by omega)).mp c38
                refine rr_iconst C 1 dX3_twice_41 (by decide) ?_
                refine rr_goto C 46 dX3_twice_42 (by decide) ?_
                exact k46 true (by rw [hf, decide_eq_true this]; rfl)
      refine rr_iconst C 0 dX3_twice_14 (by decide) ?_
      refine rr_istore C dX3_twice_15 (Nat.le_of_ble_eq_true rfl) rfl (Nat.le_of_ble_eq_true rfl) ?_
      refine rr_iconst C 0 dX3_twice_17 (by decide) ?_
      refine rr_istore C dX3_twice_18 (Nat.le_of_ble_eq_true rfl) rfl (Nat.le_of_ble_eq_true rfl) ?_
      refine rr_iload C dX3_twice_20 rfl ?_
      refine rr_istore C dX3_twice_22 (Nat.le_of_ble_eq_true rfl) rfl (Nat.le_of_ble_eq_true rfl) ?_
      have h0 := inner (d + 1) (d + 1) false false (Nat.le_refl _) (by omega) rfl rfl
      rw [nI_pred] at h0
      exact h0
  refine rr_iconst C 0 dX3_twice_0 (by decide) ?_
  refine rr_istore_n C 3 dX3_twice_1 rfl (Nat.le_of_ble_eq_true rfl) rfl (Nat.le_of_ble_eq_true rfl) ?_
  refine rr_iconst C 0 dX3_twice_2 (by decide) ?_
  refine rr_istore C dX3_twice_3 (Nat.le_of_ble_eq_true rfl) rfl (Nat.le_of_ble_eq_true rfl) ?_
  exact loop (J 0 1) 0 none none none (by omega) (fun v hv => by cases hv) (fun v hv => by cases hv) (fun v hv => by cases hv)
end MP
