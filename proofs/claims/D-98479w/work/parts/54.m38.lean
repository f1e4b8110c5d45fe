/-! THE MODEL READS: clauses, orders, whole texts -/
section Read
variable {E : JE} {L : ML} {ph : HP} {M0 : MM} {N : Nat} {tk : Tk} {ord : Bool}
theorem rdQ_to {α β : Type} {pos p : Nat} {x : Rs α} {y : Rs β} {M' : MM} (h : rdQ M0 N p x M') (hp : pos ≤ p) (h1 : ∀ e, x = .inl e → y = .inl e) (h2 : ∀ s q l, x = .inr (s, q, l) → ∃ t, y = .inr (t, q, l)) : rdQ M0 N pos y M' := by
  rcases x with e | ⟨s, q, l⟩
  · rw [h1 e rfl]; exact h
  · obtain ⟨t, ht⟩ := h2 s q l rfl
    rw [ht]
    exact ⟨h.1, by have := h.2.1; omega, h.2.2.1, h.2.2.2⟩
theorem c_readClause (h0 : rdOk false tk N M0) {pos lv : Nat} (hp : pos ≤ N) (hl : lv ≤ 50) : MC E fX6_readClause L (rS M0 pos lv) ph [] (rV fun M' => rdQ M0 N pos (pLawCl tk pos lv) M') := by
  have h4 := h0.2.2.2.1
  refine Ct.of [some (.ref (L.1 52))] rfl (Nat.le_of_ble_eq_true rfl) (show plainName RX6 = true by decide +kernel) rfl ?_
  have k45 : ∀ (h : Nat) (s : Option Sm) p l, pos ≤ p → p ≤ N → l ≤ 50 → pLawCl tk pos lv = pIf false tk h s 1 p l → G E fX6_readClause (mFin E fX6_readClause L ph (rV fun M' => rdQ M0 N pos (pLawCl tk pos lv) M')) 45 [some (.ref (L.1 52))] [] (movl L (rS M0 p l) ph) 0 0 := by
    intro h s p l g1 g2 g3 e
    rw [e]
    unfold pIf
    refine G.aload_n0 dX6_readClause_45 ?_
    refine G.bipush (v := nI 6) dX6_readClause_46 (by decide) ?_
    refine G.mcall (f' := fX6_takes0) q2033 ck_X6_takes0 (c_takes0_at h0 g2 _) dX6_readClause_48 (rI.k fun r_48 M_48 h_48 => ?_)
    obtain ⟨e_48, h_48⟩ := h_48; replace e_48 := e_48.symm; replace h_48 := h_48.symm; subst e_48; subst h_48
    refine G.ifb_eq (tgt := 59) dX6_readClause_51 (by decide) (fun c_51 => ?_) (fun c_51 => ?_)
    · have q51 := of_decide_eq_false c_51
      rw [if_neg q51, if_neg q51]
      refine G.return_ dX6_readClause_59 ?_
      first
      | exact ⟨_, rfl, rfl, rfl, g1, g2, g3⟩
      | (refine ⟨_, rfl, rfl, rdQ_to h_56 (by omega) (fun e he => by rw [he]) (fun s2 q2 l2 he => by rw [he]; exact ⟨_, rfl⟩)⟩)
    · have q51 := of_decide_eq_true c_51
      rw [if_pos q51, if_pos q51]
      have hpN := tk_in h0.2.2.2.2.1 (by decide) (by decide) q51
      refine G.aload_n0 dX6_readClause_54 ?_
      refine G.iconst (v := nI 0) dX6_readClause_55 (by decide) ?_
      refine G.mcall (f' := fX6_readTest (72)) q2072 (ck_X6_readTest _) (e_rtests h0 8 0 rfl (p + 1) l hpN g3) dX6_readClause_56 (rV.k fun M_56 h_56 => ?_)
      first | (replace h_56 := h_56.symm; subst h_56) | skip
      refine G.return_ dX6_readClause_59 ?_
      first
      | exact ⟨_, rfl, rfl, rfl, g1, g2, g3⟩
      | (refine ⟨_, rfl, rfl, rdQ_to h_56 (by omega) (fun e he => by rw [he]) (fun s2 q2 l2 he => by rw [he]; exact ⟨_, rfl⟩)⟩)
  have d45 : ∀ M2 e, rdQ M0 N pos (.inl e : Rs Cl) M2 → pLawCl tk pos lv = .inl e → G E fX6_readClause (mFin E fX6_readClause L ph (rV fun M' => rdQ M0 N pos (pLawCl tk pos lv) M')) 45 [some (.ref (L.1 52))] [] (movl L M2 ph) 0 0 := by
    intro M2 e h2 he
    have hdd := rdQ_bad h0 h2 rfl
    rw [he]
    refine G.aload_n0 dX6_readClause_45 ?_
    refine G.bipush (v := nI 6) dX6_readClause_46 (by decide) ?_
    refine G.mcall (f' := fX6_takes0) q2033 ck_X6_takes0 (c_takes0_dead hdd _) dX6_readClause_48 (rI.k fun r_48 M_48 h_48 => ?_)
    obtain ⟨e_48, h_48⟩ := h_48; replace e_48 := e_48.symm; replace h_48 := h_48.symm; subst e_48; subst h_48
    refine G.ifb_eq (tgt := 59) dX6_readClause_51 (by decide) (fun c_51 => ?_) (fun c_51 => ?_)
    · refine G.return_ dX6_readClause_59 ?_
      exact ⟨_, rfl, rfl, h2⟩
    · exact absurd c_51 Bool.false_ne_true
  have k32 : 1 ≤ (tk.1 pos).toInt ∧ (tk.1 pos).toInt ≤ 4 → G E fX6_readClause (mFin E fX6_readClause L ph (rV fun M' => rdQ M0 N pos (pLawCl tk pos lv) M')) 32 [some (.ref (L.1 52))] [] (movl L (rS M0 (pos + 1) lv) ph) 0 0 := by
    intro hc
    have hpN : pos < N := by
      rcases Nat.lt_or_ge pos N with q | q
      · exact q
      · have := h0.2.2.2.2.1.1 pos q
        rw [this] at hc
        exact absurd hc.1 (by decide)
    refine G.aload_n0 dX6_readClause_32 ?_
    refine G.iconst (v := nI 0) dX6_readClause_33 (by decide) ?_
    refine G.mcall (f' := fX6_readSum (36)) q2041 (ck_X6_readSum _) (e_rsums h0 8 0 rfl (pos + 1) lv hpN hl) dX6_readClause_34 (rV.k fun M_34 h_34 => ?_)
    first | (replace h_34 := h_34.symm; subst h_34) | skip
    refine G.goto (tgt := 45) dX6_readClause_37 (by decide) ?_
    cases hx : pSum false tk 8 (pos + 1) lv with
    | inl e =>
      rw [hx] at h_34
      refine d45 _ e h_34 ?_
      unfold pLawCl
      rw [if_pos hc, hx]
    | inr x =>
      obtain ⟨s, p, l⟩ := x
      rw [hx] at h_34
      obtain ⟨rfl, g1, g2, g3⟩ := h_34
      refine k45 (tk.1 pos).toInt.toNat (some s) p l (by omega) g2 g3 ?_
      unfold pLawCl
      rw [if_pos hc, hx]
  refine G.aload_n0 dX6_readClause_0 ?_
  refine G.iconst (v := nI 1) dX6_readClause_1 (by decide) ?_
  refine G.mcall (f' := fX6_takes0) q2033 ck_X6_takes0 (c_takes0_at h0 hp _) dX6_readClause_2 (rI.k fun r_2 M_2 h_2 => ?_)
  obtain ⟨e_2, h_2⟩ := h_2; replace e_2 := e_2.symm; replace h_2 := h_2.symm; subst e_2; subst h_2
  refine G.ifb_ne (tgt := 32) dX6_readClause_5 (by decide) (fun c_5 => ?_) (fun c_5 => ?_)
  · have q5 := of_decide_eq_true c_5
    rw [if_pos q5]
    first
    | exact k32 (by rw [q5]; decide)
    | exact k32 (by rw [q13]; decide)
    | exact k32 (by rw [q21]; decide)
    | exact k32 (by rw [q29]; decide)
  · have q5 := of_decide_eq_false c_5
    rw [if_neg q5]
    refine G.aload_n0 dX6_readClause_8 ?_
    refine G.iconst (v := nI 2) dX6_readClause_9 (by decide) ?_
    refine G.mcall (f' := fX6_takes0) q2033 ck_X6_takes0 (c_takes0_at h0 hp _) dX6_readClause_10 (rI.k fun r_10 M_10 h_10 => ?_)
    obtain ⟨e_10, h_10⟩ := h_10; replace e_10 := e_10.symm; replace h_10 := h_10.symm; subst e_10; subst h_10
    refine G.ifb_ne (tgt := 32) dX6_readClause_13 (by decide) (fun c_13 => ?_) (fun c_13 => ?_)
    · have q13 := of_decide_eq_true c_13
      rw [if_pos q13]
      first
      | exact k32 (by rw [q5]; decide)
      | exact k32 (by rw [q13]; decide)
      | exact k32 (by rw [q21]; decide)
      | exact k32 (by rw [q29]; decide)
    · have q13 := of_decide_eq_false c_13
      rw [if_neg q13]
      refine G.aload_n0 dX6_readClause_16 ?_
      refine G.iconst (v := nI 3) dX6_readClause_17 (by decide) ?_
      refine G.mcall (f' := fX6_takes0) q2033 ck_X6_takes0 (c_takes0_at h0 hp _) dX6_readClause_18 (rI.k fun r_18 M_18 h_18 => ?_)
      obtain ⟨e_18, h_18⟩ := h_18; replace e_18 := e_18.symm; replace h_18 := h_18.symm; subst e_18; subst h_18
      refine G.ifb_ne (tgt := 32) dX6_readClause_21 (by decide) (fun c_21 => ?_) (fun c_21 => ?_)
      · have q21 := of_decide_eq_true c_21
        rw [if_pos q21]
        first
        | exact k32 (by rw [q5]; decide)
        | exact k32 (by rw [q13]; decide)
        | exact k32 (by rw [q21]; decide)
        | exact k32 (by rw [q29]; decide)
      · have q21 := of_decide_eq_false c_21
        rw [if_neg q21]
        refine G.aload_n0 dX6_readClause_24 ?_
        refine G.iconst (v := nI 4) dX6_readClause_25 (by decide) ?_
        refine G.mcall (f' := fX6_takes0) q2033 ck_X6_takes0 (c_takes0_at h0 hp _) dX6_readClause_26 (rI.k fun r_26 M_26 h_26 => ?_)
        obtain ⟨e_26, h_26⟩ := h_26; replace e_26 := e_26.symm; replace h_26 := h_26.symm; subst e_26; subst h_26
        refine G.ifb_eq (tgt := 40) dX6_readClause_29 (by decide) (fun c_29 => ?_) (fun c_29 => ?_)
        · have q29 := of_decide_eq_false c_29
          rw [if_neg q29]
          refine G.aload_n0 dX6_readClause_40 ?_
          refine G.iconst (v := nI 5) dX6_readClause_41 (by decide) ?_
          refine G.mcall (f' := fX6_must) q2060 ck_X6_must (c_must_at h0 hp hl (k := 5) (by omega) (by omega)) dX6_readClause_42 (rV.k fun M_42 h_42 => ?_)
          first | (replace h_42 := h_42.symm; subst h_42) | skip
          have hn : ¬ (1 ≤ (tk.1 pos).toInt ∧ (tk.1 pos).toInt ≤ 4) := by
            intro z
            rw [i_eq, t_nI (by omega)] at q5 q13 q21 q29
            omega
          by_cases q6 : tk.1 pos = nI 5
          · rw [show zMust tk pos lv (nI 5) = .inr ((), pos + 1, lv) from if_pos q6] at h_42
            obtain ⟨rfl, -⟩ := h_42
            refine k45 5 none (pos + 1) lv (by omega) (tk_in h0.2.2.2.2.1 (by decide) (by decide) q6) hl ?_
            unfold pLawCl
            rw [if_neg hn, if_pos q6]
          · rw [show zMust tk pos lv (nI 5) = .inl pos from if_neg q6] at h_42
            refine d45 _ pos h_42 ?_
            unfold pLawCl
            rw [if_neg hn, if_neg q6]
        · have q29 := of_decide_eq_true c_29
          rw [if_pos q29]
          first
          | exact k32 (by rw [q5]; decide)
          | exact k32 (by rw [q13]; decide)
          | exact k32 (by rw [q21]; decide)
          | exact k32 (by rw [q29]; decide)
theorem c_readOrder (h0 : rdOk true tk N M0) {pos lv : Nat} (hp : pos ≤ N) (hl : lv ≤ 50) : MC E fX6_readOrder L (rS M0 pos lv) ph [] (rV fun M' => rdQ M0 N pos (pOrdCl tk pos lv) M') := by
  have h4 := h0.2.2.2.1
  refine Ct.of [some (.ref (L.1 52))] rfl (Nat.le_of_ble_eq_true rfl) (show plainName RX6 = true by decide +kernel) rfl ?_
  have k48 : ∀ (h : Nat) (s : Option Sm) n p l, pos ≤ p → p ≤ N → l ≤ 50 → pOrdCl tk pos lv = pIf true tk h s n p l → G E fX6_readOrder (mFin E fX6_readOrder L ph (rV fun M' => rdQ M0 N pos (pOrdCl tk pos lv) M')) 48 [some (.ref (L.1 52))] [] (movl L (rS M0 p l) ph) 0 0 := by
    intro h s n p l g1 g2 g3 e
    rw [e]
    unfold pIf
    refine G.aload_n0 dX6_readOrder_48 ?_
    refine G.bipush (v := nI 6) dX6_readOrder_49 (by decide) ?_
    refine G.mcall (f' := fX6_takes0) q2033 ck_X6_takes0 (c_takes0_at h0 g2 _) dX6_readOrder_51 (rI.k fun r_51 M_51 h_51 => ?_)
    obtain ⟨e_51, h_51⟩ := h_51; replace e_51 := e_51.symm; replace h_51 := h_51.symm; subst e_51; subst h_51
    refine G.ifb_eq (tgt := 62) dX6_readOrder_54 (by decide) (fun c_54 => ?_) (fun c_54 => ?_)
    · have q54 := of_decide_eq_false c_54
      rw [if_neg q54, if_neg q54]
      refine G.return_ dX6_readOrder_62 ?_
      first
      | exact ⟨_, rfl, rfl, rfl, g1, g2, g3⟩
      | (refine ⟨_, rfl, rfl, rdQ_to h_59 (by omega) (fun e he => by rw [he]) (fun s2 q2 l2 he => by rw [he]; exact ⟨_, rfl⟩)⟩)
    · have q54 := of_decide_eq_true c_54
      rw [if_pos q54, if_pos q54]
      have hpN := tk_in h0.2.2.2.2.1 (by decide) (by decide) q54
      refine G.aload_n0 dX6_readOrder_57 ?_
      refine G.iconst (v := nI 0) dX6_readOrder_58 (by decide) ?_
      refine G.mcall (f' := fX6_readTest (72)) q2072 (ck_X6_readTest _) (e_rtests h0 8 0 rfl (p + 1) l hpN g3) dX6_readOrder_59 (rV.k fun M_59 h_59 => ?_)
      first | (replace h_59 := h_59.symm; subst h_59) | skip
      refine G.return_ dX6_readOrder_62 ?_
      first
      | exact ⟨_, rfl, rfl, rfl, g1, g2, g3⟩
      | (refine ⟨_, rfl, rfl, rdQ_to h_59 (by omega) (fun e he => by rw [he]) (fun s2 q2 l2 he => by rw [he]; exact ⟨_, rfl⟩)⟩)
  have d48 : ∀ M2 e, rdQ M0 N pos (.inl e : Rs Cl) M2 → pOrdCl tk pos lv = .inl e → G E fX6_readOrder (mFin E fX6_readOrder L ph (rV fun M' => rdQ M0 N pos (pOrdCl tk pos lv) M')) 48 [some (.ref (L.1 52))] [] (movl L M2 ph) 0 0 := by
    intro M2 e h2 he
    have hdd := rdQ_bad h0 h2 rfl
    rw [he]
    refine G.aload_n0 dX6_readOrder_48 ?_
    refine G.bipush (v := nI 6) dX6_readOrder_49 (by decide) ?_
    refine G.mcall (f' := fX6_takes0) q2033 ck_X6_takes0 (c_takes0_dead hdd _) dX6_readOrder_51 (rI.k fun r_51 M_51 h_51 => ?_)
    obtain ⟨e_51, h_51⟩ := h_51; replace e_51 := e_51.symm; replace h_51 := h_51.symm; subst e_51; subst h_51
    refine G.ifb_eq (tgt := 62) dX6_readOrder_54 (by decide) (fun c_54 => ?_) (fun c_54 => ?_)
    · refine G.return_ dX6_readOrder_62 ?_
      exact ⟨_, rfl, rfl, h2⟩
    · exact absurd c_54 Bool.false_ne_true
  have d32 : ∀ M2 e, rdQ M0 N pos (.inl e : Rs Cl) M2 → pOrdCl tk pos lv = .inl e → G E fX6_readOrder (mFin E fX6_readOrder L ph (rV fun M' => rdQ M0 N pos (pOrdCl tk pos lv) M')) 32 [some (.ref (L.1 52))] [] (movl L M2 ph) 0 0 := by
    intro M2 e h2 he
    have hdd := rdQ_bad h0 h2 rfl
    refine G.aload_n0 dX6_readOrder_32 ?_
    refine G.bipush (v := nI 29) dX6_readOrder_33 (by decide) ?_
    refine G.mcall (f' := fX6_takes0) q2033 ck_X6_takes0 (c_takes0_dead hdd _) dX6_readOrder_35 (rI.k fun r_35 M_35 h_35 => ?_)
    obtain ⟨e_35, h_35⟩ := h_35; replace e_35 := e_35.symm; replace h_35 := h_35.symm; subst e_35; subst h_35
    refine G.ifb_eq (tgt := 48) dX6_readOrder_38 (by decide) (fun c_38 => ?_) (fun c_38 => ?_)
    · exact d48 _ e h2 he
    · exact absurd c_38 Bool.false_ne_true
  have k32 : ∀ (h : Nat) (s : Option Sm) p l, pos ≤ p → p ≤ N → l ≤ 50 → pOrdCl tk pos lv = pTimes tk h s p l → G E fX6_readOrder (mFin E fX6_readOrder L ph (rV fun M' => rdQ M0 N pos (pOrdCl tk pos lv) M')) 32 [some (.ref (L.1 52))] [] (movl L (rS M0 p l) ph) 0 0 := by
    intro h s p l g1 g2 g3 e
    unfold pTimes at e
    refine G.aload_n0 dX6_readOrder_32 ?_
    refine G.bipush (v := nI 29) dX6_readOrder_33 (by decide) ?_
    refine G.mcall (f' := fX6_takes0) q2033 ck_X6_takes0 (c_takes0_at h0 g2 _) dX6_readOrder_35 (rI.k fun r_35 M_35 h_35 => ?_)
    obtain ⟨e_35, h_35⟩ := h_35; replace e_35 := e_35.symm; replace h_35 := h_35.symm; subst e_35; subst h_35
    refine G.ifb_eq (tgt := 48) dX6_readOrder_38 (by decide) (fun c_38 => ?_) (fun c_38 => ?_)
    · have q38 := of_decide_eq_false c_38
      rw [if_neg q38]
      rw [if_neg q38] at e
      first
      | exact k48 h s 1 p l g1 g2 g3 e
      | (unfold zNumb at h_45
         rw [show (nI 1).toInt = 1 from by decide, show (nI 20).toInt = 20 from by decide] at h_45
         split at h_45
         · rename_i q6
           rw [if_pos q6] at e
           obtain ⟨rfl, w1, w2, w3⟩ := h_45
           exact k48 h s (tk.2 (p + 1)) (p + 2) l (by omega) w2 w3 e
         · rename_i q6
           rw [if_neg q6] at e
           exact d48 _ (p + 1) ⟨h_45.1, h_45.2.1, h_45.2.2⟩ e)
    · have q38 := of_decide_eq_true c_38
      rw [if_pos q38]
      rw [if_pos q38] at e
      have hpN := tk_in h0.2.2.2.2.1 (by decide) (by decide) q38
      refine G.aload_n0 dX6_readOrder_41 ?_
      refine G.iconst (v := nI 1) dX6_readOrder_42 (by decide) ?_
      refine G.bipush (v := nI 20) dX6_readOrder_43 (by decide) ?_
      refine G.mcall (f' := fX6_mustNumber) q2068 ck_X6_mustNumber (c_number_at h0 (p := p + 1) (l := l) hpN g3 (nI 1) (nI 20)) dX6_readOrder_45 (rV.k fun M_45 h_45 => ?_)
      first | (replace h_45 := h_45.symm; subst h_45) | skip
      first
      | exact k48 h s 1 p l g1 g2 g3 e
      | (unfold zNumb at h_45
         rw [show (nI 1).toInt = 1 from by decide, show (nI 20).toInt = 20 from by decide] at h_45
         split at h_45
         · rename_i q6
           rw [if_pos q6] at e
           obtain ⟨rfl, w1, w2, w3⟩ := h_45
           exact k48 h s (tk.2 (p + 1)) (p + 2) l (by omega) w2 w3 e
         · rename_i q6
           rw [if_neg q6] at e
           exact d48 _ (p + 1) ⟨h_45.1, h_45.2.1, h_45.2.2⟩ e)
  have k18 : (tk.1 pos = nI 26 ∨ tk.1 pos = nI 27) → G E fX6_readOrder (mFin E fX6_readOrder L ph (rV fun M' => rdQ M0 N pos (pOrdCl tk pos lv) M')) 18 [some (.ref (L.1 52))] [] (movl L (rS M0 (pos + 1) lv) ph) 0 0 := by
    intro hc
    have hpN : pos < N := by
      rcases hc with z | z
      · exact tk_in h0.2.2.2.2.1 (by decide) (by decide) z
      · exact tk_in h0.2.2.2.2.1 (by decide) (by decide) z
    refine G.aload_n0 dX6_readOrder_18 ?_
    refine G.iconst (v := nI 0) dX6_readOrder_19 (by decide) ?_
    refine G.mcall (f' := fX6_readSum (36)) q2041 (ck_X6_readSum _) (e_rsums h0 8 0 rfl (pos + 1) lv hpN hl) dX6_readOrder_20 (rV.k fun M_20 h_20 => ?_)
    first | (replace h_20 := h_20.symm; subst h_20) | skip
    refine G.goto (tgt := 32) dX6_readOrder_23 (by decide) ?_
    cases hx : pSum true tk 8 (pos + 1) lv with
    | inl e =>
      rw [hx] at h_20
      refine d32 _ e h_20 ?_
      unfold pOrdCl
      rw [if_pos hc, hx]
    | inr x =>
      obtain ⟨s, p, l⟩ := x
      rw [hx] at h_20
      obtain ⟨rfl, g1, g2, g3⟩ := h_20
      refine k32 (tk.1 pos).toInt.toNat (some s) p l (by omega) g2 g3 ?_
      unfold pOrdCl
      rw [if_pos hc, hx]
  refine G.aload_n0 dX6_readOrder_0 ?_
  refine G.bipush (v := nI 26) dX6_readOrder_1 (by decide) ?_
  refine G.mcall (f' := fX6_takes0) q2033 ck_X6_takes0 (c_takes0_at h0 hp _) dX6_readOrder_3 (rI.k fun r_3 M_3 h_3 => ?_)
  obtain ⟨e_3, h_3⟩ := h_3; replace e_3 := e_3.symm; replace h_3 := h_3.symm; subst e_3; subst h_3
  refine G.ifb_ne (tgt := 18) dX6_readOrder_6 (by decide) (fun c_6 => ?_) (fun c_6 => ?_)
  · have q6 := of_decide_eq_true c_6
    rw [if_pos q6]
    first
    | exact k18 (Or.inl q6)
    | exact k18 (Or.inr q15)
  · have q6 := of_decide_eq_false c_6
    rw [if_neg q6]
    refine G.aload_n0 dX6_readOrder_9 ?_
    refine G.bipush (v := nI 27) dX6_readOrder_10 (by decide) ?_
    refine G.mcall (f' := fX6_takes0) q2033 ck_X6_takes0 (c_takes0_at h0 hp _) dX6_readOrder_12 (rI.k fun r_12 M_12 h_12 => ?_)
    obtain ⟨e_12, h_12⟩ := h_12; replace e_12 := e_12.symm; replace h_12 := h_12.symm; subst e_12; subst h_12
    refine G.ifb_eq (tgt := 26) dX6_readOrder_15 (by decide) (fun c_15 => ?_) (fun c_15 => ?_)
    · have q15 := of_decide_eq_false c_15
      rw [if_neg q15]
      refine G.aload_n0 dX6_readOrder_26 ?_
      refine G.bipush (v := nI 28) dX6_readOrder_27 (by decide) ?_
      refine G.mcall (f' := fX6_must) q2060 ck_X6_must (c_must_at h0 hp hl (k := 28) (by omega) (by omega)) dX6_readOrder_29 (rV.k fun M_29 h_29 => ?_)
      first | (replace h_29 := h_29.symm; subst h_29) | skip
      by_cases q9 : tk.1 pos = nI 28
      · rw [show zMust tk pos lv (nI 28) = .inr ((), pos + 1, lv) from if_pos q9] at h_29
        obtain ⟨rfl, -⟩ := h_29
        refine k32 28 none (pos + 1) lv (by omega) (tk_in h0.2.2.2.2.1 (by decide) (by decide) q9) hl ?_
        unfold pOrdCl
        rw [if_neg (fun z => z.elim q6 q15), if_pos q9]
      · rw [show zMust tk pos lv (nI 28) = .inl pos from if_neg q9] at h_29
        refine d32 _ pos h_29 ?_
        unfold pOrdCl
        rw [if_neg (fun z => z.elim q6 q15), if_neg q9]
    · have q15 := of_decide_eq_true c_15
      rw [if_pos q15]
      first
      | exact k18 (Or.inl q6)
      | exact k18 (Or.inr q15)
theorem c_readOne (h0 : rdOk ord tk N M0) (h10 : M0.1 10 = bI ord) {pos lv : Nat} (hp : pos ≤ N) (hl : lv ≤ 50) : MC E fX6_readOne L (rS M0 pos lv) ph [] (rV fun M' => rdQ M0 N pos (pCl ord tk pos lv) M') := by
  have h10' : (rS M0 pos lv).1 10 = bI ord := h10
  refine Ct.of [some (.ref (L.1 52))] rfl (Nat.le_of_ble_eq_true rfl) (show plainName RX6 = true by decide +kernel) rfl ?_
  refine G.aload_n0 dX6_readOne_0 ?_
  refine G.mgeti 10 fl_X6_194 dX6_readOne_1 ?_
  rw [h10']
  refine G.ifb_eq (tgt := 14) dX6_readOne_4 (by decide) (fun c_4 => ?_) (fun c_4 => ?_)
  · subst c_4
    refine G.aload_n0 dX6_readOne_14 ?_
    refine G.mcall (f' := fX6_readClause) q2084 ck_X6_readClause (c_readClause h0 hp hl) dX6_readOne_15 (rV.k fun M_15 h_15 => ?_)
    first | (replace h_15 := h_15.symm; subst h_15) | skip
    refine G.return_ dX6_readOne_18 ?_
    first
    | exact ⟨_, rfl, rfl, h_8⟩
    | exact ⟨_, rfl, rfl, h_15⟩
  · subst c_4
    refine G.aload_n0 dX6_readOne_7 ?_
    refine G.mcall (f' := fX6_readOrder) q2029 ck_X6_readOrder (c_readOrder h0 hp hl) dX6_readOne_8 (rV.k fun M_8 h_8 => ?_)
    first | (replace h_8 := h_8.symm; subst h_8) | skip
    refine G.goto (tgt := 18) dX6_readOne_11 (by decide) ?_
    refine G.return_ dX6_readOne_18 ?_
    first
    | exact ⟨_, rfl, rfl, h_8⟩
    | exact ⟨_, rfl, rfl, h_15⟩
theorem pCls_in {ord : Bool} {tk : Tk} {k pos lv : Nat} {acc : List (Nat × Cl)} {c : Cl} {p l : Nat} (h : pCl ord tk pos lv = .inr (c, p, l)) : pCls ord tk (k + 1) acc pos lv = if tk.1 p = nI 159 then pCls ord tk k (acc ++ [(pos, c)]) (p + 1) l else .inr (acc ++ [(pos, c)], p, l) := by
  rw [pCls, h]
/-- what is told of a whole text's reading -/
def rdT (M : MM) (size : Nat) (ord : Bool) (r : Int32) (M' : MM) : Prop := (match pText ord (tkOf (zToks (M.2.2.1 11) size 401 0)) (zToks (M.2.2.1 11) size 401 0).length with
  | .inl e => r = bI false ∧ M'.1 14 = nI (zPl (zToks (M.2.2.1 11) size 401 0) size e)
  | .inr _ => r = bI true ∧ M'.1 14 = -1) ∧ M'.1 13 = nI 0 ∧ M'.1 18 = nI (zToks (M.2.2.1 11) size 401 0).length ∧ (∀ i, i < (zToks (M.2.2.1 11) size 401 0).length → M'.2.2.1 15 i = (tkOf (zToks (M.2.2.1 11) size 401 0)).1 i ∧ M'.2.2.1 16 i = (tkOf (zToks (M.2.2.1 11) size 401 0)).2 i) ∧ mX [13, 14, 18, 19, 20, 21] [15, 16, 17] M M'
theorem c_X6_reads {M : MM} (hw : ∀ i, i < 153 → M.2.2.1 7 i = nI (zW i)) {size : Nat} (hs : size ≤ 400) (h13 : M.1 13 = nI size) (h8 : M.1 8 = nI (wLo ord)) (h9 : M.1 9 = nI (wHi ord)) (h10 : M.1 10 = bI ord) : MC E fX6_reads L M ph [] (rI fun r M' => rdT M size ord r M') := by
  unfold rdT
  generalize hT : zToks (M.2.2.1 11) size 401 0 = T
  have hok : tkOk (tkOf T) T.length := by rw [← hT]; exact tkOf_ok (by omega)
  have hlen : T.length ≤ 400 := by
    have := (zToks_b (tp := M.2.2.1 11) (size := size) 401 0 (by omega)).1
    rw [hT] at this
    omega
  have hpl : ∀ i, zPl T size i ≤ 400 := fun i => by
    have := zPl_b (tp := M.2.2.1 11) (size := size) (f := 401) (k := 0) (i := i) (by omega)
    rw [hT] at this
    omega
  refine Ct.of [some (.ref (L.1 52)), none] rfl (Nat.le_of_ble_eq_true rfl) (show plainName RX6 = true by decide +kernel) rfl ?_
  refine G.aload_n0 dX6_reads_0 ?_
  refine G.aload_n0 dX6_reads_1 ?_
  refine G.mgeti 13 fl_X6_141 dX6_reads_2 ?_
  rw [h13]
  refine G.mcall (f' := fX6_splits) q2010 ck_X6_splits (c_X6_splits hw hs) dX6_reads_5 (rV.k fun M_5 h_5 => ?_)
  rw [hT] at h_5
  obtain ⟨s1, s2, s3⟩ := h_5
  refine G.aload_n0 dX6_reads_8 ?_
  refine G.iconst (v := nI 0) dX6_reads_9 (by decide) ?_
  refine G.mputi 13 fp_X6_141 dX6_reads_10 ?_
  refine G.aload_n0 dX6_reads_13 ?_
  refine G.iconst (v := nI 0) dX6_reads_14 (by decide) ?_
  refine G.mputi 19 fp_X6_168 dX6_reads_15 ?_
  refine G.aload_n0 dX6_reads_18 ?_
  refine G.iconst (v := nI 0) dX6_reads_19 (by decide) ?_
  refine G.mputi 20 fp_X6_177 dX6_reads_20 ?_
  refine G.aload_n0 dX6_reads_23 ?_
  refine G.iconst (v := -1) dX6_reads_24 (by decide) ?_
  refine G.mputi 21 fp_X6_161 dX6_reads_25 ?_
  have k28 : ∀ M0 : MM, M0 = ms (ms (ms (ms M_5 13 (nI 0)) 19 (nI 0)) 20 (nI 0)) 21 (-1) → G E fX6_reads (mFin E fX6_reads L ph (rI fun r M' => (match pText ord (tkOf T) T.length with
        | .inl e => r = bI false ∧ M'.1 14 = nI (zPl T size e)
        | .inr _ => r = bI true ∧ M'.1 14 = -1) ∧ M'.1 13 = nI 0 ∧ M'.1 18 = nI T.length ∧ (∀ i, i < T.length → M'.2.2.1 15 i = (tkOf T).1 i ∧ M'.2.2.1 16 i = (tkOf T).2 i) ∧ mX [13, 14, 18, 19, 20, 21] [15, 16, 17] M M')) 28 [some (.ref (L.1 52)), none] [] (movl L M0 ph) 0 0 := by
    intro M0 hM0
    have hx0 : mX [13, 14, 18, 19, 20, 21] [15, 16, 17] M M0 := by
      rw [hM0]
      exact ((((s1.mono (by simp) (by simp)).ms (by decide)).ms (by decide)).ms (by decide)).ms (by decide)
    have h0 : rdOk ord (tkOf T) T.length M0 := by
      refine ⟨by rw [hM0]; rfl, (hx0.1 8 (by decide)).trans h8, (hx0.1 9 (by decide)).trans h9, hlen, hok, fun t ht => ?_⟩
      obtain ⟨a, b, c⟩ := s3 t ht
      rw [hM0]
      refine ⟨b, c, fun z => ?_⟩
      have z2 : nI (zPl T size t) = -1 := a.symm.trans z
      rw [i_eq, t_nI (by have := hpl t; omega), t_m1] at z2
      omega
    have hpl0 : ∀ t, t ≤ T.length → M0.2.2.1 17 t = nI (zPl T size t) := fun t ht => by rw [hM0]; exact (s3 t ht).1
    have h100 : M0.1 10 = bI ord := (hx0.1 10 (by decide)).trans h10
    have h130 : M0.1 13 = nI 0 := by rw [hM0]; rfl
    have h180 : M0.1 18 = nI T.length := by rw [hM0]; exact s2
    have hcv : ∀ i, i < T.length → M0.2.2.1 15 i = (tkOf T).1 i ∧ M0.2.2.1 16 i = (tkOf T).2 i := fun i hi => ⟨(h0.2.2.2.2.2 i (by omega)).1, (h0.2.2.2.2.2 i (by omega)).2.1⟩
    have hrs : rS M0 0 0 = M0 := rS_self (by rw [hM0]; rfl) (by rw [hM0]; rfl)
    clear hM0 s1 s2 s3
    generalize hP : (fun r M' => (match pText ord (tkOf T) T.length with
        | .inl e => r = bI false ∧ M'.1 14 = nI (zPl T size e)
        | .inr _ => r = bI true ∧ M'.1 14 = -1) ∧ M'.1 13 = nI 0 ∧ M'.1 18 = nI T.length ∧ (∀ i, i < T.length → M'.2.2.1 15 i = (tkOf T).1 i ∧ M'.2.2.1 16 i = (tkOf T).2 i) ∧ mX [13, 14, 18, 19, 20, 21] [15, 16, 17] M M' : Int32 → MM → Prop) = P
    -- the end: what is wrong is told
    have dead95 : ∀ M2 e a1, rdQ M0 T.length 0 (.inl e : Rs Unit) M2 → pText ord (tkOf T) T.length = .inl e → G E fX6_reads (mFin E fX6_reads L ph (rI P)) 95 [some (.ref (L.1 52)), a1] [] (movl L M2 ph) 0 0 := by
      intro M2 e a1 h2 he
      have hdd := rdQ_bad h0 h2 rfl
      obtain ⟨g1, g2, g3⟩ := h2
      refine G.aload_n0 dX6_reads_95 ?_
      refine G.aload_n0 dX6_reads_96 ?_
      refine G.mgeti 21 fl_X6_161 dX6_reads_97 ?_
      refine G.mputi 14 fp_X6_47 dX6_reads_100 ?_
      refine G.aload_n0 dX6_reads_103 ?_
      refine G.mcall (f' := fX6_fine) q2037 ck_X6_fine (c_X6_fine) dX6_reads_104 (rI.k fun r_104 M_104 h_104 => ?_)
      obtain ⟨e_104, h_104⟩ := h_104; replace e_104 := e_104.symm; replace h_104 := h_104.symm; subst e_104; subst h_104
      refine G.ireturn dX6_reads_107 ?_ (hn := by first | rfl | exact bI_nar _)
      refine ⟨_, rfl, _, rfl, ?_⟩
      rw [← hP, he]
      refine ⟨⟨congrArg bI (decide_eq_false hdd), g1.trans (hpl0 e g2)⟩, (g3.1 13 (by decide)).trans h130, (g3.1 18 (by decide)).trans h180, fun i hi => ?_, (hx0.tr g3 (by simp) (by simp)).ms (by decide)⟩
      show M2.2.2.1 15 i = _ ∧ M2.2.2.1 16 i = _
      rw [g3.2.2.1 15 (by decide), g3.2.2.1 16 (by decide)]
      exact hcv i hi
    have live95 : ∀ p l cs a1, p ≤ T.length → pText ord (tkOf T) T.length = .inr cs → G E fX6_reads (mFin E fX6_reads L ph (rI P)) 95 [some (.ref (L.1 52)), a1] [] (movl L (rS M0 p l) ph) 0 0 := by
      intro p l cs a1 hp he
      have hb : (rS M0 p l).1 21 = -1 := h0.1
      refine G.aload_n0 dX6_reads_95 ?_
      refine G.aload_n0 dX6_reads_96 ?_
      refine G.mgeti 21 fl_X6_161 dX6_reads_97 ?_
      refine G.mputi 14 fp_X6_47 dX6_reads_100 ?_
      refine G.aload_n0 dX6_reads_103 ?_
      refine G.mcall (f' := fX6_fine) q2037 ck_X6_fine (c_X6_fine) dX6_reads_104 (rI.k fun r_104 M_104 h_104 => ?_)
      obtain ⟨e_104, h_104⟩ := h_104; replace e_104 := e_104.symm; replace h_104 := h_104.symm; subst e_104; subst h_104
      refine G.ireturn dX6_reads_107 ?_ (hn := by first | rfl | exact bI_nar _)
      refine ⟨_, rfl, _, rfl, ?_⟩
      rw [← hP, he]
      exact ⟨⟨congrArg bI (decide_eq_true h0.1), h0.1⟩, h130, h180, hcv, (hx0.tr (rS_x (p := p) (l := l)) (by simp) (by simp)).ms (by decide)⟩
    have dead34 : ∀ M2 e n, rdQ M0 T.length 0 (.inl e : Rs Unit) M2 → pText ord (tkOf T) T.length = .inl e → G E fX6_reads (mFin E fX6_reads L ph (rI P)) 34 [some (.ref (L.1 52)), some (.int (nI n))] [] (movl L M2 ph) 0 0 := by
      intro M2 e n h2 he
      have hdd := rdQ_bad h0 h2 rfl
      refine G.aload_n0 dX6_reads_34 ?_
      refine G.bipush (v := nI 59) dX6_reads_35 (by decide) ?_
      refine G.scall (f' := fX6_sign) q2053 ck_X6_sign (c_X6_sign E 59) dX6_reads_37 (sI.k fun r_37 h_37 => ?_)
      replace h_37 := h_37.symm; subst h_37
      refine G.mcall (f' := fX6_takes0) q2033 ck_X6_takes0 (c_takes0_dead hdd _) dX6_reads_40 (rI.k fun r_40 M_40 h_40 => ?_)
      obtain ⟨e_40, h_40⟩ := h_40; replace e_40 := e_40.symm; replace h_40 := h_40.symm; subst e_40; subst h_40
      refine G.ifb_eq (tgt := 73) dX6_reads_43 (by decide) (fun c_43 => ?_) (fun c_43 => ?_)
      · refine G.aload_n0 dX6_reads_73 ?_
        refine G.mcall (f' := fX6_fine) q2037 ck_X6_fine (c_X6_fine) dX6_reads_74 (rI.k fun r_74 M_74 h_74 => ?_)
        obtain ⟨e_74, h_74⟩ := h_74; replace e_74 := e_74.symm; replace h_74 := h_74.symm; subst e_74; subst h_74
        refine G.ifb_eq (tgt := 95) dX6_reads_77 (by decide) (fun c_77 => ?_) (fun c_77 => ?_)
        · exact dead95 _ e _ h2 he
        · exact absurd (of_decide_eq_true c_77) hdd
      · exact absurd c_43 Bool.false_ne_true
    -- the clauses that are still to come
    have loop : ∀ k n acc p l, n + k = 12 → 1 ≤ n → p ≤ T.length → l ≤ 50 → (match (if (tkOf T).1 p = nI 159 then pCls ord (tkOf T) k acc (p + 1) l else .inr (acc, p, l) : Rs (List (Nat × Cl))) with
        | .inl e => .inl e
        | .inr (cs, p, _) => if p < T.length then .inl p else .inr cs) = pText ord (tkOf T) T.length → G E fX6_reads (mFin E fX6_reads L ph (rI P)) 34 [some (.ref (L.1 52)), some (.int (nI n))] [] (movl L (rS M0 p l) ph) 0 0 := by
      intro k
      induction k with
      | zero =>
        intro n acc p l hn hn1 hp hl he
        have hb : (rS M0 p l).1 21 = -1 := h0.1
        refine G.aload_n0 dX6_reads_34 ?_
        refine G.bipush (v := nI 59) dX6_reads_35 (by decide) ?_
        refine G.scall (f' := fX6_sign) q2053 ck_X6_sign (c_X6_sign E 59) dX6_reads_37 (sI.k fun r_37 h_37 => ?_)
        replace h_37 := h_37.symm; subst h_37
        refine G.mcall (f' := fX6_takes0) q2033 ck_X6_takes0 (c_takes0_at h0 hp _) dX6_reads_40 (rI.k fun r_40 M_40 h_40 => ?_)
        obtain ⟨e_40, h_40⟩ := h_40; replace e_40 := e_40.symm; replace h_40 := h_40.symm; subst e_40; subst h_40
        refine G.ifb_eq (tgt := 73) dX6_reads_43 (by decide) (fun c_43 => ?_) (fun c_43 => ?_)
        · have q43 := of_decide_eq_false c_43
          rw [if_neg q43]
          rw [if_neg q43] at he
          dsimp only at he
          refine G.aload_n0 dX6_reads_73 ?_
          refine G.mcall (f' := fX6_fine) q2037 ck_X6_fine (c_X6_fine) dX6_reads_74 (rI.k fun r_74 M_74 h_74 => ?_)
          obtain ⟨e_74, h_74⟩ := h_74; replace e_74 := e_74.symm; replace h_74 := h_74.symm; subst e_74; subst h_74
          refine G.ifb_eq (tgt := 95) dX6_reads_77 (by decide) (fun c_77 => ?_) (fun c_77 => ?_)
          · exact absurd hb (of_decide_eq_false c_77)
          · refine G.aload_n0 dX6_reads_80 ?_
            refine G.mgeti 19 fl_X6_168 dX6_reads_81 ?_
            refine G.aload_n0 dX6_reads_84 ?_
            rw [show (rS M0 p l).1 19 = nI p from rfl]
            refine G.mgeti 18 fl_X6_147 dX6_reads_85 ?_
            rw [show (rS M0 p l).1 18 = nI T.length from h180]
            refine G.icmp_ge (tgt := 95) dX6_reads_88 (by decide) (fun c_88 => ?_) (fun c_88 => ?_)
            · have n_88 : T.length ≤ p := (nI_leI (a := T.length) (b := p) (by omega) (by omega)).mp c_88
              rw [if_neg (by omega)] at he
              first
              | exact live95 p l _ _ hp he.symm
              | exact dead95 _ p _ ⟨rfl, hp, rS_x.ms (by decide)⟩ he.symm
            · have n_88 : p < T.length := Nat.lt_of_not_le (fun z => c_88 ((nI_leI (a := T.length) (b := p) (by omega) (by omega)).mpr z))
              rw [if_pos n_88] at he
              refine G.aload_n0 dX6_reads_91 ?_
              refine G.mcall (f' := fX6_faults) q2056 ck_X6_faults (c_faults_at h0 hp) dX6_reads_92 (rV.k fun M_92 h_92 => ?_)
              first | (replace h_92 := h_92.symm; subst h_92) | skip
              first
              | exact live95 p l _ _ hp he.symm
              | exact dead95 _ p _ ⟨rfl, hp, rS_x.ms (by decide)⟩ he.symm
        · have q43 := of_decide_eq_true c_43
          rw [if_pos q43]
          rw [if_pos q43, pCls] at he
          dsimp only at he
          have hpN := tk_in hok (by decide) (by decide) q43
          refine G.iload_n1 dX6_reads_46 ?_
          refine G.bipush (v := nI 12) dX6_reads_47 (by decide) ?_
          refine G.icmp_ne (tgt := 56) dX6_reads_49 (by decide) (fun c_49 => ?_) (fun c_49 => ?_)
          · exact absurd (congrArg nI (show n = 12 by omega)) c_49
          · have n_49 : n = 12 := (nI_inj (a := n) (b := 12) (by omega) (by omega)).mp c_49
            refine G.aload_n0 dX6_reads_52 ?_
            refine G.mcall (f' := fX6_faults) q2056 ck_X6_faults (c_faults_at h0 (p := p + 1) hpN) dX6_reads_53 (rV.k fun M_53 h_53 => ?_)
            first | (replace h_53 := h_53.symm; subst h_53) | skip
            refine G.aload_n0 dX6_reads_56 ?_
            refine G.mcall (f' := fX6_fine) q2037 ck_X6_fine (c_X6_fine) dX6_reads_57 (rI.k fun r_57 M_57 h_57 => ?_)
            obtain ⟨e_57, h_57⟩ := h_57; replace e_57 := e_57.symm; replace h_57 := h_57.symm; subst e_57; subst h_57
            refine G.ifb_eq (tgt := 67) dX6_reads_60 (by decide) (fun c_60 => ?_) (fun c_60 => ?_)
            · refine G.iinc1 dX6_reads_67 ?_
              try rw [show ∀ a : Nat, nI a + Int32.ofInt 1 = nI (a + 1) from fun a => nI_add a 1]
              refine G.goto (tgt := 34) dX6_reads_70 (by decide) ?_
              exact dead34 _ (p + 1) _ ⟨rfl, hpN, rS_x.ms (by decide)⟩ he.symm
            · exact absurd (of_decide_eq_true c_60) (h0.2.2.2.2.2 (p + 1) hpN).2.2
      | succ k ih =>
        intro n acc p l hn hn1 hp hl he
        have hb : (rS M0 p l).1 21 = -1 := h0.1
        refine G.aload_n0 dX6_reads_34 ?_
        refine G.bipush (v := nI 59) dX6_reads_35 (by decide) ?_
        refine G.scall (f' := fX6_sign) q2053 ck_X6_sign (c_X6_sign E 59) dX6_reads_37 (sI.k fun r_37 h_37 => ?_)
        replace h_37 := h_37.symm; subst h_37
        refine G.mcall (f' := fX6_takes0) q2033 ck_X6_takes0 (c_takes0_at h0 hp _) dX6_reads_40 (rI.k fun r_40 M_40 h_40 => ?_)
        obtain ⟨e_40, h_40⟩ := h_40; replace e_40 := e_40.symm; replace h_40 := h_40.symm; subst e_40; subst h_40
        refine G.ifb_eq (tgt := 73) dX6_reads_43 (by decide) (fun c_43 => ?_) (fun c_43 => ?_)
        · have q43 := of_decide_eq_false c_43
          rw [if_neg q43]
          rw [if_neg q43] at he
          dsimp only at he
          refine G.aload_n0 dX6_reads_73 ?_
          refine G.mcall (f' := fX6_fine) q2037 ck_X6_fine (c_X6_fine) dX6_reads_74 (rI.k fun r_74 M_74 h_74 => ?_)
          obtain ⟨e_74, h_74⟩ := h_74; replace e_74 := e_74.symm; replace h_74 := h_74.symm; subst e_74; subst h_74
          refine G.ifb_eq (tgt := 95) dX6_reads_77 (by decide) (fun c_77 => ?_) (fun c_77 => ?_)
          · exact absurd hb (of_decide_eq_false c_77)
          · refine G.aload_n0 dX6_reads_80 ?_
            refine G.mgeti 19 fl_X6_168 dX6_reads_81 ?_
            refine G.aload_n0 dX6_reads_84 ?_
            rw [show (rS M0 p l).1 19 = nI p from rfl]
            refine G.mgeti 18 fl_X6_147 dX6_reads_85 ?_
            rw [show (rS M0 p l).1 18 = nI T.length from h180]
            refine G.icmp_ge (tgt := 95) dX6_reads_88 (by decide) (fun c_88 => ?_) (fun c_88 => ?_)
            · have n_88 : T.length ≤ p := (nI_leI (a := T.length) (b := p) (by omega) (by omega)).mp c_88
              rw [if_neg (by omega)] at he
              first
              | exact live95 p l _ _ hp he.symm
              | exact dead95 _ p _ ⟨rfl, hp, rS_x.ms (by decide)⟩ he.symm
            · have n_88 : p < T.length := Nat.lt_of_not_le (fun z => c_88 ((nI_leI (a := T.length) (b := p) (by omega) (by omega)).mpr z))
              rw [if_pos n_88] at he
              refine G.aload_n0 dX6_reads_91 ?_
              refine G.mcall (f' := fX6_faults) q2056 ck_X6_faults (c_faults_at h0 hp) dX6_reads_92 (rV.k fun M_92 h_92 => ?_)
              first | (replace h_92 := h_92.symm; subst h_92) | skip
              first
              | exact live95 p l _ _ hp he.symm
              | exact dead95 _ p _ ⟨rfl, hp, rS_x.ms (by decide)⟩ he.symm
        · have q43 := of_decide_eq_true c_43
          rw [if_pos q43]
          rw [if_pos q43, pCls] at he
          have hpN := tk_in hok (by decide) (by decide) q43
          have hb2 : (rS M0 (p + 1) l).1 21 = -1 := h0.1
          refine G.iload_n1 dX6_reads_46 ?_
          refine G.bipush (v := nI 12) dX6_reads_47 (by decide) ?_
          refine G.icmp_ne (tgt := 56) dX6_reads_49 (by decide) (fun c_49 => ?_) (fun c_49 => ?_)
          · have n_49 : ¬ n = 12 := fun z => c_49 (congrArg nI z)
            refine G.aload_n0 dX6_reads_56 ?_
            refine G.mcall (f' := fX6_fine) q2037 ck_X6_fine (c_X6_fine) dX6_reads_57 (rI.k fun r_57 M_57 h_57 => ?_)
            obtain ⟨e_57, h_57⟩ := h_57; replace e_57 := e_57.symm; replace h_57 := h_57.symm; subst e_57; subst h_57
            refine G.ifb_eq (tgt := 67) dX6_reads_60 (by decide) (fun c_60 => ?_) (fun c_60 => ?_)
            · exact absurd hb2 (of_decide_eq_false c_60)
            · refine G.aload_n0 dX6_reads_63 ?_
              refine G.mcall (f' := fX6_readOne) q2025 ck_X6_readOne (c_readOne h0 h100 (pos := p + 1) (lv := l) hpN hl) dX6_reads_64 (rV.k fun M_64 h_64 => ?_)
              first | (replace h_64 := h_64.symm; subst h_64) | skip
              refine G.iinc1 dX6_reads_67 ?_
              try rw [show ∀ a : Nat, nI a + Int32.ofInt 1 = nI (a + 1) from fun a => nI_add a 1]
              refine G.goto (tgt := 34) dX6_reads_70 (by decide) ?_
              cases hx : pCl ord (tkOf T) (p + 1) l with
              | inl e =>
                rw [hx] at h_64 he
                exact dead34 _ e _ h_64 he.symm
              | inr x =>
                obtain ⟨c, p2, l2⟩ := x
                rw [hx] at h_64 he
                obtain ⟨rfl, g1, g2, g3⟩ := h_64
                exact ih (n + 1) _ p2 l2 (by omega) (by omega) g2 g3 he
          · exact absurd ((nI_inj (by omega) (by omega)).mp (by first | exact c_49 | exact Classical.not_not.mp c_49)) (show ¬ n = 12 by omega)
    rw [← hrs]
    refine G.aload_n0 dX6_reads_28 ?_
    refine G.mcall (f' := fX6_readOne) q2025 ck_X6_readOne (c_readOne h0 h100 (pos := 0) (lv := 0) (by omega) (by omega)) dX6_reads_29 (rV.k fun M_29 h_29 => ?_)
    first | (replace h_29 := h_29.symm; subst h_29) | skip
    refine G.iconst (v := nI 1) dX6_reads_32 (by decide) ?_
    refine G.istore_n1 dX6_reads_33 ?_
    cases hx : pCl ord (tkOf T) 0 0 with
    | inl e =>
      rw [hx] at h_29
      refine dead34 _ e 1 h_29 ?_
      unfold pText
      rw [pCls, hx]
    | inr x =>
      obtain ⟨c, p2, l2⟩ := x
      rw [hx] at h_29
      obtain ⟨rfl, g1, g2, g3⟩ := h_29
      refine loop 11 1 ([] ++ [(0, c)]) p2 l2 (by omega) (by omega) g2 g3 ?_
      unfold pText
      rw [pCls_in hx]
      rfl
  exact k28 _ rfl
def rdU (tp : Nat → Int32) (size : Nat) (ord : Bool) (r : Int32) (M' : MM) : Prop := (match pText ord (tkOf (zToks tp size 401 0)) (zToks tp size 401 0).length with
  | .inl e => r = bI false ∧ M'.1 14 = nI (zPl (zToks tp size 401 0) size e)
  | .inr _ => r = bI true ∧ M'.1 14 = -1) ∧ M'.1 13 = nI 0 ∧ M'.1 18 = nI (zToks tp size 401 0).length ∧ (∀ i, i < (zToks tp size 401 0).length → M'.2.2.1 15 i = (tkOf (zToks tp size 401 0)).1 i ∧ M'.2.2.1 16 i = (tkOf (zToks tp size 401 0)).2 i)
theorem c_X6_readsAs {M : MM} (hw : ∀ i, i < 153 → M.2.2.1 7 i = nI (zW i)) {size : Nat} (hs : size ≤ 400) (h13 : M.1 13 = nI size) (ord : Bool) : MC E fX6_readsAs L M ph [.int (bI ord)] (rI fun r M' => rdU (M.2.2.1 11) size ord r M' ∧ mX [8, 9, 10, 13, 14, 18, 19, 20, 21] [15, 16, 17] M M') := by
  have hx : ∀ a b c, mX [8, 9, 10, 13, 14, 18, 19, 20, 21] [15, 16, 17] M (ms (ms (ms M 10 a) 8 b) 9 c) := fun a b c => ((mX.rf.ms (by decide)).ms (by decide)).ms (by decide)
  refine Ct.of [some (.ref (L.1 52)), some (.int (bI ord))] rfl (Nat.le_of_ble_eq_true rfl) (show plainName RX6 = true by decide +kernel) rfl ?_
  refine G.aload_n0 dX6_readsAs_0 ?_
  refine G.iload_n1 dX6_readsAs_1 ?_
  refine G.mputi 10 fp_X6_194 dX6_readsAs_2 ?_ (hn := by first | rfl | exact bI_nar _) (hfit := by first | rfl | exact bI_fit _)
  refine G.aload_n0 dX6_readsAs_5 ?_
  refine G.iload_n1 dX6_readsAs_6 ?_
  refine G.ifb_eq (tgt := 15) dX6_readsAs_7 (by decide) (fun c_7 => ?_) (fun c_7 => ?_)
  · subst c_7
    refine G.bipush (v := nI 10) dX6_readsAs_15 (by decide) ?_
    refine G.mputi 8 fp_X6_220 dX6_readsAs_17 ?_
    refine G.aload_n0 dX6_readsAs_20 ?_
    refine G.iload_n1 dX6_readsAs_21 ?_
    refine G.ifb_eq (tgt := 30) dX6_readsAs_22 (by decide) (fun c_22 => ?_) (fun c_22 => ?_)
    · first
      | exact absurd c_22 (fun z => Bool.false_ne_true z.symm)
      | (skip
         refine G.bipush (v := nI 19) dX6_readsAs_30 (by decide) ?_
         refine G.mputi 9 fp_X6_223 dX6_readsAs_32 ?_
         refine G.aload_n0 dX6_readsAs_35 ?_
         refine G.mcall (f' := fX6_reads) q2006 ck_X6_reads (c_X6_reads (ord := false) (M := ms (ms (ms M 10 (bI false)) 8 (nI 10)) 9 (nI 19)) hw hs h13 rfl rfl rfl) dX6_readsAs_36 (rI.k fun r_36 M_36 h_36 => ?_)
         have hq : ∃ q, r_36 = bI q := by
           have h := h_36.1
           split at h
           · exact ⟨_, h.1⟩
           · exact ⟨_, h.1⟩
         obtain ⟨q, rfl⟩ := hq
         refine G.ireturn dX6_readsAs_39 ?_ (hn := by first | rfl | exact bI_nar _)
         exact ⟨_, rfl, _, rfl, ⟨h_36.1, h_36.2.1, h_36.2.2.1, h_36.2.2.2.1⟩, (hx _ _ _).tr h_36.2.2.2.2 (by simp) (by simp)⟩)
    · first
      | exact absurd c_22 Bool.false_ne_true
      | (skip
         refine G.bipush (v := nI 25) dX6_readsAs_25 (by decide) ?_
         refine G.goto (tgt := 32) dX6_readsAs_27 (by decide) ?_
         refine G.mputi 9 fp_X6_223 dX6_readsAs_32 ?_
         refine G.aload_n0 dX6_readsAs_35 ?_
         refine G.mcall (f' := fX6_reads) q2006 ck_X6_reads (c_X6_reads (ord := true) (M := ms (ms (ms M 10 (bI true)) 8 (nI 19)) 9 (nI 25)) hw hs h13 rfl rfl rfl) dX6_readsAs_36 (rI.k fun r_36 M_36 h_36 => ?_)
         have hq : ∃ q, r_36 = bI q := by
           have h := h_36.1
           split at h
           · exact ⟨_, h.1⟩
           · exact ⟨_, h.1⟩
         obtain ⟨q, rfl⟩ := hq
         refine G.ireturn dX6_readsAs_39 ?_ (hn := by first | rfl | exact bI_nar _)
         exact ⟨_, rfl, _, rfl, ⟨h_36.1, h_36.2.1, h_36.2.2.1, h_36.2.2.2.1⟩, (hx _ _ _).tr h_36.2.2.2.2 (by simp) (by simp)⟩)
  · subst c_7
    refine G.bipush (v := nI 19) dX6_readsAs_10 (by decide) ?_
    refine G.goto (tgt := 17) dX6_readsAs_12 (by decide) ?_
    refine G.mputi 8 fp_X6_220 dX6_readsAs_17 ?_
    refine G.aload_n0 dX6_readsAs_20 ?_
    refine G.iload_n1 dX6_readsAs_21 ?_
    refine G.ifb_eq (tgt := 30) dX6_readsAs_22 (by decide) (fun c_22 => ?_) (fun c_22 => ?_)
    · first
      | exact absurd c_22 (fun z => Bool.false_ne_true z.symm)
      | (skip
         refine G.bipush (v := nI 19) dX6_readsAs_30 (by decide) ?_
         refine G.mputi 9 fp_X6_223 dX6_readsAs_32 ?_
         refine G.aload_n0 dX6_readsAs_35 ?_
         refine G.mcall (f' := fX6_reads) q2006 ck_X6_reads (c_X6_reads (ord := false) (M := ms (ms (ms M 10 (bI false)) 8 (nI 10)) 9 (nI 19)) hw hs h13 rfl rfl rfl) dX6_readsAs_36 (rI.k fun r_36 M_36 h_36 => ?_)
         have hq : ∃ q, r_36 = bI q := by
           have h := h_36.1
           split at h
           · exact ⟨_, h.1⟩
           · exact ⟨_, h.1⟩
         obtain ⟨q, rfl⟩ := hq
         refine G.ireturn dX6_readsAs_39 ?_ (hn := by first | rfl | exact bI_nar _)
         exact ⟨_, rfl, _, rfl, ⟨h_36.1, h_36.2.1, h_36.2.2.1, h_36.2.2.2.1⟩, (hx _ _ _).tr h_36.2.2.2.2 (by simp) (by simp)⟩)
    · first
      | exact absurd c_22 Bool.false_ne_true
      | (skip
         refine G.bipush (v := nI 25) dX6_readsAs_25 (by decide) ?_
         refine G.goto (tgt := 32) dX6_readsAs_27 (by decide) ?_
         refine G.mputi 9 fp_X6_223 dX6_readsAs_32 ?_
         refine G.aload_n0 dX6_readsAs_35 ?_
         refine G.mcall (f' := fX6_reads) q2006 ck_X6_reads (c_X6_reads (ord := true) (M := ms (ms (ms M 10 (bI true)) 8 (nI 19)) 9 (nI 25)) hw hs h13 rfl rfl rfl) dX6_readsAs_36 (rI.k fun r_36 M_36 h_36 => ?_)
         have hq : ∃ q, r_36 = bI q := by
           have h := h_36.1
           split at h
           · exact ⟨_, h.1⟩
           · exact ⟨_, h.1⟩
         obtain ⟨q, rfl⟩ := hq
         refine G.ireturn dX6_readsAs_39 ?_ (hn := by first | rfl | exact bI_nar _)
         exact ⟨_, rfl, _, rfl, ⟨h_36.1, h_36.2.1, h_36.2.2.1, h_36.2.2.2.1⟩, (hx _ _ _).tr h_36.2.2.2.2 (by simp) (by simp)⟩)
end Read
