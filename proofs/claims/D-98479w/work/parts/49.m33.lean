/-! THE MODEL READS: rows (printed by mk33.py) -/
section Read
variable {E : JE} {L : ML} {ph : HP} {M0 : MM} {N : Nat} {tk : Tk} {ord : Bool}
theorem e_rreadTerm {α : Type} {join : Int32 → α → α → α} {one : Nat → Nat → Rs α} {dp d : Nat} (hdp : 10 ≤ dp) (h0 : rdOk ord tk N M0) (hone : EvR E (fX6_readPart dp) L ph one M0 N d) : EvR E (fX6_readTerm (dp + 1)) L ph (pRows tk isMul join one) M0 N d := by
  intro pos lv hp hl
  have h4 := h0.2.2.2.1
  have loop : ∀ k acc p l, 402 ≤ k + p → pos ≤ p → p ≤ N → l ≤ 50 → G E (fX6_readTerm (dp + 1)) (mFin E (fX6_readTerm (dp + 1)) L ph (rV fun M' => rdQ M0 N pos (pRow tk isMul join one k acc p l) M')) 5 [some (.ref (L.1 52)), some (.int (nI d))] [] (movl L (rS M0 p l) ph) 0 0 := by
    intro k
    induction k with
    | zero => intro acc p l h1 h2 h3; omega
    | succ k ih =>
      intro acc p l h1 h2 h3 hl2
      have kb : isMul (tk.1 p) = true → G E (fX6_readTerm (dp + 1)) (mFin E (fX6_readTerm (dp + 1)) L ph (rV fun M' => rdQ M0 N pos (pRow tk isMul join one (k + 1) acc p l) M')) 41 [some (.ref (L.1 52)), some (.int (nI d))] [] (movl L (rS M0 (p + 1) l) ph) 0 0 := by
        intro hs
        have hpN : p < N := by
          rcases Nat.lt_or_ge p N with q | q
          · exact q
          · have := h0.2.2.2.2.1.1 p q
            rw [this] at hs
            exact absurd hs (by decide)
        rw [pRow_go hs]
        refine G.aload_n0 dX6_readTerm_41 ?_
        refine G.iload_n1 dX6_readTerm_42 ?_
        refine G.mcall (f' := fX6_readPart (dp)) q2049 (ck_X6_readPart _) (hone (p + 1) l (by omega) hl2) dX6_readTerm_43 (rV.k fun M_43 h_43 => ?_) (hroom := jroom_of rfl rfl (by omega) (Nat.le_of_ble_eq_true rfl))
        first | (replace h_43 := h_43.symm; subst h_43) | skip
        refine G.goto (tgt := 5) dX6_readTerm_46 (by decide) ?_
        cases hgx : one (p + 1) l with
        | inl e =>
          rw [hgx] at h_43
          have hdd := rdQ_bad h0 h_43 rfl
          refine G.aload_n0 dX6_readTerm_5 ?_
          refine G.bipush (v := nI 42) dX6_readTerm_6 (by decide) ?_
          refine G.scall (f' := fX6_sign) q2053 ck_X6_sign (c_X6_sign E 42) dX6_readTerm_8 (sI.k fun r_8 h_8 => ?_) (hroom := jroom_of rfl rfl (by omega) (Nat.le_of_ble_eq_true rfl))
          replace h_8 := h_8.symm; subst h_8
          refine G.mcall (f' := fX6_takes0) q2033 ck_X6_takes0 (c_takes0_dead hdd _) dX6_readTerm_11 (rI.k fun r_11 M_11 h_11 => ?_) (hroom := jroom_of rfl rfl (by omega) (Nat.le_of_ble_eq_true rfl))
          obtain ⟨e_11, h_11⟩ := h_11; replace e_11 := e_11.symm; replace h_11 := h_11.symm; subst e_11; subst h_11
          refine G.ifb_ne (tgt := 41) dX6_readTerm_14 (by decide) (fun c_14 => ?_) (fun c_14 => ?_)
          · exact absurd c_14 Bool.false_ne_true
          · refine G.aload_n0 dX6_readTerm_17 ?_
            refine G.bipush (v := nI 47) dX6_readTerm_18 (by decide) ?_
            refine G.scall (f' := fX6_sign) q2053 ck_X6_sign (c_X6_sign E 47) dX6_readTerm_20 (sI.k fun r_20 h_20 => ?_) (hroom := jroom_of rfl rfl (by omega) (Nat.le_of_ble_eq_true rfl))
            replace h_20 := h_20.symm; subst h_20
            refine G.mcall (f' := fX6_takes0) q2033 ck_X6_takes0 (c_takes0_dead hdd _) dX6_readTerm_23 (rI.k fun r_23 M_23 h_23 => ?_) (hroom := jroom_of rfl rfl (by omega) (Nat.le_of_ble_eq_true rfl))
            obtain ⟨e_23, h_23⟩ := h_23; replace e_23 := e_23.symm; replace h_23 := h_23.symm; subst e_23; subst h_23
            refine G.ifb_ne (tgt := 41) dX6_readTerm_26 (by decide) (fun c_26 => ?_) (fun c_26 => ?_)
            · exact absurd c_26 Bool.false_ne_true
            · refine G.aload_n0 dX6_readTerm_29 ?_
              refine G.bipush (v := nI 37) dX6_readTerm_30 (by decide) ?_
              refine G.scall (f' := fX6_sign) q2053 ck_X6_sign (c_X6_sign E 37) dX6_readTerm_32 (sI.k fun r_32 h_32 => ?_) (hroom := jroom_of rfl rfl (by omega) (Nat.le_of_ble_eq_true rfl))
              replace h_32 := h_32.symm; subst h_32
              refine G.mcall (f' := fX6_takes0) q2033 ck_X6_takes0 (c_takes0_dead hdd _) dX6_readTerm_35 (rI.k fun r_35 M_35 h_35 => ?_) (hroom := jroom_of rfl rfl (by omega) (Nat.le_of_ble_eq_true rfl))
              obtain ⟨e_35, h_35⟩ := h_35; replace e_35 := e_35.symm; replace h_35 := h_35.symm; subst e_35; subst h_35
              refine G.ifb_eq (tgt := 49) dX6_readTerm_38 (by decide) (fun c_38 => ?_) (fun c_38 => ?_)
              · refine G.return_ dX6_readTerm_49 ?_
                exact ⟨_, rfl, rfl, h_43⟩
              · exact absurd c_38 Bool.false_ne_true
        | inr x =>
          obtain ⟨s, p2, l2⟩ := x
          rw [hgx] at h_43
          obtain ⟨rfl, g1, g2, g3⟩ := h_43
          exact ih _ p2 l2 (by omega) (by omega) g2 g3
      refine G.aload_n0 dX6_readTerm_5 ?_
      refine G.bipush (v := nI 42) dX6_readTerm_6 (by decide) ?_
      refine G.scall (f' := fX6_sign) q2053 ck_X6_sign (c_X6_sign E 42) dX6_readTerm_8 (sI.k fun r_8 h_8 => ?_) (hroom := jroom_of rfl rfl (by omega) (Nat.le_of_ble_eq_true rfl))
      replace h_8 := h_8.symm; subst h_8
      refine G.mcall (f' := fX6_takes0) q2033 ck_X6_takes0 (c_takes0_at h0 h3 _) dX6_readTerm_11 (rI.k fun r_11 M_11 h_11 => ?_) (hroom := jroom_of rfl rfl (by omega) (Nat.le_of_ble_eq_true rfl))
      obtain ⟨e_11, h_11⟩ := h_11; replace e_11 := e_11.symm; replace h_11 := h_11.symm; subst e_11; subst h_11
      refine G.ifb_ne (tgt := 41) dX6_readTerm_14 (by decide) (fun c_14 => ?_) (fun c_14 => ?_)
      · have q14 := of_decide_eq_true c_14
        rw [if_pos q14]
        first
        | exact kb (decide_eq_true (Or.inl q14))
        | exact kb (decide_eq_true ((Or.inr (Or.inl q26))))
        | exact kb (decide_eq_true ((Or.inr (Or.inr q38))))
      · have q14 := of_decide_eq_false c_14
        rw [if_neg q14]
        refine G.aload_n0 dX6_readTerm_17 ?_
        refine G.bipush (v := nI 47) dX6_readTerm_18 (by decide) ?_
        refine G.scall (f' := fX6_sign) q2053 ck_X6_sign (c_X6_sign E 47) dX6_readTerm_20 (sI.k fun r_20 h_20 => ?_) (hroom := jroom_of rfl rfl (by omega) (Nat.le_of_ble_eq_true rfl))
        replace h_20 := h_20.symm; subst h_20
        refine G.mcall (f' := fX6_takes0) q2033 ck_X6_takes0 (c_takes0_at h0 h3 _) dX6_readTerm_23 (rI.k fun r_23 M_23 h_23 => ?_) (hroom := jroom_of rfl rfl (by omega) (Nat.le_of_ble_eq_true rfl))
        obtain ⟨e_23, h_23⟩ := h_23; replace e_23 := e_23.symm; replace h_23 := h_23.symm; subst e_23; subst h_23
        refine G.ifb_ne (tgt := 41) dX6_readTerm_26 (by decide) (fun c_26 => ?_) (fun c_26 => ?_)
        · have q26 := of_decide_eq_true c_26
          rw [if_pos q26]
          first
          | exact kb (decide_eq_true (Or.inl q14))
          | exact kb (decide_eq_true ((Or.inr (Or.inl q26))))
          | exact kb (decide_eq_true ((Or.inr (Or.inr q38))))
        · have q26 := of_decide_eq_false c_26
          rw [if_neg q26]
          refine G.aload_n0 dX6_readTerm_29 ?_
          refine G.bipush (v := nI 37) dX6_readTerm_30 (by decide) ?_
          refine G.scall (f' := fX6_sign) q2053 ck_X6_sign (c_X6_sign E 37) dX6_readTerm_32 (sI.k fun r_32 h_32 => ?_) (hroom := jroom_of rfl rfl (by omega) (Nat.le_of_ble_eq_true rfl))
          replace h_32 := h_32.symm; subst h_32
          refine G.mcall (f' := fX6_takes0) q2033 ck_X6_takes0 (c_takes0_at h0 h3 _) dX6_readTerm_35 (rI.k fun r_35 M_35 h_35 => ?_) (hroom := jroom_of rfl rfl (by omega) (Nat.le_of_ble_eq_true rfl))
          obtain ⟨e_35, h_35⟩ := h_35; replace e_35 := e_35.symm; replace h_35 := h_35.symm; subst e_35; subst h_35
          refine G.ifb_eq (tgt := 49) dX6_readTerm_38 (by decide) (fun c_38 => ?_) (fun c_38 => ?_)
          · have q38 := of_decide_eq_false c_38
            rw [if_neg q38]
            refine G.return_ dX6_readTerm_49 ?_
            rw [pRow_no (decide_eq_false (fun z => z.elim q14 (fun y => y.elim q26 q38)))]
            exact ⟨_, rfl, rfl, rfl, h2, h3, hl2⟩
          · have q38 := of_decide_eq_true c_38
            rw [if_pos q38]
            first
            | exact kb (decide_eq_true (Or.inl q14))
            | exact kb (decide_eq_true ((Or.inr (Or.inl q26))))
            | exact kb (decide_eq_true ((Or.inr (Or.inr q38))))
  unfold pRows
  refine Ct.of [some (.ref (L.1 52)), some (.int (nI d))] rfl (Nat.le_of_ble_eq_true rfl) (show plainName RX6 = true by decide +kernel) rfl ?_
  refine G.aload_n0 dX6_readTerm_0 ?_
  refine G.iload_n1 dX6_readTerm_1 ?_
  refine G.mcall (f' := fX6_readPart (dp)) q2049 (ck_X6_readPart _) (hone pos lv hp hl) dX6_readTerm_2 (rV.k fun M_2 h_2 => ?_) (hroom := jroom_of rfl rfl (by omega) (Nat.le_of_ble_eq_true rfl))
  first | (replace h_2 := h_2.symm; subst h_2) | skip
  cases hgx : one pos lv with
  | inl e =>
    rw [hgx] at h_2
    have hdd := rdQ_bad h0 h_2 rfl
    refine G.aload_n0 dX6_readTerm_5 ?_
    refine G.bipush (v := nI 42) dX6_readTerm_6 (by decide) ?_
    refine G.scall (f' := fX6_sign) q2053 ck_X6_sign (c_X6_sign E 42) dX6_readTerm_8 (sI.k fun r_8 h_8 => ?_) (hroom := jroom_of rfl rfl (by omega) (Nat.le_of_ble_eq_true rfl))
    replace h_8 := h_8.symm; subst h_8
    refine G.mcall (f' := fX6_takes0) q2033 ck_X6_takes0 (c_takes0_dead hdd _) dX6_readTerm_11 (rI.k fun r_11 M_11 h_11 => ?_) (hroom := jroom_of rfl rfl (by omega) (Nat.le_of_ble_eq_true rfl))
    obtain ⟨e_11, h_11⟩ := h_11; replace e_11 := e_11.symm; replace h_11 := h_11.symm; subst e_11; subst h_11
    refine G.ifb_ne (tgt := 41) dX6_readTerm_14 (by decide) (fun c_14 => ?_) (fun c_14 => ?_)
    · exact absurd c_14 Bool.false_ne_true
    · refine G.aload_n0 dX6_readTerm_17 ?_
      refine G.bipush (v := nI 47) dX6_readTerm_18 (by decide) ?_
      refine G.scall (f' := fX6_sign) q2053 ck_X6_sign (c_X6_sign E 47) dX6_readTerm_20 (sI.k fun r_20 h_20 => ?_) (hroom := jroom_of rfl rfl (by omega) (Nat.le_of_ble_eq_true rfl))
      replace h_20 := h_20.symm; subst h_20
      refine G.mcall (f' := fX6_takes0) q2033 ck_X6_takes0 (c_takes0_dead hdd _) dX6_readTerm_23 (rI.k fun r_23 M_23 h_23 => ?_) (hroom := jroom_of rfl rfl (by omega) (Nat.le_of_ble_eq_true rfl))
      obtain ⟨e_23, h_23⟩ := h_23; replace e_23 := e_23.symm; replace h_23 := h_23.symm; subst e_23; subst h_23
      refine G.ifb_ne (tgt := 41) dX6_readTerm_26 (by decide) (fun c_26 => ?_) (fun c_26 => ?_)
      · exact absurd c_26 Bool.false_ne_true
      · refine G.aload_n0 dX6_readTerm_29 ?_
        refine G.bipush (v := nI 37) dX6_readTerm_30 (by decide) ?_
        refine G.scall (f' := fX6_sign) q2053 ck_X6_sign (c_X6_sign E 37) dX6_readTerm_32 (sI.k fun r_32 h_32 => ?_) (hroom := jroom_of rfl rfl (by omega) (Nat.le_of_ble_eq_true rfl))
        replace h_32 := h_32.symm; subst h_32
        refine G.mcall (f' := fX6_takes0) q2033 ck_X6_takes0 (c_takes0_dead hdd _) dX6_readTerm_35 (rI.k fun r_35 M_35 h_35 => ?_) (hroom := jroom_of rfl rfl (by omega) (Nat.le_of_ble_eq_true rfl))
        obtain ⟨e_35, h_35⟩ := h_35; replace e_35 := e_35.symm; replace h_35 := h_35.symm; subst e_35; subst h_35
        refine G.ifb_eq (tgt := 49) dX6_readTerm_38 (by decide) (fun c_38 => ?_) (fun c_38 => ?_)
        · refine G.return_ dX6_readTerm_49 ?_
          exact ⟨_, rfl, rfl, h_2⟩
        · exact absurd c_38 Bool.false_ne_true
  | inr x =>
    obtain ⟨s, p2, l2⟩ := x
    rw [hgx] at h_2
    obtain ⟨rfl, g1, g2, g3⟩ := h_2
    exact loop 402 s p2 l2 (by omega) g1 g2 g3
theorem e_rreadSum {α : Type} {join : Int32 → α → α → α} {one : Nat → Nat → Rs α} {dp d : Nat} (hdp : 11 ≤ dp) (h0 : rdOk ord tk N M0) (hone : EvR E (fX6_readTerm dp) L ph one M0 N d) : EvR E (fX6_readSum (dp + 1)) L ph (pRows tk isAdd join one) M0 N d := by
  intro pos lv hp hl
  have h4 := h0.2.2.2.1
  have loop : ∀ k acc p l, 402 ≤ k + p → pos ≤ p → p ≤ N → l ≤ 50 → G E (fX6_readSum (dp + 1)) (mFin E (fX6_readSum (dp + 1)) L ph (rV fun M' => rdQ M0 N pos (pRow tk isAdd join one k acc p l) M')) 5 [some (.ref (L.1 52)), some (.int (nI d))] [] (movl L (rS M0 p l) ph) 0 0 := by
    intro k
    induction k with
    | zero => intro acc p l h1 h2 h3; omega
    | succ k ih =>
      intro acc p l h1 h2 h3 hl2
      have kb : isAdd (tk.1 p) = true → G E (fX6_readSum (dp + 1)) (mFin E (fX6_readSum (dp + 1)) L ph (rV fun M' => rdQ M0 N pos (pRow tk isAdd join one (k + 1) acc p l) M')) 29 [some (.ref (L.1 52)), some (.int (nI d))] [] (movl L (rS M0 (p + 1) l) ph) 0 0 := by
        intro hs
        have hpN : p < N := by
          rcases Nat.lt_or_ge p N with q | q
          · exact q
          · have := h0.2.2.2.2.1.1 p q
            rw [this] at hs
            exact absurd hs (by decide)
        rw [pRow_go hs]
        refine G.aload_n0 dX6_readSum_29 ?_
        refine G.iload_n1 dX6_readSum_30 ?_
        refine G.mcall (f' := fX6_readTerm (dp)) q2045 (ck_X6_readTerm _) (hone (p + 1) l (by omega) hl2) dX6_readSum_31 (rV.k fun M_31 h_31 => ?_) (hroom := jroom_of rfl rfl (by omega) (Nat.le_of_ble_eq_true rfl))
        first | (replace h_31 := h_31.symm; subst h_31) | skip
        refine G.goto (tgt := 5) dX6_readSum_34 (by decide) ?_
        cases hgx : one (p + 1) l with
        | inl e =>
          rw [hgx] at h_31
          have hdd := rdQ_bad h0 h_31 rfl
          refine G.aload_n0 dX6_readSum_5 ?_
          refine G.bipush (v := nI 43) dX6_readSum_6 (by decide) ?_
          refine G.scall (f' := fX6_sign) q2053 ck_X6_sign (c_X6_sign E 43) dX6_readSum_8 (sI.k fun r_8 h_8 => ?_) (hroom := jroom_of rfl rfl (by omega) (Nat.le_of_ble_eq_true rfl))
          replace h_8 := h_8.symm; subst h_8
          refine G.mcall (f' := fX6_takes0) q2033 ck_X6_takes0 (c_takes0_dead hdd _) dX6_readSum_11 (rI.k fun r_11 M_11 h_11 => ?_) (hroom := jroom_of rfl rfl (by omega) (Nat.le_of_ble_eq_true rfl))
          obtain ⟨e_11, h_11⟩ := h_11; replace e_11 := e_11.symm; replace h_11 := h_11.symm; subst e_11; subst h_11
          refine G.ifb_ne (tgt := 29) dX6_readSum_14 (by decide) (fun c_14 => ?_) (fun c_14 => ?_)
          · exact absurd c_14 Bool.false_ne_true
          · refine G.aload_n0 dX6_readSum_17 ?_
            refine G.bipush (v := nI 45) dX6_readSum_18 (by decide) ?_
            refine G.scall (f' := fX6_sign) q2053 ck_X6_sign (c_X6_sign E 45) dX6_readSum_20 (sI.k fun r_20 h_20 => ?_) (hroom := jroom_of rfl rfl (by omega) (Nat.le_of_ble_eq_true rfl))
            replace h_20 := h_20.symm; subst h_20
            refine G.mcall (f' := fX6_takes0) q2033 ck_X6_takes0 (c_takes0_dead hdd _) dX6_readSum_23 (rI.k fun r_23 M_23 h_23 => ?_) (hroom := jroom_of rfl rfl (by omega) (Nat.le_of_ble_eq_true rfl))
            obtain ⟨e_23, h_23⟩ := h_23; replace e_23 := e_23.symm; replace h_23 := h_23.symm; subst e_23; subst h_23
            refine G.ifb_eq (tgt := 37) dX6_readSum_26 (by decide) (fun c_26 => ?_) (fun c_26 => ?_)
            · refine G.return_ dX6_readSum_37 ?_
              exact ⟨_, rfl, rfl, h_31⟩
            · exact absurd c_26 Bool.false_ne_true
        | inr x =>
          obtain ⟨s, p2, l2⟩ := x
          rw [hgx] at h_31
          obtain ⟨rfl, g1, g2, g3⟩ := h_31
          exact ih _ p2 l2 (by omega) (by omega) g2 g3
      refine G.aload_n0 dX6_readSum_5 ?_
      refine G.bipush (v := nI 43) dX6_readSum_6 (by decide) ?_
      refine G.scall (f' := fX6_sign) q2053 ck_X6_sign (c_X6_sign E 43) dX6_readSum_8 (sI.k fun r_8 h_8 => ?_) (hroom := jroom_of rfl rfl (by omega) (Nat.le_of_ble_eq_true rfl))
      replace h_8 := h_8.symm; subst h_8
      refine G.mcall (f' := fX6_takes0) q2033 ck_X6_takes0 (c_takes0_at h0 h3 _) dX6_readSum_11 (rI.k fun r_11 M_11 h_11 => ?_) (hroom := jroom_of rfl rfl (by omega) (Nat.le_of_ble_eq_true rfl))
      obtain ⟨e_11, h_11⟩ := h_11; replace e_11 := e_11.symm; replace h_11 := h_11.symm; subst e_11; subst h_11
      refine G.ifb_ne (tgt := 29) dX6_readSum_14 (by decide) (fun c_14 => ?_) (fun c_14 => ?_)
      · have q14 := of_decide_eq_true c_14
        rw [if_pos q14]
        first
        | exact kb (decide_eq_true (Or.inl q14))
        | exact kb (decide_eq_true (Or.inr q26))
      · have q14 := of_decide_eq_false c_14
        rw [if_neg q14]
        refine G.aload_n0 dX6_readSum_17 ?_
        refine G.bipush (v := nI 45) dX6_readSum_18 (by decide) ?_
        refine G.scall (f' := fX6_sign) q2053 ck_X6_sign (c_X6_sign E 45) dX6_readSum_20 (sI.k fun r_20 h_20 => ?_) (hroom := jroom_of rfl rfl (by omega) (Nat.le_of_ble_eq_true rfl))
        replace h_20 := h_20.symm; subst h_20
        refine G.mcall (f' := fX6_takes0) q2033 ck_X6_takes0 (c_takes0_at h0 h3 _) dX6_readSum_23 (rI.k fun r_23 M_23 h_23 => ?_) (hroom := jroom_of rfl rfl (by omega) (Nat.le_of_ble_eq_true rfl))
        obtain ⟨e_23, h_23⟩ := h_23; replace e_23 := e_23.symm; replace h_23 := h_23.symm; subst e_23; subst h_23
        refine G.ifb_eq (tgt := 37) dX6_readSum_26 (by decide) (fun c_26 => ?_) (fun c_26 => ?_)
        · have q26 := of_decide_eq_false c_26
          rw [if_neg q26]
          refine G.return_ dX6_readSum_37 ?_
          rw [pRow_no (decide_eq_false (fun z => z.elim q14 q26))]
          exact ⟨_, rfl, rfl, rfl, h2, h3, hl2⟩
        · have q26 := of_decide_eq_true c_26
          rw [if_pos q26]
          first
          | exact kb (decide_eq_true (Or.inl q14))
          | exact kb (decide_eq_true (Or.inr q26))
  unfold pRows
  refine Ct.of [some (.ref (L.1 52)), some (.int (nI d))] rfl (Nat.le_of_ble_eq_true rfl) (show plainName RX6 = true by decide +kernel) rfl ?_
  refine G.aload_n0 dX6_readSum_0 ?_
  refine G.iload_n1 dX6_readSum_1 ?_
  refine G.mcall (f' := fX6_readTerm (dp)) q2045 (ck_X6_readTerm _) (hone pos lv hp hl) dX6_readSum_2 (rV.k fun M_2 h_2 => ?_) (hroom := jroom_of rfl rfl (by omega) (Nat.le_of_ble_eq_true rfl))
  first | (replace h_2 := h_2.symm; subst h_2) | skip
  cases hgx : one pos lv with
  | inl e =>
    rw [hgx] at h_2
    have hdd := rdQ_bad h0 h_2 rfl
    refine G.aload_n0 dX6_readSum_5 ?_
    refine G.bipush (v := nI 43) dX6_readSum_6 (by decide) ?_
    refine G.scall (f' := fX6_sign) q2053 ck_X6_sign (c_X6_sign E 43) dX6_readSum_8 (sI.k fun r_8 h_8 => ?_) (hroom := jroom_of rfl rfl (by omega) (Nat.le_of_ble_eq_true rfl))
    replace h_8 := h_8.symm; subst h_8
    refine G.mcall (f' := fX6_takes0) q2033 ck_X6_takes0 (c_takes0_dead hdd _) dX6_readSum_11 (rI.k fun r_11 M_11 h_11 => ?_) (hroom := jroom_of rfl rfl (by omega) (Nat.le_of_ble_eq_true rfl))
    obtain ⟨e_11, h_11⟩ := h_11; replace e_11 := e_11.symm; replace h_11 := h_11.symm; subst e_11; subst h_11
    refine G.ifb_ne (tgt := 29) dX6_readSum_14 (by decide) (fun c_14 => ?_) (fun c_14 => ?_)
    · exact absurd c_14 Bool.false_ne_true
    · refine G.aload_n0 dX6_readSum_17 ?_
      refine G.bipush (v := nI 45) dX6_readSum_18 (by decide) ?_
      refine G.scall (f' := fX6_sign) q2053 ck_X6_sign (c_X6_sign E 45) dX6_readSum_20 (sI.k fun r_20 h_20 => ?_) (hroom := jroom_of rfl rfl (by omega) (Nat.le_of_ble_eq_true rfl))
      replace h_20 := h_20.symm; subst h_20
      refine G.mcall (f' := fX6_takes0) q2033 ck_X6_takes0 (c_takes0_dead hdd _) dX6_readSum_23 (rI.k fun r_23 M_23 h_23 => ?_) (hroom := jroom_of rfl rfl (by omega) (Nat.le_of_ble_eq_true rfl))
      obtain ⟨e_23, h_23⟩ := h_23; replace e_23 := e_23.symm; replace h_23 := h_23.symm; subst e_23; subst h_23
      refine G.ifb_eq (tgt := 37) dX6_readSum_26 (by decide) (fun c_26 => ?_) (fun c_26 => ?_)
      · refine G.return_ dX6_readSum_37 ?_
        exact ⟨_, rfl, rfl, h_2⟩
      · exact absurd c_26 Bool.false_ne_true
  | inr x =>
    obtain ⟨s, p2, l2⟩ := x
    rw [hgx] at h_2
    obtain ⟨rfl, g1, g2, g3⟩ := h_2
    exact loop 402 s p2 l2 (by omega) g1 g2 g3
theorem e_rreadBoth {α : Type} {join : Int32 → α → α → α} {one : Nat → Nat → Rs α} {dp d : Nat} (hdp : 14 ≤ dp) (h0 : rdOk ord tk N M0) (hone : EvR E (fX6_readPlain dp) L ph one M0 N d) : EvR E (fX6_readBoth (dp + 1)) L ph (pRows tk isAnd join one) M0 N d := by
  intro pos lv hp hl
  have h4 := h0.2.2.2.1
  have loop : ∀ k acc p l, 402 ≤ k + p → pos ≤ p → p ≤ N → l ≤ 50 → G E (fX6_readBoth (dp + 1)) (mFin E (fX6_readBoth (dp + 1)) L ph (rV fun M' => rdQ M0 N pos (pRow tk isAnd join one k acc p l) M')) 5 [some (.ref (L.1 52)), some (.int (nI d))] [] (movl L (rS M0 p l) ph) 0 0 := by
    intro k
    induction k with
    | zero => intro acc p l h1 h2 h3; omega
    | succ k ih =>
      intro acc p l h1 h2 h3 hl2
      have kb : isAnd (tk.1 p) = true → G E (fX6_readBoth (dp + 1)) (mFin E (fX6_readBoth (dp + 1)) L ph (rV fun M' => rdQ M0 N pos (pRow tk isAnd join one (k + 1) acc p l) M')) 14 [some (.ref (L.1 52)), some (.int (nI d))] [] (movl L (rS M0 (p + 1) l) ph) 0 0 := by
        intro hs
        have hpN : p < N := by
          rcases Nat.lt_or_ge p N with q | q
          · exact q
          · have := h0.2.2.2.2.1.1 p q
            rw [this] at hs
            exact absurd hs (by decide)
        rw [pRow_go hs]
        refine G.aload_n0 dX6_readBoth_14 ?_
        refine G.iload_n1 dX6_readBoth_15 ?_
        refine G.mcall (f' := fX6_readPlain (dp)) q2080 (ck_X6_readPlain _) (hone (p + 1) l (by omega) hl2) dX6_readBoth_16 (rV.k fun M_16 h_16 => ?_) (hroom := jroom_of rfl rfl (by omega) (Nat.le_of_ble_eq_true rfl))
        first | (replace h_16 := h_16.symm; subst h_16) | skip
        refine G.goto (tgt := 5) dX6_readBoth_19 (by decide) ?_
        cases hgx : one (p + 1) l with
        | inl e =>
          rw [hgx] at h_16
          have hdd := rdQ_bad h0 h_16 rfl
          refine G.aload_n0 dX6_readBoth_5 ?_
          refine G.bipush (v := nI 8) dX6_readBoth_6 (by decide) ?_
          refine G.mcall (f' := fX6_takes0) q2033 ck_X6_takes0 (c_takes0_dead hdd _) dX6_readBoth_8 (rI.k fun r_8 M_8 h_8 => ?_) (hroom := jroom_of rfl rfl (by omega) (Nat.le_of_ble_eq_true rfl))
          obtain ⟨e_8, h_8⟩ := h_8; replace e_8 := e_8.symm; replace h_8 := h_8.symm; subst e_8; subst h_8
          refine G.ifb_eq (tgt := 22) dX6_readBoth_11 (by decide) (fun c_11 => ?_) (fun c_11 => ?_)
          · refine G.return_ dX6_readBoth_22 ?_
            exact ⟨_, rfl, rfl, h_16⟩
          · exact absurd c_11 Bool.false_ne_true
        | inr x =>
          obtain ⟨s, p2, l2⟩ := x
          rw [hgx] at h_16
          obtain ⟨rfl, g1, g2, g3⟩ := h_16
          exact ih _ p2 l2 (by omega) (by omega) g2 g3
      refine G.aload_n0 dX6_readBoth_5 ?_
      refine G.bipush (v := nI 8) dX6_readBoth_6 (by decide) ?_
      refine G.mcall (f' := fX6_takes0) q2033 ck_X6_takes0 (c_takes0_at h0 h3 _) dX6_readBoth_8 (rI.k fun r_8 M_8 h_8 => ?_) (hroom := jroom_of rfl rfl (by omega) (Nat.le_of_ble_eq_true rfl))
      obtain ⟨e_8, h_8⟩ := h_8; replace e_8 := e_8.symm; replace h_8 := h_8.symm; subst e_8; subst h_8
      refine G.ifb_eq (tgt := 22) dX6_readBoth_11 (by decide) (fun c_11 => ?_) (fun c_11 => ?_)
      · have q11 := of_decide_eq_false c_11
        rw [if_neg q11]
        refine G.return_ dX6_readBoth_22 ?_
        rw [pRow_no (decide_eq_false (fun z => q11 z))]
        exact ⟨_, rfl, rfl, rfl, h2, h3, hl2⟩
      · have q11 := of_decide_eq_true c_11
        rw [if_pos q11]
        first
        | exact kb (decide_eq_true (q11))
  unfold pRows
  refine Ct.of [some (.ref (L.1 52)), some (.int (nI d))] rfl (Nat.le_of_ble_eq_true rfl) (show plainName RX6 = true by decide +kernel) rfl ?_
  refine G.aload_n0 dX6_readBoth_0 ?_
  refine G.iload_n1 dX6_readBoth_1 ?_
  refine G.mcall (f' := fX6_readPlain (dp)) q2080 (ck_X6_readPlain _) (hone pos lv hp hl) dX6_readBoth_2 (rV.k fun M_2 h_2 => ?_) (hroom := jroom_of rfl rfl (by omega) (Nat.le_of_ble_eq_true rfl))
  first | (replace h_2 := h_2.symm; subst h_2) | skip
  cases hgx : one pos lv with
  | inl e =>
    rw [hgx] at h_2
    have hdd := rdQ_bad h0 h_2 rfl
    refine G.aload_n0 dX6_readBoth_5 ?_
    refine G.bipush (v := nI 8) dX6_readBoth_6 (by decide) ?_
    refine G.mcall (f' := fX6_takes0) q2033 ck_X6_takes0 (c_takes0_dead hdd _) dX6_readBoth_8 (rI.k fun r_8 M_8 h_8 => ?_) (hroom := jroom_of rfl rfl (by omega) (Nat.le_of_ble_eq_true rfl))
    obtain ⟨e_8, h_8⟩ := h_8; replace e_8 := e_8.symm; replace h_8 := h_8.symm; subst e_8; subst h_8
    refine G.ifb_eq (tgt := 22) dX6_readBoth_11 (by decide) (fun c_11 => ?_) (fun c_11 => ?_)
    · refine G.return_ dX6_readBoth_22 ?_
      exact ⟨_, rfl, rfl, h_2⟩
    · exact absurd c_11 Bool.false_ne_true
  | inr x =>
    obtain ⟨s, p2, l2⟩ := x
    rw [hgx] at h_2
    obtain ⟨rfl, g1, g2, g3⟩ := h_2
    exact loop 402 s p2 l2 (by omega) g1 g2 g3
theorem e_rreadTest {α : Type} {join : Int32 → α → α → α} {one : Nat → Nat → Rs α} {dp d : Nat} (hdp : 15 ≤ dp) (h0 : rdOk ord tk N M0) (hone : EvR E (fX6_readBoth dp) L ph one M0 N d) : EvR E (fX6_readTest (dp + 1)) L ph (pRows tk isOr join one) M0 N d := by
  intro pos lv hp hl
  have h4 := h0.2.2.2.1
  have loop : ∀ k acc p l, 402 ≤ k + p → pos ≤ p → p ≤ N → l ≤ 50 → G E (fX6_readTest (dp + 1)) (mFin E (fX6_readTest (dp + 1)) L ph (rV fun M' => rdQ M0 N pos (pRow tk isOr join one k acc p l) M')) 5 [some (.ref (L.1 52)), some (.int (nI d))] [] (movl L (rS M0 p l) ph) 0 0 := by
    intro k
    induction k with
    | zero => intro acc p l h1 h2 h3; omega
    | succ k ih =>
      intro acc p l h1 h2 h3 hl2
      have kb : isOr (tk.1 p) = true → G E (fX6_readTest (dp + 1)) (mFin E (fX6_readTest (dp + 1)) L ph (rV fun M' => rdQ M0 N pos (pRow tk isOr join one (k + 1) acc p l) M')) 14 [some (.ref (L.1 52)), some (.int (nI d))] [] (movl L (rS M0 (p + 1) l) ph) 0 0 := by
        intro hs
        have hpN : p < N := by
          rcases Nat.lt_or_ge p N with q | q
          · exact q
          · have := h0.2.2.2.2.1.1 p q
            rw [this] at hs
            exact absurd hs (by decide)
        rw [pRow_go hs]
        refine G.aload_n0 dX6_readTest_14 ?_
        refine G.iload_n1 dX6_readTest_15 ?_
        refine G.mcall (f' := fX6_readBoth (dp)) q2076 (ck_X6_readBoth _) (hone (p + 1) l (by omega) hl2) dX6_readTest_16 (rV.k fun M_16 h_16 => ?_) (hroom := jroom_of rfl rfl (by omega) (Nat.le_of_ble_eq_true rfl))
        first | (replace h_16 := h_16.symm; subst h_16) | skip
        refine G.goto (tgt := 5) dX6_readTest_19 (by decide) ?_
        cases hgx : one (p + 1) l with
        | inl e =>
          rw [hgx] at h_16
          have hdd := rdQ_bad h0 h_16 rfl
          refine G.aload_n0 dX6_readTest_5 ?_
          refine G.bipush (v := nI 7) dX6_readTest_6 (by decide) ?_
          refine G.mcall (f' := fX6_takes0) q2033 ck_X6_takes0 (c_takes0_dead hdd _) dX6_readTest_8 (rI.k fun r_8 M_8 h_8 => ?_) (hroom := jroom_of rfl rfl (by omega) (Nat.le_of_ble_eq_true rfl))
          obtain ⟨e_8, h_8⟩ := h_8; replace e_8 := e_8.symm; replace h_8 := h_8.symm; subst e_8; subst h_8
          refine G.ifb_eq (tgt := 22) dX6_readTest_11 (by decide) (fun c_11 => ?_) (fun c_11 => ?_)
          · refine G.return_ dX6_readTest_22 ?_
            exact ⟨_, rfl, rfl, h_16⟩
          · exact absurd c_11 Bool.false_ne_true
        | inr x =>
          obtain ⟨s, p2, l2⟩ := x
          rw [hgx] at h_16
          obtain ⟨rfl, g1, g2, g3⟩ := h_16
          exact ih _ p2 l2 (by omega) (by omega) g2 g3
      refine G.aload_n0 dX6_readTest_5 ?_
      refine G.bipush (v := nI 7) dX6_readTest_6 (by decide) ?_
      refine G.mcall (f' := fX6_takes0) q2033 ck_X6_takes0 (c_takes0_at h0 h3 _) dX6_readTest_8 (rI.k fun r_8 M_8 h_8 => ?_) (hroom := jroom_of rfl rfl (by omega) (Nat.le_of_ble_eq_true rfl))
      obtain ⟨e_8, h_8⟩ := h_8; replace e_8 := e_8.symm; replace h_8 := h_8.symm; subst e_8; subst h_8
      refine G.ifb_eq (tgt := 22) dX6_readTest_11 (by decide) (fun c_11 => ?_) (fun c_11 => ?_)
      · have q11 := of_decide_eq_false c_11
        rw [if_neg q11]
        refine G.return_ dX6_readTest_22 ?_
        rw [pRow_no (decide_eq_false (fun z => q11 z))]
        exact ⟨_, rfl, rfl, rfl, h2, h3, hl2⟩
      · have q11 := of_decide_eq_true c_11
        rw [if_pos q11]
        first
        | exact kb (decide_eq_true (q11))
  unfold pRows
  refine Ct.of [some (.ref (L.1 52)), some (.int (nI d))] rfl (Nat.le_of_ble_eq_true rfl) (show plainName RX6 = true by decide +kernel) rfl ?_
  refine G.aload_n0 dX6_readTest_0 ?_
  refine G.iload_n1 dX6_readTest_1 ?_
  refine G.mcall (f' := fX6_readBoth (dp)) q2076 (ck_X6_readBoth _) (hone pos lv hp hl) dX6_readTest_2 (rV.k fun M_2 h_2 => ?_) (hroom := jroom_of rfl rfl (by omega) (Nat.le_of_ble_eq_true rfl))
  first | (replace h_2 := h_2.symm; subst h_2) | skip
  cases hgx : one pos lv with
  | inl e =>
    rw [hgx] at h_2
    have hdd := rdQ_bad h0 h_2 rfl
    refine G.aload_n0 dX6_readTest_5 ?_
    refine G.bipush (v := nI 7) dX6_readTest_6 (by decide) ?_
    refine G.mcall (f' := fX6_takes0) q2033 ck_X6_takes0 (c_takes0_dead hdd _) dX6_readTest_8 (rI.k fun r_8 M_8 h_8 => ?_) (hroom := jroom_of rfl rfl (by omega) (Nat.le_of_ble_eq_true rfl))
    obtain ⟨e_8, h_8⟩ := h_8; replace e_8 := e_8.symm; replace h_8 := h_8.symm; subst e_8; subst h_8
    refine G.ifb_eq (tgt := 22) dX6_readTest_11 (by decide) (fun c_11 => ?_) (fun c_11 => ?_)
    · refine G.return_ dX6_readTest_22 ?_
      exact ⟨_, rfl, rfl, h_2⟩
    · exact absurd c_11 Bool.false_ne_true
  | inr x =>
    obtain ⟨s, p2, l2⟩ := x
    rw [hgx] at h_2
    obtain ⟨rfl, g1, g2, g3⟩ := h_2
    exact loop 402 s p2 l2 (by omega) g1 g2 g3
end Read
