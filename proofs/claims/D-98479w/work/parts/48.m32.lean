/-! THE MODEL READS: parts, terms, sums -/
section Read
variable {E : JE} {L : ML} {ph : HP} {M0 : MM} {N : Nat} {tk : Tk} {ord : Bool}
theorem d_part {dp d : Nat} (hdp : 9 ≤ dp) : EvD E (fX6_readPart (dp + 1)) L ph d := by
  intro M hd
  refine Ct.of [some (.ref (L.1 52)), some (.int (nI d)), none] rfl (Nat.le_of_ble_eq_true rfl) (show plainName RX6 = true by decide +kernel) rfl ?_
  refine G.aload_n0 dX6_readPart_0 ?_
  refine G.mcall (f' := fX6_fine) q2037 ck_X6_fine (c_X6_fine) dX6_readPart_1 (rI.k fun r_1 M_1 h_1 => ?_) (hroom := jroom_of rfl rfl (by omega) (Nat.le_of_ble_eq_true rfl))
  obtain ⟨e_1, h_1⟩ := h_1; replace e_1 := e_1.symm; replace h_1 := h_1.symm; subst e_1; subst h_1
  refine G.ifb_ne (tgt := 8) dX6_readPart_4 (by decide) (fun c_4 => ?_) (fun c_4 => ?_)
  · exact absurd (of_decide_eq_true c_4) hd
  · refine G.return_ dX6_readPart_7 ?_
    exact ⟨_, rfl, rfl, rfl⟩
theorem d_term {dp d : Nat} (hdp : 10 ≤ dp) (h : EvD E (fX6_readPart dp) L ph d) : EvD E (fX6_readTerm (dp + 1)) L ph d := by
  intro M hd
  refine Ct.of [some (.ref (L.1 52)), some (.int (nI d))] rfl (Nat.le_of_ble_eq_true rfl) (show plainName RX6 = true by decide +kernel) rfl ?_
  refine G.aload_n0 dX6_readTerm_0 ?_
  refine G.iload_n1 dX6_readTerm_1 ?_
  refine G.mcall (f' := fX6_readPart (dp)) q2049 (ck_X6_readPart _) (h M hd) dX6_readTerm_2 (rV.k fun M_2 h_2 => ?_) (hroom := jroom_of rfl rfl (by omega) (Nat.le_of_ble_eq_true rfl))
  first | (replace h_2 := h_2.symm; subst h_2) | skip
  refine G.aload_n0 dX6_readTerm_5 ?_
  refine G.bipush (v := nI 42) dX6_readTerm_6 (by decide) ?_
  refine G.scall (f' := fX6_sign) q2053 ck_X6_sign (c_X6_sign E 42) dX6_readTerm_8 (sI.k fun r_8 h_8 => ?_) (hroom := jroom_of rfl rfl (by omega) (Nat.le_of_ble_eq_true rfl))
  replace h_8 := h_8.symm; subst h_8
  refine G.mcall (f' := fX6_takes0) q2033 ck_X6_takes0 (c_takes0_dead hd _) dX6_readTerm_11 (rI.k fun r_11 M_11 h_11 => ?_) (hroom := jroom_of rfl rfl (by omega) (Nat.le_of_ble_eq_true rfl))
  obtain ⟨e_11, h_11⟩ := h_11; replace e_11 := e_11.symm; replace h_11 := h_11.symm; subst e_11; subst h_11
  refine G.ifb_ne (tgt := 41) dX6_readTerm_14 (by decide) (fun c_14 => ?_) (fun c_14 => ?_)
  · exact absurd c_14 Bool.false_ne_true
  · refine G.aload_n0 dX6_readTerm_17 ?_
    refine G.bipush (v := nI 47) dX6_readTerm_18 (by decide) ?_
    refine G.scall (f' := fX6_sign) q2053 ck_X6_sign (c_X6_sign E 47) dX6_readTerm_20 (sI.k fun r_20 h_20 => ?_) (hroom := jroom_of rfl rfl (by omega) (Nat.le_of_ble_eq_true rfl))
    replace h_20 := h_20.symm; subst h_20
    refine G.mcall (f' := fX6_takes0) q2033 ck_X6_takes0 (c_takes0_dead hd _) dX6_readTerm_23 (rI.k fun r_23 M_23 h_23 => ?_) (hroom := jroom_of rfl rfl (by omega) (Nat.le_of_ble_eq_true rfl))
    obtain ⟨e_23, h_23⟩ := h_23; replace e_23 := e_23.symm; replace h_23 := h_23.symm; subst e_23; subst h_23
    refine G.ifb_ne (tgt := 41) dX6_readTerm_26 (by decide) (fun c_26 => ?_) (fun c_26 => ?_)
    · exact absurd c_26 Bool.false_ne_true
    · refine G.aload_n0 dX6_readTerm_29 ?_
      refine G.bipush (v := nI 37) dX6_readTerm_30 (by decide) ?_
      refine G.scall (f' := fX6_sign) q2053 ck_X6_sign (c_X6_sign E 37) dX6_readTerm_32 (sI.k fun r_32 h_32 => ?_) (hroom := jroom_of rfl rfl (by omega) (Nat.le_of_ble_eq_true rfl))
      replace h_32 := h_32.symm; subst h_32
      refine G.mcall (f' := fX6_takes0) q2033 ck_X6_takes0 (c_takes0_dead hd _) dX6_readTerm_35 (rI.k fun r_35 M_35 h_35 => ?_) (hroom := jroom_of rfl rfl (by omega) (Nat.le_of_ble_eq_true rfl))
      obtain ⟨e_35, h_35⟩ := h_35; replace e_35 := e_35.symm; replace h_35 := h_35.symm; subst e_35; subst h_35
      refine G.ifb_eq (tgt := 49) dX6_readTerm_38 (by decide) (fun c_38 => ?_) (fun c_38 => ?_)
      · refine G.return_ dX6_readTerm_49 ?_
        exact ⟨_, rfl, rfl, rfl⟩
      · exact absurd c_38 Bool.false_ne_true
theorem d_sum {dp d : Nat} (hdp : 11 ≤ dp) (h : EvD E (fX6_readTerm dp) L ph d) : EvD E (fX6_readSum (dp + 1)) L ph d := by
  intro M hd
  refine Ct.of [some (.ref (L.1 52)), some (.int (nI d))] rfl (Nat.le_of_ble_eq_true rfl) (show plainName RX6 = true by decide +kernel) rfl ?_
  refine G.aload_n0 dX6_readSum_0 ?_
  refine G.iload_n1 dX6_readSum_1 ?_
  refine G.mcall (f' := fX6_readTerm (dp)) q2045 (ck_X6_readTerm _) (h M hd) dX6_readSum_2 (rV.k fun M_2 h_2 => ?_) (hroom := jroom_of rfl rfl (by omega) (Nat.le_of_ble_eq_true rfl))
  first | (replace h_2 := h_2.symm; subst h_2) | skip
  refine G.aload_n0 dX6_readSum_5 ?_
  refine G.bipush (v := nI 43) dX6_readSum_6 (by decide) ?_
  refine G.scall (f' := fX6_sign) q2053 ck_X6_sign (c_X6_sign E 43) dX6_readSum_8 (sI.k fun r_8 h_8 => ?_) (hroom := jroom_of rfl rfl (by omega) (Nat.le_of_ble_eq_true rfl))
  replace h_8 := h_8.symm; subst h_8
  refine G.mcall (f' := fX6_takes0) q2033 ck_X6_takes0 (c_takes0_dead hd _) dX6_readSum_11 (rI.k fun r_11 M_11 h_11 => ?_) (hroom := jroom_of rfl rfl (by omega) (Nat.le_of_ble_eq_true rfl))
  obtain ⟨e_11, h_11⟩ := h_11; replace e_11 := e_11.symm; replace h_11 := h_11.symm; subst e_11; subst h_11
  refine G.ifb_ne (tgt := 29) dX6_readSum_14 (by decide) (fun c_14 => ?_) (fun c_14 => ?_)
  · exact absurd c_14 Bool.false_ne_true
  · refine G.aload_n0 dX6_readSum_17 ?_
    refine G.bipush (v := nI 45) dX6_readSum_18 (by decide) ?_
    refine G.scall (f' := fX6_sign) q2053 ck_X6_sign (c_X6_sign E 45) dX6_readSum_20 (sI.k fun r_20 h_20 => ?_) (hroom := jroom_of rfl rfl (by omega) (Nat.le_of_ble_eq_true rfl))
    replace h_20 := h_20.symm; subst h_20
    refine G.mcall (f' := fX6_takes0) q2033 ck_X6_takes0 (c_takes0_dead hd _) dX6_readSum_23 (rI.k fun r_23 M_23 h_23 => ?_) (hroom := jroom_of rfl rfl (by omega) (Nat.le_of_ble_eq_true rfl))
    obtain ⟨e_23, h_23⟩ := h_23; replace e_23 := e_23.symm; replace h_23 := h_23.symm; subst e_23; subst h_23
    refine G.ifb_eq (tgt := 37) dX6_readSum_26 (by decide) (fun c_26 => ?_) (fun c_26 => ?_)
    · refine G.return_ dX6_readSum_37 ?_
      exact ⟨_, rfl, rfl, rfl⟩
    · exact absurd c_26 Bool.false_ne_true
theorem d_sums {d x : Nat} (h : 12 ≤ x) : EvD E (fX6_readSum x) L ph d := by
  obtain ⟨r, rfl⟩ : ∃ r, x = r + 12 := ⟨x - 12, by omega⟩
  exact d_sum (dp := r + 11) (by omega) (d_term (dp := r + 10) (by omega) (d_part (dp := r + 9) (by omega)))
theorem e_rpart {dp d : Nat} {sub : Option (Nat → Nat → Rs Sm)} (hdp : 9 ≤ dp) (h0 : rdOk ord tk N M0) (hsub : (sub = none ∧ d = 8) ∨ ∃ g, sub = some g ∧ d < 8 ∧ EvR E (fX6_readSum dp) L ph g M0 N (d + 1)) : EvR E (fX6_readPart (dp + 1)) L ph (pPart ord tk sub) M0 N d := by
  intro pos lv hp hl
  have h4 := h0.2.2.2.1
  have hd8 : d ≤ 8 := by
    rcases hsub with ⟨-, z⟩ | ⟨g, -, z, -⟩ <;> omega
  have hb : (rS M0 pos lv).1 21 = -1 := h0.1
  have hpl := (h0.2.2.2.2.2 pos (by omega)).2.2
  have hc : (rS M0 pos lv).2.2.1 15 pos = tk.1 pos := (h0.2.2.2.2.2 pos hp).1
  have hv : (rS M0 pos lv).2.2.1 16 pos = tk.2 pos := (h0.2.2.2.2.2 pos hp).2.1
  have h8 : (rS M0 pos lv).1 8 = nI (wLo ord) := h0.2.1
  have h9 : (rS M0 pos lv).1 9 = nI (wHi ord) := h0.2.2.1
  have h19 : (rS M0 pos lv).1 19 = nI pos := rfl
  unfold pPart
  refine Ct.of [some (.ref (L.1 52)), some (.int (nI d)), none] rfl (Nat.le_of_ble_eq_true rfl) (show plainName RX6 = true by decide +kernel) rfl ?_
  have k111 : ¬ tk.1 pos = nI 191 → isLeaf ord (tk.1 pos) (tk.2 pos) = true → G E (fX6_readPart (dp + 1)) (mFin E (fX6_readPart (dp + 1)) L ph (rV fun M' => rdQ M0 N pos (if lv = 50 then (.inl pos : Rs Sm) else if tk.1 pos = nI 24 ∨ tk.1 pos = nI 25 then (if tk.1 (pos + 1) = nI 50 ∧ 0 ≤ (tk.2 (pos + 1)).toInt ∧ (tk.2 (pos + 1)).toInt ≤ 9 then .inr (zPers (tk.1 pos) (tk.2 (pos + 1)), pos + 2, lv + 1) else .inl (pos + 1)) else .inr (zLeaf ord (tk.1 pos) (tk.2 pos), pos + 1, lv + 1)) M')) 111 [some (.ref (L.1 52)), some (.int (nI d)), some (.int (tk.1 pos))] [] (movl L (rS M0 pos lv) ph) 0 0 := by
    intro hq hlf
    have hpN : pos < N := by
      rcases Nat.lt_or_ge pos N with q | q
      · exact q
      · have := h0.2.2.2.2.1.1 pos q
        rw [this] at hlf
        unfold isLeaf at hlf
        rcases of_decide_eq_true hlf with ⟨h9, -⟩ | ⟨h9, -⟩
        · exact absurd h9 (by decide)
        · exact absurd h9 (by cases ord <;> decide)
    refine G.aload_n0 dX6_readPart_111 ?_
    refine G.mcall (f' := fX6_leaf) q2064 ck_X6_leaf (c_leaf_at h0 hpN hl) dX6_readPart_112 (rV.k fun M_112 h_112 => ?_) (hroom := jroom_of rfl rfl (by omega) (Nat.le_of_ble_eq_true rfl))
    revert h_112
    unfold zLf
    intro h_112
    by_cases q5 : lv = 50
    · rw [if_pos q5] at h_112 ⊢
      have hdd := rdQ_bad h0 h_112 rfl
      refine G.iload_n2 dX6_readPart_115 ?_
      refine G.bipush (v := nI 24) dX6_readPart_116 (by decide) ?_
      refine G.icmp_eq (tgt := 127) dX6_readPart_118 (by decide) (fun c_118 => ?_) (fun c_118 => ?_)
      · refine G.aload_n0 dX6_readPart_127 ?_
        refine G.iconst (v := nI 0) dX6_readPart_128 (by decide) ?_
        refine G.bipush (v := nI 9) dX6_readPart_129 (by decide) ?_
        refine G.mcall (f' := fX6_mustNumber) q2068 ck_X6_mustNumber (c_number_dead hdd _ _) dX6_readPart_131 (rV.k fun M_131 h_131 => ?_) (hroom := jroom_of rfl rfl (by omega) (Nat.le_of_ble_eq_true rfl))
        first | (replace h_131 := h_131.symm; subst h_131) | skip
        refine G.goto (tgt := 141) dX6_readPart_134 (by decide) ?_
        refine G.return_ dX6_readPart_141 ?_
        exact ⟨_, rfl, rfl, h_112⟩
      · refine G.iload_n2 dX6_readPart_121 ?_
        refine G.bipush (v := nI 25) dX6_readPart_122 (by decide) ?_
        refine G.icmp_ne (tgt := 141) dX6_readPart_124 (by decide) (fun c_124 => ?_) (fun c_124 => ?_)
        · refine G.return_ dX6_readPart_141 ?_
          exact ⟨_, rfl, rfl, h_112⟩
        · refine G.aload_n0 dX6_readPart_127 ?_
          refine G.iconst (v := nI 0) dX6_readPart_128 (by decide) ?_
          refine G.bipush (v := nI 9) dX6_readPart_129 (by decide) ?_
          refine G.mcall (f' := fX6_mustNumber) q2068 ck_X6_mustNumber (c_number_dead hdd _ _) dX6_readPart_131 (rV.k fun M_131 h_131 => ?_) (hroom := jroom_of rfl rfl (by omega) (Nat.le_of_ble_eq_true rfl))
          first | (replace h_131 := h_131.symm; subst h_131) | skip
          refine G.goto (tgt := 141) dX6_readPart_134 (by decide) ?_
          refine G.return_ dX6_readPart_141 ?_
          exact ⟨_, rfl, rfl, h_112⟩
    · rw [if_neg q5] at h_112 ⊢
      obtain ⟨rfl, -, -, -⟩ := h_112
      refine G.iload_n2 dX6_readPart_115 ?_
      refine G.bipush (v := nI 24) dX6_readPart_116 (by decide) ?_
      refine G.icmp_eq (tgt := 127) dX6_readPart_118 (by decide) (fun c_118 => ?_) (fun c_118 => ?_)
      · refine G.aload_n0 dX6_readPart_127 ?_
        refine G.iconst (v := nI 0) dX6_readPart_128 (by decide) ?_
        refine G.bipush (v := nI 9) dX6_readPart_129 (by decide) ?_
        have hpers : tk.1 pos = nI 24 ∨ tk.1 pos = nI 25 := by first | exact Or.inl (by assumption) | exact Or.inr (by first | assumption | exact Classical.not_not.mp (by assumption))
        rw [if_pos hpers]
        refine G.mcall (f' := fX6_mustNumber) q2068 ck_X6_mustNumber (c_number_at h0 (p := pos + 1) (l := lv + 1) (by omega) (by omega) (nI 0) (nI 9)) dX6_readPart_131 (rV.k fun M_131 h_131 => ?_) (hroom := jroom_of rfl rfl (by omega) (Nat.le_of_ble_eq_true rfl))
        first | (replace h_131 := h_131.symm; subst h_131) | skip
        refine G.goto (tgt := 141) dX6_readPart_134 (by decide) ?_
        refine G.return_ dX6_readPart_141 ?_
        first
        | (refine ⟨_, rfl, rfl, ?_⟩
           unfold zNumb at h_131
           rw [show (nI 0).toInt = 0 from by decide, show (nI 9).toInt = 9 from by decide] at h_131
           split at h_131
           · rename_i q6
             rw [if_pos q6]
             exact ⟨h_131.1, by omega, h_131.2.2.1, h_131.2.2.2⟩
           · rename_i q6
             rw [if_neg q6]
             exact h_131)
        | (rw [if_neg (fun z => z.elim c_118 c_124)]
           exact ⟨_, rfl, rfl, rfl, by omega, by omega, by omega⟩)
      · refine G.iload_n2 dX6_readPart_121 ?_
        refine G.bipush (v := nI 25) dX6_readPart_122 (by decide) ?_
        refine G.icmp_ne (tgt := 141) dX6_readPart_124 (by decide) (fun c_124 => ?_) (fun c_124 => ?_)
        · refine G.return_ dX6_readPart_141 ?_
          first
          | (refine ⟨_, rfl, rfl, ?_⟩
             unfold zNumb at h_131
             rw [show (nI 0).toInt = 0 from by decide, show (nI 9).toInt = 9 from by decide] at h_131
             split at h_131
             · rename_i q6
               rw [if_pos q6]
               exact ⟨h_131.1, by omega, h_131.2.2.1, h_131.2.2.2⟩
             · rename_i q6
               rw [if_neg q6]
               exact h_131)
          | (rw [if_neg (fun z => z.elim c_118 c_124)]
             exact ⟨_, rfl, rfl, rfl, by omega, by omega, by omega⟩)
        · refine G.aload_n0 dX6_readPart_127 ?_
          refine G.iconst (v := nI 0) dX6_readPart_128 (by decide) ?_
          refine G.bipush (v := nI 9) dX6_readPart_129 (by decide) ?_
          have hpers : tk.1 pos = nI 24 ∨ tk.1 pos = nI 25 := by first | exact Or.inl (by assumption) | exact Or.inr (by first | assumption | exact Classical.not_not.mp (by assumption))
          rw [if_pos hpers]
          refine G.mcall (f' := fX6_mustNumber) q2068 ck_X6_mustNumber (c_number_at h0 (p := pos + 1) (l := lv + 1) (by omega) (by omega) (nI 0) (nI 9)) dX6_readPart_131 (rV.k fun M_131 h_131 => ?_) (hroom := jroom_of rfl rfl (by omega) (Nat.le_of_ble_eq_true rfl))
          first | (replace h_131 := h_131.symm; subst h_131) | skip
          refine G.goto (tgt := 141) dX6_readPart_134 (by decide) ?_
          refine G.return_ dX6_readPart_141 ?_
          first
          | (refine ⟨_, rfl, rfl, ?_⟩
             unfold zNumb at h_131
             rw [show (nI 0).toInt = 0 from by decide, show (nI 9).toInt = 9 from by decide] at h_131
             split at h_131
             · rename_i q6
               rw [if_pos q6]
               exact ⟨h_131.1, by omega, h_131.2.2.1, h_131.2.2.2⟩
             · rename_i q6
               rw [if_neg q6]
               exact h_131)
          | (rw [if_neg (fun z => z.elim c_118 c_124)]
             exact ⟨_, rfl, rfl, rfl, by omega, by omega, by omega⟩)
  have k137 : ¬ tk.1 pos = nI 191 → isLeaf ord (tk.1 pos) (tk.2 pos) = false → ∀ y : Rs Sm, y = .inl pos → G E (fX6_readPart (dp + 1)) (mFin E (fX6_readPart (dp + 1)) L ph (rV fun M' => rdQ M0 N pos y M')) 137 [some (.ref (L.1 52)), some (.int (nI d)), some (.int (tk.1 pos))] [] (movl L (rS M0 pos lv) ph) 0 0 := by
    rintro hq hlf y rfl
    refine G.aload_n0 dX6_readPart_137 ?_
    refine G.mcall (f' := fX6_faults) q2056 ck_X6_faults (c_faults_at h0 hp) dX6_readPart_138 (rV.k fun M_138 h_138 => ?_) (hroom := jroom_of rfl rfl (by omega) (Nat.le_of_ble_eq_true rfl))
    first | (replace h_138 := h_138.symm; subst h_138) | skip
    refine G.return_ dX6_readPart_141 ?_
    exact ⟨_, rfl, rfl, rfl, by omega, rS_x.ms (by decide)⟩
  refine G.aload_n0 dX6_readPart_0 ?_
  refine G.mcall (f' := fX6_fine) q2037 ck_X6_fine (c_X6_fine) dX6_readPart_1 (rI.k fun r_1 M_1 h_1 => ?_) (hroom := jroom_of rfl rfl (by omega) (Nat.le_of_ble_eq_true rfl))
  obtain ⟨e_1, h_1⟩ := h_1; replace e_1 := e_1.symm; replace h_1 := h_1.symm; subst e_1; subst h_1
  refine G.ifb_ne (tgt := 8) dX6_readPart_4 (by decide) (fun c_4 => ?_) (fun c_4 => ?_)
  · refine G.aload_n0 dX6_readPart_8 ?_
    refine G.mgeta 15 fl_X6_50 dX6_readPart_9 ?_
    refine G.aload_n0 dX6_readPart_12 ?_
    refine G.mgeti 19 fl_X6_168 dX6_readPart_13 ?_
    refine G.miald (n := 401) 15 pos dX6_readPart_16 h19 (by omega) ?_
    rw [hc]
    refine G.istore_n2 dX6_readPart_17 ?_
    refine G.iload_n2 dX6_readPart_18 ?_
    refine G.bipush (v := nI 91) dX6_readPart_19 (by decide) ?_
    refine G.scall (f' := fX6_sign) q2053 ck_X6_sign (c_X6_sign E 91) dX6_readPart_21 (sI.k fun r_21 h_21 => ?_) (hroom := jroom_of rfl rfl (by omega) (Nat.le_of_ble_eq_true rfl))
    replace h_21 := h_21.symm; subst h_21
    refine G.icmp_ne (tgt := 74) dX6_readPart_24 (by decide) (fun c_24 => ?_) (fun c_24 => ?_)
    · rw [if_neg c_24]
      refine G.iload_n2 dX6_readPart_74 ?_
      refine G.bipush (v := nI 50) dX6_readPart_75 (by decide) ?_
      refine G.icmp_ne (tgt := 95) dX6_readPart_77 (by decide) (fun c_77 => ?_) (fun c_77 => ?_)
      · refine G.iload_n2 dX6_readPart_95 ?_
        refine G.aload_n0 dX6_readPart_96 ?_
        refine G.mgeti 8 fl_X6_220 dX6_readPart_97 ?_
        rw [h8]
        refine G.icmp_lt (tgt := 137) dX6_readPart_100 (by decide) (fun c_100 => ?_) (fun c_100 => ?_)
        · have hlf : isLeaf ord (tk.1 pos) (tk.2 pos) = false := decide_eq_false (by
              intro z
              have y : ¬ (tk.1 pos = nI 50 ∧ (tk.2 pos).toInt ≤ 1000) := by
                first
                  | exact fun y => c_77 y.1
                  | (intro y
                     refine c_92 (i_le.mpr ?_)
                     rw [t_nI (by omega)]
                     exact y.2)
              rcases z with z | z
              · exact y z
              · first
                  | (have z1 := c_108
                     rw [i_lt, t_nI (by cases ord <;> decide)] at z1
                     omega)
                  | (have z1 := c_100
                     rw [i_lt, t_nI (by cases ord <;> decide)] at z1
                     omega))
          rw [if_neg (by rw [hlf]; exact Bool.false_ne_true)]
          exact k137 c_24 hlf _ rfl
        · refine G.iload_n2 dX6_readPart_103 ?_
          refine G.aload_n0 dX6_readPart_104 ?_
          refine G.mgeti 9 fl_X6_223 dX6_readPart_105 ?_
          rw [h9]
          refine G.icmp_gt (tgt := 137) dX6_readPart_108 (by decide) (fun c_108 => ?_) (fun c_108 => ?_)
          · have hlf : isLeaf ord (tk.1 pos) (tk.2 pos) = false := decide_eq_false (by
                intro z
                have y : ¬ (tk.1 pos = nI 50 ∧ (tk.2 pos).toInt ≤ 1000) := by
                  first
                    | exact fun y => c_77 y.1
                    | (intro y
                       refine c_92 (i_le.mpr ?_)
                       rw [t_nI (by omega)]
                       exact y.2)
                rcases z with z | z
                · exact y z
                · first
                    | (have z1 := c_108
                       rw [i_lt, t_nI (by cases ord <;> decide)] at z1
                       omega)
                    | (have z1 := c_100
                       rw [i_lt, t_nI (by cases ord <;> decide)] at z1
                       omega))
            rw [if_neg (by rw [hlf]; exact Bool.false_ne_true)]
            exact k137 c_24 hlf _ rfl
          · first
            | (have hlf : isLeaf ord (tk.1 pos) (tk.2 pos) = true := decide_eq_true (Or.inl ⟨Classical.not_not.mp c_77, by have := i_le.mp c_92; rwa [t_nI (by omega)] at this⟩)
               rw [if_pos hlf]
               exact k111 c_24 hlf)
            | (have hlf : isLeaf ord (tk.1 pos) (tk.2 pos) = true := decide_eq_true (Or.inl ⟨c_77, by have := i_le.mp c_92; rwa [t_nI (by omega)] at this⟩)
               rw [if_pos hlf]
               exact k111 c_24 hlf)
            | (have hlf : isLeaf ord (tk.1 pos) (tk.2 pos) = true := decide_eq_true (Or.inr (by
                 have z1 := c_100
                 have z2 := c_108
                 rw [i_lt, t_nI (by cases ord <;> decide)] at z1 z2
                 omega))
               rw [if_pos hlf]
               exact k111 c_24 hlf)
      · refine G.aload_n0 dX6_readPart_80 ?_
        refine G.mgeta 16 fl_X6_53 dX6_readPart_81 ?_
        refine G.aload_n0 dX6_readPart_84 ?_
        refine G.mgeti 19 fl_X6_168 dX6_readPart_85 ?_
        refine G.miald (n := 401) 16 pos dX6_readPart_88 h19 (by omega) ?_
        rw [hv]
        refine G.sipush (v := nI 1000) dX6_readPart_89 (by decide) ?_
        refine G.icmp_le (tgt := 111) dX6_readPart_92 (by decide) (fun c_92 => ?_) (fun c_92 => ?_)
        · first
          | (have hlf : isLeaf ord (tk.1 pos) (tk.2 pos) = true := decide_eq_true (Or.inl ⟨Classical.not_not.mp c_77, by have := i_le.mp c_92; rwa [t_nI (by omega)] at this⟩)
             rw [if_pos hlf]
             exact k111 c_24 hlf)
          | (have hlf : isLeaf ord (tk.1 pos) (tk.2 pos) = true := decide_eq_true (Or.inl ⟨c_77, by have := i_le.mp c_92; rwa [t_nI (by omega)] at this⟩)
             rw [if_pos hlf]
             exact k111 c_24 hlf)
          | (have hlf : isLeaf ord (tk.1 pos) (tk.2 pos) = true := decide_eq_true (Or.inr (by
               have z1 := c_100
               have z2 := c_108
               rw [i_lt, t_nI (by cases ord <;> decide)] at z1 z2
               omega))
             rw [if_pos hlf]
             exact k111 c_24 hlf)
        · refine G.iload_n2 dX6_readPart_95 ?_
          refine G.aload_n0 dX6_readPart_96 ?_
          refine G.mgeti 8 fl_X6_220 dX6_readPart_97 ?_
          rw [h8]
          refine G.icmp_lt (tgt := 137) dX6_readPart_100 (by decide) (fun c_100 => ?_) (fun c_100 => ?_)
          · have hlf : isLeaf ord (tk.1 pos) (tk.2 pos) = false := decide_eq_false (by
                intro z
                have y : ¬ (tk.1 pos = nI 50 ∧ (tk.2 pos).toInt ≤ 1000) := by
                  first
                    | exact fun y => c_77 y.1
                    | (intro y
                       refine c_92 (i_le.mpr ?_)
                       rw [t_nI (by omega)]
                       exact y.2)
                rcases z with z | z
                · exact y z
                · first
                    | (have z1 := c_108
                       rw [i_lt, t_nI (by cases ord <;> decide)] at z1
                       omega)
                    | (have z1 := c_100
                       rw [i_lt, t_nI (by cases ord <;> decide)] at z1
                       omega))
            rw [if_neg (by rw [hlf]; exact Bool.false_ne_true)]
            exact k137 c_24 hlf _ rfl
          · refine G.iload_n2 dX6_readPart_103 ?_
            refine G.aload_n0 dX6_readPart_104 ?_
            refine G.mgeti 9 fl_X6_223 dX6_readPart_105 ?_
            rw [h9]
            refine G.icmp_gt (tgt := 137) dX6_readPart_108 (by decide) (fun c_108 => ?_) (fun c_108 => ?_)
            · have hlf : isLeaf ord (tk.1 pos) (tk.2 pos) = false := decide_eq_false (by
                  intro z
                  have y : ¬ (tk.1 pos = nI 50 ∧ (tk.2 pos).toInt ≤ 1000) := by
                    first
                      | exact fun y => c_77 y.1
                      | (intro y
                         refine c_92 (i_le.mpr ?_)
                         rw [t_nI (by omega)]
                         exact y.2)
                  rcases z with z | z
                  · exact y z
                  · first
                      | (have z1 := c_108
                         rw [i_lt, t_nI (by cases ord <;> decide)] at z1
                         omega)
                      | (have z1 := c_100
                         rw [i_lt, t_nI (by cases ord <;> decide)] at z1
                         omega))
              rw [if_neg (by rw [hlf]; exact Bool.false_ne_true)]
              exact k137 c_24 hlf _ rfl
            · first
              | (have hlf : isLeaf ord (tk.1 pos) (tk.2 pos) = true := decide_eq_true (Or.inl ⟨Classical.not_not.mp c_77, by have := i_le.mp c_92; rwa [t_nI (by omega)] at this⟩)
                 rw [if_pos hlf]
                 exact k111 c_24 hlf)
              | (have hlf : isLeaf ord (tk.1 pos) (tk.2 pos) = true := decide_eq_true (Or.inl ⟨c_77, by have := i_le.mp c_92; rwa [t_nI (by omega)] at this⟩)
                 rw [if_pos hlf]
                 exact k111 c_24 hlf)
              | (have hlf : isLeaf ord (tk.1 pos) (tk.2 pos) = true := decide_eq_true (Or.inr (by
                   have z1 := c_100
                   have z2 := c_108
                   rw [i_lt, t_nI (by cases ord <;> decide)] at z1 z2
                   omega))
                 rw [if_pos hlf]
                 exact k111 c_24 hlf)
    · have q24 : tk.1 pos = nI 191 := by first | exact c_24 | exact Classical.not_not.mp c_24
      rw [if_pos q24]
      have hpN := tk_in h0.2.2.2.2.1 (by decide) (by decide) q24
      refine G.iload_n1 dX6_readPart_27 ?_
      refine G.bipush (v := nI 8) dX6_readPart_28 (by decide) ?_
      refine G.icmp_ne (tgt := 37) dX6_readPart_30 (by decide) (fun c_30 => ?_) (fun c_30 => ?_)
      · have n_30 : ¬ d = 8 := fun z => c_30 (congrArg nI z)
        refine G.aload_n0 dX6_readPart_37 ?_
        refine G.mcall (f' := fX6_fine) q2037 ck_X6_fine (c_X6_fine) dX6_readPart_38 (rI.k fun r_38 M_38 h_38 => ?_) (hroom := jroom_of rfl rfl (by omega) (Nat.le_of_ble_eq_true rfl))
        obtain ⟨e_38, h_38⟩ := h_38; replace e_38 := e_38.symm; replace h_38 := h_38.symm; subst e_38; subst h_38
        refine G.ifb_ne (tgt := 45) dX6_readPart_41 (by decide) (fun c_41 => ?_) (fun c_41 => ?_)
        · first
          | exact absurd (of_decide_eq_true c_41) hpl
          | (rcases hsub with ⟨-, z⟩ | ⟨g, hg, hd, hev⟩
             · omega
             · subst hg
               refine G.aload_n0 dX6_readPart_45 ?_
               refine G.dup dX6_readPart_46 rfl ?_
               refine G.mgeti 19 fl_X6_168 dX6_readPart_47 ?_
               rw [h19]
               refine G.iconst (v := nI 1) dX6_readPart_50 (by decide) ?_
               first | with_reducible refine G.iaddn dX6_readPart_51 ?_ | refine G.iadd dX6_readPart_51 ?_
               refine G.mputi 19 fp_X6_168 dX6_readPart_52 ?_
               rw [rS_t]
               refine G.aload_n0 dX6_readPart_55 ?_
               refine G.iload_n1 dX6_readPart_56 ?_
               refine G.iconst (v := nI 1) dX6_readPart_57 (by decide) ?_
               first | with_reducible refine G.iaddn dX6_readPart_58 ?_ | refine G.iadd dX6_readPart_58 ?_
               refine G.mcall (f' := fX6_readSum (dp)) q2041 (ck_X6_readSum _) (hev (pos + 1) lv (by omega) hl) dX6_readPart_59 (rV.k fun M_59 h_59 => ?_) (hroom := jroom_of rfl rfl (by omega) (Nat.le_of_ble_eq_true rfl))
               first | (replace h_59 := h_59.symm; subst h_59) | skip
               refine G.aload_n0 dX6_readPart_62 ?_
               refine G.bipush (v := nI 93) dX6_readPart_63 (by decide) ?_
               refine G.scall (f' := fX6_sign) q2053 ck_X6_sign (c_X6_sign E 93) dX6_readPart_65 (sI.k fun r_65 h_65 => ?_) (hroom := jroom_of rfl rfl (by omega) (Nat.le_of_ble_eq_true rfl))
               replace h_65 := h_65.symm; subst h_65
               dsimp only
               cases hgx : g (pos + 1) lv with
               | inl e =>
                 rw [hgx] at h_59
                 have hdd := rdQ_bad h0 h_59 rfl
                 refine G.mcall (f' := fX6_must) q2060 ck_X6_must (c_must_dead hdd _) dX6_readPart_68 (rV.k fun M_68 h_68 => ?_) (hroom := jroom_of rfl rfl (by omega) (Nat.le_of_ble_eq_true rfl))
                 first | (replace h_68 := h_68.symm; subst h_68) | skip
                 refine G.goto (tgt := 141) dX6_readPart_71 (by decide) ?_
                 refine G.return_ dX6_readPart_141 ?_
                 exact ⟨_, rfl, rfl, h_59⟩
               | inr x =>
                 obtain ⟨s, p, l⟩ := x
                 rw [hgx] at h_59
                 obtain ⟨rfl, g1, g2, g3⟩ := h_59
                 refine G.mcall (f' := fX6_must) q2060 ck_X6_must (c_must_at h0 g2 g3 (k := 193) (by omega) (by omega)) dX6_readPart_68 (rV.k fun M_68 h_68 => ?_) (hroom := jroom_of rfl rfl (by omega) (Nat.le_of_ble_eq_true rfl))
                 first | (replace h_68 := h_68.symm; subst h_68) | skip
                 refine G.goto (tgt := 141) dX6_readPart_71 (by decide) ?_
                 refine G.return_ dX6_readPart_141 ?_
                 refine ⟨_, rfl, rfl, ?_⟩
                 unfold zMust at h_68
                 dsimp only
                 split at h_68
                 · rename_i q6
                   rw [if_pos q6]
                   exact ⟨h_68.1, by omega, h_68.2.2.1, h_68.2.2.2⟩
                 · rename_i q6
                   rw [if_neg q6]
                   exact h_68)
        · first
          | exact absurd hb (of_decide_eq_false c_41)
          | (rcases hsub with ⟨hg, -⟩ | ⟨g, hg, hd, hev⟩
             · subst hg
               refine G.return_ dX6_readPart_44 ?_
               exact ⟨_, rfl, rfl, rfl, by omega, rS_x.ms (by decide)⟩
             · omega)
      · have n_30 : d = 8 := (nI_inj (a := d) (b := 8) (by omega) (by omega)).mp c_30
        refine G.aload_n0 dX6_readPart_33 ?_
        refine G.mcall (f' := fX6_faults) q2056 ck_X6_faults (c_faults_at h0 hp) dX6_readPart_34 (rV.k fun M_34 h_34 => ?_) (hroom := jroom_of rfl rfl (by omega) (Nat.le_of_ble_eq_true rfl))
        first | (replace h_34 := h_34.symm; subst h_34) | skip
        refine G.aload_n0 dX6_readPart_37 ?_
        refine G.mcall (f' := fX6_fine) q2037 ck_X6_fine (c_X6_fine) dX6_readPart_38 (rI.k fun r_38 M_38 h_38 => ?_) (hroom := jroom_of rfl rfl (by omega) (Nat.le_of_ble_eq_true rfl))
        obtain ⟨e_38, h_38⟩ := h_38; replace e_38 := e_38.symm; replace h_38 := h_38.symm; subst e_38; subst h_38
        refine G.ifb_ne (tgt := 45) dX6_readPart_41 (by decide) (fun c_41 => ?_) (fun c_41 => ?_)
        · first
          | exact absurd (of_decide_eq_true c_41) hpl
          | (rcases hsub with ⟨-, z⟩ | ⟨g, hg, hd, hev⟩
             · omega
             · subst hg
               refine G.aload_n0 dX6_readPart_45 ?_
               refine G.dup dX6_readPart_46 rfl ?_
               refine G.mgeti 19 fl_X6_168 dX6_readPart_47 ?_
               rw [h19]
               refine G.iconst (v := nI 1) dX6_readPart_50 (by decide) ?_
               first | with_reducible refine G.iaddn dX6_readPart_51 ?_ | refine G.iadd dX6_readPart_51 ?_
               refine G.mputi 19 fp_X6_168 dX6_readPart_52 ?_
               rw [rS_t]
               refine G.aload_n0 dX6_readPart_55 ?_
               refine G.iload_n1 dX6_readPart_56 ?_
               refine G.iconst (v := nI 1) dX6_readPart_57 (by decide) ?_
               first | with_reducible refine G.iaddn dX6_readPart_58 ?_ | refine G.iadd dX6_readPart_58 ?_
               refine G.mcall (f' := fX6_readSum (dp)) q2041 (ck_X6_readSum _) (hev (pos + 1) lv (by omega) hl) dX6_readPart_59 (rV.k fun M_59 h_59 => ?_) (hroom := jroom_of rfl rfl (by omega) (Nat.le_of_ble_eq_true rfl))
               first | (replace h_59 := h_59.symm; subst h_59) | skip
               refine G.aload_n0 dX6_readPart_62 ?_
               refine G.bipush (v := nI 93) dX6_readPart_63 (by decide) ?_
               refine G.scall (f' := fX6_sign) q2053 ck_X6_sign (c_X6_sign E 93) dX6_readPart_65 (sI.k fun r_65 h_65 => ?_) (hroom := jroom_of rfl rfl (by omega) (Nat.le_of_ble_eq_true rfl))
               replace h_65 := h_65.symm; subst h_65
               dsimp only
               cases hgx : g (pos + 1) lv with
               | inl e =>
                 rw [hgx] at h_59
                 have hdd := rdQ_bad h0 h_59 rfl
                 refine G.mcall (f' := fX6_must) q2060 ck_X6_must (c_must_dead hdd _) dX6_readPart_68 (rV.k fun M_68 h_68 => ?_) (hroom := jroom_of rfl rfl (by omega) (Nat.le_of_ble_eq_true rfl))
                 first | (replace h_68 := h_68.symm; subst h_68) | skip
                 refine G.goto (tgt := 141) dX6_readPart_71 (by decide) ?_
                 refine G.return_ dX6_readPart_141 ?_
                 exact ⟨_, rfl, rfl, h_59⟩
               | inr x =>
                 obtain ⟨s, p, l⟩ := x
                 rw [hgx] at h_59
                 obtain ⟨rfl, g1, g2, g3⟩ := h_59
                 refine G.mcall (f' := fX6_must) q2060 ck_X6_must (c_must_at h0 g2 g3 (k := 193) (by omega) (by omega)) dX6_readPart_68 (rV.k fun M_68 h_68 => ?_) (hroom := jroom_of rfl rfl (by omega) (Nat.le_of_ble_eq_true rfl))
                 first | (replace h_68 := h_68.symm; subst h_68) | skip
                 refine G.goto (tgt := 141) dX6_readPart_71 (by decide) ?_
                 refine G.return_ dX6_readPart_141 ?_
                 refine ⟨_, rfl, rfl, ?_⟩
                 unfold zMust at h_68
                 dsimp only
                 split at h_68
                 · rename_i q6
                   rw [if_pos q6]
                   exact ⟨h_68.1, by omega, h_68.2.2.1, h_68.2.2.2⟩
                 · rename_i q6
                   rw [if_neg q6]
                   exact h_68)
        · first
          | exact absurd hb (of_decide_eq_false c_41)
          | (rcases hsub with ⟨hg, -⟩ | ⟨g, hg, hd, hev⟩
             · subst hg
               refine G.return_ dX6_readPart_44 ?_
               exact ⟨_, rfl, rfl, rfl, by omega, rS_x.ms (by decide)⟩
             · omega)
  · exact absurd hb (of_decide_eq_false c_4)
/-- rows of the same kind: what the loop behind the first one does -/
theorem pRow_go {α : Type} {tk : Tk} {sign : Int32 → Bool} {join : Int32 → α → α → α} {one : Nat → Nat → Rs α} {acc : α} {k pos lv : Nat} (h : sign (tk.1 pos) = true) : pRow tk sign join one (k + 1) acc pos lv = (match one (pos + 1) lv with
      | .inl e => .inl e
      | .inr (s, p, l) => pRow tk sign join one k (join (tk.1 pos) acc s) p l) := by
  rw [pRow, if_pos h]
  rfl
theorem pRow_no {α : Type} {tk : Tk} {sign : Int32 → Bool} {join : Int32 → α → α → α} {one : Nat → Nat → Rs α} {acc : α} {k pos lv : Nat} (h : sign (tk.1 pos) = false) : pRow tk sign join one (k + 1) acc pos lv = .inr (acc, pos, lv) := by rw [pRow, if_neg (by rw [h]; exact Bool.false_ne_true)]
theorem rdQ_up {α : Type} {N p p' : Nat} {x : Rs α} {M' : MM} (h : p ≤ p') (hq : rdQ M0 N p' x M') : rdQ M0 N p x M' := by
  rcases x with e | ⟨s, q, l⟩
  · exact hq
  · exact ⟨hq.1, by have := hq.2.1; omega, hq.2.2.1, hq.2.2.2⟩
end Read
