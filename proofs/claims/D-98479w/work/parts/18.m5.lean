/-! THE MODEL TELLS: sums, tests -/
section Ev
variable {E : JE} {L : ML} {ph : HP} {B N : Nat} {tk : Tk} {ord : Bool} {e : En} {n : Nat}
theorem e_sum {dp : Nat} {one : Nat → Nat → Rs Sm} (hdp : 11 ≤ dp) (hone : EvS E (fX6_termOf dp) L ph one B N tk ord e n) (hQ : ∀ pos lv s p l, one pos lv = .inr (s, p, l) → zBd e s ∧ pos < p ∧ p ≤ N) : EvS E (fX6_sumOf (dp + 1)) L ph (pRows tk isAdd zBin one) B N tk ord e n := by
  intro M pos lv s p l live b hC hP hgo hb
  obtain ⟨s0, p0, l0, hP0, hPr⟩ := pRows_of hP
  obtain ⟨hQ0, hlt0, hle0⟩ := hQ _ _ _ _ _ hP0
  have hBN : B + N ≤ 2800 := hC.1
  have loop : ∀ (k : Nat) (acc : Sm) (M2 : MM) (pos2 lv2 : Nat) (v : Int64) (a4 a5 a6 : Option Value), mX [22, 24] [] M M2 → M2.1 22 = nI (B + pos2) → M2.1 24 = bI (zB live b (acc e)) → zV live b (acc e) v → zBd e acc → pos2 ≤ N → pRow tk isAdd zBin one k acc pos2 lv2 = .inr (s, p, l) → G E (fX6_sumOf (dp + 1)) (mFin E (fX6_sumOf (dp + 1)) L ph (rJ fun r M' => mX [22, 24] [] M M' ∧ M'.1 22 = nI (B + p) ∧ M'.1 24 = bI (zB live b (s e)) ∧ (live = true → b = false → ∀ v, s e = some v → r = v))) 6 [some (.ref (L.1 52)), some (.int (bI live)), some (.long v), none, a4, a5, a6] [] (movl L M2 ph) 0 0 := by
    intro k
    induction k with
    | zero => intro acc M2 pos2 lv2 v a4 a5 a6 _ _ _ _ _ _ h; simp [pRow] at h
    | succ k ih =>
      intro acc M2 pos2 lv2 v a4 a5 a6 hx h22 h24 hv hbd hle h
      have hC2 := hC.mv hx
      have k61 : ∀ q : Bool, (tk.1 pos2 = nI 143 ∨ tk.1 pos2 = nI 145) → q = decide (tk.1 pos2 = nI 143) → G E (fX6_sumOf (dp + 1)) (mFin E (fX6_sumOf (dp + 1)) L ph (rJ fun r M' => mX [22, 24] [] M M' ∧ M'.1 22 = nI (B + p) ∧ M'.1 24 = bI (zB live b (s e)) ∧ (live = true → b = false → ∀ v, s e = some v → r = v))) 61 [some (.ref (L.1 52)), some (.int (bI live)), some (.long v), none, some (.int (bI q)), a5, a6] [] (movl L M2 ph) 0 0 := by
        intro q hop hq
        obtain ⟨s1, p1, l1, h1, h2⟩ := pRow_on h (show isAdd (tk.1 pos2) = true from decide_eq_true hop)
        obtain ⟨hQ1, hlt1, hle1⟩ := hQ _ _ _ _ _ h1
        refine G.aload_n0 dX6_sumOf_61 ?_
        refine G.dup dX6_sumOf_62 rfl ?_
        refine G.mgeti 22 fl_X6_248 dX6_sumOf_63 ?_
        rw [h22]
        refine G.iconst (v := nI 1) dX6_sumOf_66 (by decide) ?_
        first | with_reducible refine G.iaddn dX6_sumOf_67 ?_ | refine G.iadd dX6_sumOf_67 ?_
        refine G.mputi 22 fp_X6_248 dX6_sumOf_68 ?_
        refine G.aload_n0 dX6_sumOf_71 ?_
        refine G.iload_n1 dX6_sumOf_72 ?_
        refine G.mcall (f' := fX6_termOf (dp)) q2132 (ck_X6_termOf _) (hone (ms M2 22 (nI (B + pos2 + 1))) (pos2 + 1) lv2 s1 p1 l1 live (zB live b (acc e)) (hC2.mv (mX.rf.ms (by decide))) h1 rfl h24) dX6_sumOf_73 (rJ.k fun r_73 M_73 h_73 => ?_) (hroom := jroom_of rfl rfl (by omega) (Nat.le_of_ble_eq_true rfl))
        obtain ⟨hx3, hg3, hb3, hw3⟩ := h_73
        have hx3' : mX [22, 24] [] M M_73 := (hx.ms (by decide)).tr hx3 (by simp) (by simp)
        have k95 : ∀ r, r = (if tk.1 pos2 = nI 143 then v + r_73 else v - r_73) → G E (fX6_sumOf (dp + 1)) (mFin E (fX6_sumOf (dp + 1)) L ph (rJ fun r M' => mX [22, 24] [] M M' ∧ M'.1 22 = nI (B + p) ∧ M'.1 24 = bI (zB live b (s e)) ∧ (live = true → b = false → ∀ v, s e = some v → r = v))) 95 [some (.ref (L.1 52)), some (.int (bI live)), some (.long v), none, some (.int (bI q)), some (.long r_73), none] [.long r, .ref (L.1 52)] (movl L M_73 ph) 0 0 := by
          intro r hr
          obtain ⟨z1, z2⟩ := z_add hop hv hw3 hr
          refine G.iload_n1 dX6_sumOf_95 ?_
          refine G.mcall (f' := fX6_bounded) q2145 ck_X6_bounded (c_X6_bounded r live _ hb3) dX6_sumOf_96 (rJ.k fun r_96 M_96 h_96 => ?_) (hroom := jroom_of rfl rfl (by omega) (Nat.le_of_ble_eq_true rfl))
          obtain ⟨g1, g2, g3, g4⟩ := h_96
          subst g4
          refine G.lstore_n2 dX6_sumOf_99 ?_
          refine G.goto (tgt := 6) dX6_sumOf_100 (by decide) ?_
          exact ih (zBin (tk.1 pos2) acc s1) _ p1 l1 _ _ _ _ (hx3'.tr g1 (by simp) (by simp)) (g2.trans hg3) (by rw [g3, z1]) z2 (zBin_bd hbd hQ1) hle1 h2
        refine G.lstore5 dX6_sumOf_76 ?_
        refine G.aload_n0 dX6_sumOf_78 ?_
        refine G.iload4 dX6_sumOf_79 ?_
        refine G.ifb_eq (tgt := 91) dX6_sumOf_81 (by decide) (fun c_81 => ?_) (fun c_81 => ?_)
        · refine G.lload_n2 dX6_sumOf_91 ?_
          refine G.lload5 dX6_sumOf_92 ?_
          refine G.lsub dX6_sumOf_94 ?_
          first | exact k95 _ (by rw [if_pos (of_decide_eq_true (hq.symm.trans c_81))]) | exact k95 _ (by rw [if_neg (of_decide_eq_false (hq.symm.trans c_81))])
        · refine G.lload_n2 dX6_sumOf_84 ?_
          refine G.lload5 dX6_sumOf_85 ?_
          refine G.ladd dX6_sumOf_87 ?_
          refine G.goto (tgt := 95) dX6_sumOf_88 (by decide) ?_
          first | exact k95 _ (by rw [if_pos (of_decide_eq_true (hq.symm.trans c_81))]) | exact k95 _ (by rw [if_neg (of_decide_eq_false (hq.symm.trans c_81))])
      refine G.aload_n0 dX6_sumOf_6 ?_
      refine G.aload_n0 dX6_sumOf_7 ?_
      refine G.mgeti 22 fl_X6_248 dX6_sumOf_8 ?_
      rw [h22]
      refine G.mcall (f' := fX6_codeAt) q2124 ck_X6_codeAt (c_X6_codeAt (pos := pos2) hC2 (by omega)) dX6_sumOf_11 (rI.k fun r_11 M_11 h_11 => ?_) (hroom := jroom_of rfl rfl (by omega) (Nat.le_of_ble_eq_true rfl))
      obtain ⟨e_11, h_11⟩ := h_11; replace e_11 := e_11.symm; replace h_11 := h_11.symm; subst e_11; subst h_11
      refine G.bipush (v := nI 43) dX6_sumOf_14 (by decide) ?_
      refine G.scall (f' := fX6_sign) q2053 ck_X6_sign (c_X6_sign E 43) dX6_sumOf_16 (sI.k fun r_16 h_16 => ?_) (hroom := jroom_of rfl rfl (by omega) (Nat.le_of_ble_eq_true rfl))
      replace h_16 := h_16.symm; subst h_16
      refine G.icmp_eq (tgt := 38) dX6_sumOf_19 (by decide) (fun c_19 => ?_) (fun c_19 => ?_)
      · refine G.aload_n0 dX6_sumOf_38 ?_
        refine G.aload_n0 dX6_sumOf_39 ?_
        refine G.mgeti 22 fl_X6_248 dX6_sumOf_40 ?_
        rw [h22]
        refine G.mcall (f' := fX6_codeAt) q2124 ck_X6_codeAt (c_X6_codeAt (pos := pos2) hC2 (by omega)) dX6_sumOf_43 (rI.k fun r_43 M_43 h_43 => ?_) (hroom := jroom_of rfl rfl (by omega) (Nat.le_of_ble_eq_true rfl))
        obtain ⟨e_43, h_43⟩ := h_43; replace e_43 := e_43.symm; replace h_43 := h_43.symm; subst e_43; subst h_43
        refine G.bipush (v := nI 43) dX6_sumOf_46 (by decide) ?_
        refine G.scall (f' := fX6_sign) q2053 ck_X6_sign (c_X6_sign E 43) dX6_sumOf_48 (sI.k fun r_48 h_48 => ?_) (hroom := jroom_of rfl rfl (by omega) (Nat.le_of_ble_eq_true rfl))
        replace h_48 := h_48.symm; subst h_48
        refine G.icmp_ne (tgt := 58) dX6_sumOf_51 (by decide) (fun c_51 => ?_) (fun c_51 => ?_)
        · refine G.iconst (v := nI 0) dX6_sumOf_58 (by decide) ?_
          refine G.istore4 dX6_sumOf_59 ?_
          first
          | exact k61 true (Or.inl (by assumption)) (decide_eq_true (by assumption)).symm
          | exact k61 false (Or.inr c_35) (decide_eq_false (by assumption)).symm
          | exact absurd (by assumption) c_19
          | exact absurd (by assumption) c_51
        · refine G.iconst (v := nI 1) dX6_sumOf_54 (by decide) ?_
          refine G.goto (tgt := 59) dX6_sumOf_55 (by decide) ?_
          refine G.istore4 dX6_sumOf_59 ?_
          first
          | exact k61 true (Or.inl (by assumption)) (decide_eq_true (by assumption)).symm
          | exact k61 false (Or.inr c_35) (decide_eq_false (by assumption)).symm
          | exact absurd (by assumption) c_19
          | exact absurd (by assumption) c_51
      · refine G.aload_n0 dX6_sumOf_22 ?_
        refine G.aload_n0 dX6_sumOf_23 ?_
        refine G.mgeti 22 fl_X6_248 dX6_sumOf_24 ?_
        rw [h22]
        refine G.mcall (f' := fX6_codeAt) q2124 ck_X6_codeAt (c_X6_codeAt (pos := pos2) hC2 (by omega)) dX6_sumOf_27 (rI.k fun r_27 M_27 h_27 => ?_) (hroom := jroom_of rfl rfl (by omega) (Nat.le_of_ble_eq_true rfl))
        obtain ⟨e_27, h_27⟩ := h_27; replace e_27 := e_27.symm; replace h_27 := h_27.symm; subst e_27; subst h_27
        refine G.bipush (v := nI 45) dX6_sumOf_30 (by decide) ?_
        refine G.scall (f' := fX6_sign) q2053 ck_X6_sign (c_X6_sign E 45) dX6_sumOf_32 (sI.k fun r_32 h_32 => ?_) (hroom := jroom_of rfl rfl (by omega) (Nat.le_of_ble_eq_true rfl))
        replace h_32 := h_32.symm; subst h_32
        refine G.icmp_ne (tgt := 103) dX6_sumOf_35 (by decide) (fun c_35 => ?_) (fun c_35 => ?_)
        · refine G.lload_n2 dX6_sumOf_103 ?_
          refine G.lreturn dX6_sumOf_104 ?_
          obtain ⟨rfl, rfl, rfl⟩ := pRow_end h (show isAdd (tk.1 pos2) = false from decide_eq_false (fun q => by rcases q with q | q; exact c_19 q; exact c_35 q))
          exact ⟨_, rfl, _, rfl, hx, h22, h24, hv⟩
        · refine G.aload_n0 dX6_sumOf_38 ?_
          refine G.aload_n0 dX6_sumOf_39 ?_
          refine G.mgeti 22 fl_X6_248 dX6_sumOf_40 ?_
          rw [h22]
          refine G.mcall (f' := fX6_codeAt) q2124 ck_X6_codeAt (c_X6_codeAt (pos := pos2) hC2 (by omega)) dX6_sumOf_43 (rI.k fun r_43 M_43 h_43 => ?_) (hroom := jroom_of rfl rfl (by omega) (Nat.le_of_ble_eq_true rfl))
          obtain ⟨e_43, h_43⟩ := h_43; replace e_43 := e_43.symm; replace h_43 := h_43.symm; subst e_43; subst h_43
          refine G.bipush (v := nI 43) dX6_sumOf_46 (by decide) ?_
          refine G.scall (f' := fX6_sign) q2053 ck_X6_sign (c_X6_sign E 43) dX6_sumOf_48 (sI.k fun r_48 h_48 => ?_) (hroom := jroom_of rfl rfl (by omega) (Nat.le_of_ble_eq_true rfl))
          replace h_48 := h_48.symm; subst h_48
          refine G.icmp_ne (tgt := 58) dX6_sumOf_51 (by decide) (fun c_51 => ?_) (fun c_51 => ?_)
          · refine G.iconst (v := nI 0) dX6_sumOf_58 (by decide) ?_
            refine G.istore4 dX6_sumOf_59 ?_
            first
            | exact k61 true (Or.inl (by assumption)) (decide_eq_true (by assumption)).symm
            | exact k61 false (Or.inr c_35) (decide_eq_false (by assumption)).symm
            | exact absurd (by assumption) c_19
            | exact absurd (by assumption) c_51
          · refine G.iconst (v := nI 1) dX6_sumOf_54 (by decide) ?_
            refine G.goto (tgt := 59) dX6_sumOf_55 (by decide) ?_
            refine G.istore4 dX6_sumOf_59 ?_
            first
            | exact k61 true (Or.inl (by assumption)) (decide_eq_true (by assumption)).symm
            | exact k61 false (Or.inr c_35) (decide_eq_false (by assumption)).symm
            | exact absurd (by assumption) c_19
            | exact absurd (by assumption) c_51
  refine Ct.of [some (.ref (L.1 52)), some (.int (bI live)), none, none, none, none, none] rfl (Nat.le_of_ble_eq_true rfl) (show plainName RX6 = true by decide +kernel) rfl ?_
  refine G.aload_n0 dX6_sumOf_0 ?_
  refine G.iload_n1 dX6_sumOf_1 ?_
  refine G.mcall (f' := fX6_termOf (dp)) q2132 (ck_X6_termOf _) (hone M pos lv s0 p0 l0 live b hC hP0 hgo hb) dX6_sumOf_2 (rJ.k fun r_2 M_2 h_2 => ?_) (hroom := jroom_of rfl rfl (by omega) (Nat.le_of_ble_eq_true rfl))
  obtain ⟨hx, hg', hb', hv⟩ := h_2
  refine G.lstore_n2 dX6_sumOf_5 ?_
  exact loop 402 s0 _ p0 l0 _ _ _ _ hx hg' hb' hv hQ0 hle0 hPr
/-- sums, however deep -/
theorem e_sums (hk : tkOk tk N) (he : enOk e) : ∀ r, EvS E (fX6_sumOf (12 + 3 * r)) L ph (pSum ord tk r) B N tk ord e n := by
  intro r
  induction r with
  | zero =>
    rw [show pSum ord tk 0 = pRows tk isAdd zBin (pTerm ord tk none) from rfl]
    exact e_sum (dp := 11) (by omega) (e_term (dp := 10) (by omega) (e_part (ds := 9) (by omega) hk he (fun g hg => by cases hg)) (pPart_Q hk he (fun g hg => by cases hg))) (pTerm_Q hk he (fun g hg => by cases hg))
  | succ r ih =>
    rw [show pSum ord tk (r + 1) = pRows tk isAdd zBin (pTerm ord tk (some (pSum ord tk r))) from rfl]
    have hq : ∀ g, some (pSum ord tk r) = some g → ∀ pos lv s p l, g pos lv = .inr (s, p, l) → zBd e s ∧ pos < p ∧ p ≤ N := fun g hg => by cases hg; exact pSum_Q hk he r
    exact e_sum (dp := 12 + 3 * r + 2) (by omega) (e_term (dp := 12 + 3 * r + 1) (by omega) (e_part (ds := 12 + 3 * r) (by omega) hk he (fun g hg => ⟨by cases hg; exact ih, hq g hg⟩)) (pPart_Q hk he hq)) (pTerm_Q hk he hq)
end Ev
