/-! THE MODEL LOOKS AHEAD -/
section Looks
variable {E : JE} {L : ML} {ph : HP}
theorem c_X6_forgets {M : MM} : MC E fX6_forgets L M ph [] (rV fun M' => (∀ i, i < 11264 → M'.2.2.1 33 i = -1) ∧ mX [] [33] M M') := by
  refine Ct.of [some (.ref (L.1 52)), none] rfl (Nat.le_of_ble_eq_true rfl) (show plainName RX6 = true by decide +kernel) rfl ?_
  have loop : ∀ d i, i + d = 11264 → G E fX6_forgets (mFin E fX6_forgets L ph (rV fun M' => (∀ i, i < 11264 → M'.2.2.1 33 i = -1) ∧ mX [] [33] M M')) 2 [some (.ref (L.1 52)), some (.int (nI i))] [] (movl L (mar M 33 (cpA (M.2.2.1 33) (fun _ => -1) 0 i)) ph) 0 0 := by
    intro d
    induction d with
    | zero =>
      intro i hi
      refine G.iload_n1 dX6_forgets_2 ?_
      refine G.sipush (v := nI 11264) dX6_forgets_3 (by decide) ?_
      refine G.icmp_ge (tgt := 22) dX6_forgets_6 (by decide) (fun c_6 => ?_) (fun c_6 => ?_)
      · refine G.return_ dX6_forgets_22 ?_
        refine ⟨_, rfl, rfl, fun k hk => ?_, fun _ _ => rfl, fun _ => rfl, fun k hk => mar_n (by simpa using hk), fun _ => rfl⟩
        rw [mar_s, cpA_in (by omega)]
      · exact absurd (nI_leI (by omega) (by omega) |>.mpr (by omega)) c_6
    | succ d ih =>
      intro i hi
      refine G.iload_n1 dX6_forgets_2 ?_
      refine G.sipush (v := nI 11264) dX6_forgets_3 (by decide) ?_
      refine G.icmp_ge (tgt := 22) dX6_forgets_6 (by decide) (fun c_6 => ?_) (fun c_6 => ?_)
      · exact absurd ((nI_leI (by omega) (by omega)).mp c_6) (by omega)
      · refine G.aload_n0 dX6_forgets_9 ?_
        refine G.mgeta 33 fl_X6_80 dX6_forgets_10 ?_
        refine G.iload_n1 dX6_forgets_13 ?_
        refine G.iconst (v := -1) dX6_forgets_14 (by decide) ?_
        refine G.mbast (n := 11264) 33 _ dX6_forgets_15 rfl (by omega) ?_
        refine G.iinc1 dX6_forgets_16 ?_
        try rw [show ∀ a : Nat, nI a + Int32.ofInt 1 = nI (a + 1) from fun a => nI_add a 1]
        refine G.goto (tgt := 2) dX6_forgets_19 (by decide) ?_
        have hs := cpA_s (h := M.2.2.1 33) (g := fun _ => -1) (a := 0) (j := i)
        rw [Nat.zero_add] at hs
        rw [ma_mar, show (-1 : Int32).toInt8.toInt32 = -1 from by decide, hs]
        exact ih (i + 1) (by omega)
  have := loop 11264 0 rfl
  rw [cpA_0, mar_id] at this
  refine G.iconst (v := nI 0) dX6_forgets_0 (by decide) ?_
  refine G.istore_n1 dX6_forgets_1 ?_
  exact this
theorem c_X6_looks {M : MM} {b n : Nat} (hK : KOk (M.2.2.1 2) b n) : MC E fX6_looks L M ph [] (rV fun M' => nOk (M.2.2.1 2) n 0 0 M' ∧ (∀ i, i < 11264 → M'.2.2.1 33 i = -1) ∧ mX [8, 22, 23, 24, 34, 35] [25, 29, 30, 31, 33] M M') := by
  have h10 := hK.1.1
  refine Ct.of [some (.ref (L.1 52)), none, none, none] rfl (Nat.le_of_ble_eq_true rfl) (show plainName RX6 = true by decide +kernel) rfl ?_
  have loop2 : ∀ d i M2 a2 a3, i + d = n → (∀ p, p < i → M2.2.2.1 29 p = kComes (M.2.2.1 2) p) → (∀ p q, p < i → q < n → M2.2.2.1 30 (10 * p + q) = nI (kSp (M.2.2.1 2) p q)) → M2.1 34 = nI 0 → M2.1 35 = nI 0 → (∀ k, k < 330 → M2.2.2.1 31 k = nI 0) → mX [8, 22, 23, 24, 34, 35] [25, 29, 30, 31, 33] M M2 → G E fX6_looks (mFin E fX6_looks L ph (rV fun M' => nOk (M.2.2.1 2) n 0 0 M' ∧ (∀ i, i < 11264 → M'.2.2.1 33 i = -1) ∧ mX [8, 22, 23, 24, 34, 35] [25, 29, 30, 31, 33] M M')) 34 [some (.ref (L.1 52)), some (.int (nI i)), a2, a3] [] (movl L M2 ph) 0 0 := by
    intro d
    induction d with
    | zero =>
      intro i M2 a2 a3 hi h29 h30 h34 h35 h31 hx
      have e2 : M2.2.2.1 2 = M.2.2.1 2 := hx.2.2.1 2 (by decide)
      refine G.iload_n1 dX6_looks_34 ?_
      refine G.aload_n0 dX6_looks_35 ?_
      refine G.mcall (f' := fX6_people) q1938 ck_X6_people (c_X6_people E L _ ph) dX6_looks_36 (rI.k fun r_36 M_36 h_36 => ?_)
      obtain ⟨e_36, h_36⟩ := h_36; replace e_36 := e_36.symm; replace h_36 := h_36.symm; subst e_36; subst h_36
      rw [e2, hK.1.2]
      refine G.icmp_ge (tgt := 162) dX6_looks_39 (by decide) (fun c_39 => ?_) (fun c_39 => ?_)
      · refine G.aload_n0 dX6_looks_162 ?_
        refine G.mcall (f' := fX6_forgets) q2248 ck_X6_forgets (c_X6_forgets) dX6_looks_163 (rV.k fun M_163 h_163 => ?_)
        obtain ⟨g1, g2⟩ := h_163
        refine G.return_ dX6_looks_166 ?_
        refine ⟨_, rfl, rfl, ?_, g1, hx.tr g2 (by simp) (by simp)⟩
        refine (nOk.mv (M := M2) ?_ (g2.mono (by simp) (by simp)))
        exact ⟨fun p hp => h29 p (by omega), fun p q hp hq => h30 p q (by omega) hq, h34, h35, fun p k h q1 q2 q3 => Or.inl (h31 _ (by omega))⟩
      · exact absurd (nI_leI (by omega) (by omega) |>.mpr (by omega)) c_39
    | succ d ih =>
      intro i M2 a2 a3 hi h29 h30 h34 h35 h31 hx
      have e2 : M2.2.2.1 2 = M.2.2.1 2 := hx.2.2.1 2 (by decide)
      have hgo := fun M2 a2 a3 => ih (i + 1) M2 a2 a3 (by omega)
      clear ih
      have hin : i < n := by omega
      have inner : ∀ d2 j (M3 : MM) (w : Int32), j + d2 = n → (∀ p, p < i + 1 → M3.2.2.1 29 p = kComes (M.2.2.1 2) p) → (∀ p q, p < i → q < n → M3.2.2.1 30 (10 * p + q) = nI (kSp (M.2.2.1 2) p q)) → (∀ q, q < j → M3.2.2.1 30 (10 * i + q) = nI (kSp (M.2.2.1 2) i q)) → M3.1 34 = nI 0 → M3.1 35 = nI 0 → (∀ k, k < 330 → M3.2.2.1 31 k = nI 0) → mX [8, 22, 23, 24, 34, 35] [25, 29, 30, 31, 33] M M3 → G E fX6_looks (mFin E fX6_looks L ph (rV fun M' => nOk (M.2.2.1 2) n 0 0 M' ∧ (∀ i, i < 11264 → M'.2.2.1 33 i = -1) ∧ mX [8, 22, 23, 24, 34, 35] [25, 29, 30, 31, 33] M M')) 107 [some (.ref (L.1 52)), some (.int (nI i)), some (.int w), some (.int (nI j))] [] (movl L M3 ph) 0 0 := by
        intro d2
        induction d2 with
        | zero =>
          intro j M3 w hj k29 k30 k30' k34 k35 k31 kx
          have e3 : M3.2.2.1 2 = M.2.2.1 2 := kx.2.2.1 2 (by decide)
          refine G.iload_n3 dX6_looks_107 ?_
          refine G.aload_n0 dX6_looks_108 ?_
          refine G.mcall (f' := fX6_people) q1938 ck_X6_people (c_X6_people E L _ ph) dX6_looks_109 (rI.k fun r_109 M_109 h_109 => ?_)
          obtain ⟨e_109, h_109⟩ := h_109; replace e_109 := e_109.symm; replace h_109 := h_109.symm; subst e_109; subst h_109
          rw [e3, hK.1.2]
          refine G.icmp_ge (tgt := 156) dX6_looks_112 (by decide) (fun c_112 => ?_) (fun c_112 => ?_)
          · refine G.iinc1 dX6_looks_156 ?_
            try rw [show ∀ a : Nat, nI a + Int32.ofInt 1 = nI (a + 1) from fun a => nI_add a 1]
            refine G.goto (tgt := 34) dX6_looks_159 (by decide) ?_
            refine hgo M3 _ _ k29 (fun p q hp hq => ?_) k34 k35 k31 kx
            rcases Nat.lt_or_ge p i with y | y
            · exact k30 p q y hq
            · rw [show p = i from by omega]; exact k30' q (by omega)
          · exact absurd (nI_leI (by omega) (by omega) |>.mpr (by omega)) c_112
        | succ d2 ih2 =>
          intro j M3 w hj k29 k30 k30' k34 k35 k31 kx
          have e3 : M3.2.2.1 2 = M.2.2.1 2 := kx.2.2.1 2 (by decide)
          have hgo2 := fun M3 => ih2 (j + 1) M3 w (by omega)
          clear ih2
          have k149 : ∀ (v : Int32) (M4 : MM), v = nI (kSp (M.2.2.1 2) i j) → mX [8, 22, 23, 24] [25] M3 M4 → G E fX6_looks (mFin E fX6_looks L ph (rV fun M' => nOk (M.2.2.1 2) n 0 0 M' ∧ (∀ i, i < 11264 → M'.2.2.1 33 i = -1) ∧ mX [8, 22, 23, 24, 34, 35] [25, 29, 30, 31, 33] M M')) 149 [some (.ref (L.1 52)), some (.int (nI i)), some (.int w), some (.int (nI j))] [.int v, .int (nI (10 * i + j)), .ref (L.1 30)] (movl L M4 ph) 0 0 := by
            intro v M4 hv hx4
            have f29 := hx4.2.2.1 29 (by decide)
            have f30 := hx4.2.2.1 30 (by decide)
            have f31 := hx4.2.2.1 31 (by decide)
            refine G.miast (n := 100) 30 (10 * i + j) dX6_looks_149 rfl (by omega) ?_
            refine G.iinc3 dX6_looks_150 ?_
            try rw [show ∀ a : Nat, nI a + Int32.ofInt 1 = nI (a + 1) from fun a => nI_add a 1]
            refine G.goto (tgt := 107) dX6_looks_153 (by decide) ?_
            refine hgo2 _ (fun p hp => ?_) (fun p q hp hq => ?_) (fun q hq => ?_) ((hx4.1 34 (by decide)).trans k34) ((hx4.1 35 (by decide)).trans k35) (fun k hk => ?_) ((kx.tr hx4 (by simp) (by simp)).ma (by decide))
            · rw [ma_at, if_neg (by decide), f29]; exact k29 p hp
            · rw [ma_at, if_pos rfl, if_neg (by omega), f30]; exact k30 p q hp hq
            · rw [ma_at, if_pos rfl]
              split
              · rw [hv, show q = j from by omega]
              · rw [f30]; exact k30' q (by omega)
            · rw [ma_at, if_neg (by decide), f31]; exact k31 k hk
          refine G.iload_n3 dX6_looks_107 ?_
          refine G.aload_n0 dX6_looks_108 ?_
          refine G.mcall (f' := fX6_people) q1938 ck_X6_people (c_X6_people E L _ ph) dX6_looks_109 (rI.k fun r_109 M_109 h_109 => ?_)
          obtain ⟨e_109, h_109⟩ := h_109; replace e_109 := e_109.symm; replace h_109 := h_109.symm; subst e_109; subst h_109
          rw [e3, hK.1.2]
          refine G.icmp_ge (tgt := 156) dX6_looks_112 (by decide) (fun c_112 => ?_) (fun c_112 => ?_)
          · exact absurd ((nI_leI (by omega) (by omega)).mp c_112) (by omega)
          · refine G.aload_n0 dX6_looks_115 ?_
            refine G.mgeta 30 fl_X6_71 dX6_looks_116 ?_
            refine G.bipush (v := nI 10) dX6_looks_119 (by decide) ?_
            refine G.iload_n1 dX6_looks_121 ?_
            first | with_reducible refine G.imuln dX6_looks_122 ?_ | refine G.imul dX6_looks_122 ?_
            refine G.iload_n3 dX6_looks_123 ?_
            first | with_reducible refine G.iaddn dX6_looks_124 ?_ | refine G.iadd dX6_looks_124 ?_
            refine G.iload_n1 dX6_looks_125 ?_
            refine G.iload_n3 dX6_looks_126 ?_
            refine G.icmp_eq (tgt := 148) dX6_looks_127 (by decide) (fun c_127 => ?_) (fun c_127 => ?_)
            · have n_127 : i = j := (nI_inj (a := i) (b := j) (by omega) (by omega)).mp c_127
              refine G.iconst (v := nI 0) dX6_looks_148 (by decide) ?_
              first
              | exact k149 _ _ ((kSpoils_r (K := M.2.2.1 2) (p := i) (q := j)).1.trans (congrArg nI (if_pos ⟨n_127, q4⟩).symm)) g1
              | exact k149 _ _ (congrArg nI (if_neg (fun z => q4 z.2)).symm) mX.rf
              | exact k149 _ _ (congrArg nI (if_neg (fun z => z.1 n_127)).symm) mX.rf
            · have n_127 : ¬ i = j := fun z => c_127 (congrArg nI z)
              refine G.aload_n0 dX6_looks_130 ?_
              refine G.iload_n1 dX6_looks_131 ?_
              refine G.iload_n3 dX6_looks_132 ?_
              refine G.mcall (f' := fX6_doTalk) q2221 ck_X6_doTalk (c_X6_doTalk E L _ ph (a := i) (b := j) (by omega) (by omega)) dX6_looks_133 (rI.k fun r_133 M_133 h_133 => ?_)
              obtain ⟨e_133, h_133⟩ := h_133; replace e_133 := e_133.symm; replace h_133 := h_133.symm; subst e_133; subst h_133
              refine G.ifb_eq (tgt := 148) dX6_looks_136 (by decide) (fun c_136 => ?_) (fun c_136 => ?_)
              · have q4 := of_decide_eq_false c_136
                rw [e3] at q4
                refine G.iconst (v := nI 0) dX6_looks_148 (by decide) ?_
                first
                | exact k149 _ _ ((kSpoils_r (K := M.2.2.1 2) (p := i) (q := j)).1.trans (congrArg nI (if_pos ⟨n_127, q4⟩).symm)) g1
                | exact k149 _ _ (congrArg nI (if_neg (fun z => q4 z.2)).symm) mX.rf
                | exact k149 _ _ (congrArg nI (if_neg (fun z => z.1 n_127)).symm) mX.rf
              · have q4 := of_decide_eq_true c_136
                rw [e3] at q4
                refine G.aload_n0 dX6_looks_139 ?_
                refine G.iload_n1 dX6_looks_140 ?_
                refine G.iload_n3 dX6_looks_141 ?_
                refine G.mcall (f' := fX6_spoilsBy) q2179 ck_X6_spoilsBy (c_X6_spoilsBy (M := M3) (b := b) (n := n) (p := i) (q := j) (by rw [e3]; exact hK) hin (by omega)) dX6_looks_142 (rI.k fun r_142 M_142 h_142 => ?_)
                obtain ⟨rfl, g1⟩ := h_142
                rw [e3]
                refine G.goto (tgt := 149) dX6_looks_145 (by decide) ?_
                first
                | exact k149 _ _ ((kSpoils_r (K := M.2.2.1 2) (p := i) (q := j)).1.trans (congrArg nI (if_pos ⟨n_127, q4⟩).symm)) g1
                | exact k149 _ _ (congrArg nI (if_neg (fun z => q4 z.2)).symm) mX.rf
                | exact k149 _ _ (congrArg nI (if_neg (fun z => z.1 n_127)).symm) mX.rf
      have k104 : ∀ (v w : Int32) (M3 : MM) (a3 : Option Value), v = kComes (M.2.2.1 2) i → mX [8, 22, 23, 24] [25] M2 M3 → G E fX6_looks (mFin E fX6_looks L ph (rV fun M' => nOk (M.2.2.1 2) n 0 0 M' ∧ (∀ i, i < 11264 → M'.2.2.1 33 i = -1) ∧ mX [8, 22, 23, 24, 34, 35] [25, 29, 30, 31, 33] M M')) 104 [some (.ref (L.1 52)), some (.int (nI i)), some (.int w), a3] [.int v, .int (nI i), .ref (L.1 29)] (movl L M3 ph) 0 0 := by
        intro v w M3 a3 hv hx3
        have f29 := hx3.2.2.1 29 (by decide)
        have f30 := hx3.2.2.1 30 (by decide)
        have f31 := hx3.2.2.1 31 (by decide)
        refine G.miast (n := 10) 29 i dX6_looks_104 rfl (by omega) ?_
        refine G.iconst (v := nI 0) dX6_looks_105 (by decide) ?_
        refine G.istore_n3 dX6_looks_106 ?_
        refine inner n 0 _ w (by omega) (fun p hp => ?_) (fun p q hp hq => ?_) (fun q hq => absurd hq (by omega)) ((hx3.1 34 (by decide)).trans h34) ((hx3.1 35 (by decide)).trans h35) (fun k hk => ?_) ((hx.tr hx3 (by simp) (by simp)).ma (by decide))
        · rw [ma_at, if_pos rfl]
          split
          · rw [hv, show p = i from by omega]
          · rw [f29]; exact h29 p (by omega)
        · rw [ma_at, if_neg (by decide), f30]; exact h30 p q hp hq
        · rw [ma_at, if_neg (by decide), f31]; exact h31 k hk
      have hy2 : M.2.2.1 2 i = nI 2 → kComes (M.2.2.1 2) i = nI 0 := fun z => if_pos z
      have hy1 : ¬ M.2.2.1 2 i = nI 2 → M.2.2.1 2 i = nI 1 → kComes (M.2.2.1 2) i = M.2.2.1 2 (10 + i) - M.2.2.1 2 33 := fun y z => (if_neg y).trans (if_pos z)
      have hy0 : ¬ M.2.2.1 2 i = nI 2 → ¬ M.2.2.1 2 i = nI 1 → M.2.2.1 2 i = nI 0 → kComes (M.2.2.1 2) i = kTakes (M.2.2.1 2) i := fun y x z => (if_neg y).trans ((if_neg x).trans (if_pos z))
      have hyn : ¬ M.2.2.1 2 i = nI 2 → ¬ M.2.2.1 2 i = nI 1 → ¬ M.2.2.1 2 i = nI 0 → kComes (M.2.2.1 2) i = nI 1000000 := fun y x z => (if_neg y).trans ((if_neg x).trans (if_neg z))
      refine G.iload_n1 dX6_looks_34 ?_
      refine G.aload_n0 dX6_looks_35 ?_
      refine G.mcall (f' := fX6_people) q1938 ck_X6_people (c_X6_people E L _ ph) dX6_looks_36 (rI.k fun r_36 M_36 h_36 => ?_)
      obtain ⟨e_36, h_36⟩ := h_36; replace e_36 := e_36.symm; replace h_36 := h_36.symm; subst e_36; subst h_36
      rw [e2, hK.1.2]
      refine G.icmp_ge (tgt := 162) dX6_looks_39 (by decide) (fun c_39 => ?_) (fun c_39 => ?_)
      · exact absurd ((nI_leI (by omega) (by omega)).mp c_39) (by omega)
      · refine G.aload_n0 dX6_looks_42 ?_
        refine G.mgeta 2 fl_X6_24 dX6_looks_43 ?_
        refine G.iconst (v := nI 0) dX6_looks_46 (by decide) ?_
        refine G.iload_n1 dX6_looks_47 ?_
        first | with_reducible refine G.iaddn dX6_looks_48 ?_ | refine G.iadd dX6_looks_48 ?_
        refine G.miald (n := 5866) 2 i dX6_looks_49 (congrArg nI (Nat.zero_add i)) (by omega) ?_
        rw [e2]
        refine G.istore_n2 dX6_looks_50 ?_
        refine G.aload_n0 dX6_looks_51 ?_
        refine G.mgeta 29 fl_X6_68 dX6_looks_52 ?_
        refine G.iload_n1 dX6_looks_55 ?_
        refine G.iload_n2 dX6_looks_56 ?_
        refine G.iconst (v := nI 2) dX6_looks_57 (by decide) ?_
        refine G.icmp_ne (tgt := 65) dX6_looks_58 (by decide) (fun c_58 => ?_) (fun c_58 => ?_)
        · refine G.iload_n2 dX6_looks_65 ?_
          refine G.iconst (v := nI 1) dX6_looks_66 (by decide) ?_
          refine G.icmp_ne (tgt := 90) dX6_looks_67 (by decide) (fun c_67 => ?_) (fun c_67 => ?_)
          · refine G.iload_n2 dX6_looks_90 ?_
            refine G.if_ne (tgt := 102) dX6_looks_91 (by decide) (fun c_91 => ?_) (fun c_91 => ?_)
            · refine G.ldc q2024 dX6_looks_102 ?_
              refine G.topi (nI 1000000) (by decide) ?_
              first
              | exact k104 _ _ _ _ (hyn c_58 c_67 c_91).symm mX.rf
              | exact k104 _ _ _ _ (hy0 c_58 c_67 c_91).symm g1
              | exact k104 _ _ _ _ (hy1 c_58 c_67).symm mX.rf
              | exact k104 _ _ _ _ (hy2 c_58).symm mX.rf
            · refine G.aload_n0 dX6_looks_94 ?_
              refine G.iload_n1 dX6_looks_95 ?_
              refine G.mcall (f' := fX6_takesNow) q2104 ck_X6_takesNow (c_X6_takesNow (M := M2) (b := b) (n := n) (p := i) (by rw [e2]; exact hK) hin) dX6_looks_96 (rI.k fun r_96 M_96 h_96 => ?_)
              obtain ⟨rfl, g1⟩ := h_96
              rw [e2]
              refine G.goto (tgt := 104) dX6_looks_99 (by decide) ?_
              first
              | exact k104 _ _ _ _ (hyn c_58 c_67 c_91).symm mX.rf
              | exact k104 _ _ _ _ (hy0 c_58 c_67 c_91).symm g1
              | exact k104 _ _ _ _ (hy1 c_58 c_67).symm mX.rf
              | exact k104 _ _ _ _ (hy2 c_58).symm mX.rf
          · refine G.aload_n0 dX6_looks_70 ?_
            refine G.mgeta 2 fl_X6_24 dX6_looks_71 ?_
            refine G.bipush (v := nI 10) dX6_looks_74 (by decide) ?_
            refine G.iload_n1 dX6_looks_76 ?_
            first | with_reducible refine G.iaddn dX6_looks_77 ?_ | refine G.iadd dX6_looks_77 ?_
            refine G.miald (n := 5866) 2 _ dX6_looks_78 rfl (by omega) ?_
            refine G.aload_n0 dX6_looks_79 ?_
            refine G.mgeta 2 fl_X6_24 dX6_looks_80 ?_
            refine G.bipush (v := nI 33) dX6_looks_83 (by decide) ?_
            refine G.miald (n := 5866) 2 _ dX6_looks_85 rfl (by omega) ?_
            rw [e2]
            refine G.isub dX6_looks_86 ?_
            refine G.goto (tgt := 104) dX6_looks_87 (by decide) ?_
            first
            | exact k104 _ _ _ _ (hyn c_58 c_67 c_91).symm mX.rf
            | exact k104 _ _ _ _ (hy0 c_58 c_67 c_91).symm g1
            | exact k104 _ _ _ _ (hy1 c_58 c_67).symm mX.rf
            | exact k104 _ _ _ _ (hy2 c_58).symm mX.rf
        · refine G.iconst (v := nI 0) dX6_looks_61 (by decide) ?_
          refine G.goto (tgt := 104) dX6_looks_62 (by decide) ?_
          first
          | exact k104 _ _ _ _ (hyn c_58 c_67 c_91).symm mX.rf
          | exact k104 _ _ _ _ (hy0 c_58 c_67 c_91).symm g1
          | exact k104 _ _ _ _ (hy1 c_58 c_67).symm mX.rf
          | exact k104 _ _ _ _ (hy2 c_58).symm mX.rf
  have loop1 : ∀ d i, i + d = 330 → G E fX6_looks (mFin E fX6_looks L ph (rV fun M' => nOk (M.2.2.1 2) n 0 0 M' ∧ (∀ i, i < 11264 → M'.2.2.1 33 i = -1) ∧ mX [8, 22, 23, 24, 34, 35] [25, 29, 30, 31, 33] M M')) 12 [some (.ref (L.1 52)), some (.int (nI i)), none, none] [] (movl L (mar (ms (ms M 34 (nI 0)) 35 (nI 0)) 31 (cpA (M.2.2.1 31) (fun _ => nI 0) 0 i)) ph) 0 0 := by
    intro d
    induction d with
    | zero =>
      intro i hi
      refine G.iload_n1 dX6_looks_12 ?_
      refine G.sipush (v := nI 330) dX6_looks_13 (by decide) ?_
      refine G.icmp_ge (tgt := 32) dX6_looks_16 (by decide) (fun c_16 => ?_) (fun c_16 => ?_)
      · refine G.iconst (v := nI 0) dX6_looks_32 (by decide) ?_
        refine G.istore_n1 dX6_looks_33 ?_
        refine loop2 n 0 _ _ _ (by omega) (fun p hp => absurd hp (by omega)) (fun p q hp hq => absurd hp (by omega)) rfl rfl (fun k hk => by rw [mar_s, cpA_in (by omega)]) ?_
        refine ⟨fun k hk => ?_, fun _ => rfl, fun k hk => mar_n (fun e => hk (by rw [e]; decide)), fun _ => rfl⟩
        show (ms (ms M 34 (nI 0)) 35 (nI 0)).1 k = M.1 k
        rw [ms_1, if_neg (fun e => hk (by rw [e]; decide)), ms_1, if_neg (fun e => hk (by rw [e]; decide))]
      · exact absurd (nI_leI (by omega) (by omega) |>.mpr (by omega)) c_16
    | succ d ih =>
      intro i hi
      refine G.iload_n1 dX6_looks_12 ?_
      refine G.sipush (v := nI 330) dX6_looks_13 (by decide) ?_
      refine G.icmp_ge (tgt := 32) dX6_looks_16 (by decide) (fun c_16 => ?_) (fun c_16 => ?_)
      · exact absurd ((nI_leI (by omega) (by omega)).mp c_16) (by omega)
      · refine G.aload_n0 dX6_looks_19 ?_
        refine G.mgeta 31 fl_X6_74 dX6_looks_20 ?_
        refine G.iload_n1 dX6_looks_23 ?_
        refine G.iconst (v := nI 0) dX6_looks_24 (by decide) ?_
        refine G.mbast (n := 330) 31 _ dX6_looks_25 rfl (by omega) ?_
        refine G.iinc1 dX6_looks_26 ?_
        try rw [show ∀ a : Nat, nI a + Int32.ofInt 1 = nI (a + 1) from fun a => nI_add a 1]
        refine G.goto (tgt := 12) dX6_looks_29 (by decide) ?_
        have hs := cpA_s (h := M.2.2.1 31) (g := fun _ => nI 0) (a := 0) (j := i)
        rw [Nat.zero_add] at hs
        rw [ma_mar, show (nI 0).toInt8.toInt32 = nI 0 from by decide, hs]
        exact ih (i + 1) (by omega)
  have := loop1 330 0 rfl
  rw [cpA_0, show mar (ms (ms M 34 (nI 0)) 35 (nI 0)) 31 (M.2.2.1 31) = ms (ms M 34 (nI 0)) 35 (nI 0) from mar_id] at this
  refine G.aload_n0 dX6_looks_0 ?_
  refine G.iconst (v := nI 0) dX6_looks_1 (by decide) ?_
  refine G.mputi 34 fp_X6_355 dX6_looks_2 ?_
  refine G.aload_n0 dX6_looks_5 ?_
  refine G.iconst (v := nI 0) dX6_looks_6 (by decide) ?_
  refine G.mputi 35 fp_X6_358 dX6_looks_7 ?_
  refine G.iconst (v := nI 0) dX6_looks_10 (by decide) ?_
  refine G.istore_n1 dX6_looks_11 ?_
  exact this
end Looks
