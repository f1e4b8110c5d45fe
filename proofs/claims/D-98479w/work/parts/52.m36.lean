/-! THE MODEL SPLITS its tape -/
section Split
variable {E : JE} {L : ML} {ph : HP}
theorem c_isSmall (b : Int32) : SC E fX6_isSmall [.int b] (sI fun r => r = bI (isS b)) := c_X6_isSmall E b
theorem c_isDigit (b : Int32) : SC E fX6_isDigit [.int b] (sI fun r => r = bI (isD b)) := c_X6_isDigit E b
theorem c_X6_wordOf {M : MM} (hw : ∀ i, i < 153 → M.2.2.1 7 i = nI (zW i)) {k to : Nat} (hk : k < to) (hto : to ≤ 400) : MC E fX6_wordOf L M ph [.int (nI k), .int (nI to)] (rI fun r M' => r = nI (zWordNo (M.2.2.1 11) k to) ∧ M' = M) := by
  refine Ct.of [some (.ref (L.1 52)), some (.int (nI k)), some (.int (nI to)), none, none, none, none, none] rfl (Nat.le_of_ble_eq_true rfl) (show plainName RX6 = true by decide +kernel) rfl ?_
  have loop : ∀ d j a5 a6 a7, j + d = 29 → (∀ i, i < j → zSame (M.2.2.1 11) k to i = false) → G E fX6_wordOf (mFin E fX6_wordOf L ph (rI fun r M' => r = nI (zWordNo (M.2.2.1 11) k to) ∧ M' = M)) 5 [some (.ref (L.1 52)), some (.int (nI k)), some (.int (nI to)), some (.int (nI (j + 1))), some (.int (nI (zSt j))), a5, a6, a7] [] (movl L M ph) 0 0 := by
    intro d
    induction d with
    | zero =>
      intro j a5 a6 a7 hj hno
      obtain rfl : j = 29 := by omega
      rw [zSt_29]
      refine G.iload4 dX6_wordOf_5 ?_
      refine G.aload_n0 dX6_wordOf_7 ?_
      refine G.mgeta 7 fl_X6_37 dX6_wordOf_8 ?_
      refine G.malen 7 dX6_wordOf_11 rfl ?_
      rw [show mlen 7 = 153 from rfl]
      refine G.icmp_ge (tgt := 126) dX6_wordOf_12 (by decide) (fun c_12 => ?_) (fun c_12 => ?_)
      · refine G.iconst (v := nI 0) dX6_wordOf_126 (by decide) ?_
        refine G.ireturn dX6_wordOf_127 ?_
        exact ⟨_, rfl, _, rfl, by rw [zWordNo_no hno], rfl⟩
      · exact absurd (nI_leI (by omega) (by omega) |>.mpr (by omega)) c_12
    | succ d ih =>
      intro j a5 a6 a7 hj hno
      obtain ⟨w1, w2, w3, w4⟩ := zW_in j (by omega)
      obtain ⟨v1, v2, v3⟩ := zSt_lt j (by omega)
      have k104 : ∀ q : Bool, q = zSame (M.2.2.1 11) k to j → ∀ a7, G E fX6_wordOf (mFin E fX6_wordOf L ph (rI fun r M' => r = nI (zWordNo (M.2.2.1 11) k to) ∧ M' = M)) 104 [some (.ref (L.1 52)), some (.int (nI k)), some (.int (nI to)), some (.int (nI (j + 1))), some (.int (nI (zSt j))), some (.int (nI (zLen j))), some (.int (bI q)), a7] [] (movl L M ph) 0 0 := by
        intro q hq a7
        refine G.iload6 dX6_wordOf_104 ?_
        refine G.ifb_eq (tgt := 111) dX6_wordOf_106 (by decide) (fun c_106 => ?_) (fun c_106 => ?_)
        · refine G.iload4 dX6_wordOf_111 ?_
          refine G.iload5 dX6_wordOf_113 ?_
          refine G.iconst (v := nI 1) dX6_wordOf_115 (by decide) ?_
          first | with_reducible refine G.iaddn dX6_wordOf_116 ?_ | refine G.iadd dX6_wordOf_116 ?_
          first | with_reducible refine G.iaddn dX6_wordOf_117 ?_ | refine G.iadd dX6_wordOf_117 ?_
          refine G.istore4 dX6_wordOf_118 ?_
          refine G.iinc3 dX6_wordOf_120 ?_
          try rw [show ∀ a : Nat, nI a + Int32.ofInt 1 = nI (a + 1) from fun a => nI_add a 1]
          refine G.goto (tgt := 5) dX6_wordOf_123 (by decide) ?_
          rw [show zSt j + (zLen j + 1) = zSt (j + 1) from by omega]
          refine ih (j + 1) _ _ _ (by omega) (fun i hi => ?_)
          rcases Nat.lt_or_ge i j with y | y
          · exact hno i y
          · rw [show i = j from by omega]
            exact hq.symm.trans c_106
        · refine G.iload_n3 dX6_wordOf_109 ?_
          refine G.ireturn dX6_wordOf_110 ?_
          exact ⟨_, rfl, _, rfl, by rw [zWordNo_of (by omega) (hq.symm.trans c_106) hno], rfl⟩
      clear ih
      have k57 : ∀ d2 i q, i + d2 = zLen j → (q = true ↔ (to - k = zLen j ∧ ∀ x, x < i → nI (zW (zSt j + x)) = M.2.2.1 11 (k + x))) → G E fX6_wordOf (mFin E fX6_wordOf L ph (rI fun r M' => r = nI (zWordNo (M.2.2.1 11) k to) ∧ M' = M)) 57 [some (.ref (L.1 52)), some (.int (nI k)), some (.int (nI to)), some (.int (nI (j + 1))), some (.int (nI (zSt j))), some (.int (nI (zLen j))), some (.int (bI q)), some (.int (nI i))] [] (movl L M ph) 0 0 := by
        intro d2
        induction d2 with
        | zero =>
          intro i q hi hq
          refine G.iload7 dX6_wordOf_57 ?_
          refine G.iload5 dX6_wordOf_59 ?_
          refine G.icmp_ge (tgt := 104) dX6_wordOf_61 (by decide) (fun c_61 => ?_) (fun c_61 => ?_)
          · refine k104 q ?_ _
            rw [Bool.eq_iff_iff, hq, zSame_of, show i = zLen j from by omega]
          · exact absurd (nI_leI (by omega) (by omega) |>.mpr (by omega)) c_61
        | succ d2 ih2 =>
          intro i q hi hq
          have k96 : ∀ q2 : Bool, to - k = zLen j → (∀ x, x < i → nI (zW (zSt j + x)) = M.2.2.1 11 (k + x)) → (q2 = true ↔ nI (zW (zSt j + i)) = M.2.2.1 11 (k + i)) → ∀ a6, G E fX6_wordOf (mFin E fX6_wordOf L ph (rI fun r M' => r = nI (zWordNo (M.2.2.1 11) k to) ∧ M' = M)) 96 [some (.ref (L.1 52)), some (.int (nI k)), some (.int (nI to)), some (.int (nI (j + 1))), some (.int (nI (zSt j))), some (.int (nI (zLen j))), a6, some (.int (nI i))] [.int (bI q2)] (movl L M ph) 0 0 := by
            intro q2 h1 h2 h3 a6
            refine G.istore6 dX6_wordOf_96 ?_
            refine G.iinc7 dX6_wordOf_98 ?_
            try rw [show ∀ a : Nat, nI a + Int32.ofInt 1 = nI (a + 1) from fun a => nI_add a 1]
            refine G.goto (tgt := 57) dX6_wordOf_101 (by decide) ?_
            refine ih2 (i + 1) q2 (by omega) ?_
            rw [h3]
            constructor
            · intro z
              refine ⟨h1, fun x hx => ?_⟩
              rcases Nat.lt_or_ge x i with y | y
              · exact h2 x y
              · rw [show x = i from by omega]; exact z
            · intro z
              exact z.2 i (by omega)
          clear ih2
          refine G.iload7 dX6_wordOf_57 ?_
          refine G.iload5 dX6_wordOf_59 ?_
          refine G.icmp_ge (tgt := 104) dX6_wordOf_61 (by decide) (fun c_61 => ?_) (fun c_61 => ?_)
          · exact absurd ((nI_leI (by omega) (by omega)).mp c_61) (by omega)
          · refine G.iload6 dX6_wordOf_64 ?_
            refine G.ifb_eq (tgt := 104) dX6_wordOf_66 (by decide) (fun c_66 => ?_) (fun c_66 => ?_)
            · refine k104 q ?_ _
              rw [c_66]
              refine (Bool.eq_false_iff.mpr (fun z => ?_)).symm
              rw [zSame_of] at z
              have := hq.mpr ⟨z.1, fun x hx => z.2 x (by omega)⟩
              rw [c_66] at this
              cases this
            · have hq2 := hq.mp c_66
              refine G.aload_n0 dX6_wordOf_69 ?_
              refine G.mgeta 7 fl_X6_37 dX6_wordOf_70 ?_
              refine G.iload4 dX6_wordOf_73 ?_
              refine G.iload7 dX6_wordOf_75 ?_
              first | with_reducible refine G.iaddn dX6_wordOf_77 ?_ | refine G.iadd dX6_wordOf_77 ?_
              refine G.mbald (n := 153) 7 (zSt j + i) dX6_wordOf_78 rfl (by omega) ?_
              rw [hw _ (by omega)]
              refine G.aload_n0 dX6_wordOf_79 ?_
              refine G.mgeta 11 fl_X6_41 dX6_wordOf_80 ?_
              refine G.iload_n1 dX6_wordOf_83 ?_
              refine G.iload7 dX6_wordOf_84 ?_
              first | with_reducible refine G.iaddn dX6_wordOf_86 ?_ | refine G.iadd dX6_wordOf_86 ?_
              refine G.mbald (n := 400) 11 (k + i) dX6_wordOf_87 rfl (by omega) ?_
              refine G.icmp_ne (tgt := 95) dX6_wordOf_88 (by decide) (fun c_88 => ?_) (fun c_88 => ?_)
              · refine G.iconst (v := nI 0) dX6_wordOf_95 (by decide) ?_
                first
                | exact k96 true hq2.1 hq2.2 ⟨fun _ => by first | exact c_88 | exact Classical.not_not.mp c_88, fun _ => rfl⟩ _
                | exact k96 false hq2.1 hq2.2 ⟨fun z => absurd z Bool.false_ne_true, fun z => absurd z c_88⟩ _
              · refine G.iconst (v := nI 1) dX6_wordOf_91 (by decide) ?_
                refine G.goto (tgt := 96) dX6_wordOf_92 (by decide) ?_
                first
                | exact k96 true hq2.1 hq2.2 ⟨fun _ => by first | exact c_88 | exact Classical.not_not.mp c_88, fun _ => rfl⟩ _
                | exact k96 false hq2.1 hq2.2 ⟨fun z => absurd z Bool.false_ne_true, fun z => absurd z c_88⟩ _
      have k18 : ∀ d2 i, i + d2 = zLen j → G E fX6_wordOf (mFin E fX6_wordOf L ph (rI fun r M' => r = nI (zWordNo (M.2.2.1 11) k to) ∧ M' = M)) 18 [some (.ref (L.1 52)), some (.int (nI k)), some (.int (nI to)), some (.int (nI (j + 1))), some (.int (nI (zSt j))), some (.int (nI i)), a6, a7] [] (movl L M ph) 0 0 := by
        intro d2
        induction d2 with
        | zero =>
          intro i hi
          obtain rfl : i = zLen j := by omega
          refine G.aload_n0 dX6_wordOf_18 ?_
          refine G.mgeta 7 fl_X6_37 dX6_wordOf_19 ?_
          refine G.iload4 dX6_wordOf_22 ?_
          refine G.iload5 dX6_wordOf_24 ?_
          first | with_reducible refine G.iaddn dX6_wordOf_26 ?_ | refine G.iadd dX6_wordOf_26 ?_
          refine G.mbald (n := 153) 7 (zSt j + zLen j) dX6_wordOf_27 rfl (by omega) ?_
          rw [hw _ (by omega), w2]
          refine G.bipush (v := nI 32) dX6_wordOf_28 (by decide) ?_
          refine G.icmp_eq (tgt := 39) dX6_wordOf_30 (by decide) (fun c_30 => ?_) (fun c_30 => ?_)
          · refine G.iload5 dX6_wordOf_39 ?_
            refine G.iload_n2 dX6_wordOf_41 ?_
            refine G.iload_n1 dX6_wordOf_42 ?_
            refine G.isub dX6_wordOf_43 ?_
            rw [pk_sub (show k ≤ to from by omega)]
            refine G.icmp_ne (tgt := 51) dX6_wordOf_44 (by decide) (fun c_44 => ?_) (fun c_44 => ?_)
            · have n_44 : ¬ zLen j = to - k := fun z => c_44 (congrArg nI z)
              refine G.iconst (v := nI 0) dX6_wordOf_51 (by decide) ?_
              refine G.istore6 dX6_wordOf_52 ?_
              refine G.iconst (v := nI 0) dX6_wordOf_54 (by decide) ?_
              refine G.istore7 dX6_wordOf_55 ?_
              first
              | exact k57 (zLen j) 0 true (by omega) ⟨fun _ => ⟨by omega, fun x hx => absurd hx (by omega)⟩, fun _ => rfl⟩
              | exact k57 (zLen j) 0 false (by omega) ⟨fun z => absurd z Bool.false_ne_true, fun z => absurd z.1.symm n_44⟩
            · have n_44 : zLen j = to - k := (nI_inj (a := zLen j) (b := to - k) (by omega) (by omega)).mp c_44
              refine G.iconst (v := nI 1) dX6_wordOf_47 (by decide) ?_
              refine G.goto (tgt := 52) dX6_wordOf_48 (by decide) ?_
              refine G.istore6 dX6_wordOf_52 ?_
              refine G.iconst (v := nI 0) dX6_wordOf_54 (by decide) ?_
              refine G.istore7 dX6_wordOf_55 ?_
              first
              | exact k57 (zLen j) 0 true (by omega) ⟨fun _ => ⟨by omega, fun x hx => absurd hx (by omega)⟩, fun _ => rfl⟩
              | exact k57 (zLen j) 0 false (by omega) ⟨fun z => absurd z Bool.false_ne_true, fun z => absurd z.1.symm n_44⟩
          · exact absurd rfl c_30
        | succ d2 ih2 =>
          intro i hi
          refine G.aload_n0 dX6_wordOf_18 ?_
          refine G.mgeta 7 fl_X6_37 dX6_wordOf_19 ?_
          refine G.iload4 dX6_wordOf_22 ?_
          refine G.iload5 dX6_wordOf_24 ?_
          first | with_reducible refine G.iaddn dX6_wordOf_26 ?_ | refine G.iadd dX6_wordOf_26 ?_
          refine G.mbald (n := 153) 7 (zSt j + i) dX6_wordOf_27 rfl (by omega) ?_
          rw [hw _ (by omega)]
          refine G.bipush (v := nI 32) dX6_wordOf_28 (by decide) ?_
          refine G.icmp_eq (tgt := 39) dX6_wordOf_30 (by decide) (fun c_30 => ?_) (fun c_30 => ?_)
          · exact absurd (nI_inj (by have := zW_lt (zSt j + i) (by omega); omega) (by omega) |>.mp c_30) (w4 i (by omega))
          · refine G.iinc5 dX6_wordOf_33 ?_
            try rw [show ∀ a : Nat, nI a + Int32.ofInt 1 = nI (a + 1) from fun a => nI_add a 1]
            refine G.goto (tgt := 18) dX6_wordOf_36 (by decide) ?_
            exact ih2 (i + 1) (by omega)
      refine G.iload4 dX6_wordOf_5 ?_
      refine G.aload_n0 dX6_wordOf_7 ?_
      refine G.mgeta 7 fl_X6_37 dX6_wordOf_8 ?_
      refine G.malen 7 dX6_wordOf_11 rfl ?_
      rw [show mlen 7 = 153 from rfl]
      refine G.icmp_ge (tgt := 126) dX6_wordOf_12 (by decide) (fun c_12 => ?_) (fun c_12 => ?_)
      · exact absurd ((nI_leI (by omega) (by omega)).mp c_12) (by omega)
      · refine G.iconst (v := nI 0) dX6_wordOf_15 (by decide) ?_
        refine G.istore5 dX6_wordOf_16 ?_
        exact k18 (zLen j) 0 (by omega)
  refine G.iconst (v := nI 1) dX6_wordOf_0 (by decide) ?_
  refine G.istore_n3 dX6_wordOf_1 ?_
  refine G.iconst (v := nI 0) dX6_wordOf_2 (by decide) ?_
  refine G.istore4 dX6_wordOf_3 ?_
  exact loop 29 0 none none none (by omega) (fun i hi => absurd hi (by omega))
end Split
