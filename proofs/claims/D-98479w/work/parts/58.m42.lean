/-! ORDERS are run -/
theorem mX_put {fs as : List Nat} {M M' : MM} {s : St} (h : mX fs as M M') : mX fs as (put M s) (put M' s) := mX_ms2 (mX_mar2 (mX_mar2 h))
/-- scratch of orders -/
abbrev mQ (M M' : MM) : Prop := mX [8, 22, 23, 24, 42, 43, 44, 45, 46, 47, 48] [25] M M'
theorem mQ_st {M M2 : MM} {s : St} (h : mQ (put M s) M2) : M2.2.2.1 2 = s.1 ∧ M2.2.2.1 26 = s.2.1 ∧ M2.1 28 = nI s.2.2 ∧ got M2 s.2.2 = s := by
  have h1 : M2.2.2.1 2 = s.1 := h.2.2.1 2 (by decide)
  have h2 : M2.2.2.1 26 = s.2.1 := h.2.2.1 26 (by decide)
  exact ⟨h1, h2, h.1 28 (by decide), by unfold got; rw [h1, h2]⟩
theorem mQ_act {M M2 : MM} {s x : St} (h : mQ (put M s) M2) : mQ (put M x) (put M2 x) := by
  have := mX_put (s := x) h
  rwa [put_put] at this
/-- what one order's going tells -/
def rnQ (M : MM) (s0 : St) (at_ : Nat) (o : Option (St × Nat)) (r : Int32) (M' : MM) : Prop := match o with
  | none => r = bI false ∧ ∃ s', mQ (put M s') M' ∧ far s' s0
  | some x => r = bI true ∧ mQ (put M x.1) M' ∧ M'.1 42 = nI x.2 ∧ M'.1 43 = nI at_
section Orders
variable {E : JE} {L : ML} {ph : HP}
theorem runs_loop {M : MM} {n N pos lv at_ : Nat} {tk : Tk} {c : Cl} {pc lc k : Nat} (hN : N ≤ 400) (htk : tkOk tk N) (hP : pOrdCl tk pos lv = .inr (c, pc, lc)) (hk : k ≤ 20) : ∀ d j b done (s s0 : St) M2 a5, j + d = k → stOk s b n → b + 2 * d ≤ 1000000 → done + d ≤ 1000 → far s s0 → (∀ i, i < N → s0.1 (266 + (2400 + i)) = tk.1 i) → (∀ i, i < N → s0.1 (3066 + (2400 + i)) = tk.2 i) → mQ (put M s) M2 → M2.1 42 = nI done → M2.1 43 = nI (2400 + pos) → G E fX6_runs (mFin E fX6_runs L ph (rI fun r M' => rnQ M s0 at_ (timesO n c d s done) r M')) 19 [some (.ref (L.1 52)), some (.int (nI (2400 + N))), some (.int (nI k)), some (.int (nI at_)), some (.int (nI j)), a5] [] (movl L M2 ph) 0 0 := by
  intro d
  induction d with
  | zero =>
    intro j b done s s0 M2 a5 hj hs hb hd hfar ht1 ht2 hM h42 h43
    refine G.iload4 dX6_runs_19 ?_
    refine G.iload_n2 dX6_runs_21 ?_
    refine G.icmp_ge (tgt := 128) dX6_runs_22 (by decide) (fun c_22 => ?_) (fun c_22 => ?_)
    · refine G.aload_n0 dX6_runs_128 ?_
      refine G.iload_n3 dX6_runs_129 ?_
      refine G.mputi 43 fp_X6_414 dX6_runs_130 ?_
      refine G.iconst (v := nI 1) dX6_runs_133 (by decide) ?_
      refine G.ireturn dX6_runs_134 ?_ (hn := by first | rfl | exact bI_nar _)
      exact ⟨_, rfl, _, rfl, rfl, hM.ms (by decide), h42, rfl⟩
    · exact absurd (nI_leI (by omega) (by omega) |>.mpr (by omega)) c_22
  | succ d ih =>
    intro j b done s s0 M2 a5 hj hs hb hd hfar ht1 ht2 hM h42 h43
    obtain ⟨g1, g2, g3, g4⟩ := mQ_st hM
    obtain ⟨hh, hsu, p1, l1, hh1, hh2, hpos, hcs, hT⟩ := pOrdCl_of hP
    obtain ⟨cc1, cc2, -⟩ := pOrd_c (pos := pos) (lv := lv) hT
    rw [← cc1, ← cc2] at hcs
    rw [← cc1] at hh1 hh2
    have k122 : ∀ (s' : St) (done' : Nat) M5 a5, actO n c s done = some (s', done') → mQ (put M s') M5 → M5.1 42 = nI done' → M5.1 43 = nI (2400 + pos) → G E fX6_runs (mFin E fX6_runs L ph (rI fun r M' => rnQ M s0 at_ (timesO n c (d + 1) s done) r M')) 122 [some (.ref (L.1 52)), some (.int (nI (2400 + N))), some (.int (nI k)), some (.int (nI at_)), some (.int (nI j)), a5] [] (movl L M5 ph) 0 0 := by
      intro s' done' M5 a5 ha hM5 h425 h435
      obtain ⟨a1, a2, a3⟩ := actO_ok hs ha
      rw [timesO, ha]
      refine G.iinc4 dX6_runs_122 ?_
      try rw [show ∀ a : Nat, nI a + Int32.ofInt 1 = nI (a + 1) from fun a => nI_add a 1]
      refine G.goto (tgt := 19) dX6_runs_125 (by decide) ?_
      exact ih (j + 1) (b + 2) done' s' s0 M5 a5 (by omega) a1 (by omega) (by have := a2; dsimp only at this; omega) (far_tr a3 hfar) ht1 ht2 hM5 h425 h435
    clear ih
    have k103 : ∀ (x : Int32 × St) M5, (if x.1 < 0 then none else some (x.2, done + 1)) = actO n c s done → far x.2 s → mQ (put M x.2) M5 → M5.1 42 = nI done → M5.1 43 = nI (2400 + pos) → G E fX6_runs (mFin E fX6_runs L ph (rI fun r M' => rnQ M s0 at_ (timesO n c (d + 1) s done) r M')) 103 [some (.ref (L.1 52)), some (.int (nI (2400 + N))), some (.int (nI k)), some (.int (nI at_)), some (.int (nI j)), a5] [.int x.1] (movl L M5 ph) 0 0 := by
      intro x M5 ha hxf hM5 h425 h435
      refine G.istore5 dX6_runs_103 ?_
      refine G.iload5 dX6_runs_105 ?_
      refine G.if_ge (tgt := 112) dX6_runs_107 (by decide) (fun c_107 => ?_) (fun c_107 => ?_)
      · rw [if_neg (Int32.not_lt.mpr c_107)] at ha
        refine G.aload_n0 dX6_runs_112 ?_
        refine G.dup dX6_runs_113 rfl ?_
        refine G.mgeti 42 fl_X6_411 dX6_runs_114 ?_
        rw [h425]
        refine G.iconst (v := nI 1) dX6_runs_117 (by decide) ?_
        first | with_reducible refine G.iaddn dX6_runs_118 ?_ | refine G.iadd dX6_runs_118 ?_
        refine G.mputi 42 fp_X6_411 dX6_runs_119 ?_
        exact k122 x.2 (done + 1) _ _ ha.symm (hM5.ms (by decide)) rfl h435
      · rw [if_pos (Int32.not_le.mp c_107)] at ha
        refine G.iconst (v := nI 0) dX6_runs_110 (by decide) ?_
        refine G.ireturn dX6_runs_111 ?_ (hn := by first | rfl | exact bI_nar _)
        refine ⟨_, rfl, _, rfl, ?_⟩
        rw [timesO, ← ha]
        exact ⟨rfl, x.2, hM5, far_tr hxf hfar⟩
    have h10 := hs.1.1.1
    refine G.iload4 dX6_runs_19 ?_
    refine G.iload_n2 dX6_runs_21 ?_
    refine G.icmp_ge (tgt := 128) dX6_runs_22 (by decide) (fun c_22 => ?_) (fun c_22 => ?_)
    · exact absurd ((nI_leI (by omega) (by omega)).mp c_22) (by omega)
    · refine G.aload_n0 dX6_runs_25 ?_
      refine G.iload_n1 dX6_runs_26 ?_
      refine G.iconst (v := nI 1) dX6_runs_27 (by decide) ?_
      refine G.mcall (f' := fX6_goesAlong) q2355 ck_X6_goesAlong (c_X6_goesAlong g1 hs.1 (by omega) (by omega) hN htk (fun i hi => (hfar.1 _ (by omega)).trans (ht1 i hi)) (fun i hi => (hfar.1 _ (by omega)).trans (ht2 i hi)) hP h42 h43 true) dX6_runs_28 (rV.k fun M_28 h_28 => ?_)
      obtain ⟨q1, q2, q3, q4, q5⟩ := h_28
      obtain ⟨w1, w2, w3⟩ := q5 rfl
      have hM3 : mQ (put M s) M_28 := hM.tr q1 (by simp) (by simp)
      have h423 : M_28.1 42 = nI done := (q1.1 42 (by decide)).trans h42
      have h433 : M_28.1 43 = nI (2400 + pos) := (q1.1 43 (by decide)).trans h43
      obtain ⟨r1, r2, r3, r4⟩ := mQ_st hM3
      refine G.aload_n0 dX6_runs_31 ?_
      refine G.mgeti 47 fl_X6_433 dX6_runs_32 ?_
      rw [w3]
      refine G.ifb_ne (tgt := 41) dX6_runs_35 (by decide) (fun c_35 => ?_) (fun c_35 => ?_)
      · refine G.aload_n0 dX6_runs_41 ?_
        refine G.mgeti 46 fl_X6_427 dX6_runs_42 ?_
        rw [w1]
        refine G.ifb_ne (tgt := 53) dX6_runs_45 (by decide) (fun c_45 => ?_) (fun c_45 => ?_)
        · refine G.aload_n0 dX6_runs_53 ?_
          refine G.mgeti 45 fl_X6_420 dX6_runs_54 ?_
          rw [q4]
          refine G.bipush (v := nI 26) dX6_runs_57 (by decide) ?_
          refine G.icmp_ne (tgt := 76) dX6_runs_59 (by decide) (fun c_59 => ?_) (fun c_59 => ?_)
          · have n_59 : ¬ c.1 = 26 := fun z => c_59 (congrArg nI z)
            refine G.aload_n0 dX6_runs_76 ?_
            refine G.mgeti 45 fl_X6_420 dX6_runs_77 ?_
            rw [q4]
            refine G.bipush (v := nI 27) dX6_runs_80 (by decide) ?_
            refine G.icmp_ne (tgt := 99) dX6_runs_82 (by decide) (fun c_82 => ?_) (fun c_82 => ?_)
            · have n_82 : ¬ c.1 = 27 := fun z => c_82 (congrArg nI z)
              refine G.aload_n0 dX6_runs_99 ?_
              refine G.mcall (f' := fX6_darkKept) q2236 ck_X6_darkKept (c_X6_darkKept (M := M_28) (b := b) (n := n) (u := s.2.2) (by rw [r1]; exact hs.1) hs.2.1 r3) dX6_runs_100 (rI.k fun r_100 M_100 h_100 => ?_)
              rw [oDark_put r3, r4] at h_100
              obtain ⟨e100, h100⟩ := h_100
              rw [e100]
              have hA100 := (mQ_act (x := (aDark n s).2) hM3).tr h100 (by simp) (by simp)
              have hB100 : M_100.1 42 = nI done := (h100.1 42 (by decide)).trans h423
              have hC100 : M_100.1 43 = nI (2400 + pos) := (h100.1 43 (by decide)).trans h433
              have hn0 : c.2.1 = none := by
                rcases hcs with ⟨-, z, -⟩ | ⟨z, -⟩
                · exact z
                · omega
              have ha100 := (actO_r c_35 (actR_dark (n := n) hn0)).symm
              first
              | (have hno : zTold c.2.1 (ordE s.1 done) = none := by
                   cases h9 : zTold c.2.1 (ordE s.1 done) with
                   | none => rfl
                   | some v => rw [h9] at c_45; cases c_45
                 refine k103 (-3, s) _ ?_ far_rf hM3 h423 h433
                 rw [show (if ((-3 : Int32), s).1 < 0 then none else some (((-3 : Int32), s).2, done + 1)) = (none : Option (St × Nat)) from if_pos (show (-3 : Int32) < 0 from by decide)]
                 cases h8 : c.2.1 with
                 | none => rw [h8] at hno; cases hno
                 | some sm =>
                   rw [h8] at hno
                   exact (actO_off c_35 (actR_off (n := n) h8 hno)).symm)
              | exact k103 _ _ ha70 (aSend_fr h10 hs.2.1) hA70 hB70 hC70
              | exact k103 _ _ ha93 (aLight_fr h10 hs.2.1) hA93 hB93 hC93
              | exact k103 _ _ ha100 (aDark_fr h10 hs.2.1) hA100 hB100 hC100
            · have n_82 : c.1 = 27 := (nI_inj (a := c.1) (b := 27) (by omega) (by omega)).mp c_82
              refine G.aload_n0 dX6_runs_85 ?_
              refine G.aload_n0 dX6_runs_86 ?_
              refine G.mgetl fl_X6_423 dX6_runs_87 ?_
              have hv : ∃ sm v, c.2.1 = some sm ∧ sm (ordE s.1 done) = some v := by
                rcases hcs with ⟨z, -⟩ | ⟨-, sm, z, -⟩
                · omega
                · rw [z] at c_45
                  cases h9 : sm (ordE s.1 done) with
                  | none => rw [show zTold (some sm) (ordE s.1 done) = none from h9] at c_45; cases c_45
                  | some v => exact ⟨sm, v, z, h9⟩
              obtain ⟨sm, v, hv1, hv2⟩ := hv
              rw [w2 sm v hv1 hv2]
              refine G.scall (f' := fX6_small) q2359 ck_X6_small (c_X6_small v) dX6_runs_90 (sI.k fun r_90 h_90 => ?_)
              replace h_90 := h_90.symm; subst h_90
              refine G.mcall (f' := fX6_lightsKept) q2207 ck_X6_lightsKept (c_X6_lightsKept (M := M_28) (b := b) (n := n) (u := s.2.2) (by rw [r1]; exact hs.1) hs.2.1 r3 (zSmall v)) dX6_runs_93 (rI.k fun r_93 M_93 h_93 => ?_)
              rw [oLight_put r3, r4] at h_93
              obtain ⟨e93, h93⟩ := h_93
              rw [e93]
              have hA93 := (mQ_act (x := (aLight n s (zSmall v)).2) hM3).tr h93 (by simp) (by simp)
              have hB93 : M_93.1 42 = nI done := (h93.1 42 (by decide)).trans h423
              have hC93 : M_93.1 43 = nI (2400 + pos) := (h93.1 43 (by decide)).trans h433
              have ha93 := (actO_r c_35 ((actR_sum (n := n) hv1 hv2).trans (congrArg some (if_neg n_59)))).symm
              refine G.goto (tgt := 103) dX6_runs_96 (by decide) ?_
              first
              | (have hno : zTold c.2.1 (ordE s.1 done) = none := by
                   cases h9 : zTold c.2.1 (ordE s.1 done) with
                   | none => rfl
                   | some v => rw [h9] at c_45; cases c_45
                 refine k103 (-3, s) _ ?_ far_rf hM3 h423 h433
                 rw [show (if ((-3 : Int32), s).1 < 0 then none else some (((-3 : Int32), s).2, done + 1)) = (none : Option (St × Nat)) from if_pos (show (-3 : Int32) < 0 from by decide)]
                 cases h8 : c.2.1 with
                 | none => rw [h8] at hno; cases hno
                 | some sm =>
                   rw [h8] at hno
                   exact (actO_off c_35 (actR_off (n := n) h8 hno)).symm)
              | exact k103 _ _ ha70 (aSend_fr h10 hs.2.1) hA70 hB70 hC70
              | exact k103 _ _ ha93 (aLight_fr h10 hs.2.1) hA93 hB93 hC93
              | exact k103 _ _ ha100 (aDark_fr h10 hs.2.1) hA100 hB100 hC100
          · have n_59 : c.1 = 26 := (nI_inj (a := c.1) (b := 26) (by omega) (by omega)).mp c_59
            refine G.aload_n0 dX6_runs_62 ?_
            refine G.aload_n0 dX6_runs_63 ?_
            refine G.mgetl fl_X6_423 dX6_runs_64 ?_
            have hv : ∃ sm v, c.2.1 = some sm ∧ sm (ordE s.1 done) = some v := by
              rcases hcs with ⟨z, -⟩ | ⟨-, sm, z, -⟩
              · omega
              · rw [z] at c_45
                cases h9 : sm (ordE s.1 done) with
                | none => rw [show zTold (some sm) (ordE s.1 done) = none from h9] at c_45; cases c_45
                | some v => exact ⟨sm, v, z, h9⟩
            obtain ⟨sm, v, hv1, hv2⟩ := hv
            rw [w2 sm v hv1 hv2]
            refine G.scall (f' := fX6_small) q2359 ck_X6_small (c_X6_small v) dX6_runs_67 (sI.k fun r_67 h_67 => ?_)
            replace h_67 := h_67.symm; subst h_67
            refine G.mcall (f' := fX6_sendsKept) q2191 ck_X6_sendsKept (c_X6_sendsKept (M := M_28) (b := b) (n := n) (u := s.2.2) (by rw [r1]; exact hs.1) hs.2.1 r3 (zSmall v)) dX6_runs_70 (rI.k fun r_70 M_70 h_70 => ?_)
            rw [oSend_put r3, r4] at h_70
            obtain ⟨e70, h70⟩ := h_70
            rw [e70]
            have hA70 := (mQ_act (x := (aSend n s (zSmall v)).2) hM3).tr h70 (by simp) (by simp)
            have hB70 : M_70.1 42 = nI done := (h70.1 42 (by decide)).trans h423
            have hC70 : M_70.1 43 = nI (2400 + pos) := (h70.1 43 (by decide)).trans h433
            have ha70 := (actO_r c_35 ((actR_sum (n := n) hv1 hv2).trans (congrArg some (if_pos n_59)))).symm
            refine G.goto (tgt := 103) dX6_runs_73 (by decide) ?_
            first
            | (have hno : zTold c.2.1 (ordE s.1 done) = none := by
                 cases h9 : zTold c.2.1 (ordE s.1 done) with
                 | none => rfl
                 | some v => rw [h9] at c_45; cases c_45
               refine k103 (-3, s) _ ?_ far_rf hM3 h423 h433
               rw [show (if ((-3 : Int32), s).1 < 0 then none else some (((-3 : Int32), s).2, done + 1)) = (none : Option (St × Nat)) from if_pos (show (-3 : Int32) < 0 from by decide)]
               cases h8 : c.2.1 with
               | none => rw [h8] at hno; cases hno
               | some sm =>
                 rw [h8] at hno
                 exact (actO_off c_35 (actR_off (n := n) h8 hno)).symm)
            | exact k103 _ _ ha70 (aSend_fr h10 hs.2.1) hA70 hB70 hC70
            | exact k103 _ _ ha93 (aLight_fr h10 hs.2.1) hA93 hB93 hC93
            | exact k103 _ _ ha100 (aDark_fr h10 hs.2.1) hA100 hB100 hC100
        · refine G.bipush (v := -3) dX6_runs_48 (by decide) ?_
          refine G.goto (tgt := 103) dX6_runs_50 (by decide) ?_
          first
          | (have hno : zTold c.2.1 (ordE s.1 done) = none := by
               cases h9 : zTold c.2.1 (ordE s.1 done) with
               | none => rfl
               | some v => rw [h9] at c_45; cases c_45
             refine k103 (-3, s) _ ?_ far_rf hM3 h423 h433
             rw [show (if ((-3 : Int32), s).1 < 0 then none else some (((-3 : Int32), s).2, done + 1)) = (none : Option (St × Nat)) from if_pos (show (-3 : Int32) < 0 from by decide)]
             cases h8 : c.2.1 with
             | none => rw [h8] at hno; cases hno
             | some sm =>
               rw [h8] at hno
               exact (actO_off c_35 (actR_off (n := n) h8 hno)).symm)
          | exact k103 _ _ ha70 (aSend_fr h10 hs.2.1) hA70 hB70 hC70
          | exact k103 _ _ ha93 (aLight_fr h10 hs.2.1) hA93 hB93 hC93
          | exact k103 _ _ ha100 (aDark_fr h10 hs.2.1) hA100 hB100 hC100
      · refine G.goto (tgt := 122) dX6_runs_38 (by decide) ?_
        exact k122 s done _ _ (actO_no c_35) hM3 h423 h433
theorem c_X6_runs {M M2 : MM} {n N pos lv : Nat} {tk : Tk} {c : Cl} {pc lc b done : Nat} {s : St} (hN : N ≤ 400) (htk : tkOk tk N) (hP : pOrdCl tk pos lv = .inr (c, pc, lc)) (hs : stOk s b n) (hb : b + 40 ≤ 1000000) (hd : done + 20 ≤ 1000) (ht1 : ∀ i, i < N → s.1 (266 + (2400 + i)) = tk.1 i) (ht2 : ∀ i, i < N → s.1 (3066 + (2400 + i)) = tk.2 i) (hM : mQ (put M s) M2) (h42 : M2.1 42 = nI done) (h43 : M2.1 43 = nI (2400 + pos)) : MC E fX6_runs L M2 ph [.int (nI (2400 + N))] (rI fun r M' => rnQ M s (2400 + pc + 1) (timesO n c (tNat c.2.2.1) s done) r M') := by
  obtain ⟨g1, g2, g3, g4⟩ := mQ_st hM
  obtain ⟨hh, hsu, p1, l1, hh1, hh2, hpos, hcs, hT⟩ := pOrdCl_of hP
  obtain ⟨cc1, cc2, k, hk1, hk2, hk⟩ := pOrd_c (pos := pos) (lv := lv) hT
  refine Ct.of [some (.ref (L.1 52)), some (.int (nI (2400 + N))), none, none, none, none] rfl (Nat.le_of_ble_eq_true rfl) (show plainName RX6 = true by decide +kernel) rfl ?_
  refine G.aload_n0 dX6_runs_0 ?_
  refine G.iload_n1 dX6_runs_1 ?_
  refine G.iconst (v := nI 0) dX6_runs_2 (by decide) ?_
  refine G.mcall (f' := fX6_goesAlong) q2355 ck_X6_goesAlong (c_X6_goesAlong g1 hs.1 (by omega) (by omega) hN htk ht1 ht2 hP h42 h43 false) dX6_runs_3 (rV.k fun M_3 h_3 => ?_)
  obtain ⟨q1, q2, q3, q4, -⟩ := h_3
  refine G.aload_n0 dX6_runs_6 ?_
  refine G.mgeti 44 fl_X6_430 dX6_runs_7 ?_
  rw [q3, hk]
  refine G.istore_n2 dX6_runs_10 ?_
  refine G.aload_n0 dX6_runs_11 ?_
  refine G.mgeti 22 fl_X6_248 dX6_runs_12 ?_
  rw [q2]
  refine G.istore_n3 dX6_runs_15 ?_
  refine G.iconst (v := nI 0) dX6_runs_16 (by decide) ?_
  refine G.istore4 dX6_runs_17 ?_
  rw [tNat_nI (by omega)]
  exact runs_loop hN htk hP hk2 k 0 b done s s M_3 none (by omega) hs (by omega) (by omega) far_rf ht1 ht2 (hM.tr q1 (by simp) (by simp)) ((q1.1 42 (by decide)).trans h42) ((q1.1 43 (by decide)).trans h43)
end Orders
