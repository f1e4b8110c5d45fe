/-! THE MODEL READS: tests -/
section Read
variable {E : JE} {L : ML} {ph : HP} {M0 : MM} {N : Nat} {tk : Tk} {ord : Bool}
theorem pNots_go {tk : Tk} {k : Nat} {b : Bool} {p : Nat} (h : tk.1 p = nI 9) : pNots tk (k + 1) b p = pNots tk k (!b) (p + 1) := by rw [pNots, if_pos h]
theorem pNots_no {tk : Tk} {k : Nat} {b : Bool} {p : Nat} (h : ¬ tk.1 p = nI 9) : pNots tk (k + 1) b p = (b, p) := by rw [pNots, if_neg h]
theorem r_nots {dp d pos lv : Nat} {F : JFin} {a3 : Option Value} (h0 : rdOk ord tk N M0) (hdp : 13 ≤ dp) : ∀ k b p, 402 ≤ k + p → pos ≤ p → p ≤ N → (∀ p', p ≤ p' → p' ≤ N → (pNots tk k b p).2 = p' → G E (fX6_readPlain (dp + 1)) F 16 [some (.ref (L.1 52)), some (.int (nI d)), some (.int (bI false)), a3] [] (movl L (rS M0 p' lv) ph) 0 0) → G E (fX6_readPlain (dp + 1)) F 2 [some (.ref (L.1 52)), some (.int (nI d)), some (.int (bI true)), a3] [] (movl L (rS M0 p lv) ph) 0 0 := by
  have h4 := h0.2.2.2.1
  intro k
  induction k with
  | zero => intro b p h1 h2 h3; omega
  | succ k ih =>
    intro b p h1 h2 h3 go
    refine G.iload_n2 dX6_readPlain_2 ?_
    refine G.ifb_eq (tgt := 16) dX6_readPlain_3 (by decide) (fun c_3 => ?_) (fun c_3 => ?_)
    · exact absurd c_3 (fun z => Bool.false_ne_true z.symm)
    · refine G.aload_n0 dX6_readPlain_6 ?_
      refine G.bipush (v := nI 9) dX6_readPlain_7 (by decide) ?_
      refine G.mcall (f' := fX6_takes0) q2033 ck_X6_takes0 (c_takes0_at h0 h3 _) dX6_readPlain_9 (rI.k fun r_9 M_9 h_9 => ?_) (hroom := jroom_of rfl rfl (by omega) (Nat.le_of_ble_eq_true rfl))
      obtain ⟨e_9, h_9⟩ := h_9; replace e_9 := e_9.symm; replace h_9 := h_9.symm; subst e_9; subst h_9
      refine G.istore_n2 dX6_readPlain_12 ?_
      refine G.goto (tgt := 2) dX6_readPlain_13 (by decide) ?_
      by_cases q : tk.1 p = nI 9
      · rw [if_pos q, decide_eq_true q]
        rw [pNots_go q] at go
        have hpN := tk_in h0.2.2.2.2.1 (by decide) (by decide) q
        exact ih (!b) (p + 1) (by omega) (by omega) hpN (fun p' g1 g2 g3 => go p' (by omega) g2 g3)
      · rw [if_neg q, decide_eq_false q]
        rw [pNots_no q] at go
        refine G.iload_n2 dX6_readPlain_2 ?_
        refine G.ifb_eq (tgt := 16) dX6_readPlain_3 (by decide) (fun c_3 => ?_) (fun c_3 => ?_)
        · exact go p (by omega) h3 rfl
        · exact absurd c_3 Bool.false_ne_true
theorem e_rplain {dp ds dt d : Nat} {sm : Nat → Nat → Rs Sm} {sub : Option (Nat → Nat → Rs Ts)} (hdp : 13 ≤ dp) (hds : ds ≤ dp) (hdt : dt ≤ dp) (h0 : rdOk ord tk N M0) (hd8 : d ≤ 8) (hsm : EvR E (fX6_readSum ds) L ph sm M0 N d) (hsd : EvD E (fX6_readSum ds) L ph d) (hsub : (sub = none ∧ d = 8) ∨ ∃ g, sub = some g ∧ d < 8 ∧ EvR E (fX6_readTest dt) L ph g M0 N (d + 1)) : EvR E (fX6_readPlain (dp + 1)) L ph (pPlain tk sm sub) M0 N d := by
  intro pos lv hp hl
  have h4 := h0.2.2.2.1
  refine Ct.of [some (.ref (L.1 52)), some (.int (nI d)), none, none] rfl (Nat.le_of_ble_eq_true rfl) (show plainName RX6 = true by decide +kernel) rfl ?_
  refine G.iconst (v := nI 1) dX6_readPlain_0 (by decide) ?_
  refine G.istore_n2 dX6_readPlain_1 ?_
  refine r_nots h0 hdp 402 false pos (by omega) (Nat.le_refl _) hp (fun p' g1 g2 g3 => ?_)
  have hfin : ∀ M', rdQ M0 N pos (pPos tk sm sub p' lv) M' → rdQ M0 N pos (pPlain tk sm sub pos lv) M' := by
    intro M' h
    unfold pPlain
    rw [g3]
    cases hx : pPos tk sm sub p' lv with
    | inl e => rw [hx] at h; exact h
    | inr x => obtain ⟨t, p, l⟩ := x; rw [hx] at h; exact h
  unfold pPos at hfin
  have hb : (rS M0 p' lv).1 21 = -1 := h0.1
  have hpl := (h0.2.2.2.2.2 p' (by omega)).2.2
  have hc : (rS M0 p' lv).2.2.1 15 p' = tk.1 p' := (h0.2.2.2.2.2 p' g2).1
  have h19 : (rS M0 p' lv).1 19 = nI p' := rfl
  refine G.aload_n0 dX6_readPlain_16 ?_
  refine G.mcall (f' := fX6_fine) q2037 ck_X6_fine (c_X6_fine) dX6_readPlain_17 (rI.k fun r_17 M_17 h_17 => ?_) (hroom := jroom_of rfl rfl (by omega) (Nat.le_of_ble_eq_true rfl))
  obtain ⟨e_17, h_17⟩ := h_17; replace e_17 := e_17.symm; replace h_17 := h_17.symm; subst e_17; subst h_17
  refine G.ifb_ne (tgt := 24) dX6_readPlain_20 (by decide) (fun c_20 => ?_) (fun c_20 => ?_)
  · refine G.aload_n0 dX6_readPlain_24 ?_
    refine G.mgeta 15 fl_X6_50 dX6_readPlain_25 ?_
    refine G.aload_n0 dX6_readPlain_28 ?_
    refine G.mgeti 19 fl_X6_168 dX6_readPlain_29 ?_
    refine G.miald (n := 401) 15 p' dX6_readPlain_32 h19 (by omega) ?_
    rw [hc]
    refine G.istore_n3 dX6_readPlain_33 ?_
    refine G.iload_n3 dX6_readPlain_34 ?_
    refine G.bipush (v := nI 40) dX6_readPlain_35 (by decide) ?_
    refine G.scall (f' := fX6_sign) q2053 ck_X6_sign (c_X6_sign E 40) dX6_readPlain_37 (sI.k fun r_37 h_37 => ?_) (hroom := jroom_of rfl rfl (by omega) (Nat.le_of_ble_eq_true rfl))
    replace h_37 := h_37.symm; subst h_37
    refine G.icmp_ne (tgt := 90) dX6_readPlain_40 (by decide) (fun c_40 => ?_) (fun c_40 => ?_)
    · rw [if_neg c_40] at hfin
      refine G.aload_n0 dX6_readPlain_90 ?_
      refine G.iload_n1 dX6_readPlain_91 ?_
      refine G.mcall (f' := fX6_readSum (ds)) q2041 (ck_X6_readSum _) (hsm p' lv g2 hl) dX6_readPlain_92 (rV.k fun M_92 h_92 => ?_) (hroom := jroom_of rfl rfl (by omega) (Nat.le_of_ble_eq_true rfl))
      first | (replace h_92 := h_92.symm; subst h_92) | skip
      cases hgx : sm p' lv with
      | inl e =>
        rw [hgx] at h_92 hfin
        have hdd := rdQ_bad h0 h_92 rfl
        refine G.aload_n0 dX6_readPlain_95 ?_
        refine G.bipush (v := nI 60) dX6_readPlain_96 (by decide) ?_
        refine G.scall (f' := fX6_sign) q2053 ck_X6_sign (c_X6_sign E 60) dX6_readPlain_98 (sI.k fun r_98 h_98 => ?_) (hroom := jroom_of rfl rfl (by omega) (Nat.le_of_ble_eq_true rfl))
        replace h_98 := h_98.symm; subst h_98
        refine G.mcall (f' := fX6_takes0) q2033 ck_X6_takes0 (c_takes0_dead hdd _) dX6_readPlain_101 (rI.k fun r_101 M_101 h_101 => ?_) (hroom := jroom_of rfl rfl (by omega) (Nat.le_of_ble_eq_true rfl))
        obtain ⟨e_101, h_101⟩ := h_101; replace e_101 := e_101.symm; replace h_101 := h_101.symm; subst e_101; subst h_101
        refine G.ifb_ne (tgt := 128) dX6_readPlain_104 (by decide) (fun c_104 => ?_) (fun c_104 => ?_)
        · exact absurd c_104 Bool.false_ne_true
        · refine G.aload_n0 dX6_readPlain_107 ?_
          refine G.bipush (v := nI 62) dX6_readPlain_108 (by decide) ?_
          refine G.scall (f' := fX6_sign) q2053 ck_X6_sign (c_X6_sign E 62) dX6_readPlain_110 (sI.k fun r_110 h_110 => ?_) (hroom := jroom_of rfl rfl (by omega) (Nat.le_of_ble_eq_true rfl))
          replace h_110 := h_110.symm; subst h_110
          refine G.mcall (f' := fX6_takes0) q2033 ck_X6_takes0 (c_takes0_dead hdd _) dX6_readPlain_113 (rI.k fun r_113 M_113 h_113 => ?_) (hroom := jroom_of rfl rfl (by omega) (Nat.le_of_ble_eq_true rfl))
          obtain ⟨e_113, h_113⟩ := h_113; replace e_113 := e_113.symm; replace h_113 := h_113.symm; subst e_113; subst h_113
          refine G.ifb_ne (tgt := 128) dX6_readPlain_116 (by decide) (fun c_116 => ?_) (fun c_116 => ?_)
          · exact absurd c_116 Bool.false_ne_true
          · refine G.aload_n0 dX6_readPlain_119 ?_
            refine G.bipush (v := nI 61) dX6_readPlain_120 (by decide) ?_
            refine G.scall (f' := fX6_sign) q2053 ck_X6_sign (c_X6_sign E 61) dX6_readPlain_122 (sI.k fun r_122 h_122 => ?_) (hroom := jroom_of rfl rfl (by omega) (Nat.le_of_ble_eq_true rfl))
            replace h_122 := h_122.symm; subst h_122
            refine G.mcall (f' := fX6_must) q2060 ck_X6_must (c_must_dead hdd _) dX6_readPlain_125 (rV.k fun M_125 h_125 => ?_) (hroom := jroom_of rfl rfl (by omega) (Nat.le_of_ble_eq_true rfl))
            first | (replace h_125 := h_125.symm; subst h_125) | skip
            refine G.aload_n0 dX6_readPlain_128 ?_
            refine G.iload_n1 dX6_readPlain_129 ?_
            refine G.mcall (f' := fX6_readSum (ds)) q2041 (ck_X6_readSum _) (hsd _ hdd) dX6_readPlain_130 (rV.k fun M_130 h_130 => ?_) (hroom := jroom_of rfl rfl (by omega) (Nat.le_of_ble_eq_true rfl))
            first | (replace h_130 := h_130.symm; subst h_130) | skip
            refine G.return_ dX6_readPlain_133 ?_
            exact ⟨_, rfl, rfl, hfin _ h_92⟩
      | inr x =>
        obtain ⟨a, p, l⟩ := x
        rw [hgx] at h_92 hfin
        obtain ⟨rfl, q1, q2, q3⟩ := h_92
        dsimp only at hfin
        have k128 : isCmp (tk.1 p) = true → G E (fX6_readPlain (dp + 1)) (mFin E (fX6_readPlain (dp + 1)) L ph (rV fun M' => rdQ M0 N pos (pPlain tk sm sub pos lv) M')) 128 [some (.ref (L.1 52)), some (.int (nI d)), some (.int (bI false)), some (.int (tk.1 p'))] [] (movl L (rS M0 (p + 1) l) ph) 0 0 := by
          intro hs
          have hpN : p < N := by
            rcases Nat.lt_or_ge p N with q | q
            · exact q
            · have := h0.2.2.2.2.1.1 p q
              rw [this] at hs
              exact absurd hs (by decide)
          rw [if_pos hs] at hfin
          refine G.aload_n0 dX6_readPlain_128 ?_
          refine G.iload_n1 dX6_readPlain_129 ?_
          refine G.mcall (f' := fX6_readSum (ds)) q2041 (ck_X6_readSum _) (hsm (p + 1) l hpN q3) dX6_readPlain_130 (rV.k fun M_130 h_130 => ?_) (hroom := jroom_of rfl rfl (by omega) (Nat.le_of_ble_eq_true rfl))
          first | (replace h_130 := h_130.symm; subst h_130) | skip
          refine G.return_ dX6_readPlain_133 ?_
          refine ⟨_, rfl, rfl, hfin _ ?_⟩
          cases hgy : sm (p + 1) l with
          | inl e =>
            rw [hgy] at h_130
            exact h_130
          | inr y =>
            obtain ⟨b, p2, l2⟩ := y
            rw [hgy] at h_130
            exact ⟨h_130.1, by have := h_130.2.1; omega, h_130.2.2.1, h_130.2.2.2⟩
        refine G.aload_n0 dX6_readPlain_95 ?_
        refine G.bipush (v := nI 60) dX6_readPlain_96 (by decide) ?_
        refine G.scall (f' := fX6_sign) q2053 ck_X6_sign (c_X6_sign E 60) dX6_readPlain_98 (sI.k fun r_98 h_98 => ?_) (hroom := jroom_of rfl rfl (by omega) (Nat.le_of_ble_eq_true rfl))
        replace h_98 := h_98.symm; subst h_98
        refine G.mcall (f' := fX6_takes0) q2033 ck_X6_takes0 (c_takes0_at h0 q2 _) dX6_readPlain_101 (rI.k fun r_101 M_101 h_101 => ?_) (hroom := jroom_of rfl rfl (by omega) (Nat.le_of_ble_eq_true rfl))
        obtain ⟨e_101, h_101⟩ := h_101; replace e_101 := e_101.symm; replace h_101 := h_101.symm; subst e_101; subst h_101
        refine G.ifb_ne (tgt := 128) dX6_readPlain_104 (by decide) (fun c_104 => ?_) (fun c_104 => ?_)
        · have q104 := of_decide_eq_true c_104
          rw [if_pos q104]
          first
          | exact k128 (decide_eq_true (Or.inl q104))
          | exact k128 (decide_eq_true (Or.inr (Or.inl q116)))
          | (by_cases q6 : tk.1 p = nI 161
             · have hz : zMust tk p l (nI 161) = .inr ((), p + 1, l) := if_pos q6
               rw [hz] at h_125
               obtain ⟨rfl, -⟩ := h_125
               exact k128 (decide_eq_true (Or.inr (Or.inr q6)))
             · have hz : zMust tk p l (nI 161) = .inl p := if_neg q6
               rw [hz] at h_125
               rw [if_neg (fun z => by unfold isCmp at z; exact (of_decide_eq_true z).elim q104 (fun y => y.elim q116 q6))] at hfin
               have hdd := rdQ_bad h0 h_125 rfl
               refine G.aload_n0 dX6_readPlain_128 ?_
               refine G.iload_n1 dX6_readPlain_129 ?_
               refine G.mcall (f' := fX6_readSum (ds)) q2041 (ck_X6_readSum _) (hsd _ hdd) dX6_readPlain_130 (rV.k fun M_130 h_130 => ?_) (hroom := jroom_of rfl rfl (by omega) (Nat.le_of_ble_eq_true rfl))
               first | (replace h_130 := h_130.symm; subst h_130) | skip
               refine G.return_ dX6_readPlain_133 ?_
               exact ⟨_, rfl, rfl, hfin _ h_125⟩)
        · have q104 := of_decide_eq_false c_104
          rw [if_neg q104]
          refine G.aload_n0 dX6_readPlain_107 ?_
          refine G.bipush (v := nI 62) dX6_readPlain_108 (by decide) ?_
          refine G.scall (f' := fX6_sign) q2053 ck_X6_sign (c_X6_sign E 62) dX6_readPlain_110 (sI.k fun r_110 h_110 => ?_) (hroom := jroom_of rfl rfl (by omega) (Nat.le_of_ble_eq_true rfl))
          replace h_110 := h_110.symm; subst h_110
          refine G.mcall (f' := fX6_takes0) q2033 ck_X6_takes0 (c_takes0_at h0 q2 _) dX6_readPlain_113 (rI.k fun r_113 M_113 h_113 => ?_) (hroom := jroom_of rfl rfl (by omega) (Nat.le_of_ble_eq_true rfl))
          obtain ⟨e_113, h_113⟩ := h_113; replace e_113 := e_113.symm; replace h_113 := h_113.symm; subst e_113; subst h_113
          refine G.ifb_ne (tgt := 128) dX6_readPlain_116 (by decide) (fun c_116 => ?_) (fun c_116 => ?_)
          · have q116 := of_decide_eq_true c_116
            rw [if_pos q116]
            first
            | exact k128 (decide_eq_true (Or.inl q104))
            | exact k128 (decide_eq_true (Or.inr (Or.inl q116)))
            | (by_cases q6 : tk.1 p = nI 161
               · have hz : zMust tk p l (nI 161) = .inr ((), p + 1, l) := if_pos q6
                 rw [hz] at h_125
                 obtain ⟨rfl, -⟩ := h_125
                 exact k128 (decide_eq_true (Or.inr (Or.inr q6)))
               · have hz : zMust tk p l (nI 161) = .inl p := if_neg q6
                 rw [hz] at h_125
                 rw [if_neg (fun z => by unfold isCmp at z; exact (of_decide_eq_true z).elim q104 (fun y => y.elim q116 q6))] at hfin
                 have hdd := rdQ_bad h0 h_125 rfl
                 refine G.aload_n0 dX6_readPlain_128 ?_
                 refine G.iload_n1 dX6_readPlain_129 ?_
                 refine G.mcall (f' := fX6_readSum (ds)) q2041 (ck_X6_readSum _) (hsd _ hdd) dX6_readPlain_130 (rV.k fun M_130 h_130 => ?_) (hroom := jroom_of rfl rfl (by omega) (Nat.le_of_ble_eq_true rfl))
                 first | (replace h_130 := h_130.symm; subst h_130) | skip
                 refine G.return_ dX6_readPlain_133 ?_
                 exact ⟨_, rfl, rfl, hfin _ h_125⟩)
          · have q116 := of_decide_eq_false c_116
            rw [if_neg q116]
            refine G.aload_n0 dX6_readPlain_119 ?_
            refine G.bipush (v := nI 61) dX6_readPlain_120 (by decide) ?_
            refine G.scall (f' := fX6_sign) q2053 ck_X6_sign (c_X6_sign E 61) dX6_readPlain_122 (sI.k fun r_122 h_122 => ?_) (hroom := jroom_of rfl rfl (by omega) (Nat.le_of_ble_eq_true rfl))
            replace h_122 := h_122.symm; subst h_122
            refine G.mcall (f' := fX6_must) q2060 ck_X6_must (c_must_at h0 q2 q3 (k := 161) (by omega) (by omega)) dX6_readPlain_125 (rV.k fun M_125 h_125 => ?_) (hroom := jroom_of rfl rfl (by omega) (Nat.le_of_ble_eq_true rfl))
            first | (replace h_125 := h_125.symm; subst h_125) | skip
            first
            | exact k128 (decide_eq_true (Or.inl q104))
            | exact k128 (decide_eq_true (Or.inr (Or.inl q116)))
            | (by_cases q6 : tk.1 p = nI 161
               · have hz : zMust tk p l (nI 161) = .inr ((), p + 1, l) := if_pos q6
                 rw [hz] at h_125
                 obtain ⟨rfl, -⟩ := h_125
                 exact k128 (decide_eq_true (Or.inr (Or.inr q6)))
               · have hz : zMust tk p l (nI 161) = .inl p := if_neg q6
                 rw [hz] at h_125
                 rw [if_neg (fun z => by unfold isCmp at z; exact (of_decide_eq_true z).elim q104 (fun y => y.elim q116 q6))] at hfin
                 have hdd := rdQ_bad h0 h_125 rfl
                 refine G.aload_n0 dX6_readPlain_128 ?_
                 refine G.iload_n1 dX6_readPlain_129 ?_
                 refine G.mcall (f' := fX6_readSum (ds)) q2041 (ck_X6_readSum _) (hsd _ hdd) dX6_readPlain_130 (rV.k fun M_130 h_130 => ?_) (hroom := jroom_of rfl rfl (by omega) (Nat.le_of_ble_eq_true rfl))
                 first | (replace h_130 := h_130.symm; subst h_130) | skip
                 refine G.return_ dX6_readPlain_133 ?_
                 exact ⟨_, rfl, rfl, hfin _ h_125⟩)
    · have q40 : tk.1 p' = nI 140 := by first | exact c_40 | exact Classical.not_not.mp c_40
      rw [if_pos q40] at hfin
      have hpN := tk_in h0.2.2.2.2.1 (by decide) (by decide) q40
      refine G.iload_n1 dX6_readPlain_43 ?_
      refine G.bipush (v := nI 8) dX6_readPlain_44 (by decide) ?_
      refine G.icmp_ne (tgt := 53) dX6_readPlain_46 (by decide) (fun c_46 => ?_) (fun c_46 => ?_)
      · have n_46 : ¬ d = 8 := fun z => c_46 (congrArg nI z)
        refine G.aload_n0 dX6_readPlain_53 ?_
        refine G.mcall (f' := fX6_fine) q2037 ck_X6_fine (c_X6_fine) dX6_readPlain_54 (rI.k fun r_54 M_54 h_54 => ?_) (hroom := jroom_of rfl rfl (by omega) (Nat.le_of_ble_eq_true rfl))
        obtain ⟨e_54, h_54⟩ := h_54; replace e_54 := e_54.symm; replace h_54 := h_54.symm; subst e_54; subst h_54
        refine G.ifb_ne (tgt := 61) dX6_readPlain_57 (by decide) (fun c_57 => ?_) (fun c_57 => ?_)
        · first
          | exact absurd (of_decide_eq_true c_57) hpl
          | (rcases hsub with ⟨-, z⟩ | ⟨g, hg, hd, hev⟩
             · omega
             · subst hg
               refine G.aload_n0 dX6_readPlain_61 ?_
               refine G.dup dX6_readPlain_62 rfl ?_
               refine G.mgeti 19 fl_X6_168 dX6_readPlain_63 ?_
               rw [h19]
               refine G.iconst (v := nI 1) dX6_readPlain_66 (by decide) ?_
               first | with_reducible refine G.iaddn dX6_readPlain_67 ?_ | refine G.iadd dX6_readPlain_67 ?_
               refine G.mputi 19 fp_X6_168 dX6_readPlain_68 ?_
               rw [rS_t]
               refine G.aload_n0 dX6_readPlain_71 ?_
               refine G.iload_n1 dX6_readPlain_72 ?_
               refine G.iconst (v := nI 1) dX6_readPlain_73 (by decide) ?_
               first | with_reducible refine G.iaddn dX6_readPlain_74 ?_ | refine G.iadd dX6_readPlain_74 ?_
               refine G.mcall (f' := fX6_readTest (dt)) q2072 (ck_X6_readTest _) (hev (p' + 1) lv (by omega) hl) dX6_readPlain_75 (rV.k fun M_75 h_75 => ?_) (hroom := jroom_of rfl rfl (by omega) (Nat.le_of_ble_eq_true rfl))
               first | (replace h_75 := h_75.symm; subst h_75) | skip
               refine G.aload_n0 dX6_readPlain_78 ?_
               refine G.bipush (v := nI 41) dX6_readPlain_79 (by decide) ?_
               refine G.scall (f' := fX6_sign) q2053 ck_X6_sign (c_X6_sign E 41) dX6_readPlain_81 (sI.k fun r_81 h_81 => ?_) (hroom := jroom_of rfl rfl (by omega) (Nat.le_of_ble_eq_true rfl))
               replace h_81 := h_81.symm; subst h_81
               dsimp only at hfin
               cases hgx : g (p' + 1) lv with
               | inl e =>
                 rw [hgx] at h_75 hfin
                 have hdd := rdQ_bad h0 h_75 rfl
                 refine G.mcall (f' := fX6_must) q2060 ck_X6_must (c_must_dead hdd _) dX6_readPlain_84 (rV.k fun M_84 h_84 => ?_) (hroom := jroom_of rfl rfl (by omega) (Nat.le_of_ble_eq_true rfl))
                 first | (replace h_84 := h_84.symm; subst h_84) | skip
                 refine G.goto (tgt := 133) dX6_readPlain_87 (by decide) ?_
                 refine G.return_ dX6_readPlain_133 ?_
                 exact ⟨_, rfl, rfl, hfin _ h_75⟩
               | inr x =>
                 obtain ⟨s, p, l⟩ := x
                 rw [hgx] at h_75 hfin
                 obtain ⟨rfl, q1, q2, q3⟩ := h_75
                 refine G.mcall (f' := fX6_must) q2060 ck_X6_must (c_must_at h0 q2 q3 (k := 141) (by omega) (by omega)) dX6_readPlain_84 (rV.k fun M_84 h_84 => ?_) (hroom := jroom_of rfl rfl (by omega) (Nat.le_of_ble_eq_true rfl))
                 first | (replace h_84 := h_84.symm; subst h_84) | skip
                 refine G.goto (tgt := 133) dX6_readPlain_87 (by decide) ?_
                 refine G.return_ dX6_readPlain_133 ?_
                 refine ⟨_, rfl, rfl, hfin _ ?_⟩
                 unfold zMust at h_84
                 dsimp only
                 split at h_84
                 · rename_i q6
                   rw [if_pos q6]
                   exact ⟨h_84.1, by omega, h_84.2.2.1, h_84.2.2.2⟩
                 · rename_i q6
                   rw [if_neg q6]
                   exact h_84)
        · first
          | exact absurd hb (of_decide_eq_false c_57)
          | (rcases hsub with ⟨hg, -⟩ | ⟨g, hg, hd, hev⟩
             · subst hg
               refine G.return_ dX6_readPlain_60 ?_
               exact ⟨_, rfl, rfl, hfin _ ⟨rfl, by omega, rS_x.ms (by decide)⟩⟩
             · omega)
      · have n_46 : d = 8 := (nI_inj (a := d) (b := 8) (by omega) (by omega)).mp c_46
        refine G.aload_n0 dX6_readPlain_49 ?_
        refine G.mcall (f' := fX6_faults) q2056 ck_X6_faults (c_faults_at h0 g2) dX6_readPlain_50 (rV.k fun M_50 h_50 => ?_) (hroom := jroom_of rfl rfl (by omega) (Nat.le_of_ble_eq_true rfl))
        first | (replace h_50 := h_50.symm; subst h_50) | skip
        refine G.aload_n0 dX6_readPlain_53 ?_
        refine G.mcall (f' := fX6_fine) q2037 ck_X6_fine (c_X6_fine) dX6_readPlain_54 (rI.k fun r_54 M_54 h_54 => ?_) (hroom := jroom_of rfl rfl (by omega) (Nat.le_of_ble_eq_true rfl))
        obtain ⟨e_54, h_54⟩ := h_54; replace e_54 := e_54.symm; replace h_54 := h_54.symm; subst e_54; subst h_54
        refine G.ifb_ne (tgt := 61) dX6_readPlain_57 (by decide) (fun c_57 => ?_) (fun c_57 => ?_)
        · first
          | exact absurd (of_decide_eq_true c_57) hpl
          | (rcases hsub with ⟨-, z⟩ | ⟨g, hg, hd, hev⟩
             · omega
             · subst hg
               refine G.aload_n0 dX6_readPlain_61 ?_
               refine G.dup dX6_readPlain_62 rfl ?_
               refine G.mgeti 19 fl_X6_168 dX6_readPlain_63 ?_
               rw [h19]
               refine G.iconst (v := nI 1) dX6_readPlain_66 (by decide) ?_
               first | with_reducible refine G.iaddn dX6_readPlain_67 ?_ | refine G.iadd dX6_readPlain_67 ?_
               refine G.mputi 19 fp_X6_168 dX6_readPlain_68 ?_
               rw [rS_t]
               refine G.aload_n0 dX6_readPlain_71 ?_
               refine G.iload_n1 dX6_readPlain_72 ?_
               refine G.iconst (v := nI 1) dX6_readPlain_73 (by decide) ?_
               first | with_reducible refine G.iaddn dX6_readPlain_74 ?_ | refine G.iadd dX6_readPlain_74 ?_
               refine G.mcall (f' := fX6_readTest (dt)) q2072 (ck_X6_readTest _) (hev (p' + 1) lv (by omega) hl) dX6_readPlain_75 (rV.k fun M_75 h_75 => ?_) (hroom := jroom_of rfl rfl (by omega) (Nat.le_of_ble_eq_true rfl))
               first | (replace h_75 := h_75.symm; subst h_75) | skip
               refine G.aload_n0 dX6_readPlain_78 ?_
               refine G.bipush (v := nI 41) dX6_readPlain_79 (by decide) ?_
               refine G.scall (f' := fX6_sign) q2053 ck_X6_sign (c_X6_sign E 41) dX6_readPlain_81 (sI.k fun r_81 h_81 => ?_) (hroom := jroom_of rfl rfl (by omega) (Nat.le_of_ble_eq_true rfl))
               replace h_81 := h_81.symm; subst h_81
               dsimp only at hfin
               cases hgx : g (p' + 1) lv with
               | inl e =>
                 rw [hgx] at h_75 hfin
                 have hdd := rdQ_bad h0 h_75 rfl
                 refine G.mcall (f' := fX6_must) q2060 ck_X6_must (c_must_dead hdd _) dX6_readPlain_84 (rV.k fun M_84 h_84 => ?_) (hroom := jroom_of rfl rfl (by omega) (Nat.le_of_ble_eq_true rfl))
                 first | (replace h_84 := h_84.symm; subst h_84) | skip
                 refine G.goto (tgt := 133) dX6_readPlain_87 (by decide) ?_
                 refine G.return_ dX6_readPlain_133 ?_
                 exact ⟨_, rfl, rfl, hfin _ h_75⟩
               | inr x =>
                 obtain ⟨s, p, l⟩ := x
                 rw [hgx] at h_75 hfin
                 obtain ⟨rfl, q1, q2, q3⟩ := h_75
                 refine G.mcall (f' := fX6_must) q2060 ck_X6_must (c_must_at h0 q2 q3 (k := 141) (by omega) (by omega)) dX6_readPlain_84 (rV.k fun M_84 h_84 => ?_) (hroom := jroom_of rfl rfl (by omega) (Nat.le_of_ble_eq_true rfl))
                 first | (replace h_84 := h_84.symm; subst h_84) | skip
                 refine G.goto (tgt := 133) dX6_readPlain_87 (by decide) ?_
                 refine G.return_ dX6_readPlain_133 ?_
                 refine ⟨_, rfl, rfl, hfin _ ?_⟩
                 unfold zMust at h_84
                 dsimp only
                 split at h_84
                 · rename_i q6
                   rw [if_pos q6]
                   exact ⟨h_84.1, by omega, h_84.2.2.1, h_84.2.2.2⟩
                 · rename_i q6
                   rw [if_neg q6]
                   exact h_84)
        · first
          | exact absurd hb (of_decide_eq_false c_57)
          | (rcases hsub with ⟨hg, -⟩ | ⟨g, hg, hd, hev⟩
             · subst hg
               refine G.return_ dX6_readPlain_60 ?_
               exact ⟨_, rfl, rfl, hfin _ ⟨rfl, by omega, rS_x.ms (by decide)⟩⟩
             · omega)
  · exact absurd hb (of_decide_eq_false c_20)
/-- sums, tests: however deep -/
theorem e_rsums (h0 : rdOk ord tk N M0) : ∀ r d, d + r = 8 → EvR E (fX6_readSum (12 + 3 * r)) L ph (pSum ord tk r) M0 N d := by
  intro r
  induction r with
  | zero =>
    intro d hd
    rw [show pSum ord tk 0 = pRows tk isAdd zBin (pTerm ord tk none) from rfl]
    exact e_rreadSum (dp := 11) (by omega) h0 (e_rreadTerm (dp := 10) (by omega) h0 (e_rpart (dp := 9) (by omega) h0 (Or.inl ⟨rfl, by omega⟩)))
  | succ r ih =>
    intro d hd
    rw [show pSum ord tk (r + 1) = pRows tk isAdd zBin (pTerm ord tk (some (pSum ord tk r))) from rfl]
    exact e_rreadSum (dp := 12 + 3 * r + 2) (by omega) h0 (e_rreadTerm (dp := 12 + 3 * r + 1) (by omega) h0 (e_rpart (dp := 12 + 3 * r) (by omega) h0 (Or.inr ⟨_, rfl, by omega, ih (d + 1) (by omega)⟩)))
theorem e_rtests (h0 : rdOk ord tk N M0) : ∀ r d, d + r = 8 → EvR E (fX6_readTest (40 + 4 * r)) L ph (pTest ord tk r) M0 N d := by
  intro r
  induction r with
  | zero =>
    intro d hd
    rw [show pTest ord tk 0 = pRows tk isOr (fun _ => zOr) (pBoth tk (pSum ord tk 0) none) from rfl]
    exact e_rreadTest (dp := 39) (by omega) h0 (e_rreadBoth (dp := 38) (by omega) h0 (e_rplain (dp := 37) (ds := 12) (dt := 37) (by omega) (by omega) (by omega) h0 (by omega) (e_rsums h0 0 d hd) (d_sums (by omega)) (Or.inl ⟨rfl, by omega⟩)))
  | succ r ih =>
    intro d hd
    rw [show pTest ord tk (r + 1) = pRows tk isOr (fun _ => zOr) (pBoth tk (pSum ord tk (r + 1)) (some (pTest ord tk r))) from rfl]
    exact e_rreadTest (dp := 40 + 4 * r + 3) (by omega) h0 (e_rreadBoth (dp := 40 + 4 * r + 2) (by omega) h0 (e_rplain (dp := 40 + 4 * r + 1) (ds := 12 + 3 * (r + 1)) (dt := 40 + 4 * r) (by omega) (by omega) (by omega) h0 (by omega) (e_rsums h0 (r + 1) d hd) (d_sums (by omega)) (Or.inr ⟨_, rfl, by omega, ih (d + 1) (by omega)⟩)))
end Read
