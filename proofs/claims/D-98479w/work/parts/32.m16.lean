/-! THE MODEL'S NIGHTS: worths laid, the crews in order -/
theorem zWorth_le {K : KR} {n away hushed night used : Nat} {fog : Bool} : ∀ p, zWorth K n away hushed night used fog p ≤ 2 := by
  intro p
  unfold zWorth
  split <;> omega
section Lays
variable {E : JE} {L : ML} {ph : HP}
theorem c_isBarredOnK {M : MM} {K : KR} (e : M.2.2.1 2 = K) {b n away hushed : Nat} (hK : KOk K b n) (hN : nOk K n away hushed M) {p night heard : Nat} (hp : p < n) (hni : night < 11) (hhe : heard < 2) : MC E fX6_isBarredOn L M ph [.int (nI p), .int (nI night), .int (nI heard), .int (bI (fogOf K (kDay K + night)))] (rI fun r M' => r = bI (kBarred K p (nI heard) (nI (kDay K + night)) (fogOf K (kDay K + night))) ∧ nOk K n away hushed M' ∧ mX [8, 22, 23, 24] [25, 31] M M') := by
  subst e
  exact c_X6_isBarredOn hK hN hp hni hhe
theorem zHeard_le {K : KR} {n hushed p used : Nat} : zHeard K n hushed p used ≤ 2 := Nat.min_le_left _ _
theorem c_X6_laysWorths {M : MM} {b n away hushed : Nat} (hK : KOk (M.2.2.1 2) b n) (hN : nOk (M.2.2.1 2) n away hushed M) (ha : away < 1024) (hh : hushed < 1024) {night used : Nat} (hni : night < 11) (hu : used < 1024) : MC E fX6_laysWorths L M ph [.int (nI night), .int (nI used), .int (bI (fogOf (M.2.2.1 2) (kDay (M.2.2.1 2) + night)))] (rV fun M' => nOk (M.2.2.1 2) n away hushed M' ∧ (∀ p, p < 10 → M'.2.2.1 32 p = nI (zWorth (M.2.2.1 2) n away hushed night used (fogOf (M.2.2.1 2) (kDay (M.2.2.1 2) + night)) p)) ∧ mX [8, 22, 23, 24] [25, 31, 32] M M') := by
  have h10 := hK.1.1
  have hua : used ||| away < 2147483648 := by
    have : used ||| away < 2 ^ 10 := Nat.or_lt_two_pow (by omega) (by omega)
    omega
  refine Ct.of [some (.ref (L.1 52)), some (.int (nI night)), some (.int (nI used)), some (.int (bI (fogOf (M.2.2.1 2) (kDay (M.2.2.1 2) + night)))), none, none] rfl (Nat.le_of_ble_eq_true rfl) (show plainName RX6 = true by decide +kernel) rfl ?_
  have loop : ∀ d i M2 a5, i + d = 10 → nOk (M.2.2.1 2) n away hushed M2 → (∀ p, p < i → M2.2.2.1 32 p = nI (zWorth (M.2.2.1 2) n away hushed night used (fogOf (M.2.2.1 2) (kDay (M.2.2.1 2) + night)) p)) → mX [8, 22, 23, 24] [25, 31, 32] M M2 → G E fX6_laysWorths (mFin E fX6_laysWorths L ph (rV fun M' => nOk (M.2.2.1 2) n away hushed M' ∧ (∀ p, p < 10 → M'.2.2.1 32 p = nI (zWorth (M.2.2.1 2) n away hushed night used (fogOf (M.2.2.1 2) (kDay (M.2.2.1 2) + night)) p)) ∧ mX [8, 22, 23, 24] [25, 31, 32] M M')) 3 [some (.ref (L.1 52)), some (.int (nI night)), some (.int (nI used)), some (.int (bI (fogOf (M.2.2.1 2) (kDay (M.2.2.1 2) + night)))), some (.int (nI i)), a5] [] (movl L M2 ph) 0 0 := by
    intro d
    induction d with
    | zero =>
      intro i M2 a5 hi hn2 hw hx
      refine G.iload4 dX6_laysWorths_3 ?_
      refine G.bipush (v := nI 10) dX6_laysWorths_5 (by decide) ?_
      refine G.icmp_ge (tgt := 113) dX6_laysWorths_7 (by decide) (fun c_7 => ?_) (fun c_7 => ?_)
      · refine G.return_ dX6_laysWorths_113 ?_
        exact ⟨_, rfl, rfl, hn2, fun p hp => hw p (by omega), hx⟩
      · exact absurd (nI_leI (by omega) (by omega) |>.mpr (by omega)) c_7
    | succ d ih =>
      intro i M2 a5 hi hn2 hw hx
      have hgo : ∀ M3 a5, nOk (M.2.2.1 2) n away hushed M3 → (∀ p, p < i → M3.2.2.1 32 p = M2.2.2.1 32 p) → M3.2.2.1 32 i = nI (zWorth (M.2.2.1 2) n away hushed night used (fogOf (M.2.2.1 2) (kDay (M.2.2.1 2) + night)) i) → mX [8, 22, 23, 24] [25, 31, 32] M M3 → _ := fun M3 a5 q1 q2 q3 q4 => ih (i + 1) M3 a5 (by omega) q1 (fun p hp => by
        rcases Nat.lt_or_ge p i with y | y
        · rw [q2 p y]; exact hw p y
        · rw [show p = i from by omega]; exact q3) q4
      clear ih
      have hzl := zHeard_le (K := M.2.2.1 2) (n := n) (hushed := hushed) (p := i) (used := used)
      have e2 : M2.2.2.1 2 = M.2.2.1 2 := hx.2.2.1 2 (by decide)
      have hx3 : mX [8, 22, 23, 24] [25, 31, 32] M (ma M2 32 i (nI 0)) := hx.ma (by decide)
      have hn3 : nOk (M.2.2.1 2) n away hushed (ma M2 32 i (nI 0)) := hn2.mv (mX.rf.ma (by decide))
      have e3 : (ma M2 32 i (nI 0)).2.2.1 2 = M.2.2.1 2 := e2
      have h0 : ¬ ((i < n ∧ (used ||| away).testBit i = false ∧ kComes (M.2.2.1 2) i ≤ nI night ∧ ¬ M.2.2.1 2 i = nI 3) ∧ zHeard (M.2.2.1 2) n hushed i used < 2 ∧ kBarred (M.2.2.1 2) i (nI (zHeard (M.2.2.1 2) n hushed i used)) (nI (kDay (M.2.2.1 2) + night)) (fogOf (M.2.2.1 2) (kDay (M.2.2.1 2) + night)) = false) → zWorth (M.2.2.1 2) n away hushed night used (fogOf (M.2.2.1 2) (kDay (M.2.2.1 2) + night)) i = 0 := fun z => if_neg z
      have hgo0 : ∀ M3 a5, nOk (M.2.2.1 2) n away hushed M3 → M3.2.2.1 32 = (ma M2 32 i (nI 0)).2.2.1 32 → mX [8, 22, 23, 24] [25, 31, 32] M M3 → zWorth (M.2.2.1 2) n away hushed night used (fogOf (M.2.2.1 2) (kDay (M.2.2.1 2) + night)) i = 0 → _ := fun M3 a5 q1 q2 q3 q4 => hgo M3 a5 q1 (fun p hp => by rw [q2, ma_at, if_pos rfl, if_neg (by omega)]) (by rw [q2, ma_at, if_pos rfl, if_pos rfl, q4]) q3
      refine G.iload4 dX6_laysWorths_3 ?_
      refine G.bipush (v := nI 10) dX6_laysWorths_5 (by decide) ?_
      refine G.icmp_ge (tgt := 113) dX6_laysWorths_7 (by decide) (fun c_7 => ?_) (fun c_7 => ?_)
      · exact absurd ((nI_leI (by omega) (by omega)).mp c_7) (by omega)
      · refine G.aload_n0 dX6_laysWorths_10 ?_
        refine G.mgeta 32 fl_X6_77 dX6_laysWorths_11 ?_
        refine G.iload4 dX6_laysWorths_14 ?_
        refine G.iconst (v := nI 0) dX6_laysWorths_16 (by decide) ?_
        refine G.miast (n := 10) 32 i dX6_laysWorths_17 rfl (by omega) ?_
        refine G.aload_n0 dX6_laysWorths_18 ?_
        refine G.iload4 dX6_laysWorths_19 ?_
        refine G.mcall (f' := fX6_isPerson) q1950 ck_X6_isPerson (c_X6_isPerson E L _ ph (nI i) h10 (by rw [e3]; exact hK.1.2)) dX6_laysWorths_21 (rI.k fun r_21 M_21 h_21 => ?_)
        obtain ⟨e_21, h_21⟩ := h_21; replace e_21 := e_21.symm; replace h_21 := h_21.symm; subst e_21; subst h_21
        refine G.ifb_eq (tgt := 107) dX6_laysWorths_24 (by decide) (fun c_24 => ?_) (fun c_24 => ?_)
        · have hout : ¬ i < n := fun z => of_decide_eq_false c_24 (by rw [t_nI (by omega)]; omega)
          refine G.iinc4 dX6_laysWorths_107 ?_
          try rw [show ∀ a : Nat, nI a + Int32.ofInt 1 = nI (a + 1) from fun a => nI_add a 1]
          refine G.goto (tgt := 3) dX6_laysWorths_110 (by decide) ?_
          first
            | (refine hgo _ _ (g1.mv (mX.rf.ma (by decide))) (fun p hp => ?_) ?_ ((hx3.tr g2 (by simp) (by simp)).ma (by decide))
               · rw [ma_at, if_pos rfl, if_neg (by omega), g2.2.2.1 32 (by decide), ma_at, if_pos rfl, if_neg (by omega)]
               · rw [ma_at, if_pos rfl, if_pos rfl]
                 exact congrArg nI (if_pos ⟨⟨hin, c_38, Int32.not_lt.mp c_49, c_62⟩, n_80, c_93⟩).symm)
            | exact hgo0 M_90 _ g1 (g2.2.2.1 32 (by decide)) (hx3.tr g2 (by simp) (by simp)) (h0 (fun z => Bool.false_ne_true (z.2.2.symm.trans c_93)))
            | exact hgo0 _ _ hn3 rfl hx3 (h0 (fun z => absurd z.2.1 (Nat.not_lt.mpr n_80)))
            | exact hgo0 _ _ hn3 rfl hx3 (h0 (fun z => z.1.2.2.2 c_62))
            | exact hgo0 _ _ hn3 rfl hx3 (h0 (fun z => absurd z.1.2.2.1 (Int32.not_le.mpr c_49)))
            | exact hgo0 _ _ hn3 rfl hx3 (h0 (fun z => Bool.false_ne_true (z.1.2.1.symm.trans c_38)))
            | exact hgo0 _ _ hn3 rfl hx3 (h0 (fun z => hout z.1.1))
        · have hin : i < n := by
            have := (of_decide_eq_true c_24).2
            rw [t_nI (by omega)] at this
            omega
          refine G.iload_n2 dX6_laysWorths_27 ?_
          refine G.aload_n0 dX6_laysWorths_28 ?_
          refine G.mgeti 34 fl_X6_355 dX6_laysWorths_29 ?_
          rw [hn3.2.2.1]
          refine G.ior dX6_laysWorths_32 ?_
          rw [b_or (a := used) (b := away) (by omega) (by omega)]
          refine G.iload4 dX6_laysWorths_33 ?_
          refine G.scall (f' := fX6_isIn) q2211 ck_X6_isIn (c_isIn E (used ||| away) i hua (by omega)) dX6_laysWorths_35 (sI.k fun r_35 h_35 => ?_)
          replace h_35 := h_35.symm; subst h_35
          refine G.ifb_ne (tgt := 107) dX6_laysWorths_38 (by decide) (fun c_38 => ?_) (fun c_38 => ?_)
          · refine G.iinc4 dX6_laysWorths_107 ?_
            try rw [show ∀ a : Nat, nI a + Int32.ofInt 1 = nI (a + 1) from fun a => nI_add a 1]
            refine G.goto (tgt := 3) dX6_laysWorths_110 (by decide) ?_
            first
              | (refine hgo _ _ (g1.mv (mX.rf.ma (by decide))) (fun p hp => ?_) ?_ ((hx3.tr g2 (by simp) (by simp)).ma (by decide))
                 · rw [ma_at, if_pos rfl, if_neg (by omega), g2.2.2.1 32 (by decide), ma_at, if_pos rfl, if_neg (by omega)]
                 · rw [ma_at, if_pos rfl, if_pos rfl]
                   exact congrArg nI (if_pos ⟨⟨hin, c_38, Int32.not_lt.mp c_49, c_62⟩, n_80, c_93⟩).symm)
              | exact hgo0 M_90 _ g1 (g2.2.2.1 32 (by decide)) (hx3.tr g2 (by simp) (by simp)) (h0 (fun z => Bool.false_ne_true (z.2.2.symm.trans c_93)))
              | exact hgo0 _ _ hn3 rfl hx3 (h0 (fun z => absurd z.2.1 (Nat.not_lt.mpr n_80)))
              | exact hgo0 _ _ hn3 rfl hx3 (h0 (fun z => z.1.2.2.2 c_62))
              | exact hgo0 _ _ hn3 rfl hx3 (h0 (fun z => absurd z.1.2.2.1 (Int32.not_le.mpr c_49)))
              | exact hgo0 _ _ hn3 rfl hx3 (h0 (fun z => Bool.false_ne_true (z.1.2.1.symm.trans c_38)))
              | exact hgo0 _ _ hn3 rfl hx3 (h0 (fun z => hout z.1.1))
          · refine G.aload_n0 dX6_laysWorths_41 ?_
            refine G.mgeta 29 fl_X6_68 dX6_laysWorths_42 ?_
            refine G.iload4 dX6_laysWorths_45 ?_
            refine G.miald (n := 10) 29 i dX6_laysWorths_47 rfl (by omega) ?_
            refine G.iload_n1 dX6_laysWorths_48 ?_
            rw [hn3.1 i hin]
            refine G.icmp_gt (tgt := 107) dX6_laysWorths_49 (by decide) (fun c_49 => ?_) (fun c_49 => ?_)
            · refine G.iinc4 dX6_laysWorths_107 ?_
              try rw [show ∀ a : Nat, nI a + Int32.ofInt 1 = nI (a + 1) from fun a => nI_add a 1]
              refine G.goto (tgt := 3) dX6_laysWorths_110 (by decide) ?_
              first
                | (refine hgo _ _ (g1.mv (mX.rf.ma (by decide))) (fun p hp => ?_) ?_ ((hx3.tr g2 (by simp) (by simp)).ma (by decide))
                   · rw [ma_at, if_pos rfl, if_neg (by omega), g2.2.2.1 32 (by decide), ma_at, if_pos rfl, if_neg (by omega)]
                   · rw [ma_at, if_pos rfl, if_pos rfl]
                     exact congrArg nI (if_pos ⟨⟨hin, c_38, Int32.not_lt.mp c_49, c_62⟩, n_80, c_93⟩).symm)
                | exact hgo0 M_90 _ g1 (g2.2.2.1 32 (by decide)) (hx3.tr g2 (by simp) (by simp)) (h0 (fun z => Bool.false_ne_true (z.2.2.symm.trans c_93)))
                | exact hgo0 _ _ hn3 rfl hx3 (h0 (fun z => absurd z.2.1 (Nat.not_lt.mpr n_80)))
                | exact hgo0 _ _ hn3 rfl hx3 (h0 (fun z => z.1.2.2.2 c_62))
                | exact hgo0 _ _ hn3 rfl hx3 (h0 (fun z => absurd z.1.2.2.1 (Int32.not_le.mpr c_49)))
                | exact hgo0 _ _ hn3 rfl hx3 (h0 (fun z => Bool.false_ne_true (z.1.2.1.symm.trans c_38)))
                | exact hgo0 _ _ hn3 rfl hx3 (h0 (fun z => hout z.1.1))
            · refine G.aload_n0 dX6_laysWorths_52 ?_
              refine G.mgeta 2 fl_X6_24 dX6_laysWorths_53 ?_
              refine G.iconst (v := nI 0) dX6_laysWorths_56 (by decide) ?_
              refine G.iload4 dX6_laysWorths_57 ?_
              first | with_reducible refine G.iaddn dX6_laysWorths_59 ?_ | refine G.iadd dX6_laysWorths_59 ?_
              refine G.miald (n := 5866) 2 i dX6_laysWorths_60 (congrArg nI (Nat.zero_add i)) (by omega) ?_
              refine G.iconst (v := nI 3) dX6_laysWorths_61 (by decide) ?_
              rw [e3]
              refine G.icmp_ne (tgt := 68) dX6_laysWorths_62 (by decide) (fun c_62 => ?_) (fun c_62 => ?_)
              · refine G.aload_n0 dX6_laysWorths_68 ?_
                refine G.iload4 dX6_laysWorths_69 ?_
                refine G.iload_n2 dX6_laysWorths_71 ?_
                refine G.mcall (f' := fX6_heardBy) q2264 ck_X6_heardBy (c_X6_heardBy (M := ma M2 32 i (nI 0)) (b := b) (n := n) (away := away) (hushed := hushed) (p := i) (used := used) (by rw [e3]; exact hK) (by rw [e3]; exact hn3) hh hin hu) dX6_laysWorths_72 (rI.k fun r_72 M_72 h_72 => ?_)
                obtain ⟨e_72, h_72⟩ := h_72; replace e_72 := e_72.symm; replace h_72 := h_72.symm; subst e_72; subst h_72
                rw [e3]
                refine G.istore5 dX6_laysWorths_75 ?_
                refine G.iload5 dX6_laysWorths_77 ?_
                refine G.iconst (v := nI 2) dX6_laysWorths_79 (by decide) ?_
                refine G.icmp_ge (tgt := 107) dX6_laysWorths_80 (by decide) (fun c_80 => ?_) (fun c_80 => ?_)
                · have n_80 : 2 ≤ zHeard (M.2.2.1 2) n hushed i used := (nI_leI (a := 2) (b := zHeard (M.2.2.1 2) n hushed i used) (by omega) (by omega)).mp c_80
                  refine G.iinc4 dX6_laysWorths_107 ?_
                  try rw [show ∀ a : Nat, nI a + Int32.ofInt 1 = nI (a + 1) from fun a => nI_add a 1]
                  refine G.goto (tgt := 3) dX6_laysWorths_110 (by decide) ?_
                  first
                    | (refine hgo _ _ (g1.mv (mX.rf.ma (by decide))) (fun p hp => ?_) ?_ ((hx3.tr g2 (by simp) (by simp)).ma (by decide))
                       · rw [ma_at, if_pos rfl, if_neg (by omega), g2.2.2.1 32 (by decide), ma_at, if_pos rfl, if_neg (by omega)]
                       · rw [ma_at, if_pos rfl, if_pos rfl]
                         exact congrArg nI (if_pos ⟨⟨hin, c_38, Int32.not_lt.mp c_49, c_62⟩, n_80, c_93⟩).symm)
                    | exact hgo0 M_90 _ g1 (g2.2.2.1 32 (by decide)) (hx3.tr g2 (by simp) (by simp)) (h0 (fun z => Bool.false_ne_true (z.2.2.symm.trans c_93)))
                    | exact hgo0 _ _ hn3 rfl hx3 (h0 (fun z => absurd z.2.1 (Nat.not_lt.mpr n_80)))
                    | exact hgo0 _ _ hn3 rfl hx3 (h0 (fun z => z.1.2.2.2 c_62))
                    | exact hgo0 _ _ hn3 rfl hx3 (h0 (fun z => absurd z.1.2.2.1 (Int32.not_le.mpr c_49)))
                    | exact hgo0 _ _ hn3 rfl hx3 (h0 (fun z => Bool.false_ne_true (z.1.2.1.symm.trans c_38)))
                    | exact hgo0 _ _ hn3 rfl hx3 (h0 (fun z => hout z.1.1))
                · have n_80 : zHeard (M.2.2.1 2) n hushed i used < 2 := Nat.lt_of_not_le (fun z => c_80 ((nI_leI (a := 2) (b := zHeard (M.2.2.1 2) n hushed i used) (by omega) (by omega)).mpr z))
                  refine G.aload_n0 dX6_laysWorths_83 ?_
                  refine G.iload4 dX6_laysWorths_84 ?_
                  refine G.iload_n1 dX6_laysWorths_86 ?_
                  refine G.iload5 dX6_laysWorths_87 ?_
                  refine G.iload_n3 dX6_laysWorths_89 ?_
                  refine G.mcall (f' := fX6_isBarredOn) q2268 ck_X6_isBarredOn (c_isBarredOnK e3 hK hn3 hin hni n_80) dX6_laysWorths_90 (rI.k fun r_90 M_90 h_90 => ?_)
                  obtain ⟨rfl, g1, g2⟩ := h_90
                  refine G.ifb_ne (tgt := 107) dX6_laysWorths_93 (by decide) (fun c_93 => ?_) (fun c_93 => ?_)
                  · refine G.iinc4 dX6_laysWorths_107 ?_
                    try rw [show ∀ a : Nat, nI a + Int32.ofInt 1 = nI (a + 1) from fun a => nI_add a 1]
                    refine G.goto (tgt := 3) dX6_laysWorths_110 (by decide) ?_
                    first
                      | (refine hgo _ _ (g1.mv (mX.rf.ma (by decide))) (fun p hp => ?_) ?_ ((hx3.tr g2 (by simp) (by simp)).ma (by decide))
                         · rw [ma_at, if_pos rfl, if_neg (by omega), g2.2.2.1 32 (by decide), ma_at, if_pos rfl, if_neg (by omega)]
                         · rw [ma_at, if_pos rfl, if_pos rfl]
                           exact congrArg nI (if_pos ⟨⟨hin, c_38, Int32.not_lt.mp c_49, c_62⟩, n_80, c_93⟩).symm)
                      | exact hgo0 M_90 _ g1 (g2.2.2.1 32 (by decide)) (hx3.tr g2 (by simp) (by simp)) (h0 (fun z => Bool.false_ne_true (z.2.2.symm.trans c_93)))
                      | exact hgo0 _ _ hn3 rfl hx3 (h0 (fun z => absurd z.2.1 (Nat.not_lt.mpr n_80)))
                      | exact hgo0 _ _ hn3 rfl hx3 (h0 (fun z => z.1.2.2.2 c_62))
                      | exact hgo0 _ _ hn3 rfl hx3 (h0 (fun z => absurd z.1.2.2.1 (Int32.not_le.mpr c_49)))
                      | exact hgo0 _ _ hn3 rfl hx3 (h0 (fun z => Bool.false_ne_true (z.1.2.1.symm.trans c_38)))
                      | exact hgo0 _ _ hn3 rfl hx3 (h0 (fun z => hout z.1.1))
                  · refine G.aload_n0 dX6_laysWorths_96 ?_
                    refine G.mgeta 32 fl_X6_77 dX6_laysWorths_97 ?_
                    refine G.iload4 dX6_laysWorths_100 ?_
                    refine G.iconst (v := nI 2) dX6_laysWorths_102 (by decide) ?_
                    refine G.iload5 dX6_laysWorths_103 ?_
                    refine G.isub dX6_laysWorths_105 ?_
                    rw [pk_sub (show zHeard (M.2.2.1 2) n hushed i used ≤ 2 from by omega)]
                    refine G.miast (n := 10) 32 i dX6_laysWorths_106 rfl (by omega) ?_
                    refine G.iinc4 dX6_laysWorths_107 ?_
                    try rw [show ∀ a : Nat, nI a + Int32.ofInt 1 = nI (a + 1) from fun a => nI_add a 1]
                    refine G.goto (tgt := 3) dX6_laysWorths_110 (by decide) ?_
                    first
                      | (refine hgo _ _ (g1.mv (mX.rf.ma (by decide))) (fun p hp => ?_) ?_ ((hx3.tr g2 (by simp) (by simp)).ma (by decide))
                         · rw [ma_at, if_pos rfl, if_neg (by omega), g2.2.2.1 32 (by decide), ma_at, if_pos rfl, if_neg (by omega)]
                         · rw [ma_at, if_pos rfl, if_pos rfl]
                           exact congrArg nI (if_pos ⟨⟨hin, c_38, Int32.not_lt.mp c_49, c_62⟩, n_80, c_93⟩).symm)
                      | exact hgo0 M_90 _ g1 (g2.2.2.1 32 (by decide)) (hx3.tr g2 (by simp) (by simp)) (h0 (fun z => Bool.false_ne_true (z.2.2.symm.trans c_93)))
                      | exact hgo0 _ _ hn3 rfl hx3 (h0 (fun z => absurd z.2.1 (Nat.not_lt.mpr n_80)))
                      | exact hgo0 _ _ hn3 rfl hx3 (h0 (fun z => z.1.2.2.2 c_62))
                      | exact hgo0 _ _ hn3 rfl hx3 (h0 (fun z => absurd z.1.2.2.1 (Int32.not_le.mpr c_49)))
                      | exact hgo0 _ _ hn3 rfl hx3 (h0 (fun z => Bool.false_ne_true (z.1.2.1.symm.trans c_38)))
                      | exact hgo0 _ _ hn3 rfl hx3 (h0 (fun z => hout z.1.1))
              · refine G.goto (tgt := 107) dX6_laysWorths_65 (by decide) ?_
                refine G.iinc4 dX6_laysWorths_107 ?_
                try rw [show ∀ a : Nat, nI a + Int32.ofInt 1 = nI (a + 1) from fun a => nI_add a 1]
                refine G.goto (tgt := 3) dX6_laysWorths_110 (by decide) ?_
                first
                  | (refine hgo _ _ (g1.mv (mX.rf.ma (by decide))) (fun p hp => ?_) ?_ ((hx3.tr g2 (by simp) (by simp)).ma (by decide))
                     · rw [ma_at, if_pos rfl, if_neg (by omega), g2.2.2.1 32 (by decide), ma_at, if_pos rfl, if_neg (by omega)]
                     · rw [ma_at, if_pos rfl, if_pos rfl]
                       exact congrArg nI (if_pos ⟨⟨hin, c_38, Int32.not_lt.mp c_49, c_62⟩, n_80, c_93⟩).symm)
                  | exact hgo0 M_90 _ g1 (g2.2.2.1 32 (by decide)) (hx3.tr g2 (by simp) (by simp)) (h0 (fun z => Bool.false_ne_true (z.2.2.symm.trans c_93)))
                  | exact hgo0 _ _ hn3 rfl hx3 (h0 (fun z => absurd z.2.1 (Nat.not_lt.mpr n_80)))
                  | exact hgo0 _ _ hn3 rfl hx3 (h0 (fun z => z.1.2.2.2 c_62))
                  | exact hgo0 _ _ hn3 rfl hx3 (h0 (fun z => absurd z.1.2.2.1 (Int32.not_le.mpr c_49)))
                  | exact hgo0 _ _ hn3 rfl hx3 (h0 (fun z => Bool.false_ne_true (z.1.2.1.symm.trans c_38)))
                  | exact hgo0 _ _ hn3 rfl hx3 (h0 (fun z => hout z.1.1))
  refine G.iconst (v := nI 0) dX6_laysWorths_0 (by decide) ?_
  refine G.istore4 dX6_laysWorths_1 ?_
  exact loop 10 0 M _ rfl hN (fun p hp => absurd hp (by omega)) mX.rf
/-- crews of a night ahead -/
def zNeed (fog : Bool) : Nat := if fog then 4 else 2
def zOk (K : KR) (n away hushed night used : Nat) : Nat → Bool := zCrew (zWorth K n away hushed night used (fogOf K (kDay K + night))) (zNeed (fogOf K (kDay K + night)))
theorem c_X6_crewIn {M : MM} {b n away hushed : Nat} (hK : KOk (M.2.2.1 2) b n) (hN : nOk (M.2.2.1 2) n away hushed M) (ha : away < 1024) (hh : hushed < 1024) {night used c : Nat} (hni : night < 11) (hu : used < 1024) (hc : c < 1024) : MC E fX6_crewIn L M ph [.int (nI night), .int (nI used), .int (nI c)] (rI fun r M' => r = oI (zNext (zOk (M.2.2.1 2) n away hushed night used) c) ∧ nOk (M.2.2.1 2) n away hushed M' ∧ mX [8, 22, 23, 24] [25, 31, 32] M M') := by
  have hday := hK.day
  refine Ct.of [some (.ref (L.1 52)), some (.int (nI night)), some (.int (nI used)), some (.int (nI c)), none] rfl (Nat.le_of_ble_eq_true rfl) (show plainName RX6 = true by decide +kernel) rfl ?_
  refine G.aload_n0 dX6_crewIn_0 ?_
  refine G.aload_n0 dX6_crewIn_1 ?_
  refine G.mgeta 2 fl_X6_24 dX6_crewIn_2 ?_
  refine G.bipush (v := nI 33) dX6_crewIn_5 (by decide) ?_
  refine G.miald (n := 5866) 2 _ dX6_crewIn_7 rfl (by omega) ?_
  rw [hday.1]
  refine G.iload_n1 dX6_crewIn_8 ?_
  first | with_reducible refine G.iaddn dX6_crewIn_9 ?_ | refine G.iadd dX6_crewIn_9 ?_
  refine G.mcall (f' := fX6_fogOn) q2112 ck_X6_fogOn (c_X6_fogOn hK (kDay (M.2.2.1 2) + night) (by omega)) dX6_crewIn_10 (rI.k fun r_10 M_10 h_10 => ?_)
  obtain ⟨e_10, h_10⟩ := h_10; replace e_10 := e_10.symm; replace h_10 := h_10.symm; subst e_10; subst h_10
  refine G.istore4 dX6_crewIn_13 ?_
  refine G.aload_n0 dX6_crewIn_15 ?_
  refine G.iload_n1 dX6_crewIn_16 ?_
  refine G.iload_n2 dX6_crewIn_17 ?_
  refine G.iload4 dX6_crewIn_18 ?_
  refine G.mcall (f' := fX6_laysWorths) q2260 ck_X6_laysWorths (c_X6_laysWorths hK hN ha hh hni hu) dX6_crewIn_20 (rV.k fun M_20 h_20 => ?_)
  obtain ⟨g1, g2, g3⟩ := h_20
  refine G.aload_n0 dX6_crewIn_23 ?_
  refine G.iload_n3 dX6_crewIn_24 ?_
  refine G.iload4 dX6_crewIn_25 ?_
  refine G.scall (f' := fX6_needOn) q2218 ck_X6_needOn (c_X6_needOn E _) dX6_crewIn_27 (sI.k fun r_27 h_27 => ?_)
  replace h_27 := h_27.symm; subst h_27
  refine G.mcall (f' := fX6_crewBehind) q2272 ck_X6_crewBehind (c_X6_crewBehind (M := M_20) zWorth_le g2 hc (need := zNeed (fogOf (M.2.2.1 2) (kDay (M.2.2.1 2) + night))) (by unfold zNeed; split <;> omega)) dX6_crewIn_30 (rI.k fun r_30 M_30 h_30 => ?_)
  obtain ⟨e_30, h_30⟩ := h_30; replace e_30 := e_30.symm; replace h_30 := h_30.symm; subst e_30; subst h_30
  refine G.ireturn dX6_crewIn_33 ?_
  exact ⟨_, rfl, _, rfl, rfl, g1, g3⟩
theorem c_X6_laysWorthsOf {M : MM} {b n hushed : Nat} (hK : KOk (M.2.2.1 2) b n) (hN : nOk (M.2.2.1 2) n 0 hushed M) (hh : hushed < 1024) {night used : Nat} (hni : night < 61) (hu : used < 1024) (fog : Bool) : MC E fX6_laysWorthsOf L M ph [.int (nI night), .int (nI used), .int (bI fog)] (rV fun M' => nOk (M.2.2.1 2) n 0 hushed M' ∧ (∀ p, p < 10 → M'.2.2.1 32 p = nI (zWorth (M.2.2.1 2) n 0 hushed night used fog p)) ∧ mX [8, 22, 23, 24] [25, 31, 32] M M') := by
  have h10 := hK.1.1
  have hday := hK.day
  refine Ct.of [some (.ref (L.1 52)), some (.int (nI night)), some (.int (nI used)), some (.int (bI fog)), none, none] rfl (Nat.le_of_ble_eq_true rfl) (show plainName RX6 = true by decide +kernel) rfl ?_
  have loop : ∀ d i M2 a5, i + d = 10 → nOk (M.2.2.1 2) n 0 hushed M2 → (∀ p, p < i → M2.2.2.1 32 p = nI (zWorth (M.2.2.1 2) n 0 hushed night used fog p)) → mX [8, 22, 23, 24] [25, 31, 32] M M2 → G E fX6_laysWorthsOf (mFin E fX6_laysWorthsOf L ph (rV fun M' => nOk (M.2.2.1 2) n 0 hushed M' ∧ (∀ p, p < 10 → M'.2.2.1 32 p = nI (zWorth (M.2.2.1 2) n 0 hushed night used fog p)) ∧ mX [8, 22, 23, 24] [25, 31, 32] M M')) 3 [some (.ref (L.1 52)), some (.int (nI night)), some (.int (nI used)), some (.int (bI fog)), some (.int (nI i)), a5] [] (movl L M2 ph) 0 0 := by
    intro d
    induction d with
    | zero =>
      intro i M2 a5 hi hn2 hw hx
      refine G.iload4 dX6_laysWorthsOf_3 ?_
      refine G.bipush (v := nI 10) dX6_laysWorthsOf_5 (by decide) ?_
      refine G.icmp_ge (tgt := 116) dX6_laysWorthsOf_7 (by decide) (fun c_7 => ?_) (fun c_7 => ?_)
      · refine G.return_ dX6_laysWorthsOf_116 ?_
        exact ⟨_, rfl, rfl, hn2, fun p hp => hw p (by omega), hx⟩
      · exact absurd (nI_leI (by omega) (by omega) |>.mpr (by omega)) c_7
    | succ d ih =>
      intro i M2 a5 hi hn2 hw hx
      have hgo : ∀ M3 a5, nOk (M.2.2.1 2) n 0 hushed M3 → (∀ p, p < i → M3.2.2.1 32 p = M2.2.2.1 32 p) → M3.2.2.1 32 i = nI (zWorth (M.2.2.1 2) n 0 hushed night used fog i) → mX [8, 22, 23, 24] [25, 31, 32] M M3 → _ := fun M3 a5 q1 q2 q3 q4 => ih (i + 1) M3 a5 (by omega) q1 (fun p hp => by
        rcases Nat.lt_or_ge p i with y | y
        · rw [q2 p y]; exact hw p y
        · rw [show p = i from by omega]; exact q3) q4
      clear ih
      have hzl := zHeard_le (K := M.2.2.1 2) (n := n) (hushed := hushed) (p := i) (used := used)
      have e2 : M2.2.2.1 2 = M.2.2.1 2 := hx.2.2.1 2 (by decide)
      have hx3 : mX [8, 22, 23, 24] [25, 31, 32] M (ma M2 32 i (nI 0)) := hx.ma (by decide)
      have hn3 : nOk (M.2.2.1 2) n 0 hushed (ma M2 32 i (nI 0)) := hn2.mv (mX.rf.ma (by decide))
      have e3 : (ma M2 32 i (nI 0)).2.2.1 2 = M.2.2.1 2 := e2
      have h0 : ¬ ((i < n ∧ (used ||| 0).testBit i = false ∧ kComes (M.2.2.1 2) i ≤ nI night ∧ ¬ M.2.2.1 2 i = nI 3) ∧ zHeard (M.2.2.1 2) n hushed i used < 2 ∧ kBarred (M.2.2.1 2) i (nI (zHeard (M.2.2.1 2) n hushed i used)) (nI (kDay (M.2.2.1 2) + night)) fog = false) → zWorth (M.2.2.1 2) n 0 hushed night used fog i = 0 := fun z => if_neg z
      rw [Nat.or_zero] at h0
      have hgo0 : ∀ M3 a5, nOk (M.2.2.1 2) n 0 hushed M3 → M3.2.2.1 32 = (ma M2 32 i (nI 0)).2.2.1 32 → mX [8, 22, 23, 24] [25, 31, 32] M M3 → zWorth (M.2.2.1 2) n 0 hushed night used fog i = 0 → _ := fun M3 a5 q1 q2 q3 q4 => hgo M3 a5 q1 (fun p hp => by rw [q2, ma_at, if_pos rfl, if_neg (by omega)]) (by rw [q2, ma_at, if_pos rfl, if_pos rfl, q4]) q3
      refine G.iload4 dX6_laysWorthsOf_3 ?_
      refine G.bipush (v := nI 10) dX6_laysWorthsOf_5 (by decide) ?_
      refine G.icmp_ge (tgt := 116) dX6_laysWorthsOf_7 (by decide) (fun c_7 => ?_) (fun c_7 => ?_)
      · exact absurd ((nI_leI (by omega) (by omega)).mp c_7) (by omega)
      · refine G.aload_n0 dX6_laysWorthsOf_10 ?_
        refine G.mgeta 32 fl_X6_77 dX6_laysWorthsOf_11 ?_
        refine G.iload4 dX6_laysWorthsOf_14 ?_
        refine G.iconst (v := nI 0) dX6_laysWorthsOf_16 (by decide) ?_
        refine G.miast (n := 10) 32 i dX6_laysWorthsOf_17 rfl (by omega) ?_
        refine G.aload_n0 dX6_laysWorthsOf_18 ?_
        refine G.iload4 dX6_laysWorthsOf_19 ?_
        refine G.mcall (f' := fX6_isPerson) q1950 ck_X6_isPerson (c_X6_isPerson E L _ ph (nI i) h10 (by rw [e3]; exact hK.1.2)) dX6_laysWorthsOf_21 (rI.k fun r_21 M_21 h_21 => ?_)
        obtain ⟨e_21, h_21⟩ := h_21; replace e_21 := e_21.symm; replace h_21 := h_21.symm; subst e_21; subst h_21
        refine G.ifb_eq (tgt := 110) dX6_laysWorthsOf_24 (by decide) (fun c_24 => ?_) (fun c_24 => ?_)
        · have hout : ¬ i < n := fun z => of_decide_eq_false c_24 (by rw [t_nI (by omega)]; omega)
          refine G.iinc4 dX6_laysWorthsOf_110 ?_
          try rw [show ∀ a : Nat, nI a + Int32.ofInt 1 = nI (a + 1) from fun a => nI_add a 1]
          refine G.goto (tgt := 3) dX6_laysWorthsOf_113 (by decide) ?_
          first
            | (refine hgo _ _ (g1.mv (mX.rf.ma (by decide))) (fun p hp => ?_) ?_ ((hx3.tr g2 (by simp) (by simp)).ma (by decide))
               · rw [ma_at, if_pos rfl, if_neg (by omega), g2.2.2.1 32 (by decide), ma_at, if_pos rfl, if_neg (by omega)]
               · rw [ma_at, if_pos rfl, if_pos rfl]
                 exact congrArg nI (if_pos ⟨⟨hin, (congrArg (fun z => Nat.testBit z i) (Nat.or_zero used)).trans c_33, Int32.not_lt.mp c_44, c_57⟩, n_75, c_96⟩).symm)
            | exact hgo0 M_93 _ g1 (g2.2.2.1 32 (by decide)) (hx3.tr g2 (by simp) (by simp)) (h0 (fun z => Bool.false_ne_true (z.2.2.symm.trans c_96)))
            | exact hgo0 _ _ hn3 rfl hx3 (h0 (fun z => absurd z.2.1 (Nat.not_lt.mpr n_75)))
            | exact hgo0 _ _ hn3 rfl hx3 (h0 (fun z => z.1.2.2.2 c_57))
            | exact hgo0 _ _ hn3 rfl hx3 (h0 (fun z => absurd z.1.2.2.1 (Int32.not_le.mpr c_44)))
            | exact hgo0 _ _ hn3 rfl hx3 (h0 (fun z => Bool.false_ne_true (z.1.2.1.symm.trans c_33)))
            | exact hgo0 _ _ hn3 rfl hx3 (h0 (fun z => hout z.1.1))
        · have hin : i < n := by
            have := (of_decide_eq_true c_24).2
            rw [t_nI (by omega)] at this
            omega
          refine G.iload_n2 dX6_laysWorthsOf_27 ?_
          refine G.iload4 dX6_laysWorthsOf_28 ?_
          refine G.scall (f' := fX6_isIn) q2211 ck_X6_isIn (c_isIn E used i (by omega) (by omega)) dX6_laysWorthsOf_30 (sI.k fun r_30 h_30 => ?_)
          replace h_30 := h_30.symm; subst h_30
          refine G.ifb_ne (tgt := 110) dX6_laysWorthsOf_33 (by decide) (fun c_33 => ?_) (fun c_33 => ?_)
          · refine G.iinc4 dX6_laysWorthsOf_110 ?_
            try rw [show ∀ a : Nat, nI a + Int32.ofInt 1 = nI (a + 1) from fun a => nI_add a 1]
            refine G.goto (tgt := 3) dX6_laysWorthsOf_113 (by decide) ?_
            first
              | (refine hgo _ _ (g1.mv (mX.rf.ma (by decide))) (fun p hp => ?_) ?_ ((hx3.tr g2 (by simp) (by simp)).ma (by decide))
                 · rw [ma_at, if_pos rfl, if_neg (by omega), g2.2.2.1 32 (by decide), ma_at, if_pos rfl, if_neg (by omega)]
                 · rw [ma_at, if_pos rfl, if_pos rfl]
                   exact congrArg nI (if_pos ⟨⟨hin, (congrArg (fun z => Nat.testBit z i) (Nat.or_zero used)).trans c_33, Int32.not_lt.mp c_44, c_57⟩, n_75, c_96⟩).symm)
              | exact hgo0 M_93 _ g1 (g2.2.2.1 32 (by decide)) (hx3.tr g2 (by simp) (by simp)) (h0 (fun z => Bool.false_ne_true (z.2.2.symm.trans c_96)))
              | exact hgo0 _ _ hn3 rfl hx3 (h0 (fun z => absurd z.2.1 (Nat.not_lt.mpr n_75)))
              | exact hgo0 _ _ hn3 rfl hx3 (h0 (fun z => z.1.2.2.2 c_57))
              | exact hgo0 _ _ hn3 rfl hx3 (h0 (fun z => absurd z.1.2.2.1 (Int32.not_le.mpr c_44)))
              | exact hgo0 _ _ hn3 rfl hx3 (h0 (fun z => Bool.false_ne_true (z.1.2.1.symm.trans c_33)))
              | exact hgo0 _ _ hn3 rfl hx3 (h0 (fun z => hout z.1.1))
          · refine G.aload_n0 dX6_laysWorthsOf_36 ?_
            refine G.mgeta 29 fl_X6_68 dX6_laysWorthsOf_37 ?_
            refine G.iload4 dX6_laysWorthsOf_40 ?_
            refine G.miald (n := 10) 29 i dX6_laysWorthsOf_42 rfl (by omega) ?_
            refine G.iload_n1 dX6_laysWorthsOf_43 ?_
            rw [hn3.1 i hin]
            refine G.icmp_gt (tgt := 110) dX6_laysWorthsOf_44 (by decide) (fun c_44 => ?_) (fun c_44 => ?_)
            · refine G.iinc4 dX6_laysWorthsOf_110 ?_
              try rw [show ∀ a : Nat, nI a + Int32.ofInt 1 = nI (a + 1) from fun a => nI_add a 1]
              refine G.goto (tgt := 3) dX6_laysWorthsOf_113 (by decide) ?_
              first
                | (refine hgo _ _ (g1.mv (mX.rf.ma (by decide))) (fun p hp => ?_) ?_ ((hx3.tr g2 (by simp) (by simp)).ma (by decide))
                   · rw [ma_at, if_pos rfl, if_neg (by omega), g2.2.2.1 32 (by decide), ma_at, if_pos rfl, if_neg (by omega)]
                   · rw [ma_at, if_pos rfl, if_pos rfl]
                     exact congrArg nI (if_pos ⟨⟨hin, (congrArg (fun z => Nat.testBit z i) (Nat.or_zero used)).trans c_33, Int32.not_lt.mp c_44, c_57⟩, n_75, c_96⟩).symm)
                | exact hgo0 M_93 _ g1 (g2.2.2.1 32 (by decide)) (hx3.tr g2 (by simp) (by simp)) (h0 (fun z => Bool.false_ne_true (z.2.2.symm.trans c_96)))
                | exact hgo0 _ _ hn3 rfl hx3 (h0 (fun z => absurd z.2.1 (Nat.not_lt.mpr n_75)))
                | exact hgo0 _ _ hn3 rfl hx3 (h0 (fun z => z.1.2.2.2 c_57))
                | exact hgo0 _ _ hn3 rfl hx3 (h0 (fun z => absurd z.1.2.2.1 (Int32.not_le.mpr c_44)))
                | exact hgo0 _ _ hn3 rfl hx3 (h0 (fun z => Bool.false_ne_true (z.1.2.1.symm.trans c_33)))
                | exact hgo0 _ _ hn3 rfl hx3 (h0 (fun z => hout z.1.1))
            · refine G.aload_n0 dX6_laysWorthsOf_47 ?_
              refine G.mgeta 2 fl_X6_24 dX6_laysWorthsOf_48 ?_
              refine G.iconst (v := nI 0) dX6_laysWorthsOf_51 (by decide) ?_
              refine G.iload4 dX6_laysWorthsOf_52 ?_
              first | with_reducible refine G.iaddn dX6_laysWorthsOf_54 ?_ | refine G.iadd dX6_laysWorthsOf_54 ?_
              refine G.miald (n := 5866) 2 i dX6_laysWorthsOf_55 (congrArg nI (Nat.zero_add i)) (by omega) ?_
              refine G.iconst (v := nI 3) dX6_laysWorthsOf_56 (by decide) ?_
              rw [e3]
              refine G.icmp_ne (tgt := 63) dX6_laysWorthsOf_57 (by decide) (fun c_57 => ?_) (fun c_57 => ?_)
              · refine G.aload_n0 dX6_laysWorthsOf_63 ?_
                refine G.iload4 dX6_laysWorthsOf_64 ?_
                refine G.iload_n2 dX6_laysWorthsOf_66 ?_
                refine G.mcall (f' := fX6_heardBy) q2264 ck_X6_heardBy (c_X6_heardBy (M := ma M2 32 i (nI 0)) (b := b) (n := n) (away := 0) (hushed := hushed) (p := i) (used := used) (by rw [e3]; exact hK) (by rw [e3]; exact hn3) hh hin hu) dX6_laysWorthsOf_67 (rI.k fun r_67 M_67 h_67 => ?_)
                obtain ⟨e_67, h_67⟩ := h_67; replace e_67 := e_67.symm; replace h_67 := h_67.symm; subst e_67; subst h_67
                rw [e3]
                refine G.istore5 dX6_laysWorthsOf_70 ?_
                refine G.iload5 dX6_laysWorthsOf_72 ?_
                refine G.iconst (v := nI 2) dX6_laysWorthsOf_74 (by decide) ?_
                refine G.icmp_ge (tgt := 110) dX6_laysWorthsOf_75 (by decide) (fun c_75 => ?_) (fun c_75 => ?_)
                · have n_75 : 2 ≤ zHeard (M.2.2.1 2) n hushed i used := (nI_leI (a := 2) (b := zHeard (M.2.2.1 2) n hushed i used) (by omega) (by omega)).mp c_75
                  refine G.iinc4 dX6_laysWorthsOf_110 ?_
                  try rw [show ∀ a : Nat, nI a + Int32.ofInt 1 = nI (a + 1) from fun a => nI_add a 1]
                  refine G.goto (tgt := 3) dX6_laysWorthsOf_113 (by decide) ?_
                  first
                    | (refine hgo _ _ (g1.mv (mX.rf.ma (by decide))) (fun p hp => ?_) ?_ ((hx3.tr g2 (by simp) (by simp)).ma (by decide))
                       · rw [ma_at, if_pos rfl, if_neg (by omega), g2.2.2.1 32 (by decide), ma_at, if_pos rfl, if_neg (by omega)]
                       · rw [ma_at, if_pos rfl, if_pos rfl]
                         exact congrArg nI (if_pos ⟨⟨hin, (congrArg (fun z => Nat.testBit z i) (Nat.or_zero used)).trans c_33, Int32.not_lt.mp c_44, c_57⟩, n_75, c_96⟩).symm)
                    | exact hgo0 M_93 _ g1 (g2.2.2.1 32 (by decide)) (hx3.tr g2 (by simp) (by simp)) (h0 (fun z => Bool.false_ne_true (z.2.2.symm.trans c_96)))
                    | exact hgo0 _ _ hn3 rfl hx3 (h0 (fun z => absurd z.2.1 (Nat.not_lt.mpr n_75)))
                    | exact hgo0 _ _ hn3 rfl hx3 (h0 (fun z => z.1.2.2.2 c_57))
                    | exact hgo0 _ _ hn3 rfl hx3 (h0 (fun z => absurd z.1.2.2.1 (Int32.not_le.mpr c_44)))
                    | exact hgo0 _ _ hn3 rfl hx3 (h0 (fun z => Bool.false_ne_true (z.1.2.1.symm.trans c_33)))
                    | exact hgo0 _ _ hn3 rfl hx3 (h0 (fun z => hout z.1.1))
                · have n_75 : zHeard (M.2.2.1 2) n hushed i used < 2 := Nat.lt_of_not_le (fun z => c_75 ((nI_leI (a := 2) (b := zHeard (M.2.2.1 2) n hushed i used) (by omega) (by omega)).mpr z))
                  refine G.aload_n0 dX6_laysWorthsOf_78 ?_
                  refine G.iload4 dX6_laysWorthsOf_79 ?_
                  refine G.iload5 dX6_laysWorthsOf_81 ?_
                  refine G.aload_n0 dX6_laysWorthsOf_83 ?_
                  refine G.mgeta 2 fl_X6_24 dX6_laysWorthsOf_84 ?_
                  refine G.bipush (v := nI 33) dX6_laysWorthsOf_87 (by decide) ?_
                  refine G.miald (n := 5866) 2 _ dX6_laysWorthsOf_89 rfl (by omega) ?_
                  refine G.iload_n1 dX6_laysWorthsOf_90 ?_
                  rw [e3, hday.1]
                  first | with_reducible refine G.iaddn dX6_laysWorthsOf_91 ?_ | refine G.iadd dX6_laysWorthsOf_91 ?_
                  refine G.iload_n3 dX6_laysWorthsOf_92 ?_
                  refine G.mcall (f' := fX6_isBarred) q2175 ck_X6_isBarred (c_X6_isBarred (M := ma M2 32 i (nI 0)) (b := b) (n := n) (p := i) (by rw [e3]; exact hK) hin (nI (zHeard (M.2.2.1 2) n hushed i used)) (nI (kDay (M.2.2.1 2) + night)) fog (by rw [t_nI (by omega)]; omega) (by rw [t_nI (by omega)]; omega)) dX6_laysWorthsOf_93 (rI.k fun r_93 M_93 h_93 => ?_)
                  obtain ⟨rfl, g2⟩ := h_93
                  rw [e3]
                  have g1 : nOk (M.2.2.1 2) n 0 hushed M_93 := hn3.mv (g2.mono (by simp) (by simp))
                  refine G.ifb_ne (tgt := 110) dX6_laysWorthsOf_96 (by decide) (fun c_96 => ?_) (fun c_96 => ?_)
                  · refine G.iinc4 dX6_laysWorthsOf_110 ?_
                    try rw [show ∀ a : Nat, nI a + Int32.ofInt 1 = nI (a + 1) from fun a => nI_add a 1]
                    refine G.goto (tgt := 3) dX6_laysWorthsOf_113 (by decide) ?_
                    first
                      | (refine hgo _ _ (g1.mv (mX.rf.ma (by decide))) (fun p hp => ?_) ?_ ((hx3.tr g2 (by simp) (by simp)).ma (by decide))
                         · rw [ma_at, if_pos rfl, if_neg (by omega), g2.2.2.1 32 (by decide), ma_at, if_pos rfl, if_neg (by omega)]
                         · rw [ma_at, if_pos rfl, if_pos rfl]
                           exact congrArg nI (if_pos ⟨⟨hin, (congrArg (fun z => Nat.testBit z i) (Nat.or_zero used)).trans c_33, Int32.not_lt.mp c_44, c_57⟩, n_75, c_96⟩).symm)
                      | exact hgo0 M_93 _ g1 (g2.2.2.1 32 (by decide)) (hx3.tr g2 (by simp) (by simp)) (h0 (fun z => Bool.false_ne_true (z.2.2.symm.trans c_96)))
                      | exact hgo0 _ _ hn3 rfl hx3 (h0 (fun z => absurd z.2.1 (Nat.not_lt.mpr n_75)))
                      | exact hgo0 _ _ hn3 rfl hx3 (h0 (fun z => z.1.2.2.2 c_57))
                      | exact hgo0 _ _ hn3 rfl hx3 (h0 (fun z => absurd z.1.2.2.1 (Int32.not_le.mpr c_44)))
                      | exact hgo0 _ _ hn3 rfl hx3 (h0 (fun z => Bool.false_ne_true (z.1.2.1.symm.trans c_33)))
                      | exact hgo0 _ _ hn3 rfl hx3 (h0 (fun z => hout z.1.1))
                  · refine G.aload_n0 dX6_laysWorthsOf_99 ?_
                    refine G.mgeta 32 fl_X6_77 dX6_laysWorthsOf_100 ?_
                    refine G.iload4 dX6_laysWorthsOf_103 ?_
                    refine G.iconst (v := nI 2) dX6_laysWorthsOf_105 (by decide) ?_
                    refine G.iload5 dX6_laysWorthsOf_106 ?_
                    refine G.isub dX6_laysWorthsOf_108 ?_
                    rw [pk_sub (show zHeard (M.2.2.1 2) n hushed i used ≤ 2 from by omega)]
                    refine G.miast (n := 10) 32 i dX6_laysWorthsOf_109 rfl (by omega) ?_
                    refine G.iinc4 dX6_laysWorthsOf_110 ?_
                    try rw [show ∀ a : Nat, nI a + Int32.ofInt 1 = nI (a + 1) from fun a => nI_add a 1]
                    refine G.goto (tgt := 3) dX6_laysWorthsOf_113 (by decide) ?_
                    first
                      | (refine hgo _ _ (g1.mv (mX.rf.ma (by decide))) (fun p hp => ?_) ?_ ((hx3.tr g2 (by simp) (by simp)).ma (by decide))
                         · rw [ma_at, if_pos rfl, if_neg (by omega), g2.2.2.1 32 (by decide), ma_at, if_pos rfl, if_neg (by omega)]
                         · rw [ma_at, if_pos rfl, if_pos rfl]
                           exact congrArg nI (if_pos ⟨⟨hin, (congrArg (fun z => Nat.testBit z i) (Nat.or_zero used)).trans c_33, Int32.not_lt.mp c_44, c_57⟩, n_75, c_96⟩).symm)
                      | exact hgo0 M_93 _ g1 (g2.2.2.1 32 (by decide)) (hx3.tr g2 (by simp) (by simp)) (h0 (fun z => Bool.false_ne_true (z.2.2.symm.trans c_96)))
                      | exact hgo0 _ _ hn3 rfl hx3 (h0 (fun z => absurd z.2.1 (Nat.not_lt.mpr n_75)))
                      | exact hgo0 _ _ hn3 rfl hx3 (h0 (fun z => z.1.2.2.2 c_57))
                      | exact hgo0 _ _ hn3 rfl hx3 (h0 (fun z => absurd z.1.2.2.1 (Int32.not_le.mpr c_44)))
                      | exact hgo0 _ _ hn3 rfl hx3 (h0 (fun z => Bool.false_ne_true (z.1.2.1.symm.trans c_33)))
                      | exact hgo0 _ _ hn3 rfl hx3 (h0 (fun z => hout z.1.1))
              · refine G.goto (tgt := 110) dX6_laysWorthsOf_60 (by decide) ?_
                refine G.iinc4 dX6_laysWorthsOf_110 ?_
                try rw [show ∀ a : Nat, nI a + Int32.ofInt 1 = nI (a + 1) from fun a => nI_add a 1]
                refine G.goto (tgt := 3) dX6_laysWorthsOf_113 (by decide) ?_
                first
                  | (refine hgo _ _ (g1.mv (mX.rf.ma (by decide))) (fun p hp => ?_) ?_ ((hx3.tr g2 (by simp) (by simp)).ma (by decide))
                     · rw [ma_at, if_pos rfl, if_neg (by omega), g2.2.2.1 32 (by decide), ma_at, if_pos rfl, if_neg (by omega)]
                     · rw [ma_at, if_pos rfl, if_pos rfl]
                       exact congrArg nI (if_pos ⟨⟨hin, (congrArg (fun z => Nat.testBit z i) (Nat.or_zero used)).trans c_33, Int32.not_lt.mp c_44, c_57⟩, n_75, c_96⟩).symm)
                  | exact hgo0 M_93 _ g1 (g2.2.2.1 32 (by decide)) (hx3.tr g2 (by simp) (by simp)) (h0 (fun z => Bool.false_ne_true (z.2.2.symm.trans c_96)))
                  | exact hgo0 _ _ hn3 rfl hx3 (h0 (fun z => absurd z.2.1 (Nat.not_lt.mpr n_75)))
                  | exact hgo0 _ _ hn3 rfl hx3 (h0 (fun z => z.1.2.2.2 c_57))
                  | exact hgo0 _ _ hn3 rfl hx3 (h0 (fun z => absurd z.1.2.2.1 (Int32.not_le.mpr c_44)))
                  | exact hgo0 _ _ hn3 rfl hx3 (h0 (fun z => Bool.false_ne_true (z.1.2.1.symm.trans c_33)))
                  | exact hgo0 _ _ hn3 rfl hx3 (h0 (fun z => hout z.1.1))
  refine G.iconst (v := nI 0) dX6_laysWorthsOf_0 (by decide) ?_
  refine G.istore4 dX6_laysWorthsOf_1 ?_
  exact loop 10 0 M _ rfl hN (fun p hp => absurd hp (by omega)) mX.rf
end Lays
