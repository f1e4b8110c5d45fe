/-! THE MODEL'S CREWS -/
theorem b_tn {a : Nat} (h : a < 2147483648) : (nI a).toBitVec.toNat = a := pk_tn (by omega)
theorem b_or {a b : Nat} (ha : a < 2147483648) (hb : b < 2147483648) : nI a ||| nI b = nI (a ||| b) := by
  have h : a ||| b < 2 ^ 31 := Nat.or_lt_two_pow (by omega) (by omega)
  refine Int32.toBitVec_inj.mp (BitVec.eq_of_toNat_eq ?_)
  rw [Int32.toBitVec_or, BitVec.toNat_or, b_tn ha, b_tn hb, b_tn (by omega)]
theorem b_and {a b : Nat} (ha : a < 2147483648) (hb : b < 2147483648) : nI a &&& nI b = nI (a &&& b) := by
  have h : a &&& b ≤ a := Nat.and_le_left
  refine Int32.toBitVec_inj.mp (BitVec.eq_of_toNat_eq ?_)
  rw [Int32.toBitVec_and, BitVec.toNat_and, b_tn ha, b_tn hb, b_tn (by omega)]
theorem b_lsb {a i : Nat} (ha : a < 2147483648) : (nI a).toBitVec.getLsbD i = a.testBit i := by
  rw [BitVec.getLsbD, b_tn ha]
theorem b_sub {c m : Nat} (hc : c < 2147483648) (hm : m < 2147483648) : (nI c &&& (nI m ^^^ (-1)) = 0) ↔ ∀ i, c.testBit i = true → m.testBit i = true := by
  constructor
  · intro h i hi
    have hi32 : i < 32 := by
      rcases Nat.lt_or_ge i 32 with q | q
      · exact q
      · rw [Nat.testBit_lt_two_pow (Nat.lt_of_lt_of_le (show c < 2 ^ 32 from by omega) (Nat.pow_le_pow_right (by omega) q))] at hi
        cases hi
    have h2 : (nI c &&& (nI m ^^^ (-1))).toBitVec.getLsbD i = (0 : Int32).toBitVec.getLsbD i := by rw [h]
    rw [Int32.toBitVec_and, BitVec.getLsbD_and, Int32.toBitVec_xor, BitVec.getLsbD_xor, b_lsb hc, b_lsb hm, hi, show (-1 : Int32).toBitVec = BitVec.allOnes 32 from by decide, BitVec.getLsbD_allOnes, decide_eq_true hi32, show (0 : Int32).toBitVec = 0#32 from rfl, BitVec.getLsbD_zero] at h2
    cases e : m.testBit i with
    | true => rfl
    | false => rw [e] at h2; cases h2
  · intro h
    refine Int32.toBitVec_inj.mp (BitVec.eq_of_getLsbD_eq (fun i hi => ?_))
    rw [Int32.toBitVec_and, BitVec.getLsbD_and, Int32.toBitVec_xor, BitVec.getLsbD_xor, b_lsb hc, b_lsb hm, show (-1 : Int32).toBitVec = BitVec.allOnes 32 from by decide, BitVec.getLsbD_allOnes, decide_eq_true hi, show (0 : Int32).toBitVec = 0#32 from rfl, BitVec.getLsbD_zero]
    cases e : c.testBit i with
    | true => rw [h i e]; rfl
    | false => rfl
theorem b_shl {p : Nat} (hp : p < 11) : nI 1 <<< (nI p &&& 31) = nI (1 <<< p) := by
  have : ∀ p, p < 11 → nI 1 <<< (nI p &&& 31) = nI (1 <<< p) := by decide
  exact this p hp
theorem n_min {a b : Nat} (ha : a < 2147483648) (hb : b < 2147483648) : (if nI a < nI b then nI a else nI b) = nI (min a b) := by
  split
  · rename_i h
    have := (nI_ltI (by omega) (by omega)).mp h
    rw [Nat.min_eq_left (by omega)]
  · rename_i h
    have := Nat.le_of_not_lt (fun z => h ((nI_ltI (by omega) (by omega)).mpr z))
    rw [Nat.min_eq_right (by omega)]
theorem zSumW_le {w : Nat → Nat} {c : Nat} (hw : ∀ p, w p ≤ 2) : ∀ p, zSumW w c p ≤ 2 * p
  | 0 => by rw [zSumW]; omega
  | p + 1 => by
    have := zSumW_le (c := c) hw p
    have := hw p
    rw [zSumW]
    split <;> omega
theorem zLow_le {w : Nat → Nat} {c : Nat} : ∀ p, zLow w c p ≤ 1000000
  | 0 => Nat.le_refl _
  | p + 1 => by
    have := zLow_le (w := w) (c := c) p
    rw [zLow]
    split <;> omega
theorem bit_hi {c i : Nat} (hc : c < 1024) (h : c.testBit i = true) : i < 10 := by
  rcases Nat.lt_or_ge i 10 with q | q
  · exact q
  · rw [Nat.testBit_lt_two_pow (Nat.lt_of_lt_of_le (show c < 2 ^ 10 from by omega) (Nat.pow_le_pow_right (by omega) q))] at h
    cases h
section Crews
variable {E : JE} {L : ML} {ph : HP}
theorem c_X6_isCrew {M : MM} {w : Nat → Nat} (hw : ∀ p, w p ≤ 2) (hM : ∀ p, p < 10 → M.2.2.1 32 p = nI (w p)) {c need : Nat} (hc : c < 1024) (hn : need ≤ 4) : MC E fX6_isCrew L M ph [.int (nI c), .int (nI need)] (rI fun r M' => r = bI (zCrew w need c) ∧ M' = M) := by
  refine Ct.of [some (.ref (L.1 52)), some (.int (nI c)), some (.int (nI need)), none, none, none] rfl (Nat.le_of_ble_eq_true rfl) (show plainName RX6 = true by decide +kernel) rfl ?_
  have loop : ∀ d i, i + d = 10 → zAll w c i = true → G E fX6_isCrew (mFin E fX6_isCrew L ph (rI fun r M' => r = bI (zCrew w need c) ∧ M' = M)) 9 [some (.ref (L.1 52)), some (.int (nI c)), some (.int (nI need)), some (.int (nI (zSumW w c i))), some (.int (nI (zLow w c i))), some (.int (nI i))] [] (movl L M ph) 0 0 := by
    intro d
    induction d with
    | zero =>
      intro i hi ha
      have hs := zSumW_le (c := c) hw i
      have hl := zLow_le (w := w) (c := c) i
      refine G.iload5 dX6_isCrew_9 ?_
      refine G.bipush (v := nI 10) dX6_isCrew_11 (by decide) ?_
      refine G.icmp_ge (tgt := 70) dX6_isCrew_13 (by decide) (fun c_13 => ?_) (fun c_13 => ?_)
      · refine G.iload_n3 dX6_isCrew_70 ?_
        refine G.iload_n2 dX6_isCrew_71 ?_
        refine G.icmp_lt (tgt := 87) dX6_isCrew_72 (by decide) (fun c_72 => ?_) (fun c_72 => ?_)
        · have n_72 : zSumW w c i < need := (nI_ltI (a := zSumW w c i) (b := need) (by omega) (by omega)).mp c_72
          refine G.iconst (v := nI 0) dX6_isCrew_87 (by decide) ?_
          refine G.ireturn dX6_isCrew_88 ?_ (hn := by first | rfl | exact bI_nar _)
          rw [show i = 10 from by omega] at *
          have hz : zCrew w need c = decide (need ≤ zSumW w c 10 ∧ zSumW w c 10 < need + zLow w c 10) := by unfold zCrew; rw [ha, Bool.true_and]
          rw [hz]
          first
            | exact ⟨_, rfl, _, rfl, bI_f (by omega), rfl⟩
            | exact ⟨_, rfl, _, rfl, bI_t (by omega), rfl⟩
        · have n_72 : need ≤ zSumW w c i := Nat.le_of_not_lt (fun z => c_72 ((nI_ltI (a := zSumW w c i) (b := need) (by omega) (by omega)).mpr z))
          refine G.iload_n3 dX6_isCrew_75 ?_
          refine G.iload4 dX6_isCrew_76 ?_
          refine G.isub dX6_isCrew_78 ?_
          refine G.iload_n2 dX6_isCrew_79 ?_
          refine G.icmp_ge (tgt := 87) dX6_isCrew_80 (by decide) (fun c_80 => ?_) (fun c_80 => ?_)
          · rw [i_le, t_sub (by omega) (by omega), t_nI (by omega)] at c_80
            refine G.iconst (v := nI 0) dX6_isCrew_87 (by decide) ?_
            refine G.ireturn dX6_isCrew_88 ?_ (hn := by first | rfl | exact bI_nar _)
            rw [show i = 10 from by omega] at *
            have hz : zCrew w need c = decide (need ≤ zSumW w c 10 ∧ zSumW w c 10 < need + zLow w c 10) := by unfold zCrew; rw [ha, Bool.true_and]
            rw [hz]
            first
              | exact ⟨_, rfl, _, rfl, bI_f (by omega), rfl⟩
              | exact ⟨_, rfl, _, rfl, bI_t (by omega), rfl⟩
          · rw [i_le, t_sub (by omega) (by omega), t_nI (by omega)] at c_80
            refine G.iconst (v := nI 1) dX6_isCrew_83 (by decide) ?_
            refine G.goto (tgt := 88) dX6_isCrew_84 (by decide) ?_
            refine G.ireturn dX6_isCrew_88 ?_ (hn := by first | rfl | exact bI_nar _)
            rw [show i = 10 from by omega] at *
            have hz : zCrew w need c = decide (need ≤ zSumW w c 10 ∧ zSumW w c 10 < need + zLow w c 10) := by unfold zCrew; rw [ha, Bool.true_and]
            rw [hz]
            first
              | exact ⟨_, rfl, _, rfl, bI_f (by omega), rfl⟩
              | exact ⟨_, rfl, _, rfl, bI_t (by omega), rfl⟩
      · exact absurd (nI_leI (by omega) (by omega) |>.mpr (by omega)) c_13
    | succ d ih =>
      intro i hi ha
      have hs := zSumW_le (c := c) hw i
      have hl := zLow_le (w := w) (c := c) i
      have hwi := hw i
      have hgo := ih (i + 1) (by omega)
      clear ih
      refine G.iload5 dX6_isCrew_9 ?_
      refine G.bipush (v := nI 10) dX6_isCrew_11 (by decide) ?_
      refine G.icmp_ge (tgt := 70) dX6_isCrew_13 (by decide) (fun c_13 => ?_) (fun c_13 => ?_)
      · exact absurd ((nI_leI (by omega) (by omega)).mp c_13) (by omega)
      · refine G.iload_n1 dX6_isCrew_16 ?_
        refine G.iload5 dX6_isCrew_17 ?_
        refine G.scall (f' := fX6_isIn) q2211 ck_X6_isIn (c_isIn E c i (by omega) (by omega)) dX6_isCrew_19 (sI.k fun r_19 h_19 => ?_)
        replace h_19 := h_19.symm; subst h_19
        refine G.ifb_ne (tgt := 28) dX6_isCrew_22 (by decide) (fun c_22 => ?_) (fun c_22 => ?_)
        · refine G.aload_n0 dX6_isCrew_28 ?_
          refine G.mgeta 32 fl_X6_77 dX6_isCrew_29 ?_
          refine G.iload5 dX6_isCrew_32 ?_
          refine G.miald (n := 10) 32 _ dX6_isCrew_34 rfl (by omega) ?_
          rw [hM i (by omega)]
          refine G.if_ne (tgt := 40) dX6_isCrew_35 (by decide) (fun c_35 => ?_) (fun c_35 => ?_)
          · have n_35 : ¬ w i = 0 := fun z => c_35 (congrArg nI z)
            refine G.iload_n3 dX6_isCrew_40 ?_
            refine G.aload_n0 dX6_isCrew_41 ?_
            refine G.mgeta 32 fl_X6_77 dX6_isCrew_42 ?_
            refine G.iload5 dX6_isCrew_45 ?_
            refine G.miald (n := 10) 32 _ dX6_isCrew_47 rfl (by omega) ?_
            rw [hM i (by omega)]
            first | with_reducible refine G.iaddn dX6_isCrew_48 ?_ | refine G.iadd dX6_isCrew_48 ?_
            refine G.istore_n3 dX6_isCrew_49 ?_
            refine G.iload4 dX6_isCrew_50 ?_
            refine G.aload_n0 dX6_isCrew_52 ?_
            refine G.mgeta 32 fl_X6_77 dX6_isCrew_53 ?_
            refine G.iload5 dX6_isCrew_56 ?_
            refine G.miald (n := 10) 32 _ dX6_isCrew_58 rfl (by omega) ?_
            rw [hM i (by omega)]
            refine G.scall (f' := fX6_lesser) q2225 ck_X6_lesser (c_X6_lesser E _ _) dX6_isCrew_59 (sI.k fun r_59 h_59 => ?_)
            replace h_59 := h_59.symm; subst h_59
            rw [n_min (by omega) (by omega)]
            refine G.istore4 dX6_isCrew_62 ?_
            refine G.iinc5 dX6_isCrew_64 ?_
            try rw [show ∀ a : Nat, nI a + Int32.ofInt 1 = nI (a + 1) from fun a => nI_add a 1]
            refine G.goto (tgt := 9) dX6_isCrew_67 (by decide) ?_
            first
              | (have q := hgo (by rw [zAll, ha, c_22]; rfl)
                 rw [zSumW, zLow, if_neg (by rw [c_22]; exact Bool.false_ne_true), if_neg (by rw [c_22]; exact Bool.false_ne_true)] at q
                 exact q)
              | (have q := hgo (by rw [zAll, ha, decide_eq_true (show 0 < w i from by omega), Bool.or_true]; rfl)
                 rw [zSumW, zLow, if_pos c_22, if_pos c_22] at q
                 exact q)
          · have n_35 : w i = 0 := (nI_inj (a := w i) (b := 0) (by omega) (by omega)).mp c_35
            refine G.iconst (v := nI 0) dX6_isCrew_38 (by decide) ?_
            refine G.ireturn dX6_isCrew_39 ?_ (hn := by first | rfl | exact bI_nar _)
            refine ⟨_, rfl, _, rfl, ?_, rfl⟩
            have : zAll w c 10 = false := by
              cases e : zAll w c 10 with
              | false => rfl
              | true => exact absurd ((zAll_of 10).mp e i (by omega) c_22) (by omega)
            unfold zCrew
            rw [this]
            rfl
        · refine G.goto (tgt := 64) dX6_isCrew_25 (by decide) ?_
          refine G.iinc5 dX6_isCrew_64 ?_
          try rw [show ∀ a : Nat, nI a + Int32.ofInt 1 = nI (a + 1) from fun a => nI_add a 1]
          refine G.goto (tgt := 9) dX6_isCrew_67 (by decide) ?_
          first
            | (have q := hgo (by rw [zAll, ha, c_22]; rfl)
               rw [zSumW, zLow, if_neg (by rw [c_22]; exact Bool.false_ne_true), if_neg (by rw [c_22]; exact Bool.false_ne_true)] at q
               exact q)
            | (have q := hgo (by rw [zAll, ha, decide_eq_true (show 0 < w i from by omega), Bool.or_true]; rfl)
               rw [zSumW, zLow, if_pos c_22, if_pos c_22] at q
               exact q)
  refine G.iconst (v := nI 0) dX6_isCrew_0 (by decide) ?_
  refine G.istore_n3 dX6_isCrew_1 ?_
  refine G.ldc q2024 dX6_isCrew_2 ?_
  refine G.topi (nI 1000000) (by decide) ?_
  refine G.istore4 dX6_isCrew_4 ?_
  refine G.iconst (v := nI 0) dX6_isCrew_6 (by decide) ?_
  refine G.istore5 dX6_isCrew_7 ?_
  exact loop 10 0 rfl rfl
theorem c_X6_crewBehind {M : MM} {w : Nat → Nat} (hw : ∀ p, w p ≤ 2) (hM : ∀ p, p < 10 → M.2.2.1 32 p = nI (w p)) {c need : Nat} (hc : c < 1024) (hn : need ≤ 4) : MC E fX6_crewBehind L M ph [.int (nI c), .int (nI need)] (rI fun r M' => r = oI (zNext (zCrew w need) c) ∧ M' = M) := by
  have hcrew : ∀ i, i < 1024 → zCrew w need i = true → ∀ k, i.testBit k = true → (bOr w 10).testBit k = true := by
    intro i hi h k hk
    unfold zCrew at h
    rw [Bool.and_eq_true] at h
    have h10 := bit_hi hi hk
    rw [bOr_bit, decide_eq_true h10, Bool.true_and]
    exact decide_eq_true ((zAll_of 10).mp h.1 k h10 hk)
  have hmay : bOr w 10 < 1024 := bOr_lt (p := 10)
  refine Ct.of [some (.ref (L.1 52)), some (.int (nI c)), some (.int (nI need)), none, none] rfl (Nat.le_of_ble_eq_true rfl) (show plainName RX6 = true by decide +kernel) rfl ?_
  have loop2 : ∀ d j, j + d = 1024 → c < j → (∀ i, c < i → i < j → zCrew w need i = false) → G E fX6_crewBehind (mFin E fX6_crewBehind L ph (rI fun r M' => r = oI (zNext (zCrew w need) c) ∧ M' = M)) 44 [some (.ref (L.1 52)), some (.int (nI c)), some (.int (nI need)), some (.int (nI (bOr w 10))), some (.int (nI j))] [] (movl L M ph) 0 0 := by
    intro d
    induction d with
    | zero =>
      intro j hj hcj hno
      refine G.iload4 dX6_crewBehind_44 ?_
      refine G.iload_n3 dX6_crewBehind_46 ?_
      refine G.icmp_gt (tgt := 78) dX6_crewBehind_47 (by decide) (fun c_47 => ?_) (fun c_47 => ?_)
      · refine G.iconst (v := -1) dX6_crewBehind_78 (by decide) ?_
        refine G.ireturn dX6_crewBehind_79 ?_
        refine ⟨_, rfl, _, rfl, ?_, rfl⟩
        rw [zNext_no (fun i h1 h2 => hno i h1 (by omega))]
        rfl
      · exact absurd ((nI_ltI (by omega) (by omega)).mpr (by omega)) c_47
    | succ d ih =>
      intro j hj hcj hno
      have hgo : zCrew w need j = false → _ := fun z => ih (j + 1) (by omega) (by omega) (fun i h1 h2 => by
        rcases Nat.lt_or_ge i j with q | q
        · exact hno i h1 q
        · rw [show i = j from by omega]; exact z)
      clear ih
      refine G.iload4 dX6_crewBehind_44 ?_
      refine G.iload_n3 dX6_crewBehind_46 ?_
      refine G.icmp_gt (tgt := 78) dX6_crewBehind_47 (by decide) (fun c_47 => ?_) (fun c_47 => ?_)
      · have n_47 : bOr w 10 < j := (nI_ltI (a := bOr w 10) (b := j) (by omega) (by omega)).mp c_47
        refine G.iconst (v := -1) dX6_crewBehind_78 (by decide) ?_
        refine G.ireturn dX6_crewBehind_79 ?_
        refine ⟨_, rfl, _, rfl, ?_, rfl⟩
        rw [zNext_no (fun i h1 h2 => ?_)]
        · rfl
        · rcases Nat.lt_or_ge i j with q | q
          · exact hno i h1 q
          · cases e : zCrew w need i with
            | false => rfl
            | true => exact absurd (sub_le (hcrew i h2 e)) (by omega)
      · have n_47 : j ≤ bOr w 10 := Nat.le_of_not_lt (fun z => c_47 ((nI_ltI (a := bOr w 10) (b := j) (by omega) (by omega)).mpr z))
        refine G.iload4 dX6_crewBehind_50 ?_
        refine G.iload_n3 dX6_crewBehind_52 ?_
        refine G.iconst (v := -1) dX6_crewBehind_53 (by decide) ?_
        refine G.ixor dX6_crewBehind_54 ?_
        refine G.iand dX6_crewBehind_55 ?_
        refine G.if_ne (tgt := 72) dX6_crewBehind_56 (by decide) (fun c_56 => ?_) (fun c_56 => ?_)
        · refine G.iinc4 dX6_crewBehind_72 ?_
          try rw [show ∀ a : Nat, nI a + Int32.ofInt 1 = nI (a + 1) from fun a => nI_add a 1]
          refine G.goto (tgt := 44) dX6_crewBehind_75 (by decide) ?_
          first
            | exact hgo c_66
            | (refine hgo ?_
               cases e : zCrew w need j with
               | false => rfl
               | true => exact absurd ((b_sub (by omega) (by omega)).mpr (hcrew j (by omega) e)) c_56)
        · refine G.aload_n0 dX6_crewBehind_59 ?_
          refine G.iload4 dX6_crewBehind_60 ?_
          refine G.iload_n2 dX6_crewBehind_62 ?_
          refine G.mcall (f' := fX6_isCrew) q2276 ck_X6_isCrew (c_X6_isCrew hw hM (c := j) (by omega) hn) dX6_crewBehind_63 (rI.k fun r_63 M_63 h_63 => ?_)
          obtain ⟨e_63, h_63⟩ := h_63; replace e_63 := e_63.symm; replace h_63 := h_63.symm; subst e_63; subst h_63
          refine G.ifb_eq (tgt := 72) dX6_crewBehind_66 (by decide) (fun c_66 => ?_) (fun c_66 => ?_)
          · refine G.iinc4 dX6_crewBehind_72 ?_
            try rw [show ∀ a : Nat, nI a + Int32.ofInt 1 = nI (a + 1) from fun a => nI_add a 1]
            refine G.goto (tgt := 44) dX6_crewBehind_75 (by decide) ?_
            first
              | exact hgo c_66
              | (refine hgo ?_
                 cases e : zCrew w need j with
                 | false => rfl
                 | true => exact absurd ((b_sub (by omega) (by omega)).mpr (hcrew j (by omega) e)) c_56)
          · refine G.iload4 dX6_crewBehind_69 ?_
            refine G.ireturn dX6_crewBehind_71 ?_
            refine ⟨_, rfl, _, rfl, ?_, rfl⟩
            rw [zNext_of hcj (by omega) c_66 hno]
            rfl
  have loop1 : ∀ d i, i + d = 10 → G E fX6_crewBehind (mFin E fX6_crewBehind L ph (rI fun r M' => r = oI (zNext (zCrew w need) c) ∧ M' = M)) 5 [some (.ref (L.1 52)), some (.int (nI c)), some (.int (nI need)), some (.int (nI (bOr w i))), some (.int (nI i))] [] (movl L M ph) 0 0 := by
    intro d
    induction d with
    | zero =>
      intro i hi
      refine G.iload4 dX6_crewBehind_5 ?_
      refine G.bipush (v := nI 10) dX6_crewBehind_7 (by decide) ?_
      refine G.icmp_ge (tgt := 39) dX6_crewBehind_9 (by decide) (fun c_9 => ?_) (fun c_9 => ?_)
      · refine G.iload_n1 dX6_crewBehind_39 ?_
        refine G.iconst (v := nI 1) dX6_crewBehind_40 (by decide) ?_
        first | with_reducible refine G.iaddn dX6_crewBehind_41 ?_ | refine G.iadd dX6_crewBehind_41 ?_
        refine G.istore4 dX6_crewBehind_42 ?_
        rw [show i = 10 from by omega]
        exact loop2 (1023 - c) (c + 1) (by omega) (by omega) (fun i h1 h2 => absurd h1 (by omega))
      · exact absurd (nI_leI (by omega) (by omega) |>.mpr (by omega)) c_9
    | succ d ih =>
      intro i hi
      have hgo := ih (i + 1) (by omega)
      clear ih
      have hwi := hw i
      have hb : bOr w i < 1024 := Nat.lt_of_lt_of_le (bOr_lt (p := i)) (Nat.pow_le_pow_right (by omega) (show i ≤ 10 from by omega))
      have hsh : 1 <<< i < 1024 := by rw [Nat.one_shiftLeft]; exact Nat.pow_lt_pow_right (by omega) (show i < 10 from by omega)
      refine G.iload4 dX6_crewBehind_5 ?_
      refine G.bipush (v := nI 10) dX6_crewBehind_7 (by decide) ?_
      refine G.icmp_ge (tgt := 39) dX6_crewBehind_9 (by decide) (fun c_9 => ?_) (fun c_9 => ?_)
      · exact absurd ((nI_leI (by omega) (by omega)).mp c_9) (by omega)
      · refine G.iload_n3 dX6_crewBehind_12 ?_
        refine G.aload_n0 dX6_crewBehind_13 ?_
        refine G.mgeta 32 fl_X6_77 dX6_crewBehind_14 ?_
        refine G.iload4 dX6_crewBehind_17 ?_
        refine G.miald (n := 10) 32 _ dX6_crewBehind_19 rfl (by omega) ?_
        rw [hM i (by omega)]
        refine G.if_le (tgt := 30) dX6_crewBehind_20 (by decide) (fun c_20 => ?_) (fun c_20 => ?_)
        · have n_20 : w i ≤ 0 := (nI_leI (a := w i) (b := 0) (by omega) (by omega)).mp c_20
          rw [bOr, if_neg (by omega)] at hgo
          refine G.iconst (v := nI 0) dX6_crewBehind_30 (by decide) ?_
          refine G.ior dX6_crewBehind_31 ?_
          first | rw [b_or (a := bOr w i) (b := 1 <<< i) (by omega) (by omega)] | rw [b_or (a := bOr w i) (b := 0) (by omega) (by omega)]
          refine G.istore_n3 dX6_crewBehind_32 ?_
          refine G.iinc4 dX6_crewBehind_33 ?_
          try rw [show ∀ a : Nat, nI a + Int32.ofInt 1 = nI (a + 1) from fun a => nI_add a 1]
          refine G.goto (tgt := 5) dX6_crewBehind_36 (by decide) ?_
          exact hgo
        · have n_20 : 0 < w i := Nat.lt_of_not_le (fun z => c_20 ((nI_leI (a := w i) (b := 0) (by omega) (by omega)).mpr z))
          rw [bOr, if_pos n_20] at hgo
          refine G.iconst (v := nI 1) dX6_crewBehind_23 (by decide) ?_
          refine G.iload4 dX6_crewBehind_24 ?_
          refine G.ishl dX6_crewBehind_26 ?_
          rw [b_shl (by omega)]
          refine G.goto (tgt := 31) dX6_crewBehind_27 (by decide) ?_
          refine G.ior dX6_crewBehind_31 ?_
          first | rw [b_or (a := bOr w i) (b := 1 <<< i) (by omega) (by omega)] | rw [b_or (a := bOr w i) (b := 0) (by omega) (by omega)]
          refine G.istore_n3 dX6_crewBehind_32 ?_
          refine G.iinc4 dX6_crewBehind_33 ?_
          try rw [show ∀ a : Nat, nI a + Int32.ofInt 1 = nI (a + 1) from fun a => nI_add a 1]
          refine G.goto (tgt := 5) dX6_crewBehind_36 (by decide) ?_
          exact hgo
  refine G.iconst (v := nI 0) dX6_crewBehind_0 (by decide) ?_
  refine G.istore_n3 dX6_crewBehind_1 ?_
  refine G.iconst (v := nI 0) dX6_crewBehind_2 (by decide) ?_
  refine G.istore4 dX6_crewBehind_3 ?_
  exact loop1 10 0 rfl
end Crews
