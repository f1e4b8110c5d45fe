/-! THE MODEL: hushing, crews of a day -/
def zOnes (c : Nat) : Nat → Nat
  | 0 => 0
  | p + 1 => zOnes c p + if c.testBit p then 1 else 0
theorem zOnes_le {c : Nat} : ∀ p, zOnes c p ≤ p
  | 0 => Nat.le_refl _
  | p + 1 => by
    have := zOnes_le (c := c) p
    rw [zOnes]
    split <;> omega
theorem bit_n {c p : Nat} (hc : c < 2147483648) (hp : p < 31) : (nI c >>> (nI p &&& 31)) &&& nI 1 = nI (if c.testBit p then 1 else 0) := by
  have h1 : nI p &&& 31 = nI p := by rw [pk_andN (by omega) 5 (by decide), Nat.mod_eq_of_lt (by omega)]
  have h2 : nI c >>> nI p = nI (c / 2 ^ p) := by
    refine pk_shrN (by omega) (nI p) p ?_
    have : ∀ p : Nat, p < 31 → ((nI p).toBitVec.smod 32).toNat = p := by decide
    exact this p hp
  rw [h1, h2, pk_andN (Nat.lt_of_le_of_lt (Nat.div_le_self _ _) (by omega)) 1 (by decide), Nat.testBit_eq_decide_div_mod_eq, Nat.pow_one]
  have := Nat.mod_lt (c / 2 ^ p) (show 2 > 0 by omega)
  congr 1
  by_cases q : c / 2 ^ p % 2 = 1
  · rw [decide_eq_true q, if_pos rfl, q]
  · rw [decide_eq_false q, if_neg Bool.false_ne_true]; omega
section Hush
variable {E : JE} {L : ML} {ph : HP}
theorem c_X6_ones (c : Nat) (hc : c < 2147483648) : SC E fX6_ones [.int (nI c)] (sI fun r => r = nI (zOnes c 10)) := by
  intro ph
  refine Ct.of [some (.int (nI c)), none, none] rfl (Nat.le_of_ble_eq_true rfl) (show plainName RX6 = true by decide +kernel) rfl ?_
  have loop : ∀ d i, i + d = 10 → G E fX6_ones (sFin E fX6_ones ph (sI fun r => r = nI (zOnes c 10))) 4 [some (.int (nI c)), some (.int (nI (zOnes c i))), some (.int (nI i))] [] ph 0 0 := by
    intro d
    induction d with
    | zero =>
      intro i hi
      refine G.iload_n2 dX6_ones_4 ?_
      refine G.bipush (v := nI 10) dX6_ones_5 (by decide) ?_
      refine G.icmp_ge (tgt := 24) dX6_ones_7 (by decide) (fun c_7 => ?_) (fun c_7 => ?_)
      · refine G.iload_n1 dX6_ones_24 ?_
        refine G.ireturn dX6_ones_25 ?_
        exact ⟨rfl, _, rfl, by rw [show i = 10 from by omega]⟩
      · exact absurd (nI_leI (by omega) (by omega) |>.mpr (by omega)) c_7
    | succ d ih =>
      intro i hi
      have hgo := ih (i + 1) (by omega)
      clear ih
      refine G.iload_n2 dX6_ones_4 ?_
      refine G.bipush (v := nI 10) dX6_ones_5 (by decide) ?_
      refine G.icmp_ge (tgt := 24) dX6_ones_7 (by decide) (fun c_7 => ?_) (fun c_7 => ?_)
      · exact absurd ((nI_leI (by omega) (by omega)).mp c_7) (by omega)
      · refine G.iload_n1 dX6_ones_10 ?_
        refine G.iload_n0 dX6_ones_11 ?_
        refine G.iload_n2 dX6_ones_12 ?_
        refine G.ishr dX6_ones_13 ?_
        refine G.iconst (v := nI 1) dX6_ones_14 (by decide) ?_
        refine G.iand dX6_ones_15 ?_
        rw [bit_n hc (by omega)]
        first | with_reducible refine G.iaddn dX6_ones_16 ?_ | refine G.iadd dX6_ones_16 ?_
        refine G.istore_n1 dX6_ones_17 ?_
        refine G.iinc2 dX6_ones_18 ?_
        try rw [show ∀ a : Nat, nI a + Int32.ofInt 1 = nI (a + 1) from fun a => nI_add a 1]
        refine G.goto (tgt := 4) dX6_ones_21 (by decide) ?_
        exact hgo
  refine G.iconst (v := nI 0) dX6_ones_0 (by decide) ?_
  refine G.istore_n1 dX6_ones_1 ?_
  refine G.iconst (v := nI 0) dX6_ones_2 (by decide) ?_
  refine G.istore_n2 dX6_ones_3 ?_
  exact loop 10 0 rfl
/-- sets of a size, hushed: the first that will do, how many -/
def hushRow (K : KR) (n x size : Nat) : Nat → Option Nat × Nat
  | 0 => (none, 0)
  | s + 1 => if zOnes s 10 = size ∧ x ≤ lgN (zOk K n 0 s) 11 0 0 then ((match (hushRow K n x size s).1 with
    | none => some s
    | some b => some b), (hushRow K n x size s).2 + 1) else hushRow K n x size s
def hushAll (K : KR) (n x : Nat) : Option Nat × Nat := if (hushRow K n x 0 (1 <<< n)).1 = none then (if (hushRow K n x 1 (1 <<< n)).1 = none then hushRow K n x 2 (1 <<< n) else hushRow K n x 1 (1 <<< n)) else hushRow K n x 0 (1 <<< n)
theorem hushRow_b {K : KR} {n x size : Nat} : ∀ s, (∀ j, (hushRow K n x size s).1 = some j → j < s) ∧ ((hushRow K n x size s).1 = none → (hushRow K n x size s).2 = 0) ∧ (hushRow K n x size s).2 ≤ s
  | 0 => ⟨fun j h => (by cases h), fun _ => rfl, Nat.le_refl _⟩
  | s + 1 => by
    obtain ⟨h1, h2, h3⟩ := hushRow_b (K := K) (n := n) (x := x) (size := size) s
    rw [hushRow]
    split
    · refine ⟨fun j h => ?_, fun h => ?_, by show _ + 1 ≤ _; omega⟩
      · cases e : (hushRow K n x size s).1 with
        | none => rw [e] at h; cases h; omega
        | some b => rw [e] at h; cases h; have := h1 _ e; omega
      · cases e : (hushRow K n x size s).1 with
        | none => rw [e] at h; cases h
        | some b => rw [e] at h; cases h
    · exact ⟨fun j h => by have := h1 j h; omega, h2, by omega⟩
def oHush (K : KR) (n : Nat) (x what : Int32) : Int32 := if zIn x 1 10 ∧ zIn what 0 2 then (match (hushAll K n (tNat x)).1 with
  | none => -1
  | some b => if what = nI 0 then nI (zOnes b 10) else if what = nI 1 then nI b else nI (hushAll K n (tNat x)).2) else -1
theorem c_X6_hush {M : MM} {K : KR} (e : M.2.2.1 2 = K) {b n : Nat} (hK : KOk K b n) (x what : Int32) : MC E fX6_hush L M ph [.int x, .int what] (rI fun r M' => r = oHush K n x what ∧ mN M M') := by
  have h10 := hK.1.1
  refine Ct.of [some (.ref (L.1 52)), some (.int x), some (.int what), none, none, none, none] rfl (Nat.le_of_ble_eq_true rfl) (show plainName RX6 = true by decide +kernel) rfl ?_
  refine G.iload_n1 dX6_hush_0 ?_
  refine G.iconst (v := nI 1) dX6_hush_1 (by decide) ?_
  refine G.bipush (v := nI 10) dX6_hush_2 (by decide) ?_
  refine G.scall (f' := fX6_lies) q1912 ck_X6_lies (c_X6_lies E _ _ _) dX6_hush_4 (sI.k fun r_4 h_4 => ?_)
  replace h_4 := h_4.symm; subst h_4
  refine G.ifb_eq (tgt := 19) dX6_hush_7 (by decide) (fun c_7 => ?_) (fun c_7 => ?_)
  · refine G.iconst (v := -1) dX6_hush_19 (by decide) ?_
    refine G.ireturn dX6_hush_20 ?_
    first
    | exact ⟨_, rfl, _, rfl, (if_neg (fun z => of_decide_eq_false c_7 z.1)).symm, mX.rf⟩
    | exact ⟨_, rfl, _, rfl, (if_neg (fun z => of_decide_eq_false c_16 z.2)).symm, mX.rf⟩
  · refine G.iload_n2 dX6_hush_10 ?_
    refine G.iconst (v := nI 0) dX6_hush_11 (by decide) ?_
    refine G.iconst (v := nI 2) dX6_hush_12 (by decide) ?_
    refine G.scall (f' := fX6_lies) q1912 ck_X6_lies (c_X6_lies E _ _ _) dX6_hush_13 (sI.k fun r_13 h_13 => ?_)
    replace h_13 := h_13.symm; subst h_13
    refine G.ifb_ne (tgt := 21) dX6_hush_16 (by decide) (fun c_16 => ?_) (fun c_16 => ?_)
    · have qa := of_decide_eq_true c_7
      have qb := of_decide_eq_true c_16
      obtain ⟨w, hw, rfl⟩ := zIn_of (k := x) (b := 10) ⟨by have := qa.1; rw [t_nI (by omega)] at this ⊢; omega, qa.2⟩ (by decide)
      have ho : oHush K n (nI w) what = (match (hushAll K n w).1 with
        | none => -1
        | some b => if what = nI 0 then nI (zOnes b 10) else if what = nI 1 then nI b else nI (hushAll K n w).2) := by
        unfold oHush
        rw [if_pos ⟨qa, qb⟩, tNat_nI (by omega)]
      generalize oHush K n (nI w) what = o at ho ⊢
      refine G.aload_n0 dX6_hush_21 ?_
      refine G.mcall (f' := fX6_looks) q2244 ck_X6_looks (c_looksK e hK) dX6_hush_22 (rV.k fun M_22 h_22 => ?_)
      have g1 := h_22.1
      have g3 := h_22.2.2.1
      have g4 := h_22.2.2.2
      clear h_22
      refine G.iconst (v := -1) dX6_hush_25 (by decide) ?_
      refine G.istore_n3 dX6_hush_26 ?_
      refine G.iconst (v := nI 0) dX6_hush_27 (by decide) ?_
      refine G.istore4 dX6_hush_28 ?_
      refine G.iconst (v := nI 0) dX6_hush_30 (by decide) ?_
      refine G.istore5 dX6_hush_31 ?_
      have hsl : 1 <<< n ≤ 1024 := by rw [Nat.one_shiftLeft]; exact Nat.pow_le_pow_right (by omega) (show n ≤ 10 from h10)
      have k121 : ∀ (B : Option Nat × Nat) (M2 : MM) (a5 a6 : Option Value), hushAll K n w = B → (∀ j, B.1 = some j → j < 1024) → mN M M2 → G E fX6_hush (mFin E fX6_hush L ph (rI fun r M' => r = o ∧ mN M M')) 121 [some (.ref (L.1 52)), some (.int (nI w)), some (.int what), some (.int (oI B.1)), some (.int (nI B.2)), a5, a6] [] (movl L M2 ph) 0 0 := by
        intro B M2 a5 a6 hB hj hx2
        rw [hB] at ho
        obtain ⟨B1, B2⟩ := B
        cases B1 with
        | none =>
          refine G.iload_n3 dX6_hush_121 ?_
          refine G.iconst (v := -1) dX6_hush_122 (by decide) ?_
          refine G.icmp_ne (tgt := 130) dX6_hush_123 (by decide) (fun c_123 => absurd c_123 (by exact fun z => z rfl)) (fun c_123 => ?_)
          refine G.iconst (v := -1) dX6_hush_126 (by decide) ?_
          refine G.goto (tgt := 152) dX6_hush_127 (by decide) ?_
          refine G.ireturn dX6_hush_152 ?_
          exact ⟨_, rfl, _, rfl, ho.symm, hx2⟩
        | some j =>
          have hjj := hj j rfl
          have hne : ¬ nI j = -1 := fun z => by rw [i_eq, t_nI (by omega), t_m1] at z; omega
          refine G.iload_n3 dX6_hush_121 ?_
          refine G.iconst (v := -1) dX6_hush_122 (by decide) ?_
          refine G.icmp_ne (tgt := 130) dX6_hush_123 (by decide) (fun c_123 => ?_) (fun c_123 => absurd c_123 (by exact hne))
          refine G.iload_n2 dX6_hush_130 ?_
          refine G.if_ne (tgt := 141) dX6_hush_131 (by decide) (fun c_131 => ?_) (fun c_131 => ?_)
          · refine G.iload_n2 dX6_hush_141 ?_
            refine G.iconst (v := nI 1) dX6_hush_142 (by decide) ?_
            refine G.icmp_ne (tgt := 150) dX6_hush_143 (by decide) (fun c_143 => ?_) (fun c_143 => ?_)
            · refine G.iload4 dX6_hush_150 ?_
              refine G.ireturn dX6_hush_152 ?_
              first
              | exact ⟨_, rfl, _, rfl, (ho.trans ((if_neg c_131).trans (if_neg c_143))).symm, hx2⟩
              | exact ⟨_, rfl, _, rfl, (ho.trans ((if_neg c_131).trans (if_pos c_143))).symm, hx2⟩
              | exact ⟨_, rfl, _, rfl, (ho.trans (if_pos c_131)).symm, hx2⟩
            · refine G.iload_n3 dX6_hush_146 ?_
              refine G.goto (tgt := 152) dX6_hush_147 (by decide) ?_
              refine G.ireturn dX6_hush_152 ?_
              first
              | exact ⟨_, rfl, _, rfl, (ho.trans ((if_neg c_131).trans (if_neg c_143))).symm, hx2⟩
              | exact ⟨_, rfl, _, rfl, (ho.trans ((if_neg c_131).trans (if_pos c_143))).symm, hx2⟩
              | exact ⟨_, rfl, _, rfl, (ho.trans (if_pos c_131)).symm, hx2⟩
          · refine G.iload_n3 dX6_hush_134 ?_
            refine G.scall (f' := fX6_ones) q2336 ck_X6_ones (c_X6_ones j (by omega)) dX6_hush_135 (sI.k fun r_135 h_135 => ?_)
            replace h_135 := h_135.symm; subst h_135
            refine G.goto (tgt := 152) dX6_hush_138 (by decide) ?_
            refine G.ireturn dX6_hush_152 ?_
            first
            | exact ⟨_, rfl, _, rfl, (ho.trans ((if_neg c_131).trans (if_neg c_143))).symm, hx2⟩
            | exact ⟨_, rfl, _, rfl, (ho.trans ((if_neg c_131).trans (if_pos c_143))).symm, hx2⟩
            | exact ⟨_, rfl, _, rfl, (ho.trans (if_pos c_131)).symm, hx2⟩
      have g33 : ∀ d z (B : Option Nat × Nat) (M2 : MM) (hu : Nat) (a6 : Option Value), z + d = 3 → (B.1 = none → B.2 = 0) → (∀ j, B.1 = some j → j < 1024) → (B.1 ≠ none ∨ z = 3 → hushAll K n w = B) → (B.1 = none → ∀ y, y < z → (hushRow K n w y (1 <<< n)).1 = none) → M2.2.2.1 2 = K → nOk K n 0 hu M2 → mN M M2 → G E fX6_hush (mFin E fX6_hush L ph (rI fun r M' => r = o ∧ mN M M')) 33 [some (.ref (L.1 52)), some (.int (nI w)), some (.int what), some (.int (oI B.1)), some (.int (nI B.2)), some (.int (nI z)), a6] [] (movl L M2 ph) 0 0 := by
        intro d
        induction d with
        | zero =>
          intro z B M2 hu a6 hz h0 hj hB hp e2 hn2 hx2
          refine G.iload5 dX6_hush_33 ?_
          refine G.iconst (v := nI 3) dX6_hush_35 (by decide) ?_
          refine G.icmp_ge (tgt := 121) dX6_hush_36 (by decide) (fun c_36 => ?_) (fun c_36 => ?_)
          · exact k121 B M2 _ _ (hB (Or.inr (by omega))) hj hx2
          · exact absurd (nI_leI (by omega) (by omega) |>.mpr (by omega)) c_36
        | succ d ih =>
          intro z B M2 hu a6 hz h0 hj hB hp e2 hn2 hx2
          obtain ⟨B1, B2⟩ := B
          cases B1 with
          | some j =>
            have hjj := hj j rfl
            have hne : ¬ nI j = -1 := fun z => by rw [i_eq, t_nI (by omega), t_m1] at z; omega
            refine G.iload5 dX6_hush_33 ?_
            refine G.iconst (v := nI 3) dX6_hush_35 (by decide) ?_
            refine G.icmp_ge (tgt := 121) dX6_hush_36 (by decide) (fun c_36 => ?_) (fun c_36 => ?_)
            · exact absurd ((nI_leI (by omega) (by omega)).mp c_36) (by omega)
            · refine G.iload_n3 dX6_hush_39 ?_
              refine G.iconst (v := -1) dX6_hush_40 (by decide) ?_
              refine G.icmp_ne (tgt := 121) dX6_hush_41 (by decide) (fun c_41 => ?_) (fun c_41 => absurd c_41 (by exact hne))
              exact k121 (some j, B2) M2 _ _ (hB (Or.inl (by simp))) hj hx2
          | none =>
            have hB2 : B2 = 0 := h0 rfl
            subst hB2
            have hgo := fun B M2 hu a6 => ih (z + 1) B M2 hu a6 (by omega)
            clear ih
            have inner : ∀ d2 s (M3 : MM) (hu : Nat), s + d2 = 1 <<< n → M3.2.2.1 2 = K → nOk K n 0 hu M3 → mN M M3 → G E fX6_hush (mFin E fX6_hush L ph (rI fun r M' => r = o ∧ mN M M')) 47 [some (.ref (L.1 52)), some (.int (nI w)), some (.int what), some (.int (oI (hushRow K n w z s).1)), some (.int (nI (hushRow K n w z s).2)), some (.int (nI z)), some (.int (nI s))] [] (movl L M3 ph) 0 0 := by
              intro d2
              induction d2 with
              | zero =>
                intro s M3 hu3 hs e3 hn3 hx3
                obtain ⟨b1, b2, b3⟩ := hushRow_b (K := K) (n := n) (x := w) (size := z) (1 <<< n)
                rw [show s = 1 <<< n from by omega]
                refine G.iload6 dX6_hush_47 ?_
                refine G.iconst (v := nI 1) dX6_hush_49 (by decide) ?_
                refine G.aload_n0 dX6_hush_50 ?_
                refine G.mcall (f' := fX6_people) q1938 ck_X6_people (c_X6_people E L _ ph) dX6_hush_51 (rI.k fun r_51 M_51 h_51 => ?_)
                obtain ⟨e_51, h_51⟩ := h_51; replace e_51 := e_51.symm; replace h_51 := h_51.symm; subst e_51; subst h_51
                rw [e3, hK.1.2]
                refine G.ishl dX6_hush_54 ?_
                rw [b_shl (by omega)]
                refine G.icmp_ge (tgt := 115) dX6_hush_55 (by decide) (fun c_55 => ?_) (fun c_55 => ?_)
                · refine G.iinc5 dX6_hush_115 ?_
                  try rw [show ∀ a : Nat, nI a + Int32.ofInt 1 = nI (a + 1) from fun a => nI_add a 1]
                  refine G.goto (tgt := 33) dX6_hush_118 (by decide) ?_
                  refine hgo _ M3 hu3 _ b2 (fun j q => by have := b1 j q; omega) (fun q => ?_) (fun q y hy => ?_) e3 hn3 hx3
                  · have hp' := hp rfl
                    unfold hushAll
                    rcases (show z = 0 ∨ z = 1 ∨ z = 2 from by omega) with rfl | rfl | rfl
                    · rw [if_neg (q.resolve_right (by omega))]
                    · rw [if_pos (hp' 0 (by omega)), if_neg (q.resolve_right (by omega))]
                    · rw [if_pos (hp' 0 (by omega)), if_pos (hp' 1 (by omega))]
                  · rcases Nat.lt_or_ge y z with r | r
                    · exact hp rfl y r
                    · rw [show y = z from by omega]; exact q
                · exact absurd (nI_leI (by omega) (by omega) |>.mpr (by omega)) c_55
              | succ d2 ih2 =>
                intro s M3 hu3 hs e3 hn3 hx3
                obtain ⟨b1, b2, b3⟩ := hushRow_b (K := K) (n := n) (x := w) (size := z) s
                have hgo2 := fun M3 hu => ih2 (s + 1) M3 hu (by omega)
                clear ih2
                have hs2 : s < 1024 := by omega
                have hzo := zOnes_le (c := s) 10
                refine G.iload6 dX6_hush_47 ?_
                refine G.iconst (v := nI 1) dX6_hush_49 (by decide) ?_
                refine G.aload_n0 dX6_hush_50 ?_
                refine G.mcall (f' := fX6_people) q1938 ck_X6_people (c_X6_people E L _ ph) dX6_hush_51 (rI.k fun r_51 M_51 h_51 => ?_)
                obtain ⟨e_51, h_51⟩ := h_51; replace e_51 := e_51.symm; replace h_51 := h_51.symm; subst e_51; subst h_51
                rw [e3, hK.1.2]
                refine G.ishl dX6_hush_54 ?_
                rw [b_shl (by omega)]
                refine G.icmp_ge (tgt := 115) dX6_hush_55 (by decide) (fun c_55 => ?_) (fun c_55 => ?_)
                · exact absurd ((nI_leI (by omega) (by omega)).mp c_55) (by omega)
                · refine G.iload6 dX6_hush_58 ?_
                  refine G.scall (f' := fX6_ones) q2336 ck_X6_ones (c_X6_ones s (by omega)) dX6_hush_60 (sI.k fun r_60 h_60 => ?_)
                  replace h_60 := h_60.symm; subst h_60
                  refine G.iload5 dX6_hush_63 ?_
                  refine G.icmp_eq (tgt := 71) dX6_hush_65 (by decide) (fun c_65 => ?_) (fun c_65 => ?_)
                  · have n_65 : zOnes s 10 = z := (nI_inj (a := zOnes s 10) (b := z) (by omega) (by omega)).mp c_65
                    refine G.aload_n0 dX6_hush_71 ?_
                    refine G.iload6 dX6_hush_72 ?_
                    refine G.mputi 35 fp_X6_358 dX6_hush_74 ?_
                    refine G.aload_n0 dX6_hush_77 ?_
                    refine G.mcall (f' := fX6_forgets) q2248 ck_X6_forgets (c_X6_forgets) dX6_hush_78 (rV.k fun M_78 h_78 => ?_)
                    obtain ⟨f1, f2⟩ := h_78
                    refine G.aload_n0 dX6_hush_81 ?_
                    refine G.iconst (v := nI 0) dX6_hush_82 (by decide) ?_
                    refine G.iconst (v := nI 0) dX6_hush_83 (by decide) ?_
                    refine G.mcall (f' := fX6_longestFrom (911)) q2252 (ck_X6_longestFrom _) (c_lg0 (M := M_78) (away := 0) (hushed := s) hK (by decide) hs2 ((f2.2.2.1 2 (by decide)).trans e3) ((nOk_hush hn3).mv (f2.mono (by simp) (by simp))) f1) dX6_hush_84 (rI.k fun r_84 M_84 h_84 => ?_)
                    have er2 := h_84.1
                    have p1 := h_84.2.1
                    have p2 := h_84.2.2.1
                    have p5 : mN M M_84 := ((hx3.ms (by decide)).tr f2 (by simp) (by simp)).tr h_84.2.2.2 (by simp) (by simp)
                    clear h_84
                    have hll := lgN_le (ok := zOk K n 0 s) 11 0 0
                    rw [er2]
                    refine G.iload_n1 dX6_hush_87 ?_
                    refine G.icmp_ge (tgt := 94) dX6_hush_88 (by decide) (fun c_88 => ?_) (fun c_88 => ?_)
                    · have n_88 : w ≤ lgN (zOk K n 0 s) 11 0 0 := (nI_leI (a := w) (b := lgN (zOk K n 0 s) 11 0 0) (by omega) (by omega)).mp c_88
                      refine G.iload_n3 dX6_hush_94 ?_
                      refine G.iconst (v := -1) dX6_hush_95 (by decide) ?_
                      refine G.icmp_ne (tgt := 104) dX6_hush_96 (by decide) (fun c_96 => ?_) (fun c_96 => ?_)
                      · have hb : ∃ j, (hushRow K n w z s).1 = some j := by
                          cases h9 : (hushRow K n w z s).1 with
                          | none => rw [h9] at c_96; exact absurd rfl c_96
                          | some j => exact ⟨j, rfl⟩
                        obtain ⟨j, hb⟩ := hb
                        refine G.iload_n3 dX6_hush_104 ?_
                        refine G.istore_n3 dX6_hush_105 ?_
                        refine G.iinc4 dX6_hush_106 ?_
                        try rw [show ∀ a : Nat, nI a + Int32.ofInt 1 = nI (a + 1) from fun a => nI_add a 1]
                        refine G.iinc6 dX6_hush_109 ?_
                        try rw [show ∀ a : Nat, nI a + Int32.ofInt 1 = nI (a + 1) from fun a => nI_add a 1]
                        refine G.goto (tgt := 47) dX6_hush_112 (by decide) ?_
                        first
                          | (have := hgo2 M_84 _ p2 p1 p5
                             rw [hushRow, if_pos ⟨n_65, n_88⟩, hb] at this
                             rw [hb]
                             exact this)
                          | (have := hgo2 M_84 _ p2 p1 p5
                             rw [hushRow, if_pos ⟨n_65, n_88⟩, hb] at this
                             exact this)
                          | (have := hgo2 M_84 _ p2 p1 p5
                             rw [hushRow, if_neg (fun q => absurd q.2 (by omega))] at this
                             exact this)
                          | (have := hgo2 M3 _ e3 hn3 hx3
                             rw [hushRow, if_neg (fun q => n_65 q.1)] at this
                             exact this)
                      · have hb : (hushRow K n w z s).1 = none := (oI_m1 (fun j q => by have := b1 j q; omega)).mp c_96
                        refine G.iload6 dX6_hush_99 ?_
                        refine G.goto (tgt := 105) dX6_hush_101 (by decide) ?_
                        refine G.istore_n3 dX6_hush_105 ?_
                        refine G.iinc4 dX6_hush_106 ?_
                        try rw [show ∀ a : Nat, nI a + Int32.ofInt 1 = nI (a + 1) from fun a => nI_add a 1]
                        refine G.iinc6 dX6_hush_109 ?_
                        try rw [show ∀ a : Nat, nI a + Int32.ofInt 1 = nI (a + 1) from fun a => nI_add a 1]
                        refine G.goto (tgt := 47) dX6_hush_112 (by decide) ?_
                        first
                          | (have := hgo2 M_84 _ p2 p1 p5
                             rw [hushRow, if_pos ⟨n_65, n_88⟩, hb] at this
                             rw [hb]
                             exact this)
                          | (have := hgo2 M_84 _ p2 p1 p5
                             rw [hushRow, if_pos ⟨n_65, n_88⟩, hb] at this
                             exact this)
                          | (have := hgo2 M_84 _ p2 p1 p5
                             rw [hushRow, if_neg (fun q => absurd q.2 (by omega))] at this
                             exact this)
                          | (have := hgo2 M3 _ e3 hn3 hx3
                             rw [hushRow, if_neg (fun q => n_65 q.1)] at this
                             exact this)
                    · have n_88 : lgN (zOk K n 0 s) 11 0 0 < w := Nat.lt_of_not_le (fun z => c_88 ((nI_leI (a := w) (b := lgN (zOk K n 0 s) 11 0 0) (by omega) (by omega)).mpr z))
                      refine G.goto (tgt := 109) dX6_hush_91 (by decide) ?_
                      refine G.iinc6 dX6_hush_109 ?_
                      try rw [show ∀ a : Nat, nI a + Int32.ofInt 1 = nI (a + 1) from fun a => nI_add a 1]
                      refine G.goto (tgt := 47) dX6_hush_112 (by decide) ?_
                      first
                        | (have := hgo2 M_84 _ p2 p1 p5
                           rw [hushRow, if_pos ⟨n_65, n_88⟩, hb] at this
                           rw [hb]
                           exact this)
                        | (have := hgo2 M_84 _ p2 p1 p5
                           rw [hushRow, if_pos ⟨n_65, n_88⟩, hb] at this
                           exact this)
                        | (have := hgo2 M_84 _ p2 p1 p5
                           rw [hushRow, if_neg (fun q => absurd q.2 (by omega))] at this
                           exact this)
                        | (have := hgo2 M3 _ e3 hn3 hx3
                           rw [hushRow, if_neg (fun q => n_65 q.1)] at this
                           exact this)
                  · have n_65 : ¬ zOnes s 10 = z := fun z => c_65 (congrArg nI z)
                    refine G.goto (tgt := 109) dX6_hush_68 (by decide) ?_
                    refine G.iinc6 dX6_hush_109 ?_
                    try rw [show ∀ a : Nat, nI a + Int32.ofInt 1 = nI (a + 1) from fun a => nI_add a 1]
                    refine G.goto (tgt := 47) dX6_hush_112 (by decide) ?_
                    first
                      | (have := hgo2 M_84 _ p2 p1 p5
                         rw [hushRow, if_pos ⟨n_65, n_88⟩, hb] at this
                         rw [hb]
                         exact this)
                      | (have := hgo2 M_84 _ p2 p1 p5
                         rw [hushRow, if_pos ⟨n_65, n_88⟩, hb] at this
                         exact this)
                      | (have := hgo2 M_84 _ p2 p1 p5
                         rw [hushRow, if_neg (fun q => absurd q.2 (by omega))] at this
                         exact this)
                      | (have := hgo2 M3 _ e3 hn3 hx3
                         rw [hushRow, if_neg (fun q => n_65 q.1)] at this
                         exact this)
            refine G.iload5 dX6_hush_33 ?_
            refine G.iconst (v := nI 3) dX6_hush_35 (by decide) ?_
            refine G.icmp_ge (tgt := 121) dX6_hush_36 (by decide) (fun c_36 => ?_) (fun c_36 => ?_)
            · exact absurd ((nI_leI (by omega) (by omega)).mp c_36) (by omega)
            · refine G.iload_n3 dX6_hush_39 ?_
              refine G.iconst (v := -1) dX6_hush_40 (by decide) ?_
              refine G.icmp_ne (tgt := 121) dX6_hush_41 (by decide) (fun c_41 => absurd c_41 (by exact fun z => z rfl)) (fun c_41 => ?_)
              refine G.iconst (v := nI 0) dX6_hush_44 (by decide) ?_
              refine G.istore6 dX6_hush_45 ?_
              exact inner (1 <<< n) 0 M2 hu (by omega) e2 hn2 hx2
      exact g33 3 0 (none, 0) M_22 0 none rfl (fun _ => rfl) (fun j h => (by cases h)) (fun h => h.elim (fun z => absurd rfl z) (fun z => absurd z (by decide))) (fun _ y hy => absurd hy (by omega)) g3 g1 g4
    · refine G.iconst (v := -1) dX6_hush_19 (by decide) ?_
      refine G.ireturn dX6_hush_20 ?_
      first
      | exact ⟨_, rfl, _, rfl, (if_neg (fun z => of_decide_eq_false c_7 z.1)).symm, mX.rf⟩
      | exact ⟨_, rfl, _, rfl, (if_neg (fun z => of_decide_eq_false c_16 z.2)).symm, mX.rf⟩
end Hush
