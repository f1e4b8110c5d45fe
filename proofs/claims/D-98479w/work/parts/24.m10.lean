/-! THE MODEL'S CALLS WITH LOOPS -/
section Loops
variable {E : JE} {L : ML} {ph : HP}
def tAt (w : Nat) : Nat := if w = 0 then 33 else 253 + w
def tHi (w : Nat) : Nat := if w = 0 then 999 else if w = 1 then 10 else 9
def anyRoad (K : KR) (n : Nat) : Bool := (List.range n).any (fun p => decide (K p = nI 1))
theorem anyRoad_t {K : KR} {n p : Nat} (hp : p < n) (h : K p = nI 1) : anyRoad K n = true := List.any_eq_true.mpr ⟨p, List.mem_range.mpr hp, decide_eq_true h⟩
theorem anyRoad_f {K : KR} {n : Nat} (h : ∀ p, p < n → ¬ K p = nI 1) : ¬ anyRoad K n = true := by
  intro z
  obtain ⟨p, hp, e⟩ := List.any_eq_true.mp z
  exact h p (List.mem_range.mp hp) (of_decide_eq_true e)
def oTerms (M : MM) (n : Nat) (what v : Int32) : Int32 × MM := if zIn what 0 2 ∧ zIn v 0 (tHi (tNat what)) then (if what = nI 0 ∧ anyRoad (M.2.2.1 2) n = true then sNo M 3 else (M.2.2.1 2 (tAt (tNat what)), sSet (ma M 2 (tAt (tNat what)) v))) else sNo M 1
theorem c_X6_terms {M : MM} {n : Nat} (hn : n ≤ 10) (hM : M.2.2.1 2 256 = nI n) (what v : Int32) : MC E fX6_terms L M ph [.int what, .int v] (rI fun r M' => (r, M') = oTerms M n what v) := by
  refine Ct.of [some (.ref (L.1 52)), some (.int what), some (.int v), none, none] rfl (Nat.le_of_ble_eq_true rfl) (show plainName RX6 = true by decide +kernel) rfl ?_
  have k33 : ∀ w hi, w ≤ 2 → what = nI w → hi = tHi w → G E fX6_terms (mFin E fX6_terms L ph (rI fun r M' => (r, M') = oTerms M n what v)) 33 [some (.ref (L.1 52)), some (.int what), some (.int v), none, none] [.int (nI hi), .int (nI 0), .int v] (movl L M ph) 0 0 := by
    intro w hi hw e1 e2
    subst e1
    have hz : zIn (nI w) 0 2 := by unfold zIn; rw [t_nI (by omega), t_nI (by omega), t_nI (by omega)]; omega
    refine G.scall (f' := fX6_lies) q1912 ck_X6_lies (c_X6_lies E _ _ _) dX6_terms_33 (sI.k fun r_33 h_33 => ?_)
    replace h_33 := h_33.symm; subst h_33
    refine G.ifb_ne (tgt := 45) dX6_terms_36 (by decide) (fun c_36 => ?_) (fun c_36 => ?_)
    · have q := of_decide_eq_true c_36
      subst e2
      have hz2 : zIn (nI w) 0 2 ∧ zIn v 0 (tHi (tNat (nI w))) := ⟨hz, by rw [tNat_nI (by omega)]; exact q⟩
      refine G.iconst (v := nI 0) dX6_terms_45 (by decide) ?_
      refine G.istore_n3 dX6_terms_46 ?_
      have k84 : (¬ (nI w = nI 0 ∧ anyRoad (M.2.2.1 2) n = true)) → ∀ a3, G E fX6_terms (mFin E fX6_terms L ph (rI fun r M' => (r, M') = oTerms M n (nI w) v)) 84 [some (.ref (L.1 52)), some (.int (nI w)), some (.int v), some (.int a3), none] [] (movl L M ph) 0 0 := by
        intro hno a3
        have k100 : ∀ at_, at_ = tAt w → G E fX6_terms (mFin E fX6_terms L ph (rI fun r M' => (r, M') = oTerms M n (nI w) v)) 100 [some (.ref (L.1 52)), some (.int (nI w)), some (.int v), some (.int a3), none] [.int (nI at_)] (movl L M ph) 0 0 := by
          intro at_ hat
          have hl : at_ < 5866 := by rw [hat]; unfold tAt; split <;> omega
          refine G.istore_n3 dX6_terms_100 ?_
          refine G.aload_n0 dX6_terms_101 ?_
          refine G.mgeta 2 fl_X6_24 dX6_terms_102 ?_
          refine G.iload_n3 dX6_terms_105 ?_
          refine G.miald (n := 5866) 2 at_ dX6_terms_106 rfl (by omega) ?_
          refine G.istore4 dX6_terms_107 ?_
          refine G.aload_n0 dX6_terms_109 ?_
          refine G.mgeta 2 fl_X6_24 dX6_terms_110 ?_
          refine G.iload_n3 dX6_terms_113 ?_
          refine G.iload_n2 dX6_terms_114 ?_
          refine G.miast (n := 5866) 2 at_ dX6_terms_115 rfl (by omega) ?_
          refine G.aload_n0 dX6_terms_116 ?_
          refine G.iload4 dX6_terms_117 ?_
          refine G.mcall (f' := fX6_settled) q1927 ck_X6_settled (c_X6_settled E L _ ph _) dX6_terms_119 (rI.k fun r_119 M_119 h_119 => ?_)
          obtain ⟨e_119, h_119⟩ := h_119; replace e_119 := e_119.symm; replace h_119 := h_119.symm; subst e_119; subst h_119
          refine G.ireturn dX6_terms_122 ?_
          exact oFin ((if_pos hz2).trans ((if_neg hno).trans (by rw [tNat_nI (by omega), ← hat]; rfl)))
        refine G.iload_n1 dX6_terms_84 ?_
        refine G.if_ne (tgt := 93) dX6_terms_85 (by decide) (fun c_85 => ?_) (fun c_85 => ?_)
        · have n_85 : ¬ w = 0 := fun z => c_85 (congrArg nI z)
          refine G.sipush (v := nI 254) dX6_terms_93 (by decide) ?_
          refine G.iload_n1 dX6_terms_96 ?_
          first | with_reducible refine G.iaddn dX6_terms_97 ?_ | refine G.iadd dX6_terms_97 ?_
          refine G.iconst (v := nI 1) dX6_terms_98 (by decide) ?_
          refine G.isub dX6_terms_99 ?_
          first
          | exact k100 33 (by unfold tAt; rw [if_pos n_85])
          | (rw [pk_sub (show 1 ≤ 254 + w from by omega)]; exact k100 (254 + w - 1) (by unfold tAt; rw [if_neg n_85]; omega))
        · have n_85 : w = 0 := (nI_inj (by omega) (by omega)).mp c_85
          refine G.bipush (v := nI 33) dX6_terms_88 (by decide) ?_
          refine G.goto (tgt := 100) dX6_terms_90 (by decide) ?_
          first
          | exact k100 33 (by unfold tAt; rw [if_pos n_85])
          | (rw [pk_sub (show 1 ≤ 254 + w from by omega)]; exact k100 (254 + w - 1) (by unfold tAt; rw [if_neg n_85]; omega))
      have loop : ∀ d i, i + d = n → (∀ p, p < i → ¬ M.2.2.1 2 p = nI 1) → G E fX6_terms (mFin E fX6_terms L ph (rI fun r M' => (r, M') = oTerms M n (nI w) v)) 47 [some (.ref (L.1 52)), some (.int (nI w)), some (.int v), some (.int (nI i)), none] [] (movl L M ph) 0 0 := by
        intro d
        induction d with
        | zero =>
          intro i hi hno
          refine G.iload_n3 dX6_terms_47 ?_
          refine G.aload_n0 dX6_terms_48 ?_
          refine G.mcall (f' := fX6_people) q1938 ck_X6_people (c_X6_people E L M ph) dX6_terms_49 (rI.k fun r_49 M_49 h_49 => ?_)
          obtain ⟨e_49, h_49⟩ := h_49; replace e_49 := e_49.symm; replace h_49 := h_49.symm; subst e_49; subst h_49
          rw [hM]
          refine G.icmp_ge (tgt := 84) dX6_terms_52 (by decide) (fun c_52 => ?_) (fun c_52 => ?_)
          · exact k84 (fun z => anyRoad_f (fun p hp => hno p (by omega)) z.2) _
          · exact absurd (nI_leI (by omega) (by omega) |>.mpr (by omega)) c_52
        | succ d ih =>
          intro i hi hno
          refine G.iload_n3 dX6_terms_47 ?_
          refine G.aload_n0 dX6_terms_48 ?_
          refine G.mcall (f' := fX6_people) q1938 ck_X6_people (c_X6_people E L M ph) dX6_terms_49 (rI.k fun r_49 M_49 h_49 => ?_)
          obtain ⟨e_49, h_49⟩ := h_49; replace e_49 := e_49.symm; replace h_49 := h_49.symm; subst e_49; subst h_49
          rw [hM]
          refine G.icmp_ge (tgt := 84) dX6_terms_52 (by decide) (fun c_52 => ?_) (fun c_52 => ?_)
          · exact absurd ((nI_leI (by omega) (by omega)).mp c_52) (by omega)
          · refine G.iload_n1 dX6_terms_55 ?_
            refine G.if_ne (tgt := 84) dX6_terms_56 (by decide) (fun c_56 => ?_) (fun c_56 => ?_)
            · exact k84 (fun z => c_56 z.1) _
            · refine G.aload_n0 dX6_terms_59 ?_
              refine G.mgeta 2 fl_X6_24 dX6_terms_60 ?_
              refine G.iconst (v := nI 0) dX6_terms_63 (by decide) ?_
              refine G.iload_n3 dX6_terms_64 ?_
              first | with_reducible refine G.iaddn dX6_terms_65 ?_ | refine G.iadd dX6_terms_65 ?_
              refine G.miald (n := 5866) 2 i dX6_terms_66 (congrArg nI (Nat.zero_add i)) (by omega) ?_
              refine G.iconst (v := nI 1) dX6_terms_67 (by decide) ?_
              refine G.icmp_ne (tgt := 78) dX6_terms_68 (by decide) (fun c_68 => ?_) (fun c_68 => ?_)
              · refine G.iinc3 dX6_terms_78 ?_
                try rw [show ∀ a : Nat, nI a + Int32.ofInt 1 = nI (a + 1) from fun a => nI_add a 1]
                refine G.goto (tgt := 47) dX6_terms_81 (by decide) ?_
                refine ih (i + 1) (by omega) (fun p hp e => ?_)
                rcases Nat.lt_or_ge p i with y | y
                · exact hno p y e
                · rw [show p = i from by omega] at e; exact c_68 e
              · refine G.aload_n0 dX6_terms_71 ?_
                refine G.bipush (v := -3) dX6_terms_72 (by decide) ?_
                refine G.mcall (f' := fX6_refuses) q1915 ck_X6_refuses (c_X6_refuses E L M ph (k := 3) (by decide)) dX6_terms_74 (rI.k fun r_74 M_74 h_74 => ?_)
                obtain ⟨e_74, h_74⟩ := h_74; replace e_74 := e_74.symm; replace h_74 := h_74.symm; subst e_74; subst h_74
                refine G.ireturn dX6_terms_77 ?_
                exact oFin ((if_pos hz2).trans ((if_pos ⟨c_56, anyRoad_t (by omega) c_68⟩).trans rfl))
      exact loop n 0 (by omega) (fun p hp => absurd hp (by omega))
    · refine G.aload_n0 dX6_terms_39 ?_
      refine G.iconst (v := -1) dX6_terms_40 (by decide) ?_
      refine G.mcall (f' := fX6_refuses) q1915 ck_X6_refuses (c_X6_refuses E L M ph (k := 1) (by decide)) dX6_terms_41 (rI.k fun r_41 M_41 h_41 => ?_)
      obtain ⟨e_41, h_41⟩ := h_41; replace e_41 := e_41.symm; replace h_41 := h_41.symm; subst e_41; subst h_41
      refine G.ireturn dX6_terms_44 ?_
      have q := of_decide_eq_false c_36
      subst e2
      exact oFin ((if_neg (fun z => q (by rw [tNat_nI (by omega)] at z; exact z.2))).trans rfl)
  refine G.iload_n1 dX6_terms_0 ?_
  refine G.iconst (v := nI 0) dX6_terms_1 (by decide) ?_
  refine G.iconst (v := nI 2) dX6_terms_2 (by decide) ?_
  refine G.scall (f' := fX6_lies) q1912 ck_X6_lies (c_X6_lies E _ _ _) dX6_terms_3 (sI.k fun r_3 h_3 => ?_)
  replace h_3 := h_3.symm; subst h_3
  refine G.ifb_eq (tgt := 39) dX6_terms_6 (by decide) (fun c_6 => ?_) (fun c_6 => ?_)
  · refine G.aload_n0 dX6_terms_39 ?_
    refine G.iconst (v := -1) dX6_terms_40 (by decide) ?_
    refine G.mcall (f' := fX6_refuses) q1915 ck_X6_refuses (c_X6_refuses E L M ph (k := 1) (by decide)) dX6_terms_41 (rI.k fun r_41 M_41 h_41 => ?_)
    obtain ⟨e_41, h_41⟩ := h_41; replace e_41 := e_41.symm; replace h_41 := h_41.symm; subst e_41; subst h_41
    refine G.ireturn dX6_terms_44 ?_
    exact oFin ((if_neg (fun z => of_decide_eq_false c_6 z.1)).trans rfl)
  · have q6 := of_decide_eq_true c_6
    obtain ⟨w, hw, e1⟩ := zIn_of q6 (by decide)
    refine G.iload_n2 dX6_terms_9 ?_
    refine G.iconst (v := nI 0) dX6_terms_10 (by decide) ?_
    refine G.iload_n1 dX6_terms_11 ?_
    refine G.if_ne (tgt := 21) dX6_terms_12 (by decide) (fun c_12 => ?_) (fun c_12 => ?_)
    · refine G.iload_n1 dX6_terms_21 ?_
      refine G.iconst (v := nI 1) dX6_terms_22 (by decide) ?_
      refine G.icmp_ne (tgt := 31) dX6_terms_23 (by decide) (fun c_23 => ?_) (fun c_23 => ?_)
      · refine G.bipush (v := nI 9) dX6_terms_31 (by decide) ?_
        first
        | exact k33 w 999 hw e1 (by have : w = 0 := (nI_inj (by omega) (by omega)).mp (e1.symm.trans c_12)
                                    rw [this]; rfl)
        | exact k33 w 10 hw e1 (by have : w = 1 := (nI_inj (by omega) (by omega)).mp (e1.symm.trans c_23)
                                   rw [this]; rfl)
        | exact k33 w 9 hw e1 (by unfold tHi; rw [if_neg (fun z => c_12 (by rw [e1, z]; rfl)), if_neg (fun z => c_23 (by rw [e1, z]))])
      · refine G.bipush (v := nI 10) dX6_terms_26 (by decide) ?_
        refine G.goto (tgt := 33) dX6_terms_28 (by decide) ?_
        first
        | exact k33 w 999 hw e1 (by have : w = 0 := (nI_inj (by omega) (by omega)).mp (e1.symm.trans c_12)
                                    rw [this]; rfl)
        | exact k33 w 10 hw e1 (by have : w = 1 := (nI_inj (by omega) (by omega)).mp (e1.symm.trans c_23)
                                   rw [this]; rfl)
        | exact k33 w 9 hw e1 (by unfold tHi; rw [if_neg (fun z => c_12 (by rw [e1, z]; rfl)), if_neg (fun z => c_23 (by rw [e1, z]))])
    · refine G.sipush (v := nI 999) dX6_terms_15 (by decide) ?_
      refine G.goto (tgt := 33) dX6_terms_18 (by decide) ?_
      first
      | exact k33 w 999 hw e1 (by have : w = 0 := (nI_inj (by omega) (by omega)).mp (e1.symm.trans c_12)
                                  rw [this]; rfl)
      | exact k33 w 10 hw e1 (by have : w = 1 := (nI_inj (by omega) (by omega)).mp (e1.symm.trans c_23)
                                 rw [this]; rfl)
      | exact k33 w 9 hw e1 (by unfold tHi; rw [if_neg (fun z => c_12 (by rw [e1, z]; rfl)), if_neg (fun z => c_23 (by rw [e1, z]))])
theorem upd_upd {f : Nat → Int32} {k : Nat} {a b : Int32} : upd (upd f k a) k b = upd f k b := by
  funext i
  by_cases h : i = k
  · subst h; rw [pk_us, pk_us]
  · rw [pk_un h, pk_un h, pk_un h]
theorem ms_ms {M : MM} {k : Nat} {a b : Int32} : ms (ms M k a) k b = ms M k b := by
  unfold ms
  rw [upd_upd]
/-- one of a row of three bytes each: a person, or salt -/
def rowStep (T : Nat → Int32) (i : Nat) (s : MM × Nat × Nat) : MM × Nat × Nat := if ((0 ≤ (T i).toInt ∧ (T i).toInt ≤ 30) ∧ (0 ≤ (T (i + 1)).toInt ∧ (T (i + 1)).toInt ≤ 3)) ∧ zIn (T (i + 2)) 0 2 ∧ kN (s.1.2.2.1 2) < 10 then (sAdd s.1 (kN (s.1.2.2.1 2)) (T i) (T (i + 1)) (T (i + 2)), s.2.1 + 1, s.2.2) else (s.1, s.2.1, s.2.2 + 1)
def rowRun (T : Nat → Int32) (s : MM × Nat × Nat) : Nat → MM × Nat × Nat
  | 0 => s
  | j + 1 => rowStep T (3 * j) (rowRun T s j)
def oRow (M : MM) (size : Nat) : Int32 × MM := if size = 0 then sNo (ms M 13 (nI 0)) 6 else (nI (rowRun (M.2.2.1 11) (ms M 13 (nI 0), 0, if size % 3 = 0 then 0 else 1) (size / 3)).2.1, sSet (ms (rowRun (M.2.2.1 11) (ms M 13 (nI 0), 0, if size % 3 = 0 then 0 else 1) (size / 3)).1 6 (nI (rowRun (M.2.2.1 11) (ms M 13 (nI 0), 0, if size % 3 = 0 then 0 else 1) (size / 3)).2.2)))
theorem rowStep_ok {T : Nat → Int32} {i : Nat} {s : MM × Nat × Nat} (h : ∃ n, n ≤ 10 ∧ s.1.2.2.1 2 256 = nI n) (h11 : s.1.2.2.1 11 = T) : (∃ n, n ≤ 10 ∧ (rowStep T i s).1.2.2.1 2 256 = nI n) ∧ (rowStep T i s).1.2.2.1 11 = T := by
  unfold rowStep
  split
  · rename_i q
    obtain ⟨n, hn, e⟩ := h
    have e2 : kN (s.1.2.2.1 2) = n := by unfold kN; rw [e, tNat_nI (by omega)]
    rw [e2] at q ⊢
    exact ⟨⟨n + 1, by omega, sAdd_n⟩, h11⟩
  · exact ⟨h, h11⟩
theorem rowRun_ok {T : Nat → Int32} {s : MM × Nat × Nat} (h : ∃ n, n ≤ 10 ∧ s.1.2.2.1 2 256 = nI n) (h11 : s.1.2.2.1 11 = T) : ∀ j, (∃ n, n ≤ 10 ∧ (rowRun T s j).1.2.2.1 2 256 = nI n) ∧ (rowRun T s j).1.2.2.1 11 = T
  | 0 => ⟨h, h11⟩
  | j + 1 => rowStep_ok (rowRun_ok h h11 j).1 (rowRun_ok h h11 j).2
theorem c_X6_row {M : MM} {n size : Nat} (hn : n ≤ 10) (hM : M.2.2.1 2 256 = nI n) (hs : size ≤ 400) (hsz : M.1 13 = nI size) : MC E fX6_row L M ph [] (rI fun r M' => (r, M') = oRow M size) := by
  refine Ct.of [some (.ref (L.1 52)), none, none, none, none] rfl (Nat.le_of_ble_eq_true rfl) (show plainName RX6 = true by decide +kernel) rfl ?_
  have key : ∀ d i a4, i + d = size / 3 → ¬ size = 0 → G E fX6_row (mFin E fX6_row L ph (rI fun r M' => (r, M') = oRow M size)) 40 [some (.ref (L.1 52)), some (.int (nI size)), some (.int (nI (rowRun (M.2.2.1 11) (ms M 13 (nI 0), 0, if size % 3 = 0 then 0 else 1) i).2.1)), some (.int (nI (3 * i))), a4] [] (movl L (ms (rowRun (M.2.2.1 11) (ms M 13 (nI 0), 0, if size % 3 = 0 then 0 else 1) i).1 6 (nI (rowRun (M.2.2.1 11) (ms M 13 (nI 0), 0, if size % 3 = 0 then 0 else 1) i).2.2)) ph) 0 0 := by
    intro d
    induction d with
    | zero =>
      intro i a4 hi h0
      refine G.iload_n3 dX6_row_40 ?_
      refine G.iconst (v := nI 3) dX6_row_41 (by decide) ?_
      first | with_reducible refine G.iaddn dX6_row_42 ?_ | refine G.iadd dX6_row_42 ?_
      refine G.iload_n1 dX6_row_43 ?_
      refine G.icmp_gt (tgt := 168) dX6_row_44 (by decide) (fun c_44 => ?_) (fun c_44 => ?_)
      · have n_44 : size < 3 * i + 3 := (nI_ltI (by omega) (by omega)).mp c_44
        refine G.aload_n0 dX6_row_168 ?_
        refine G.iload_n2 dX6_row_169 ?_
        refine G.mcall (f' := fX6_settled) q1927 ck_X6_settled (c_X6_settled E L _ ph _) dX6_row_170 (rI.k fun r_170 M_170 h_170 => ?_)
        obtain ⟨e_170, h_170⟩ := h_170; replace e_170 := e_170.symm; replace h_170 := h_170.symm; subst e_170; subst h_170
        refine G.ireturn dX6_row_173 ?_
        exact oFin (by unfold oRow; rw [if_neg h0, show i = size / 3 from by omega]; rfl)
      · exact absurd (Nat.le_of_not_lt (fun z => c_44 ((nI_ltI (by omega) (by omega)).mpr z))) (by omega)
    | succ d ih =>
      intro i a4 hi h0
      obtain ⟨⟨m, hm, e256⟩, e11⟩ := rowRun_ok (T := M.2.2.1 11) (s := (ms M 13 (nI 0), 0, if size % 3 = 0 then 0 else 1)) ⟨n, hn, hM⟩ rfl i
      have hnext : rowRun (M.2.2.1 11) (ms M 13 (nI 0), 0, if size % 3 = 0 then 0 else 1) (i + 1) = rowStep (M.2.2.1 11) (3 * i) (rowRun (M.2.2.1 11) (ms M 13 (nI 0), 0, if size % 3 = 0 then 0 else 1) i) := rfl
      have hgo := fun a4 => ih (i + 1) a4 (by omega) h0
      clear ih
      rw [hnext] at hgo
      generalize rowRun (M.2.2.1 11) (ms M 13 (nI 0), 0, if size % 3 = 0 then 0 else 1) i = S at *
      obtain ⟨A, c, s⟩ := S
      dsimp only at e256 e11 hgo ⊢
      have hkn : kN (A.2.2.1 2) = m := by unfold kN; rw [e256, tNat_nI (by omega)]
      have hyes : (((0 ≤ (M.2.2.1 11 (3 * i)).toInt ∧ (M.2.2.1 11 (3 * i)).toInt ≤ 30) ∧ (0 ≤ (M.2.2.1 11 (3 * i + 1)).toInt ∧ (M.2.2.1 11 (3 * i + 1)).toInt ≤ 3)) ∧ zIn (M.2.2.1 11 (3 * i + 2)) 0 2 ∧ m < 10) → rowStep (M.2.2.1 11) (3 * i) (A, c, s) = (sAdd A m (M.2.2.1 11 (3 * i)) (M.2.2.1 11 (3 * i + 1)) (M.2.2.1 11 (3 * i + 2)), c + 1, s) := by
        intro z
        unfold rowStep
        rw [if_pos (show _ from by rw [← hkn] at z; exact z)]
        dsimp only
        rw [hkn]
      have hnot : ¬ (((0 ≤ (M.2.2.1 11 (3 * i)).toInt ∧ (M.2.2.1 11 (3 * i)).toInt ≤ 30) ∧ (0 ≤ (M.2.2.1 11 (3 * i + 1)).toInt ∧ (M.2.2.1 11 (3 * i + 1)).toInt ≤ 3)) ∧ zIn (M.2.2.1 11 (3 * i + 2)) 0 2 ∧ m < 10) → rowStep (M.2.2.1 11) (3 * i) (A, c, s) = (A, c, s + 1) := by
        intro z
        unfold rowStep
        rw [if_neg (show _ from by rw [← hkn] at z; exact z)]
      rw [← e11] at hyes hnot hgo
      have k130 : ∀ (is : Bool) (A2 : MM) (c2 s2 : Nat), rowStep (A.2.2.1 11) (3 * i) (A, c, s) = (A2, c2, s2) → c2 = c + (if is then 1 else 0) → s2 = s + (if is then 0 else 1) → G E fX6_row (mFin E fX6_row L ph (rI fun r M' => (r, M') = oRow M size)) 130 [some (.ref (L.1 52)), some (.int (nI size)), some (.int (nI c)), some (.int (nI (3 * i))), some (.int (bI is))] [] (movl L (ms A2 6 (nI s)) ph) 0 0 := by
        intro is A2 c2 s2 h1 h2 h3
        have hgo' := hgo (some (.int (bI is)))
        rw [h1] at hgo'
        refine G.iload_n2 dX6_row_130 ?_
        refine G.iload4 dX6_row_131 ?_
        refine G.ifb_eq (tgt := 140) dX6_row_133 (by decide) (fun c_133 => ?_) (fun c_133 => ?_)
        · refine G.iconst (v := nI 0) dX6_row_140 (by decide) ?_
          first | with_reducible refine G.iaddn dX6_row_141 ?_ | refine G.iadd dX6_row_141 ?_
          refine G.istore_n2 dX6_row_142 ?_
          refine G.aload_n0 dX6_row_143 ?_
          refine G.dup dX6_row_144 rfl ?_
          refine G.mgeti 6 fl_X6_144 dX6_row_145 ?_
          refine G.iload4 dX6_row_148 ?_
          refine G.ifb_eq (tgt := 157) dX6_row_150 (by decide) (fun c_150 => ?_) (fun c_150 => ?_)
          · refine G.iconst (v := nI 1) dX6_row_157 (by decide) ?_
            rw [show (ms A2 6 (nI s)).1 6 = nI s from rfl]
            first | with_reducible refine G.iaddn dX6_row_158 ?_ | refine G.iadd dX6_row_158 ?_
            refine G.mputi 6 fp_X6_144 dX6_row_159 ?_
            refine G.iinc3 dX6_row_162 ?_
            try rw [show ∀ a : Nat, nI a + Int32.ofInt 3 = nI (a + 3) from fun a => nI_add a 3]
            refine G.goto (tgt := 40) dX6_row_165 (by decide) ?_
            rw [ms_ms, show 3 * i + 3 = 3 * (i + 1) from by omega]
            first
              | exact absurd (c_133.symm.trans c_150) (by decide)
              | (rw [show c + 1 = c2 from by rw [h2, c_133]; rfl, show s + 0 = s2 from by rw [h3, c_133]; rfl]; exact hgo')
              | (rw [show c + 0 = c2 from by rw [h2, c_133]; rfl, show s + 1 = s2 from by rw [h3, c_133]; rfl]; exact hgo')
          · refine G.iconst (v := nI 0) dX6_row_153 (by decide) ?_
            refine G.goto (tgt := 158) dX6_row_154 (by decide) ?_
            rw [show (ms A2 6 (nI s)).1 6 = nI s from rfl]
            first | with_reducible refine G.iaddn dX6_row_158 ?_ | refine G.iadd dX6_row_158 ?_
            refine G.mputi 6 fp_X6_144 dX6_row_159 ?_
            refine G.iinc3 dX6_row_162 ?_
            try rw [show ∀ a : Nat, nI a + Int32.ofInt 3 = nI (a + 3) from fun a => nI_add a 3]
            refine G.goto (tgt := 40) dX6_row_165 (by decide) ?_
            rw [ms_ms, show 3 * i + 3 = 3 * (i + 1) from by omega]
            first
              | exact absurd (c_133.symm.trans c_150) (by decide)
              | (rw [show c + 1 = c2 from by rw [h2, c_133]; rfl, show s + 0 = s2 from by rw [h3, c_133]; rfl]; exact hgo')
              | (rw [show c + 0 = c2 from by rw [h2, c_133]; rfl, show s + 1 = s2 from by rw [h3, c_133]; rfl]; exact hgo')
        · refine G.iconst (v := nI 1) dX6_row_136 (by decide) ?_
          refine G.goto (tgt := 141) dX6_row_137 (by decide) ?_
          first | with_reducible refine G.iaddn dX6_row_141 ?_ | refine G.iadd dX6_row_141 ?_
          refine G.istore_n2 dX6_row_142 ?_
          refine G.aload_n0 dX6_row_143 ?_
          refine G.dup dX6_row_144 rfl ?_
          refine G.mgeti 6 fl_X6_144 dX6_row_145 ?_
          refine G.iload4 dX6_row_148 ?_
          refine G.ifb_eq (tgt := 157) dX6_row_150 (by decide) (fun c_150 => ?_) (fun c_150 => ?_)
          · refine G.iconst (v := nI 1) dX6_row_157 (by decide) ?_
            rw [show (ms A2 6 (nI s)).1 6 = nI s from rfl]
            first | with_reducible refine G.iaddn dX6_row_158 ?_ | refine G.iadd dX6_row_158 ?_
            refine G.mputi 6 fp_X6_144 dX6_row_159 ?_
            refine G.iinc3 dX6_row_162 ?_
            try rw [show ∀ a : Nat, nI a + Int32.ofInt 3 = nI (a + 3) from fun a => nI_add a 3]
            refine G.goto (tgt := 40) dX6_row_165 (by decide) ?_
            rw [ms_ms, show 3 * i + 3 = 3 * (i + 1) from by omega]
            first
              | exact absurd (c_133.symm.trans c_150) (by decide)
              | (rw [show c + 1 = c2 from by rw [h2, c_133]; rfl, show s + 0 = s2 from by rw [h3, c_133]; rfl]; exact hgo')
              | (rw [show c + 0 = c2 from by rw [h2, c_133]; rfl, show s + 1 = s2 from by rw [h3, c_133]; rfl]; exact hgo')
          · refine G.iconst (v := nI 0) dX6_row_153 (by decide) ?_
            refine G.goto (tgt := 158) dX6_row_154 (by decide) ?_
            rw [show (ms A2 6 (nI s)).1 6 = nI s from rfl]
            first | with_reducible refine G.iaddn dX6_row_158 ?_ | refine G.iadd dX6_row_158 ?_
            refine G.mputi 6 fp_X6_144 dX6_row_159 ?_
            refine G.iinc3 dX6_row_162 ?_
            try rw [show ∀ a : Nat, nI a + Int32.ofInt 3 = nI (a + 3) from fun a => nI_add a 3]
            refine G.goto (tgt := 40) dX6_row_165 (by decide) ?_
            rw [ms_ms, show 3 * i + 3 = 3 * (i + 1) from by omega]
            first
              | exact absurd (c_133.symm.trans c_150) (by decide)
              | (rw [show c + 1 = c2 from by rw [h2, c_133]; rfl, show s + 0 = s2 from by rw [h3, c_133]; rfl]; exact hgo')
              | (rw [show c + 0 = c2 from by rw [h2, c_133]; rfl, show s + 1 = s2 from by rw [h3, c_133]; rfl]; exact hgo')
      have k97 : ∀ is : Bool, is = decide (((0 ≤ (A.2.2.1 11 (3 * i)).toInt ∧ (A.2.2.1 11 (3 * i)).toInt ≤ 30) ∧ (0 ≤ (A.2.2.1 11 (3 * i + 1)).toInt ∧ (A.2.2.1 11 (3 * i + 1)).toInt ≤ 3)) ∧ zIn (A.2.2.1 11 (3 * i + 2)) 0 2 ∧ m < 10) → G E fX6_row (mFin E fX6_row L ph (rI fun r M' => (r, M') = oRow M size)) 97 [some (.ref (L.1 52)), some (.int (nI size)), some (.int (nI c)), some (.int (nI (3 * i))), a4] [.int (bI is)] (movl L (ms A 6 (nI s)) ph) 0 0 := by
        intro is his
        refine G.istore4 dX6_row_97 ?_
        refine G.iload4 dX6_row_99 ?_
        refine G.ifb_eq (tgt := 130) dX6_row_101 (by decide) (fun c_101 => ?_) (fun c_101 => ?_)
        · first
          | exact k130 is _ _ _ (hnot (of_decide_eq_false (his.symm.trans c_101))) (by rw [c_101]; rfl) (by rw [c_101]; rfl)
          | exact k130 is _ _ _ (hyes q) (by rw [c_101]; rfl) (by rw [c_101]; rfl)
        · have q := of_decide_eq_true (his.symm.trans c_101)
          refine G.aload_n0 dX6_row_104 ?_
          refine G.aload_n0 dX6_row_105 ?_
          refine G.mgeta 11 fl_X6_41 dX6_row_106 ?_
          refine G.iload_n3 dX6_row_109 ?_
          refine G.mbald (n := 400) 11 (3 * i) dX6_row_110 rfl (by omega) ?_
          refine G.aload_n0 dX6_row_111 ?_
          refine G.mgeta 11 fl_X6_41 dX6_row_112 ?_
          refine G.iload_n3 dX6_row_115 ?_
          refine G.iconst (v := nI 1) dX6_row_116 (by decide) ?_
          first | with_reducible refine G.iaddn dX6_row_117 ?_ | refine G.iadd dX6_row_117 ?_
          refine G.mbald (n := 400) 11 (3 * i + 1) dX6_row_118 rfl (by omega) ?_
          refine G.aload_n0 dX6_row_119 ?_
          refine G.mgeta 11 fl_X6_41 dX6_row_120 ?_
          refine G.iload_n3 dX6_row_123 ?_
          refine G.iconst (v := nI 2) dX6_row_124 (by decide) ?_
          first | with_reducible refine G.iaddn dX6_row_125 ?_ | refine G.iadd dX6_row_125 ?_
          refine G.mbald (n := 400) 11 (3 * i + 2) dX6_row_126 rfl (by omega) ?_
          refine G.mcall (f' := fX6_adds) q1942 ck_X6_adds (c_X6_adds (M := ms A 6 (nI s)) (n := m) q.2.2 e256 _ _ _) dX6_row_127 (rV.k fun M_127 h_127 => ?_)
          replace h_127 := h_127.symm; subst h_127
          first
          | exact k130 is _ _ _ (hnot (of_decide_eq_false (his.symm.trans c_101))) (by rw [c_101]; rfl) (by rw [c_101]; rfl)
          | exact k130 is _ _ _ (hyes q) (by rw [c_101]; rfl) (by rw [c_101]; rfl)
      refine G.iload_n3 dX6_row_40 ?_
      refine G.iconst (v := nI 3) dX6_row_41 (by decide) ?_
      first | with_reducible refine G.iaddn dX6_row_42 ?_ | refine G.iadd dX6_row_42 ?_
      refine G.iload_n1 dX6_row_43 ?_
      refine G.icmp_gt (tgt := 168) dX6_row_44 (by decide) (fun c_44 => ?_) (fun c_44 => ?_)
      · exact absurd ((nI_ltI (by omega) (by omega)).mp c_44) (by omega)
      · have n_44 : 3 * i + 3 ≤ size := Nat.le_of_not_lt (fun z => c_44 ((nI_ltI (by omega) (by omega)).mpr z))
        refine G.aload_n0 dX6_row_47 ?_
        refine G.mgeta 11 fl_X6_41 dX6_row_48 ?_
        refine G.iload_n3 dX6_row_51 ?_
        refine G.mbald (n := 400) 11 (3 * i) dX6_row_52 rfl (by omega) ?_
        refine G.aload_n0 dX6_row_53 ?_
        refine G.mgeta 11 fl_X6_41 dX6_row_54 ?_
        refine G.iload_n3 dX6_row_57 ?_
        refine G.iconst (v := nI 1) dX6_row_58 (by decide) ?_
        first | with_reducible refine G.iaddn dX6_row_59 ?_ | refine G.iadd dX6_row_59 ?_
        refine G.mbald (n := 400) 11 (3 * i + 1) dX6_row_60 rfl (by omega) ?_
        refine G.scall (f' := fX6_canBe) q1935 ck_X6_canBe (c_X6_canBe E _ _) dX6_row_61 (sI.k fun r_61 h_61 => ?_)
        replace h_61 := h_61.symm; subst h_61
        refine G.ifb_eq (tgt := 96) dX6_row_64 (by decide) (fun c_64 => ?_) (fun c_64 => ?_)
        · refine G.iconst (v := nI 0) dX6_row_96 (by decide) ?_
          first
          | exact k97 false (decide_eq_false (fun z => of_decide_eq_false c_64 z.1)).symm
          | exact k97 false (decide_eq_false (fun z => of_decide_eq_false c_80 z.2.1)).symm
          | exact k97 false (decide_eq_false (fun z => absurd z.2.2 (by omega))).symm
          | exact k97 true (decide_eq_true ⟨of_decide_eq_true c_64, of_decide_eq_true c_80, n_89⟩).symm
        · refine G.aload_n0 dX6_row_67 ?_
          refine G.mgeta 11 fl_X6_41 dX6_row_68 ?_
          refine G.iload_n3 dX6_row_71 ?_
          refine G.iconst (v := nI 2) dX6_row_72 (by decide) ?_
          first | with_reducible refine G.iaddn dX6_row_73 ?_ | refine G.iadd dX6_row_73 ?_
          refine G.mbald (n := 400) 11 (3 * i + 2) dX6_row_74 rfl (by omega) ?_
          refine G.iconst (v := nI 0) dX6_row_75 (by decide) ?_
          refine G.iconst (v := nI 2) dX6_row_76 (by decide) ?_
          refine G.scall (f' := fX6_lies) q1912 ck_X6_lies (c_X6_lies E _ _ _) dX6_row_77 (sI.k fun r_77 h_77 => ?_)
          replace h_77 := h_77.symm; subst h_77
          refine G.ifb_eq (tgt := 96) dX6_row_80 (by decide) (fun c_80 => ?_) (fun c_80 => ?_)
          · refine G.iconst (v := nI 0) dX6_row_96 (by decide) ?_
            first
            | exact k97 false (decide_eq_false (fun z => of_decide_eq_false c_64 z.1)).symm
            | exact k97 false (decide_eq_false (fun z => of_decide_eq_false c_80 z.2.1)).symm
            | exact k97 false (decide_eq_false (fun z => absurd z.2.2 (by omega))).symm
            | exact k97 true (decide_eq_true ⟨of_decide_eq_true c_64, of_decide_eq_true c_80, n_89⟩).symm
          · refine G.aload_n0 dX6_row_83 ?_
            refine G.mcall (f' := fX6_people) q1938 ck_X6_people (c_X6_people E L _ ph) dX6_row_84 (rI.k fun r_84 M_84 h_84 => ?_)
            obtain ⟨e_84, h_84⟩ := h_84; replace e_84 := e_84.symm; replace h_84 := h_84.symm; subst e_84; subst h_84
            refine G.bipush (v := nI 10) dX6_row_87 (by decide) ?_
            rw [show (ms A 6 (nI s)).2.2.1 2 256 = nI m from e256]
            refine G.icmp_ge (tgt := 96) dX6_row_89 (by decide) (fun c_89 => ?_) (fun c_89 => ?_)
            · have n_89 : 10 ≤ m := (nI_leI (by omega) (by omega)).mp c_89
              refine G.iconst (v := nI 0) dX6_row_96 (by decide) ?_
              first
              | exact k97 false (decide_eq_false (fun z => of_decide_eq_false c_64 z.1)).symm
              | exact k97 false (decide_eq_false (fun z => of_decide_eq_false c_80 z.2.1)).symm
              | exact k97 false (decide_eq_false (fun z => absurd z.2.2 (by omega))).symm
              | exact k97 true (decide_eq_true ⟨of_decide_eq_true c_64, of_decide_eq_true c_80, n_89⟩).symm
            · have n_89 : m < 10 := Nat.lt_of_not_le (fun z => c_89 ((nI_leI (by omega) (by omega)).mpr z))
              refine G.iconst (v := nI 1) dX6_row_92 (by decide) ?_
              refine G.goto (tgt := 97) dX6_row_93 (by decide) ?_
              first
              | exact k97 false (decide_eq_false (fun z => of_decide_eq_false c_64 z.1)).symm
              | exact k97 false (decide_eq_false (fun z => of_decide_eq_false c_80 z.2.1)).symm
              | exact k97 false (decide_eq_false (fun z => absurd z.2.2 (by omega))).symm
              | exact k97 true (decide_eq_true ⟨of_decide_eq_true c_64, of_decide_eq_true c_80, n_89⟩).symm
  refine G.aload_n0 dX6_row_0 ?_
  refine G.mgeti 13 fl_X6_141 dX6_row_1 ?_
  rw [hsz]
  refine G.istore_n1 dX6_row_4 ?_
  refine G.aload_n0 dX6_row_5 ?_
  refine G.iconst (v := nI 0) dX6_row_6 (by decide) ?_
  refine G.mputi 13 fp_X6_141 dX6_row_7 ?_
  refine G.iload_n1 dX6_row_10 ?_
  refine G.if_ne (tgt := 21) dX6_row_11 (by decide) (fun c_11 => ?_) (fun c_11 => ?_)
  · have n_11 : ¬ size = 0 := fun z => c_11 (congrArg nI z)
    refine G.iconst (v := nI 0) dX6_row_21 (by decide) ?_
    refine G.istore_n2 dX6_row_22 ?_
    refine G.aload_n0 dX6_row_23 ?_
    refine G.iload_n1 dX6_row_24 ?_
    refine G.iconst (v := nI 3) dX6_row_25 (by decide) ?_
    refine G.irem dX6_row_26 (by decide) ?_
    rw [pk_rem (by omega) (by decide) (by decide)]
    refine G.if_ne (tgt := 34) dX6_row_27 (by decide) (fun c_27 => ?_) (fun c_27 => ?_)
    · have n_27 : ¬ size % 3 = 0 := fun z => c_27 (congrArg nI z)
      refine G.iconst (v := nI 1) dX6_row_34 (by decide) ?_
      refine G.mputi 6 fp_X6_144 dX6_row_35 ?_
      refine G.iconst (v := nI 0) dX6_row_38 (by decide) ?_
      refine G.istore_n3 dX6_row_39 ?_
      first
      | (have := key (size / 3) 0 none (by omega) n_11
         rw [show rowRun (M.2.2.1 11) (ms M 13 (nI 0), 0, if size % 3 = 0 then 0 else 1) 0 = (ms M 13 (nI 0), 0, 0) from by rw [rowRun, if_pos n_27]] at this
         exact this)
      | (have := key (size / 3) 0 none (by omega) n_11
         rw [show rowRun (M.2.2.1 11) (ms M 13 (nI 0), 0, if size % 3 = 0 then 0 else 1) 0 = (ms M 13 (nI 0), 0, 1) from by rw [rowRun, if_neg n_27]] at this
         exact this)
    · have n_27 : size % 3 = 0 := (nI_inj (by omega) (by omega)).mp c_27
      refine G.iconst (v := nI 0) dX6_row_30 (by decide) ?_
      refine G.goto (tgt := 35) dX6_row_31 (by decide) ?_
      refine G.mputi 6 fp_X6_144 dX6_row_35 ?_
      refine G.iconst (v := nI 0) dX6_row_38 (by decide) ?_
      refine G.istore_n3 dX6_row_39 ?_
      first
      | (have := key (size / 3) 0 none (by omega) n_11
         rw [show rowRun (M.2.2.1 11) (ms M 13 (nI 0), 0, if size % 3 = 0 then 0 else 1) 0 = (ms M 13 (nI 0), 0, 0) from by rw [rowRun, if_pos n_27]] at this
         exact this)
      | (have := key (size / 3) 0 none (by omega) n_11
         rw [show rowRun (M.2.2.1 11) (ms M 13 (nI 0), 0, if size % 3 = 0 then 0 else 1) 0 = (ms M 13 (nI 0), 0, 1) from by rw [rowRun, if_neg n_27]] at this
         exact this)
  · have n_11 : size = 0 := (nI_inj (by omega) (by omega)).mp c_11
    refine G.aload_n0 dX6_row_14 ?_
    refine G.bipush (v := -6) dX6_row_15 (by decide) ?_
    refine G.mcall (f' := fX6_refuses) q1915 ck_X6_refuses (c_X6_refuses E L _ ph (k := 6) (by decide)) dX6_row_17 (rI.k fun r_17 M_17 h_17 => ?_)
    obtain ⟨e_17, h_17⟩ := h_17; replace e_17 := e_17.symm; replace h_17 := h_17.symm; subst e_17; subst h_17
    refine G.ireturn dX6_row_20 ?_
    exact oFin ((if_pos n_11).trans rfl)
/-- the bytes of an int, the first first -/
def sByte (v : Int32) (r : Nat) : Int32 := (v >>> ((nI 24 - nI (8 * r)) &&& 31)).toInt8.toInt32
def fiveOf (a b c d e : Int32) : Nat → Int32 := fun i => match i with
  | 0 => a
  | 1 => b
  | 2 => c
  | 3 => d
  | _ => e
def oFeed (M : MM) (t : Nat) (a b c d e : Int32) : Int32 × MM := if 400 < t + 20 then (-1, M) else (nI (t + 20), ms (mar M 11 (cpA (M.2.2.1 11) (fun k => sByte (fiveOf a b c d e (k / 4)) (k % 4)) t 20)) 13 (nI (t + 20)))
theorem c_X6_feed {M : MM} {t : Nat} (ht : t ≤ 400) (hM : M.1 13 = nI t) (a b c d e : Int32) : MC E fX6_feed L M ph [.int a, .int b, .int c, .int d, .int e] (rI fun r M' => r = (oFeed M t a b c d e).1 ∧ mX [] [12] (oFeed M t a b c d e).2 M') := by
  refine Ct.of [some (.ref (L.1 52)), some (.int a), some (.int b), some (.int c), some (.int d), some (.int e), none] rfl (Nat.le_of_ble_eq_true rfl) (show plainName RX6 = true by decide +kernel) rfl ?_
  refine G.aload_n0 dX6_feed_0 ?_
  refine G.mgeti 13 fl_X6_141 dX6_feed_1 ?_
  refine G.bipush (v := nI 20) dX6_feed_4 (by decide) ?_
  rw [hM]
  first | with_reducible refine G.iaddn dX6_feed_6 ?_ | refine G.iadd dX6_feed_6 ?_
  refine G.sipush (v := nI 400) dX6_feed_7 (by decide) ?_
  refine G.icmp_le (tgt := 15) dX6_feed_10 (by decide) (fun c_10 => ?_) (fun c_10 => ?_)
  · have n_10 : t + 20 ≤ 400 := (nI_leI (by omega) (by omega)).mp c_10
    refine G.aload_n0 dX6_feed_15 ?_
    refine G.mgeta 12 fl_X6_44 dX6_feed_16 ?_
    refine G.iconst (v := nI 0) dX6_feed_19 (by decide) ?_
    refine G.iload_n1 dX6_feed_20 ?_
    refine G.miast (n := 5) 12 _ dX6_feed_21 rfl (by omega) ?_
    refine G.aload_n0 dX6_feed_22 ?_
    refine G.mgeta 12 fl_X6_44 dX6_feed_23 ?_
    refine G.iconst (v := nI 1) dX6_feed_26 (by decide) ?_
    refine G.iload_n2 dX6_feed_27 ?_
    refine G.miast (n := 5) 12 _ dX6_feed_28 rfl (by omega) ?_
    refine G.aload_n0 dX6_feed_29 ?_
    refine G.mgeta 12 fl_X6_44 dX6_feed_30 ?_
    refine G.iconst (v := nI 2) dX6_feed_33 (by decide) ?_
    refine G.iload_n3 dX6_feed_34 ?_
    refine G.miast (n := 5) 12 _ dX6_feed_35 rfl (by omega) ?_
    refine G.aload_n0 dX6_feed_36 ?_
    refine G.mgeta 12 fl_X6_44 dX6_feed_37 ?_
    refine G.iconst (v := nI 3) dX6_feed_40 (by decide) ?_
    refine G.iload4 dX6_feed_41 ?_
    refine G.miast (n := 5) 12 _ dX6_feed_43 rfl (by omega) ?_
    refine G.aload_n0 dX6_feed_44 ?_
    refine G.mgeta 12 fl_X6_44 dX6_feed_45 ?_
    refine G.iconst (v := nI 4) dX6_feed_48 (by decide) ?_
    refine G.iload5 dX6_feed_49 ?_
    refine G.miast (n := 5) 12 _ dX6_feed_51 rfl (by omega) ?_
    refine G.iconst (v := nI 0) dX6_feed_52 (by decide) ?_
    refine G.istore6 dX6_feed_53 ?_
    have hof : oFeed M t a b c d e = (nI (t + 20), ms (mar M 11 (cpA (M.2.2.1 11) (fun k => sByte (fiveOf a b c d e (k / 4)) (k % 4)) t 20)) 13 (nI (t + 20))) := by unfold oFeed; rw [if_neg (by omega)]
    rw [hof]
    have loop : ∀ d' i (M2 : MM), i + d' = 20 → M2.1 = M.1 → M2.2.1 = M.2.1 → M2.2.2.2 = M.2.2.2 → (∀ k, ¬ k = 11 → ¬ k = 12 → M2.2.2.1 k = M.2.2.1 k) → M2.2.2.1 11 = cpA (M.2.2.1 11) (fun k => sByte (fiveOf a b c d e (k / 4)) (k % 4)) t i → (∀ k, k < 5 → M2.2.2.1 12 k = fiveOf a b c d e k) → G E fX6_feed (mFin E fX6_feed L ph (rI fun r M' => r = nI (t + 20) ∧ mX [] [12] (ms (mar M 11 (cpA (M.2.2.1 11) (fun k => sByte (fiveOf a b c d e (k / 4)) (k % 4)) t 20)) 13 (nI (t + 20))) M')) 55 [some (.ref (L.1 52)), some (.int a), some (.int b), some (.int c), some (.int d), some (.int e), some (.int (nI i))] [] (movl L M2 ph) 0 0 := by
      intro d'
      induction d' with
      | zero =>
        intro i M2 hi h1 h2 h3 h4 h5 h6
        refine G.iload6 dX6_feed_55 ?_
        refine G.bipush (v := nI 20) dX6_feed_57 (by decide) ?_
        refine G.icmp_ge (tgt := 101) dX6_feed_59 (by decide) (fun c_59 => ?_) (fun c_59 => ?_)
        · refine G.aload_n0 dX6_feed_101 ?_
          refine G.dup dX6_feed_102 rfl ?_
          refine G.mgeti 13 fl_X6_141 dX6_feed_103 ?_
          refine G.bipush (v := nI 20) dX6_feed_106 (by decide) ?_
          rw [show M2.1 13 = nI t from by rw [h1]; exact hM]
          first | with_reducible refine G.iaddn dX6_feed_108 ?_ | refine G.iadd dX6_feed_108 ?_
          refine G.mputi 13 fp_X6_141 dX6_feed_109 ?_
          refine G.aload_n0 dX6_feed_112 ?_
          refine G.mgeti 13 fl_X6_141 dX6_feed_113 ?_
          refine G.ireturn dX6_feed_116 ?_
          refine ⟨_, rfl, _, rfl, rfl, fun k _ => ?_, fun _ => h2, fun k hk => ?_, fun _ => h3⟩
          · rw [ms_1, ms_1, h1]; rfl
          · show M2.2.2.1 k = (if k = 11 then _ else M.2.2.1 k)
            split
            · rename_i q; rw [q, h5, show i = 20 from by omega]
            · rename_i q; exact h4 k q (by simpa using hk)
        · exact absurd (nI_leI (by omega) (by omega) |>.mpr (by omega)) c_59
      | succ d' ih =>
        intro i M2 hi h1 h2 h3 h4 h5 h6
        refine G.iload6 dX6_feed_55 ?_
        refine G.bipush (v := nI 20) dX6_feed_57 (by decide) ?_
        refine G.icmp_ge (tgt := 101) dX6_feed_59 (by decide) (fun c_59 => ?_) (fun c_59 => ?_)
        · exact absurd ((nI_leI (by omega) (by omega)).mp c_59) (by omega)
        · refine G.aload_n0 dX6_feed_62 ?_
          refine G.mgeta 11 fl_X6_41 dX6_feed_63 ?_
          refine G.aload_n0 dX6_feed_66 ?_
          refine G.mgeti 13 fl_X6_141 dX6_feed_67 ?_
          refine G.iload6 dX6_feed_70 ?_
          rw [show M2.1 13 = nI t from by rw [h1]; exact hM]
          first | with_reducible refine G.iaddn dX6_feed_72 ?_ | refine G.iadd dX6_feed_72 ?_
          refine G.aload_n0 dX6_feed_73 ?_
          refine G.mgeta 12 fl_X6_44 dX6_feed_74 ?_
          refine G.iload6 dX6_feed_77 ?_
          refine G.iconst (v := nI 4) dX6_feed_79 (by decide) ?_
          refine G.idiv dX6_feed_80 (by decide) ?_
          rw [pk_div (by omega) (by decide) (by decide)]
          refine G.miald (n := 5) 12 (i / 4) dX6_feed_81 rfl (by omega) ?_
          refine G.bipush (v := nI 24) dX6_feed_82 (by decide) ?_
          refine G.bipush (v := nI 8) dX6_feed_84 (by decide) ?_
          refine G.iload6 dX6_feed_86 ?_
          refine G.iconst (v := nI 4) dX6_feed_88 (by decide) ?_
          refine G.irem dX6_feed_89 (by decide) ?_
          rw [pk_rem (by omega) (by decide) (by decide), h6 (i / 4) (by omega)]
          first | with_reducible refine G.imuln dX6_feed_90 ?_ | refine G.imul dX6_feed_90 ?_
          refine G.isub dX6_feed_91 ?_
          refine G.ishr dX6_feed_92 ?_
          refine G.i2b dX6_feed_93 rfl ?_
          refine G.mbast (n := 400) 11 (t + i) dX6_feed_94 rfl (by omega) ?_
          refine G.iinc6 dX6_feed_95 ?_
          try rw [show ∀ a : Nat, nI a + Int32.ofInt 1 = nI (a + 1) from fun a => nI_add a 1]
          refine G.goto (tgt := 55) dX6_feed_98 (by decide) ?_
          refine ih (i + 1) _ (by omega) h1 h2 h3 (fun k q1 q2 => (if_neg q1).trans (h4 k q1 q2)) ?_ (fun k hk => h6 k hk)
          rw [ma_k, h5, Int8.toInt8_toInt32]
          exact cpA_s (g := fun k => sByte (fiveOf a b c d e (k / 4)) (k % 4))
    exact loop 20 0 _ rfl rfl rfl rfl (fun k _ q => (if_neg q).trans ((if_neg q).trans ((if_neg q).trans ((if_neg q).trans ((if_neg q).trans rfl))))) cpA_0.symm (fun k hk => by
      rcases (show k = 0 ∨ k = 1 ∨ k = 2 ∨ k = 3 ∨ k = 4 from by omega) with rfl | rfl | rfl | rfl | rfl <;> rfl)
  · have n_10 : 400 < t + 20 := Nat.lt_of_not_le (fun z => c_10 ((nI_leI (by omega) (by omega)).mpr z))
    refine G.iconst (v := -1) dX6_feed_13 (by decide) ?_
    refine G.ireturn dX6_feed_14 ?_
    exact ⟨_, rfl, _, rfl, by unfold oFeed; rw [if_pos n_10], by unfold oFeed; rw [if_pos n_10]; exact mX.rf⟩
def oUndo (M : MM) (u : Nat) : Int32 × MM := if u = 0 then sNo M 3 else (M.2.2.1 26 (35 * (u - 1) + 34), sGood (mar (ms M 28 (nI (u - 1))) 2 (cpA (M.2.2.1 2) (fun i => M.2.2.1 26 (35 * (u - 1) + i)) 0 34)))
theorem c_X6_undo {M : MM} {u : Nat} (hu : u ≤ 16) (hM : M.1 28 = nI u) : MC E fX6_undo L M ph [] (rI fun r M' => (r, M') = oUndo M u) := by
  refine Ct.of [some (.ref (L.1 52)), none, none] rfl (Nat.le_of_ble_eq_true rfl) (show plainName RX6 = true by decide +kernel) rfl ?_
  refine G.aload_n0 dX6_undo_0 ?_
  refine G.mgeti 28 fl_X6_11 dX6_undo_1 ?_
  rw [hM]
  refine G.if_ne (tgt := 14) dX6_undo_4 (by decide) (fun c_4 => ?_) (fun c_4 => ?_)
  · have n_4 : ¬ u = 0 := fun z => c_4 (congrArg nI z)
    refine G.aload_n0 dX6_undo_14 ?_
    refine G.dup dX6_undo_15 rfl ?_
    refine G.mgeti 28 fl_X6_11 dX6_undo_16 ?_
    refine G.iconst (v := nI 1) dX6_undo_19 (by decide) ?_
    rw [hM]
    refine G.isub dX6_undo_20 ?_
    rw [pk_sub (by omega)]
    refine G.mputi 28 fp_X6_11 dX6_undo_21 ?_
    refine G.bipush (v := nI 35) dX6_undo_24 (by decide) ?_
    refine G.aload_n0 dX6_undo_26 ?_
    refine G.mgeti 28 fl_X6_11 dX6_undo_27 ?_
    rw [show (ms M 28 (nI (u - 1))).1 28 = nI (u - 1) from rfl]
    first | with_reducible refine G.imuln dX6_undo_30 ?_ | refine G.imul dX6_undo_30 ?_
    refine G.istore_n1 dX6_undo_31 ?_
    refine G.iconst (v := nI 0) dX6_undo_32 (by decide) ?_
    refine G.istore_n2 dX6_undo_33 ?_
    have hou : oUndo M u = (M.2.2.1 26 (35 * (u - 1) + 34), sGood (mar (ms M 28 (nI (u - 1))) 2 (cpA (M.2.2.1 2) (fun i => M.2.2.1 26 (35 * (u - 1) + i)) 0 34))) := if_neg n_4
    rw [hou]
    have loop : ∀ d i, i + d = 34 → G E fX6_undo (mFin E fX6_undo L ph (rI fun r M' => (r, M') = (M.2.2.1 26 (35 * (u - 1) + 34), sGood (mar (ms M 28 (nI (u - 1))) 2 (cpA (M.2.2.1 2) (fun i => M.2.2.1 26 (35 * (u - 1) + i)) 0 34))))) 34 [some (.ref (L.1 52)), some (.int (nI (35 * (u - 1)))), some (.int (nI i))] [] (movl L (mar (ms M 28 (nI (u - 1))) 2 (cpA (M.2.2.1 2) (fun i => M.2.2.1 26 (35 * (u - 1) + i)) 0 i)) ph) 0 0 := by
      intro d
      induction d with
      | zero =>
        intro i hi
        refine G.iload_n2 dX6_undo_34 ?_
        refine G.bipush (v := nI 34) dX6_undo_35 (by decide) ?_
        refine G.icmp_ge (tgt := 60) dX6_undo_37 (by decide) (fun c_37 => ?_) (fun c_37 => ?_)
        · refine G.aload_n0 dX6_undo_60 ?_
          refine G.aload_n0 dX6_undo_61 ?_
          refine G.mgeta 26 fl_X6_62 dX6_undo_62 ?_
          refine G.iload_n1 dX6_undo_65 ?_
          refine G.bipush (v := nI 34) dX6_undo_66 (by decide) ?_
          first | with_reducible refine G.iaddn dX6_undo_68 ?_ | refine G.iadd dX6_undo_68 ?_
          refine G.miald (n := 560) 26 (35 * (u - 1) + 34) dX6_undo_69 rfl (by omega) ?_
          refine G.mcall (f' := fX6_good) q1919 ck_X6_good (c_X6_good E L _ ph _) dX6_undo_70 (rI.k fun r_70 M_70 h_70 => ?_)
          obtain ⟨e_70, h_70⟩ := h_70; replace e_70 := e_70.symm; replace h_70 := h_70.symm; subst e_70; subst h_70
          refine G.ireturn dX6_undo_73 ?_
          exact oFin (by rw [show i = 34 from by omega]; rfl)
        · exact absurd (nI_leI (by omega) (by omega) |>.mpr (by omega)) c_37
      | succ d ih =>
        intro i hi
        refine G.iload_n2 dX6_undo_34 ?_
        refine G.bipush (v := nI 34) dX6_undo_35 (by decide) ?_
        refine G.icmp_ge (tgt := 60) dX6_undo_37 (by decide) (fun c_37 => ?_) (fun c_37 => ?_)
        · exact absurd ((nI_leI (by omega) (by omega)).mp c_37) (by omega)
        · refine G.aload_n0 dX6_undo_40 ?_
          refine G.mgeta 2 fl_X6_24 dX6_undo_41 ?_
          refine G.iload_n2 dX6_undo_44 ?_
          refine G.aload_n0 dX6_undo_45 ?_
          refine G.mgeta 26 fl_X6_62 dX6_undo_46 ?_
          refine G.iload_n1 dX6_undo_49 ?_
          refine G.iload_n2 dX6_undo_50 ?_
          first | with_reducible refine G.iaddn dX6_undo_51 ?_ | refine G.iadd dX6_undo_51 ?_
          refine G.miald (n := 560) 26 (35 * (u - 1) + i) dX6_undo_52 rfl (by omega) ?_
          refine G.miast (n := 5866) 2 i dX6_undo_53 rfl (by omega) ?_
          refine G.iinc2 dX6_undo_54 ?_
          try rw [show ∀ a : Nat, nI a + Int32.ofInt 1 = nI (a + 1) from fun a => nI_add a 1]
          refine G.goto (tgt := 34) dX6_undo_57 (by decide) ?_
          rw [ma_mar, mar_n (by decide)]
          have hs := cpA_s (h := M.2.2.1 2) (g := fun i => M.2.2.1 26 (35 * (u - 1) + i)) (a := 0) (j := i)
          rw [Nat.zero_add] at hs
          rw [show (ms M 28 (nI (u - 1))).2.2.1 26 (35 * (u - 1) + i) = M.2.2.1 26 (35 * (u - 1) + i) from rfl, hs]
          exact ih (i + 1) (by omega)
    have := loop 34 0 rfl
    rw [cpA_0, show mar (ms M 28 (nI (u - 1))) 2 (M.2.2.1 2) = ms M 28 (nI (u - 1)) from mar_id] at this
    exact this
  · have n_4 : u = 0 := (nI_inj (by omega) (by omega)).mp c_4
    refine G.aload_n0 dX6_undo_7 ?_
    refine G.bipush (v := -3) dX6_undo_8 (by decide) ?_
    refine G.mcall (f' := fX6_refuses) q1915 ck_X6_refuses (c_X6_refuses E L _ ph (k := 3) (by decide)) dX6_undo_10 (rI.k fun r_10 M_10 h_10 => ?_)
    obtain ⟨e_10, h_10⟩ := h_10; replace e_10 := e_10.symm; replace h_10 := h_10.symm; subst e_10; subst h_10
    refine G.ireturn dX6_undo_13 ?_
    exact oFin ((if_pos n_4).trans rfl)
theorem c_X6_drawn {M : MM} {m : Nat} (hm : m ≤ 60) (hM : M.1 50 = nI m) (k : Int32) : MC E fX6_drawn L M ph [.int k] (rI fun r M' => (r, M') = (if 0 ≤ k.toInt ∧ k.toInt < m then M.2.2.1 49 (tNat k) else -1, M)) := by
  refine Ct.of [some (.ref (L.1 52)), some (.int k)] rfl (Nat.le_of_ble_eq_true rfl) (show plainName RX6 = true by decide +kernel) rfl ?_
  refine G.iload_n1 dX6_drawn_0 ?_
  refine G.iconst (v := nI 0) dX6_drawn_1 (by decide) ?_
  refine G.aload_n0 dX6_drawn_2 ?_
  refine G.mgeti 50 fl_X6_455 dX6_drawn_3 ?_
  rw [hM]
  refine G.iconst (v := nI 1) dX6_drawn_6 (by decide) ?_
  refine G.isub dX6_drawn_7 ?_
  refine G.scall (f' := fX6_lies) q1912 ck_X6_lies (c_X6_lies E _ _ _) dX6_drawn_8 (sI.k fun r_8 h_8 => ?_)
  replace h_8 := h_8.symm; subst h_8
  refine G.ifb_eq (tgt := 23) dX6_drawn_11 (by decide) (fun c_11 => ?_) (fun c_11 => ?_)
  · have q := of_decide_eq_false c_11
    rw [t_sub (by omega) (by omega), t_nI (by omega)] at q
    refine G.iconst (v := -1) dX6_drawn_23 (by decide) ?_
    refine G.ireturn dX6_drawn_24 ?_
    first
    | exact oFin (by rw [if_neg (by omega)])
    | exact oFin (by rw [if_pos (by omega), tNat_nI (by omega)])
  · have q := of_decide_eq_true c_11
    rw [t_sub (by omega) (by omega), t_nI (by omega)] at q
    obtain ⟨j, hj, rfl⟩ := t_of (n := m) (p := k) (by omega) (by omega)
    refine G.aload_n0 dX6_drawn_14 ?_
    refine G.mgeta 49 fl_X6_103 dX6_drawn_15 ?_
    refine G.iload_n1 dX6_drawn_18 ?_
    refine G.miald (n := 60) 49 j dX6_drawn_19 rfl (by omega) ?_
    refine G.goto (tgt := 24) dX6_drawn_20 (by decide) ?_
    refine G.ireturn dX6_drawn_24 ?_
    first
    | exact oFin (by rw [if_neg (by omega)])
    | exact oFin (by rw [if_pos (by omega), tNat_nI (by omega)])
theorem c_X6_goodOr {M : MM} (v : Int32) (hv : 0 ≤ v ∨ ∃ k, k < 7 ∧ v = -nI k) : MC E fX6_goodOr L M ph [.int v] (rI fun r M' => (r, M') = if 0 ≤ v then (v, sGood M) else sNo M (tNat (-v))) := by
  refine Ct.of [some (.ref (L.1 52)), some (.int v)] rfl (Nat.le_of_ble_eq_true rfl) (show plainName RX6 = true by decide +kernel) rfl ?_
  refine G.iload_n1 dX6_goodOr_0 ?_
  refine G.if_ge (tgt := 12) dX6_goodOr_1 (by decide) (fun c_1 => ?_) (fun c_1 => ?_)
  · refine G.aload_n0 dX6_goodOr_12 ?_
    refine G.iload_n1 dX6_goodOr_13 ?_
    refine G.mcall (f' := fX6_good) q1919 ck_X6_good (c_X6_good E L M ph v) dX6_goodOr_14 (rI.k fun r_14 M_14 h_14 => ?_)
    obtain ⟨e_14, h_14⟩ := h_14; replace e_14 := e_14.symm; replace h_14 := h_14.symm; subst e_14; subst h_14
    refine G.ireturn dX6_goodOr_17 ?_
    first
    | exact oFin ((if_pos c_1).trans rfl)
    | exact oFin ((if_neg c_1).trans (by rw [show tNat (- -nI k) = k from by rw [Int32.neg_neg]; exact tNat_nI (by omega)]; rfl))
  · obtain ⟨k, hk, rfl⟩ := hv.resolve_left c_1
    refine G.aload_n0 dX6_goodOr_4 ?_
    refine G.iload_n1 dX6_goodOr_5 ?_
    refine G.mcall (f' := fX6_refuses) q1915 ck_X6_refuses (c_X6_refuses E L M ph hk) dX6_goodOr_6 (rI.k fun r_6 M_6 h_6 => ?_)
    obtain ⟨e_6, h_6⟩ := h_6; replace e_6 := e_6.symm; replace h_6 := h_6.symm; subst e_6; subst h_6
    refine G.goto (tgt := 17) dX6_goodOr_9 (by decide) ?_
    refine G.ireturn dX6_goodOr_17 ?_
    first
    | exact oFin ((if_pos c_1).trans rfl)
    | exact oFin ((if_neg c_1).trans (by rw [show tNat (- -nI k) = k from by rw [Int32.neg_neg]; exact tNat_nI (by omega)]; rfl))
def zSmall (v : Int64) : Int32 := if v < 0 ∨ 1000000 < v then -1 else v.toInt32
theorem c_X6_small (v : Int64) : SC E fX6_small [.long v] (sI fun r => r = zSmall v) := by
  intro ph
  refine Ct.of [some (.long v), none] rfl (Nat.le_of_ble_eq_true rfl) (show plainName RX6 = true by decide +kernel) rfl ?_
  refine G.lload_n0 dX6_small_0 ?_
  refine G.lconst (v := 0) dX6_small_1 (by decide) ?_
  refine G.lcmp dX6_small_2 ?_
  refine G.if_lt (tgt := 14) dX6_small_3 (by decide) (fun c_3 => ?_) (fun c_3 => ?_)
  · refine G.iconst (v := -1) dX6_small_14 (by decide) ?_
    refine G.goto (tgt := 20) dX6_small_15 (by decide) ?_
    refine G.ireturn dX6_small_20 ?_
    refine ⟨rfl, _, rfl, ?_⟩
    unfold zSmall
    first
      | exact (if_pos (Or.inl (lg_lt.mp c_3))).symm
      | exact (if_neg (fun z => z.elim (fun y => c_3 (lg_lt.mpr y)) (fun y => absurd (lg_le.mp c_11) (Int64.not_le.mpr y)))).symm
      | exact (if_pos (Or.inr (Int64.not_le.mp (fun z => c_11 (lg_le.mpr z))))).symm
  · refine G.lload_n0 dX6_small_6 ?_
    refine G.ldc2 q2362 dX6_small_7 ?_
    refine G.lcmp dX6_small_10 ?_
    refine G.if_le (tgt := 18) dX6_small_11 (by decide) (fun c_11 => ?_) (fun c_11 => ?_)
    · refine G.lload_n0 dX6_small_18 ?_
      refine G.l2i dX6_small_19 rfl ?_
      refine G.ireturn dX6_small_20 ?_
      refine ⟨rfl, _, rfl, ?_⟩
      unfold zSmall
      first
        | exact (if_pos (Or.inl (lg_lt.mp c_3))).symm
        | exact (if_neg (fun z => z.elim (fun y => c_3 (lg_lt.mpr y)) (fun y => absurd (lg_le.mp c_11) (Int64.not_le.mpr y)))).symm
        | exact (if_pos (Or.inr (Int64.not_le.mp (fun z => c_11 (lg_le.mpr z))))).symm
    · refine G.iconst (v := -1) dX6_small_14 (by decide) ?_
      refine G.goto (tgt := 20) dX6_small_15 (by decide) ?_
      refine G.ireturn dX6_small_20 ?_
      refine ⟨rfl, _, rfl, ?_⟩
      unfold zSmall
      first
        | exact (if_pos (Or.inl (lg_lt.mp c_3))).symm
        | exact (if_neg (fun z => z.elim (fun y => c_3 (lg_lt.mpr y)) (fun y => absurd (lg_le.mp c_11) (Int64.not_le.mpr y)))).symm
        | exact (if_pos (Or.inr (Int64.not_le.mp (fun z => c_11 (lg_le.mpr z))))).symm
end Loops
