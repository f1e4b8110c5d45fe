/-! THE MODEL'S SMALL CALLS -/
def mar (M : MM) (k : Nat) (f : Nat → Int32) : MM := (M.1, M.2.1, va_up M.2.2.1 k f, M.2.2.2)
theorem ma_mar {M : MM} {k j : Nat} {f : Nat → Int32} {v : Int32} : ma (mar M k f) k j v = mar M k (upd f j v) := by
  unfold ma mar
  refine Prod.ext rfl (Prod.ext rfl (Prod.ext (funext fun i => ?_) rfl))
  show (if i = k then upd (if k = k then f else _) j v else (if i = k then f else _)) = (if i = k then upd f j v else _)
  rw [if_pos rfl]
  split
  · rfl
  · rfl
theorem mar_s {M : MM} {k : Nat} {f : Nat → Int32} : (mar M k f).2.2.1 k = f := if_pos rfl
theorem mar_n {M : MM} {k j : Nat} {f : Nat → Int32} (h : j ≠ k) : (mar M k f).2.2.1 j = M.2.2.1 j := if_neg h
theorem mar_id {M : MM} {k : Nat} : mar M k (M.2.2.1 k) = M := by
  unfold mar
  refine Prod.ext rfl (Prod.ext rfl (Prod.ext (funext fun i => ?_) rfl))
  show (if i = k then M.2.2.1 k else M.2.2.1 i) = _
  split
  · rename_i h; rw [h]
  · rfl
theorem ma_eq {M : MM} {k j : Nat} {v : Int32} : ma M k j v = mar M k (upd (M.2.2.1 k) j v) := rfl
/-- a row with g laid from a on, j cells of it -/
def cpA (h g : Nat → Int32) (a j : Nat) : Nat → Int32 := fun i => if a ≤ i ∧ i < a + j then g (i - a) else h i
theorem cpA_0 {h g : Nat → Int32} {a : Nat} : cpA h g a 0 = h := by
  funext i
  unfold cpA
  rw [if_neg (by omega)]
theorem cpA_s {h g : Nat → Int32} {a j : Nat} : upd (cpA h g a j) (a + j) (g j) = cpA h g a (j + 1) := by
  funext i
  by_cases e : i = a + j
  · subst e
    rw [pk_us]
    unfold cpA
    rw [if_pos (by omega), show a + j - a = j from by omega]
  · rw [pk_un e]
    unfold cpA
    by_cases q : a ≤ i ∧ i < a + j
    · rw [if_pos q, if_pos (by omega)]
    · rw [if_neg q, if_neg (by omega)]
theorem cpA_out {h g : Nat → Int32} {a j i : Nat} (q : i < a ∨ a + j ≤ i) : cpA h g a j i = h i := by
  unfold cpA
  rw [if_neg (by omega)]
theorem cpA_in {h g : Nat → Int32} {a j i : Nat} (q : a ≤ i ∧ i < a + j) : cpA h g a j i = g (i - a) := if_pos q
def sSet (M : MM) : MM := ms (ms M 28 (nI 0)) 0 (nI 0)
def sGood (M : MM) : MM := ms M 0 (nI 0)
def sNo (M : MM) (k : Nat) : Int32 × MM := (-nI k, sRef M k)
/-- between, as the code asks it -/
abbrev zIn (v : Int32) (a b : Nat) : Prop := (nI a).toInt ≤ v.toInt ∧ v.toInt ≤ (nI b).toInt
section Calls
variable {E : JE} {L : ML} {ph : HP}
theorem oFin {v : Int32} {X : MM} {o : Int32 × MM} (h : o = (v, X)) : ∃ M', movl L X ph = movl L M' ph ∧ rI (fun r M' => (r, M') = o) (some (.int v)) M' := ⟨X, rfl, v, rfl, h.symm⟩
theorem zIn_of {k : Int32} {b : Nat} (h : zIn k 0 b) (hb : b < 2147483647) : ∃ j, j ≤ b ∧ k = nI j := by
  unfold zIn at h
  rw [t_nI (by omega), t_nI (by omega)] at h
  obtain ⟨j, hj, e⟩ := t_of (n := b + 1) (p := k) (by omega) (by omega)
  exact ⟨j, by omega, e⟩
def oImage (M : MM) (k : Int32) : Int32 × MM := if zIn k 0 1 then (nI 0, sGood (ma (mar M 3 (cpA (M.2.2.1 3) (M.2.2.1 2) (5866 * tNat k) 5866)) 4 (tNat k) (nI 1))) else sNo M 1
theorem c_X6_image {M : MM} (k : Int32) : MC E fX6_image L M ph [.int k] (rI fun r M' => (r, M') = oImage M k) := by
  refine Ct.of [some (.ref (L.1 52)), some (.int k), none] rfl (Nat.le_of_ble_eq_true rfl) (show plainName RX6 = true by decide +kernel) rfl ?_
  refine G.iload_n1 dX6_image_0 ?_
  refine G.iconst (v := nI 0) dX6_image_1 (by decide) ?_
  refine G.iconst (v := nI 1) dX6_image_2 (by decide) ?_
  refine G.scall (f' := fX6_lies) q1912 ck_X6_lies (c_X6_lies E _ _ _) dX6_image_3 (sI.k fun r_3 h_3 => ?_)
  replace h_3 := h_3.symm; subst h_3
  refine G.ifb_ne (tgt := 15) dX6_image_6 (by decide) (fun c_6 => ?_) (fun c_6 => ?_)
  · refine G.iconst (v := nI 0) dX6_image_15 (by decide) ?_
    refine G.istore_n2 dX6_image_16 ?_
    have q := of_decide_eq_true c_6
    obtain ⟨j, hj, rfl⟩ := zIn_of q (by decide)
    have loop : ∀ d i, i + d = 5866 → G E fX6_image (mFin E fX6_image L ph (rI fun r M' => (r, M') = oImage M (nI j))) 17 [some (.ref (L.1 52)), some (.int (nI j)), some (.int (nI i))] [] (movl L (mar M 3 (cpA (M.2.2.1 3) (M.2.2.1 2) (5866 * j) i)) ph) 0 0 := by
      intro d
      induction d with
      | zero =>
        intro i hi
        refine G.iload_n2 dX6_image_17 ?_
        refine G.sipush (v := nI 5866) dX6_image_18 (by decide) ?_
        refine G.icmp_ge (tgt := 48) dX6_image_21 (by decide) (fun c_21 => ?_) (fun c_21 => ?_)
        · have n_21 : 5866 ≤ i := (nI_leI (by omega) (by omega)).mp c_21
          refine G.aload_n0 dX6_image_48 ?_
          refine G.mgeta 4 fl_X6_30 dX6_image_49 ?_
          refine G.iload_n1 dX6_image_52 ?_
          refine G.iconst (v := nI 1) dX6_image_53 (by decide) ?_
          refine G.mzast (n := 2) 4 j dX6_image_54 rfl (by omega) rfl ?_
          refine G.aload_n0 dX6_image_55 ?_
          refine G.iconst (v := nI 0) dX6_image_56 (by decide) ?_
          refine G.mcall (f' := fX6_good) q1919 ck_X6_good (c_X6_good E L _ ph (nI 0)) dX6_image_57 (rI.k fun r_57 M_57 h_57 => ?_)
          obtain ⟨e_57, h_57⟩ := h_57; replace e_57 := e_57.symm; replace h_57 := h_57.symm; subst e_57; subst h_57
          refine G.ireturn dX6_image_60 ?_
          exact oFin (by unfold oImage; rw [if_pos q, tNat_nI (by omega), show i = 5866 from by omega]; rfl)
        · exact absurd (nI_leI (by omega) (by omega) |>.mpr (by omega)) c_21
      | succ d ih =>
        intro i hi
        refine G.iload_n2 dX6_image_17 ?_
        refine G.sipush (v := nI 5866) dX6_image_18 (by decide) ?_
        refine G.icmp_ge (tgt := 48) dX6_image_21 (by decide) (fun c_21 => ?_) (fun c_21 => ?_)
        · exact absurd ((nI_leI (by omega) (by omega)).mp c_21) (by omega)
        · refine G.aload_n0 dX6_image_24 ?_
          refine G.mgeta 3 fl_X6_27 dX6_image_25 ?_
          refine G.sipush (v := nI 5866) dX6_image_28 (by decide) ?_
          refine G.iload_n1 dX6_image_31 ?_
          first | with_reducible refine G.imuln dX6_image_32 ?_ | refine G.imul dX6_image_32 ?_
          refine G.iload_n2 dX6_image_33 ?_
          first | with_reducible refine G.iaddn dX6_image_34 ?_ | refine G.iadd dX6_image_34 ?_
          refine G.aload_n0 dX6_image_35 ?_
          refine G.mgeta 2 fl_X6_24 dX6_image_36 ?_
          refine G.iload_n2 dX6_image_39 ?_
          refine G.miald (n := 5866) 2 _ dX6_image_40 rfl (by omega) ?_
          refine G.miast (n := 11732) 3 (5866 * j + i) dX6_image_41 rfl (by omega) ?_
          refine G.iinc2 dX6_image_42 ?_
          try rw [show ∀ a : Nat, nI a + Int32.ofInt 1 = nI (a + 1) from fun a => nI_add a 1]
          refine G.goto (tgt := 17) dX6_image_45 (by decide) ?_
          rw [ma_mar, mar_n (by decide), cpA_s]
          exact ih (i + 1) (by omega)
    have := loop 5866 0 rfl
    rw [cpA_0, mar_id] at this
    exact this
  · refine G.aload_n0 dX6_image_9 ?_
    refine G.iconst (v := -1) dX6_image_10 (by decide) ?_
    refine G.mcall (f' := fX6_refuses) q1915 ck_X6_refuses (c_X6_refuses E L M ph (k := 1) (by decide)) dX6_image_11 (rI.k fun r_11 M_11 h_11 => ?_)
    obtain ⟨e_11, h_11⟩ := h_11; replace e_11 := e_11.symm; replace h_11 := h_11.symm; subst e_11; subst h_11
    refine G.ireturn dX6_image_14 ?_
    have q := of_decide_eq_false c_6
    exact oFin (by unfold oImage; rw [if_neg q]; rfl)
def oBack (M : MM) (k : Int32) : Int32 × MM := if zIn k 0 1 then (if M.2.2.1 4 (tNat k) = 0 then sNo M 2 else (nI 0, sSet (mar M 2 (cpA (M.2.2.1 2) (fun i => M.2.2.1 3 (5866 * tNat k + i)) 0 5866)))) else sNo M 1
theorem c_X6_back {M : MM} (k : Int32) : MC E fX6_back L M ph [.int k] (rI fun r M' => (r, M') = oBack M k) := by
  refine Ct.of [some (.ref (L.1 52)), some (.int k), none] rfl (Nat.le_of_ble_eq_true rfl) (show plainName RX6 = true by decide +kernel) rfl ?_
  refine G.iload_n1 dX6_back_0 ?_
  refine G.iconst (v := nI 0) dX6_back_1 (by decide) ?_
  refine G.iconst (v := nI 1) dX6_back_2 (by decide) ?_
  refine G.scall (f' := fX6_lies) q1912 ck_X6_lies (c_X6_lies E _ _ _) dX6_back_3 (sI.k fun r_3 h_3 => ?_)
  replace h_3 := h_3.symm; subst h_3
  refine G.ifb_ne (tgt := 15) dX6_back_6 (by decide) (fun c_6 => ?_) (fun c_6 => ?_)
  · have q := of_decide_eq_true c_6
    obtain ⟨j, hj, rfl⟩ := zIn_of q (by decide)
    have hob : oBack M (nI j) = if M.2.2.1 4 j = 0 then sNo M 2 else (nI 0, sSet (mar M 2 (cpA (M.2.2.1 2) (fun i => M.2.2.1 3 (5866 * j + i)) 0 5866))) := by
      unfold oBack
      rw [if_pos q, tNat_nI (by omega)]
    refine G.aload_n0 dX6_back_15 ?_
    refine G.mgeta 4 fl_X6_30 dX6_back_16 ?_
    refine G.iload_n1 dX6_back_19 ?_
    refine G.mzald (n := 2) 4 j dX6_back_20 rfl (by omega) ?_
    refine G.if_ne (tgt := 31) dX6_back_21 (by decide) (fun c_21 => ?_) (fun c_21 => ?_)
    · refine G.iconst (v := nI 0) dX6_back_31 (by decide) ?_
      refine G.istore_n2 dX6_back_32 ?_
      rw [hob, if_neg c_21]
      have loop : ∀ d i, i + d = 5866 → G E fX6_back (mFin E fX6_back L ph (rI fun r M' => (r, M') = (nI 0, sSet (mar M 2 (cpA (M.2.2.1 2) (fun i => M.2.2.1 3 (5866 * j + i)) 0 5866))))) 33 [some (.ref (L.1 52)), some (.int (nI j)), some (.int (nI i))] [] (movl L (mar M 2 (cpA (M.2.2.1 2) (fun i => M.2.2.1 3 (5866 * j + i)) 0 i)) ph) 0 0 := by
        intro d
        induction d with
        | zero =>
          intro i hi
          refine G.iload_n2 dX6_back_33 ?_
          refine G.sipush (v := nI 5866) dX6_back_34 (by decide) ?_
          refine G.icmp_ge (tgt := 64) dX6_back_37 (by decide) (fun c_37 => ?_) (fun c_37 => ?_)
          · refine G.aload_n0 dX6_back_64 ?_
            refine G.iconst (v := nI 0) dX6_back_65 (by decide) ?_
            refine G.mcall (f' := fX6_settled) q1927 ck_X6_settled (c_X6_settled E L _ ph (nI 0)) dX6_back_66 (rI.k fun r_66 M_66 h_66 => ?_)
            obtain ⟨e_66, h_66⟩ := h_66; replace e_66 := e_66.symm; replace h_66 := h_66.symm; subst e_66; subst h_66
            refine G.ireturn dX6_back_69 ?_
            exact oFin (by rw [show i = 5866 from by omega]; rfl)
          · exact absurd (nI_leI (by omega) (by omega) |>.mpr (by omega)) c_37
        | succ d ih =>
          intro i hi
          refine G.iload_n2 dX6_back_33 ?_
          refine G.sipush (v := nI 5866) dX6_back_34 (by decide) ?_
          refine G.icmp_ge (tgt := 64) dX6_back_37 (by decide) (fun c_37 => ?_) (fun c_37 => ?_)
          · exact absurd ((nI_leI (by omega) (by omega)).mp c_37) (by omega)
          · refine G.aload_n0 dX6_back_40 ?_
            refine G.mgeta 2 fl_X6_24 dX6_back_41 ?_
            refine G.iload_n2 dX6_back_44 ?_
            refine G.aload_n0 dX6_back_45 ?_
            refine G.mgeta 3 fl_X6_27 dX6_back_46 ?_
            refine G.sipush (v := nI 5866) dX6_back_49 (by decide) ?_
            refine G.iload_n1 dX6_back_52 ?_
            first | with_reducible refine G.imuln dX6_back_53 ?_ | refine G.imul dX6_back_53 ?_
            refine G.iload_n2 dX6_back_54 ?_
            first | with_reducible refine G.iaddn dX6_back_55 ?_ | refine G.iadd dX6_back_55 ?_
            refine G.miald (n := 11732) 3 (5866 * j + i) dX6_back_56 rfl (by omega) ?_
            refine G.miast (n := 5866) 2 i dX6_back_57 rfl (by omega) ?_
            refine G.iinc2 dX6_back_58 ?_
            try rw [show ∀ a : Nat, nI a + Int32.ofInt 1 = nI (a + 1) from fun a => nI_add a 1]
            refine G.goto (tgt := 33) dX6_back_61 (by decide) ?_
            rw [ma_mar, mar_n (by decide)]
            have hs := cpA_s (h := M.2.2.1 2) (g := fun i => M.2.2.1 3 (5866 * j + i)) (a := 0) (j := i)
            rw [Nat.zero_add] at hs
            rw [hs]
            exact ih (i + 1) (by omega)
      have := loop 5866 0 rfl
      rw [cpA_0, mar_id] at this
      exact this
    · refine G.aload_n0 dX6_back_24 ?_
      refine G.bipush (v := -2) dX6_back_25 (by decide) ?_
      refine G.mcall (f' := fX6_refuses) q1915 ck_X6_refuses (c_X6_refuses E L M ph (k := 2) (by decide)) dX6_back_27 (rI.k fun r_27 M_27 h_27 => ?_)
      obtain ⟨e_27, h_27⟩ := h_27; replace e_27 := e_27.symm; replace h_27 := h_27.symm; subst e_27; subst h_27
      refine G.ireturn dX6_back_30 ?_
      exact oFin (by rw [hob, if_pos (by first | exact c_21 | exact Classical.not_not.mp c_21)]; rfl)
  · refine G.aload_n0 dX6_back_9 ?_
    refine G.iconst (v := -1) dX6_back_10 (by decide) ?_
    refine G.mcall (f' := fX6_refuses) q1915 ck_X6_refuses (c_X6_refuses E L M ph (k := 1) (by decide)) dX6_back_11 (rI.k fun r_11 M_11 h_11 => ?_)
    obtain ⟨e_11, h_11⟩ := h_11; replace e_11 := e_11.symm; replace h_11 := h_11.symm; subst e_11; subst h_11
    refine G.ireturn dX6_back_14 ?_
    have q := of_decide_eq_false c_6
    exact oFin (by unfold oBack; rw [if_neg q]; rfl)
/-- a person more -/
def sAdd (M : MM) (n : Nat) (a b h : Int32) : MM := ma (ma (ma (ma (ma (ma M 2 (34 + 2 * n) a) 2 (34 + 2 * n + 1) b) 2 n (nI 0)) 2 (10 + n) (-1)) 2 (20 + n) h) 2 256 (nI (n + 1))
theorem c_X6_adds {M : MM} {n : Nat} (hn : n < 10) (hM : M.2.2.1 2 256 = nI n) (a b h : Int32) : MC E fX6_adds L M ph [.int a, .int b, .int h] (rV fun M' => M' = sAdd M n a b h) := by
  refine Ct.of [some (.ref (L.1 52)), some (.int a), some (.int b), some (.int h), none] rfl (Nat.le_of_ble_eq_true rfl) (show plainName RX6 = true by decide +kernel) rfl ?_
  refine G.aload_n0 dX6_adds_0 ?_
  refine G.mcall (f' := fX6_people) q1938 ck_X6_people (c_X6_people E L M ph) dX6_adds_1 (rI.k fun r_1 M_1 h_1 => ?_)
  obtain ⟨e_1, h_1⟩ := h_1; replace e_1 := e_1.symm; replace h_1 := h_1.symm; subst e_1; subst h_1
  rw [hM]
  refine G.istore4 dX6_adds_4 ?_
  refine G.aload_n0 dX6_adds_6 ?_
  refine G.mgeta 2 fl_X6_24 dX6_adds_7 ?_
  refine G.bipush (v := nI 34) dX6_adds_10 (by decide) ?_
  refine G.iconst (v := nI 2) dX6_adds_12 (by decide) ?_
  refine G.iload4 dX6_adds_13 ?_
  first | with_reducible refine G.imuln dX6_adds_15 ?_ | refine G.imul dX6_adds_15 ?_
  first | with_reducible refine G.iaddn dX6_adds_16 ?_ | refine G.iadd dX6_adds_16 ?_
  refine G.iload_n1 dX6_adds_17 ?_
  refine G.miast (n := 5866) 2 _ dX6_adds_18 rfl (by omega) ?_
  refine G.aload_n0 dX6_adds_19 ?_
  refine G.mgeta 2 fl_X6_24 dX6_adds_20 ?_
  refine G.bipush (v := nI 34) dX6_adds_23 (by decide) ?_
  refine G.iconst (v := nI 2) dX6_adds_25 (by decide) ?_
  refine G.iload4 dX6_adds_26 ?_
  first | with_reducible refine G.imuln dX6_adds_28 ?_ | refine G.imul dX6_adds_28 ?_
  first | with_reducible refine G.iaddn dX6_adds_29 ?_ | refine G.iadd dX6_adds_29 ?_
  refine G.iconst (v := nI 1) dX6_adds_30 (by decide) ?_
  first | with_reducible refine G.iaddn dX6_adds_31 ?_ | refine G.iadd dX6_adds_31 ?_
  refine G.iload_n2 dX6_adds_32 ?_
  refine G.miast (n := 5866) 2 _ dX6_adds_33 rfl (by omega) ?_
  refine G.aload_n0 dX6_adds_34 ?_
  refine G.mgeta 2 fl_X6_24 dX6_adds_35 ?_
  refine G.iconst (v := nI 0) dX6_adds_38 (by decide) ?_
  refine G.iload4 dX6_adds_39 ?_
  first | with_reducible refine G.iaddn dX6_adds_41 ?_ | refine G.iadd dX6_adds_41 ?_
  refine G.iconst (v := nI 0) dX6_adds_42 (by decide) ?_
  refine G.miast (n := 5866) 2 n dX6_adds_43 (congrArg nI (Nat.zero_add n)) (by omega) ?_
  refine G.aload_n0 dX6_adds_44 ?_
  refine G.mgeta 2 fl_X6_24 dX6_adds_45 ?_
  refine G.bipush (v := nI 10) dX6_adds_48 (by decide) ?_
  refine G.iload4 dX6_adds_50 ?_
  first | with_reducible refine G.iaddn dX6_adds_52 ?_ | refine G.iadd dX6_adds_52 ?_
  refine G.iconst (v := -1) dX6_adds_53 (by decide) ?_
  refine G.miast (n := 5866) 2 _ dX6_adds_54 rfl (by omega) ?_
  refine G.aload_n0 dX6_adds_55 ?_
  refine G.mgeta 2 fl_X6_24 dX6_adds_56 ?_
  refine G.bipush (v := nI 20) dX6_adds_59 (by decide) ?_
  refine G.iload4 dX6_adds_61 ?_
  first | with_reducible refine G.iaddn dX6_adds_63 ?_ | refine G.iadd dX6_adds_63 ?_
  refine G.iload_n3 dX6_adds_64 ?_
  refine G.miast (n := 5866) 2 _ dX6_adds_65 rfl (by omega) ?_
  refine G.aload_n0 dX6_adds_66 ?_
  refine G.mgeta 2 fl_X6_24 dX6_adds_67 ?_
  refine G.sipush (v := nI 256) dX6_adds_70 (by decide) ?_
  refine G.dup2_11 dX6_adds_73 rfl rfl ?_
  refine G.miald (n := 5866) 2 _ dX6_adds_74 rfl (by omega) ?_
  repeat rw [ma_at, if_pos rfl, if_neg (by omega)]
  rw [hM]
  refine G.iconst (v := nI 1) dX6_adds_75 (by decide) ?_
  first | with_reducible refine G.iaddn dX6_adds_76 ?_ | refine G.iadd dX6_adds_76 ?_
  refine G.miast (n := 5866) 2 _ dX6_adds_77 rfl (by omega) ?_
  refine G.return_ dX6_adds_78 ?_
  exact ⟨_, rfl, rfl, rfl⟩
def oPerson (M : MM) (n : Nat) (a b : Int32) : Int32 × MM := if (0 ≤ a.toInt ∧ a.toInt ≤ 30) ∧ (0 ≤ b.toInt ∧ b.toInt ≤ 3) then (if n = 10 then sNo M 5 else (nI n, sSet (sAdd M n a b (nI 0)))) else sNo M 1
theorem sAdd_n {M : MM} {n : Nat} {a b h : Int32} : (sAdd M n a b h).2.2.1 2 256 = nI (n + 1) := by
  unfold sAdd
  rw [ma_at, if_pos rfl, if_pos rfl]
theorem c_X6_person {M : MM} {n : Nat} (hn : n ≤ 10) (hM : M.2.2.1 2 256 = nI n) (a b : Int32) : MC E fX6_person L M ph [.int a, .int b] (rI fun r M' => (r, M') = oPerson M n a b) := by
  refine Ct.of [some (.ref (L.1 52)), some (.int a), some (.int b)] rfl (Nat.le_of_ble_eq_true rfl) (show plainName RX6 = true by decide +kernel) rfl ?_
  refine G.iload_n1 dX6_person_0 ?_
  refine G.iload_n2 dX6_person_1 ?_
  refine G.scall (f' := fX6_canBe) q1935 ck_X6_canBe (c_X6_canBe E _ _) dX6_person_2 (sI.k fun r_2 h_2 => ?_)
  replace h_2 := h_2.symm; subst h_2
  refine G.ifb_ne (tgt := 14) dX6_person_5 (by decide) (fun c_5 => ?_) (fun c_5 => ?_)
  · refine G.aload_n0 dX6_person_14 ?_
    refine G.mcall (f' := fX6_people) q1938 ck_X6_people (c_X6_people E L _ ph) dX6_person_15 (rI.k fun r_15 M_15 h_15 => ?_)
    obtain ⟨e_15, h_15⟩ := h_15; replace e_15 := e_15.symm; replace h_15 := h_15.symm; subst e_15; subst h_15
    rw [hM]
    refine G.bipush (v := nI 10) dX6_person_18 (by decide) ?_
    refine G.icmp_ne (tgt := 30) dX6_person_20 (by decide) (fun c_20 => ?_) (fun c_20 => ?_)
    · have n_20 : ¬ n = 10 := fun z => c_20 (congrArg nI z)
      refine G.aload_n0 dX6_person_30 ?_
      refine G.iload_n1 dX6_person_31 ?_
      refine G.iload_n2 dX6_person_32 ?_
      refine G.iconst (v := nI 0) dX6_person_33 (by decide) ?_
      refine G.mcall (f' := fX6_adds) q1942 ck_X6_adds (c_X6_adds (n := n) (by omega) hM a b (nI 0)) dX6_person_34 (rV.k fun M_34 h_34 => ?_)
      replace h_34 := h_34.symm; subst h_34
      refine G.aload_n0 dX6_person_37 ?_
      refine G.aload_n0 dX6_person_38 ?_
      refine G.mcall (f' := fX6_people) q1938 ck_X6_people (c_X6_people E L _ ph) dX6_person_39 (rI.k fun r_39 M_39 h_39 => ?_)
      obtain ⟨e_39, h_39⟩ := h_39; replace e_39 := e_39.symm; replace h_39 := h_39.symm; subst e_39; subst h_39
      rw [sAdd_n]
      refine G.iconst (v := nI 1) dX6_person_42 (by decide) ?_
      refine G.isub dX6_person_43 ?_
      rw [pk_sub (by omega), Nat.add_sub_cancel]
      refine G.mcall (f' := fX6_settled) q1927 ck_X6_settled (c_X6_settled E L _ ph (nI n)) dX6_person_44 (rI.k fun r_44 M_44 h_44 => ?_)
      obtain ⟨e_44, h_44⟩ := h_44; replace e_44 := e_44.symm; replace h_44 := h_44.symm; subst e_44; subst h_44
      refine G.ireturn dX6_person_47 ?_
      exact oFin (by unfold oPerson; rw [if_pos (of_decide_eq_true c_5), if_neg n_20]; rfl)
    · have n_20 : n = 10 := (nI_inj (by omega) (by omega)).mp c_20
      refine G.aload_n0 dX6_person_23 ?_
      refine G.bipush (v := -5) dX6_person_24 (by decide) ?_
      refine G.mcall (f' := fX6_refuses) q1915 ck_X6_refuses (c_X6_refuses E L M ph (k := 5) (by decide)) dX6_person_26 (rI.k fun r_26 M_26 h_26 => ?_)
      obtain ⟨e_26, h_26⟩ := h_26; replace e_26 := e_26.symm; replace h_26 := h_26.symm; subst e_26; subst h_26
      refine G.ireturn dX6_person_29 ?_
      exact oFin (by unfold oPerson; rw [if_pos (of_decide_eq_true c_5), if_pos n_20]; rfl)
  · refine G.aload_n0 dX6_person_8 ?_
    refine G.iconst (v := -1) dX6_person_9 (by decide) ?_
    refine G.mcall (f' := fX6_refuses) q1915 ck_X6_refuses (c_X6_refuses E L M ph (k := 1) (by decide)) dX6_person_10 (rI.k fun r_10 M_10 h_10 => ?_)
    obtain ⟨e_10, h_10⟩ := h_10; replace e_10 := e_10.symm; replace h_10 := h_10.symm; subst e_10; subst h_10
    refine G.ireturn dX6_person_13 ?_
    exact oFin (by unfold oPerson; rw [if_neg (of_decide_eq_false c_5)]; rfl)
theorem oP {p : Int32} {n : Nat} (h : 0 ≤ p.toInt ∧ p.toInt < n) (hn : n ≤ 10) : ∃ k, k < n ∧ p = nI k := t_of h.1 h.2
def oHear (M : MM) (n : Nat) (p v : Int32) : Int32 × MM := if zIn v 0 2 then (if 0 ≤ p.toInt ∧ p.toInt < n then (if M.2.2.1 2 (tNat p) = nI 3 then sNo M 3 else (M.2.2.1 2 (20 + tNat p), sSet (ma M 2 (20 + tNat p) v))) else sNo M 2) else sNo M 1
theorem c_X6_hear {M : MM} {n : Nat} (hn : n ≤ 10) (hM : M.2.2.1 2 256 = nI n) (p v : Int32) : MC E fX6_hear L M ph [.int p, .int v] (rI fun r M' => (r, M') = oHear M n p v) := by
  refine Ct.of [some (.ref (L.1 52)), some (.int p), some (.int v), none] rfl (Nat.le_of_ble_eq_true rfl) (show plainName RX6 = true by decide +kernel) rfl ?_
  refine G.iload_n2 dX6_hear_0 ?_
  refine G.iconst (v := nI 0) dX6_hear_1 (by decide) ?_
  refine G.iconst (v := nI 2) dX6_hear_2 (by decide) ?_
  refine G.scall (f' := fX6_lies) q1912 ck_X6_lies (c_X6_lies E _ _ _) dX6_hear_3 (sI.k fun r_3 h_3 => ?_)
  replace h_3 := h_3.symm; subst h_3
  refine G.ifb_ne (tgt := 15) dX6_hear_6 (by decide) (fun c_6 => ?_) (fun c_6 => ?_)
  · refine G.aload_n0 dX6_hear_15 ?_
    refine G.iload_n1 dX6_hear_16 ?_
    refine G.mcall (f' := fX6_isPerson) q1950 ck_X6_isPerson (c_X6_isPerson E L M ph p hn hM) dX6_hear_17 (rI.k fun r_17 M_17 h_17 => ?_)
    obtain ⟨e_17, h_17⟩ := h_17; replace e_17 := e_17.symm; replace h_17 := h_17.symm; subst e_17; subst h_17
    refine G.ifb_ne (tgt := 30) dX6_hear_20 (by decide) (fun c_20 => ?_) (fun c_20 => ?_)
    · have q := of_decide_eq_true c_20
      obtain ⟨k, hk, rfl⟩ := oP q hn
      refine G.aload_n0 dX6_hear_30 ?_
      refine G.mgeta 2 fl_X6_24 dX6_hear_31 ?_
      refine G.iconst (v := nI 0) dX6_hear_34 (by decide) ?_
      refine G.iload_n1 dX6_hear_35 ?_
      first | with_reducible refine G.iaddn dX6_hear_36 ?_ | refine G.iadd dX6_hear_36 ?_
      refine G.miald (n := 5866) 2 k dX6_hear_37 (congrArg nI (Nat.zero_add k)) (by omega) ?_
      refine G.iconst (v := nI 3) dX6_hear_38 (by decide) ?_
      refine G.icmp_ne (tgt := 49) dX6_hear_39 (by decide) (fun c_39 => ?_) (fun c_39 => ?_)
      · refine G.aload_n0 dX6_hear_49 ?_
        refine G.mgeta 2 fl_X6_24 dX6_hear_50 ?_
        refine G.bipush (v := nI 20) dX6_hear_53 (by decide) ?_
        refine G.iload_n1 dX6_hear_55 ?_
        first | with_reducible refine G.iaddn dX6_hear_56 ?_ | refine G.iadd dX6_hear_56 ?_
        refine G.miald (n := 5866) 2 _ dX6_hear_57 rfl (by omega) ?_
        refine G.istore_n3 dX6_hear_58 ?_
        refine G.aload_n0 dX6_hear_59 ?_
        refine G.mgeta 2 fl_X6_24 dX6_hear_60 ?_
        refine G.bipush (v := nI 20) dX6_hear_63 (by decide) ?_
        refine G.iload_n1 dX6_hear_65 ?_
        first | with_reducible refine G.iaddn dX6_hear_66 ?_ | refine G.iadd dX6_hear_66 ?_
        refine G.iload_n2 dX6_hear_67 ?_
        refine G.miast (n := 5866) 2 _ dX6_hear_68 rfl (by omega) ?_
        refine G.aload_n0 dX6_hear_69 ?_
        refine G.iload_n3 dX6_hear_70 ?_
        refine G.mcall (f' := fX6_settled) q1927 ck_X6_settled (c_X6_settled E L _ ph _) dX6_hear_71 (rI.k fun r_71 M_71 h_71 => ?_)
        obtain ⟨e_71, h_71⟩ := h_71; replace e_71 := e_71.symm; replace h_71 := h_71.symm; subst e_71; subst h_71
        refine G.ireturn dX6_hear_74 ?_
        exact oFin (by unfold oHear; rw [if_pos (of_decide_eq_true c_6), if_pos q, tNat_nI (by omega), if_neg c_39]; rfl)
      · refine G.aload_n0 dX6_hear_42 ?_
        refine G.bipush (v := -3) dX6_hear_43 (by decide) ?_
        refine G.mcall (f' := fX6_refuses) q1915 ck_X6_refuses (c_X6_refuses E L M ph (k := 3) (by decide)) dX6_hear_45 (rI.k fun r_45 M_45 h_45 => ?_)
        obtain ⟨e_45, h_45⟩ := h_45; replace e_45 := e_45.symm; replace h_45 := h_45.symm; subst e_45; subst h_45
        refine G.ireturn dX6_hear_48 ?_
        exact oFin (by unfold oHear; rw [if_pos (of_decide_eq_true c_6), if_pos q, tNat_nI (by omega), if_pos (by first | exact c_39 | exact Classical.not_not.mp c_39)]; rfl)
    · refine G.aload_n0 dX6_hear_23 ?_
      refine G.bipush (v := -2) dX6_hear_24 (by decide) ?_
      refine G.mcall (f' := fX6_refuses) q1915 ck_X6_refuses (c_X6_refuses E L M ph (k := 2) (by decide)) dX6_hear_26 (rI.k fun r_26 M_26 h_26 => ?_)
      obtain ⟨e_26, h_26⟩ := h_26; replace e_26 := e_26.symm; replace h_26 := h_26.symm; subst e_26; subst h_26
      refine G.ireturn dX6_hear_29 ?_
      exact oFin (by unfold oHear; rw [if_pos (of_decide_eq_true c_6), if_neg (of_decide_eq_false c_20)]; rfl)
  · refine G.aload_n0 dX6_hear_9 ?_
    refine G.iconst (v := -1) dX6_hear_10 (by decide) ?_
    refine G.mcall (f' := fX6_refuses) q1915 ck_X6_refuses (c_X6_refuses E L M ph (k := 1) (by decide)) dX6_hear_11 (rI.k fun r_11 M_11 h_11 => ?_)
    obtain ⟨e_11, h_11⟩ := h_11; replace e_11 := e_11.symm; replace h_11 := h_11.symm; subst e_11; subst h_11
    refine G.ireturn dX6_hear_14 ?_
    exact oFin (by unfold oHear; rw [if_neg (of_decide_eq_false c_6)]; rfl)
def kOf (K : KR) (n : Nat) (p what : Int32) : Int32 := if 0 ≤ p.toInt ∧ p.toInt < n then (if what = nI 0 then K (34 + 2 * tNat p) else if what = nI 1 then K (34 + 2 * tNat p + 1) else if what = nI 2 then K (20 + tNat p) else if what = nI 3 then K (tNat p) else if what = nI 4 then (if K (tNat p) = nI 1 then K (10 + tNat p) else -1) else if what = nI 5 then wOf K (tNat p) else -1) else -1
theorem c_X6_of {M : MM} {n : Nat} (hn : n ≤ 10) (hM : M.2.2.1 2 256 = nI n) (p what : Int32) : MC E fX6_of L M ph [.int p, .int what] (rI fun r M' => (r, M') = (kOf (M.2.2.1 2) n p what, M)) := by
  refine Ct.of [some (.ref (L.1 52)), some (.int p), some (.int what)] rfl (Nat.le_of_ble_eq_true rfl) (show plainName RX6 = true by decide +kernel) rfl ?_
  refine G.aload_n0 dX6_of_0 ?_
  refine G.iload_n1 dX6_of_1 ?_
  refine G.mcall (f' := fX6_isPerson) q1950 ck_X6_isPerson (c_X6_isPerson E L M ph p hn hM) dX6_of_2 (rI.k fun r_2 M_2 h_2 => ?_)
  obtain ⟨e_2, h_2⟩ := h_2; replace e_2 := e_2.symm; replace h_2 := h_2.symm; subst e_2; subst h_2
  refine G.ifb_ne (tgt := 10) dX6_of_5 (by decide) (fun c_5 => ?_) (fun c_5 => ?_)
  · have q := of_decide_eq_true c_5
    obtain ⟨k, hk, rfl⟩ := oP q hn
    rw [show kOf (M.2.2.1 2) n (nI k) what = _ from if_pos q, tNat_nI (by omega)]
    refine G.iload_n2 dX6_of_10 ?_
    refine G.tab (hi := 5) dX6_of_11 (tgt := 111) (by decide) (fun c_11 => ?_) (fun k_11 hk_11 c_11 => ?_)
    · refine G.iconst (v := -1) dX6_of_111 (by decide) ?_
      refine G.ireturn dX6_of_112 ?_
      have no : ∀ j, j ≤ 5 → ¬ what = nI j := fun j hj z => by rw [z, t_nI (by omega)] at c_11; omega
      exact oFin (by rw [if_neg (no 0 (by omega)), if_neg (no 1 (by omega)), if_neg (no 2 (by omega)), if_neg (no 3 (by omega)), if_neg (no 4 (by omega)), if_neg (no 5 (by omega))])
    · rcases (show k_11 = 0 ∨ k_11 = 1 ∨ k_11 = 2 ∨ k_11 = 3 ∨ k_11 = 4 ∨ k_11 = 5 from by omega) with rfl | rfl | rfl | rfl | rfl | rfl
      · refine ⟨48, 37, rfl, by decide, ?_⟩
        refine G.aload_n0 dX6_of_48 ?_
        refine G.iload_n1 dX6_of_49 ?_
        refine G.mcall (f' := fX6_roadOf) q1958 ck_X6_roadOf (c_X6_roadOf E L _ ph (k := k) (by omega)) dX6_of_50 (rI.k fun r_50 M_50 h_50 => ?_)
        obtain ⟨e_50, h_50⟩ := h_50; replace e_50 := e_50.symm; replace h_50 := h_50.symm; subst e_50; subst h_50
        refine G.ireturn dX6_of_53 ?_
        subst c_11
        exact oFin rfl
      · refine ⟨54, 43, rfl, by decide, ?_⟩
        refine G.aload_n0 dX6_of_54 ?_
        refine G.iload_n1 dX6_of_55 ?_
        refine G.mcall (f' := fX6_landOf) q1962 ck_X6_landOf (c_X6_landOf E L _ ph (k := k) (by omega)) dX6_of_56 (rI.k fun r_56 M_56 h_56 => ?_)
        obtain ⟨e_56, h_56⟩ := h_56; replace e_56 := e_56.symm; replace h_56 := h_56.symm; subst e_56; subst h_56
        refine G.ireturn dX6_of_59 ?_
        subst c_11
        exact oFin rfl
      · refine ⟨60, 49, rfl, by decide, ?_⟩
        refine G.aload_n0 dX6_of_60 ?_
        refine G.mgeta 2 fl_X6_24 dX6_of_61 ?_
        refine G.bipush (v := nI 20) dX6_of_64 (by decide) ?_
        refine G.iload_n1 dX6_of_66 ?_
        first | with_reducible refine G.iaddn dX6_of_67 ?_ | refine G.iadd dX6_of_67 ?_
        refine G.miald (n := 5866) 2 _ dX6_of_68 rfl (by omega) ?_
        refine G.ireturn dX6_of_69 ?_
        subst c_11
        exact oFin rfl
      · refine ⟨70, 59, rfl, by decide, ?_⟩
        refine G.aload_n0 dX6_of_70 ?_
        refine G.mgeta 2 fl_X6_24 dX6_of_71 ?_
        refine G.iconst (v := nI 0) dX6_of_74 (by decide) ?_
        refine G.iload_n1 dX6_of_75 ?_
        first | with_reducible refine G.iaddn dX6_of_76 ?_ | refine G.iadd dX6_of_76 ?_
        refine G.miald (n := 5866) 2 k dX6_of_77 (congrArg nI (Nat.zero_add k)) (by omega) ?_
        refine G.ireturn dX6_of_78 ?_
        subst c_11
        exact oFin rfl
      · refine ⟨79, 68, rfl, by decide, ?_⟩
        refine G.aload_n0 dX6_of_79 ?_
        refine G.mgeta 2 fl_X6_24 dX6_of_80 ?_
        refine G.iconst (v := nI 0) dX6_of_83 (by decide) ?_
        refine G.iload_n1 dX6_of_84 ?_
        first | with_reducible refine G.iaddn dX6_of_85 ?_ | refine G.iadd dX6_of_85 ?_
        refine G.miald (n := 5866) 2 k dX6_of_86 (congrArg nI (Nat.zero_add k)) (by omega) ?_
        refine G.iconst (v := nI 1) dX6_of_87 (by decide) ?_
        refine G.icmp_ne (tgt := 103) dX6_of_88 (by decide) (fun c_88 => ?_) (fun c_88 => ?_)
        · refine G.iconst (v := -1) dX6_of_103 (by decide) ?_
          refine G.ireturn dX6_of_104 ?_
          subst c_11
          first
            | exact oFin (by rw [if_neg (by decide), if_neg (by decide), if_neg (by decide), if_neg (by decide), if_pos rfl, if_pos (by first | exact c_88 | exact Classical.not_not.mp c_88)])
            | exact oFin (by rw [if_neg (by decide), if_neg (by decide), if_neg (by decide), if_neg (by decide), if_pos rfl, if_neg c_88])
        · refine G.aload_n0 dX6_of_91 ?_
          refine G.mgeta 2 fl_X6_24 dX6_of_92 ?_
          refine G.bipush (v := nI 10) dX6_of_95 (by decide) ?_
          refine G.iload_n1 dX6_of_97 ?_
          first | with_reducible refine G.iaddn dX6_of_98 ?_ | refine G.iadd dX6_of_98 ?_
          refine G.miald (n := 5866) 2 _ dX6_of_99 rfl (by omega) ?_
          refine G.goto (tgt := 104) dX6_of_100 (by decide) ?_
          refine G.ireturn dX6_of_104 ?_
          subst c_11
          first
            | exact oFin (by rw [if_neg (by decide), if_neg (by decide), if_neg (by decide), if_neg (by decide), if_pos rfl, if_pos (by first | exact c_88 | exact Classical.not_not.mp c_88)])
            | exact oFin (by rw [if_neg (by decide), if_neg (by decide), if_neg (by decide), if_neg (by decide), if_pos rfl, if_neg c_88])
      · refine ⟨105, 94, rfl, by decide, ?_⟩
        refine G.aload_n0 dX6_of_105 ?_
        refine G.iload_n1 dX6_of_106 ?_
        refine G.mcall (f' := fX6_worthOf) q1966 ck_X6_worthOf (c_X6_worthOf E L _ ph (k := k) (by omega)) dX6_of_107 (rI.k fun r_107 M_107 h_107 => ?_)
        obtain ⟨e_107, h_107⟩ := h_107; replace e_107 := e_107.symm; replace h_107 := h_107.symm; subst e_107; subst h_107
        refine G.ireturn dX6_of_110 ?_
        subst c_11
        exact oFin rfl
  · refine G.iconst (v := -1) dX6_of_8 (by decide) ?_
    refine G.ireturn dX6_of_9 ?_
    exact oFin (by unfold kOf; rw [if_neg (of_decide_eq_false c_5)])
def oTalk (M : MM) (n : Nat) (a b is : Int32) : Int32 × MM := if a = b ∨ ¬ zIn is 0 1 then sNo M 1 else if (0 ≤ a.toInt ∧ a.toInt < n) ∧ (0 ≤ b.toInt ∧ b.toInt < n) then (M.2.2.1 2 (54 + 10 * tNat a + tNat b), sGood (ma (ma M 2 (54 + 10 * tNat a + tNat b) is) 2 (54 + 10 * tNat b + tNat a) is)) else sNo M 2
theorem c_X6_talk {M : MM} {n : Nat} (hn : n ≤ 10) (hM : M.2.2.1 2 256 = nI n) (a b is : Int32) : MC E fX6_talk L M ph [.int a, .int b, .int is] (rI fun r M' => (r, M') = oTalk M n a b is) := by
  refine Ct.of [some (.ref (L.1 52)), some (.int a), some (.int b), some (.int is), none] rfl (Nat.le_of_ble_eq_true rfl) (show plainName RX6 = true by decide +kernel) rfl ?_
  refine G.iload_n1 dX6_talk_0 ?_
  refine G.iload_n2 dX6_talk_1 ?_
  refine G.icmp_eq (tgt := 14) dX6_talk_2 (by decide) (fun c_2 => ?_) (fun c_2 => ?_)
  · refine G.aload_n0 dX6_talk_14 ?_
    refine G.iconst (v := -1) dX6_talk_15 (by decide) ?_
    refine G.mcall (f' := fX6_refuses) q1915 ck_X6_refuses (c_X6_refuses E L M ph (k := 1) (by decide)) dX6_talk_16 (rI.k fun r_16 M_16 h_16 => ?_)
    obtain ⟨e_16, h_16⟩ := h_16; replace e_16 := e_16.symm; replace h_16 := h_16.symm; subst e_16; subst h_16
    refine G.ireturn dX6_talk_19 ?_
    first
    | exact oFin ((if_pos (Or.inl c_2)).trans rfl)
    | exact oFin ((if_pos (Or.inr (of_decide_eq_false c_11))).trans rfl)
  · refine G.iload_n3 dX6_talk_5 ?_
    refine G.iconst (v := nI 0) dX6_talk_6 (by decide) ?_
    refine G.iconst (v := nI 1) dX6_talk_7 (by decide) ?_
    refine G.scall (f' := fX6_lies) q1912 ck_X6_lies (c_X6_lies E _ _ _) dX6_talk_8 (sI.k fun r_8 h_8 => ?_)
    replace h_8 := h_8.symm; subst h_8
    refine G.ifb_ne (tgt := 20) dX6_talk_11 (by decide) (fun c_11 => ?_) (fun c_11 => ?_)
    · refine G.aload_n0 dX6_talk_20 ?_
      refine G.iload_n1 dX6_talk_21 ?_
      refine G.mcall (f' := fX6_isPerson) q1950 ck_X6_isPerson (c_X6_isPerson E L M ph a hn hM) dX6_talk_22 (rI.k fun r_22 M_22 h_22 => ?_)
      obtain ⟨e_22, h_22⟩ := h_22; replace e_22 := e_22.symm; replace h_22 := h_22.symm; subst e_22; subst h_22
      refine G.ifb_eq (tgt := 36) dX6_talk_25 (by decide) (fun c_25 => ?_) (fun c_25 => ?_)
      · refine G.aload_n0 dX6_talk_36 ?_
        refine G.bipush (v := -2) dX6_talk_37 (by decide) ?_
        refine G.mcall (f' := fX6_refuses) q1915 ck_X6_refuses (c_X6_refuses E L M ph (k := 2) (by decide)) dX6_talk_39 (rI.k fun r_39 M_39 h_39 => ?_)
        obtain ⟨e_39, h_39⟩ := h_39; replace e_39 := e_39.symm; replace h_39 := h_39.symm; subst e_39; subst h_39
        refine G.ireturn dX6_talk_42 ?_
        have no : ¬ (a = b ∨ ¬ zIn is 0 1) := fun z => z.elim c_2 (fun y => y (of_decide_eq_true c_11))
        first
          | exact oFin ((if_neg no).trans ((if_neg (fun z => of_decide_eq_false c_25 z.1)).trans rfl))
          | exact oFin ((if_neg no).trans ((if_neg (fun z => of_decide_eq_false c_33 z.2)).trans rfl))
      · refine G.aload_n0 dX6_talk_28 ?_
        refine G.iload_n2 dX6_talk_29 ?_
        refine G.mcall (f' := fX6_isPerson) q1950 ck_X6_isPerson (c_X6_isPerson E L M ph b hn hM) dX6_talk_30 (rI.k fun r_30 M_30 h_30 => ?_)
        obtain ⟨e_30, h_30⟩ := h_30; replace e_30 := e_30.symm; replace h_30 := h_30.symm; subst e_30; subst h_30
        refine G.ifb_ne (tgt := 43) dX6_talk_33 (by decide) (fun c_33 => ?_) (fun c_33 => ?_)
        · have no : ¬ (a = b ∨ ¬ zIn is 0 1) := fun z => z.elim c_2 (fun y => y (of_decide_eq_true c_11))
          have qa := of_decide_eq_true c_25
          have qb := of_decide_eq_true c_33
          obtain ⟨j, hj, rfl⟩ := oP qa hn
          obtain ⟨k, hk, rfl⟩ := oP qb hn
          refine G.aload_n0 dX6_talk_43 ?_
          refine G.mgeta 2 fl_X6_24 dX6_talk_44 ?_
          refine G.bipush (v := nI 54) dX6_talk_47 (by decide) ?_
          refine G.bipush (v := nI 10) dX6_talk_49 (by decide) ?_
          refine G.iload_n1 dX6_talk_51 ?_
          first | with_reducible refine G.imuln dX6_talk_52 ?_ | refine G.imul dX6_talk_52 ?_
          first | with_reducible refine G.iaddn dX6_talk_53 ?_ | refine G.iadd dX6_talk_53 ?_
          refine G.iload_n2 dX6_talk_54 ?_
          first | with_reducible refine G.iaddn dX6_talk_55 ?_ | refine G.iadd dX6_talk_55 ?_
          refine G.miald (n := 5866) 2 _ dX6_talk_56 rfl (by omega) ?_
          refine G.istore4 dX6_talk_57 ?_
          refine G.aload_n0 dX6_talk_59 ?_
          refine G.mgeta 2 fl_X6_24 dX6_talk_60 ?_
          refine G.bipush (v := nI 54) dX6_talk_63 (by decide) ?_
          refine G.bipush (v := nI 10) dX6_talk_65 (by decide) ?_
          refine G.iload_n1 dX6_talk_67 ?_
          first | with_reducible refine G.imuln dX6_talk_68 ?_ | refine G.imul dX6_talk_68 ?_
          first | with_reducible refine G.iaddn dX6_talk_69 ?_ | refine G.iadd dX6_talk_69 ?_
          refine G.iload_n2 dX6_talk_70 ?_
          first | with_reducible refine G.iaddn dX6_talk_71 ?_ | refine G.iadd dX6_talk_71 ?_
          refine G.iload_n3 dX6_talk_72 ?_
          refine G.miast (n := 5866) 2 _ dX6_talk_73 rfl (by omega) ?_
          refine G.aload_n0 dX6_talk_74 ?_
          refine G.mgeta 2 fl_X6_24 dX6_talk_75 ?_
          refine G.bipush (v := nI 54) dX6_talk_78 (by decide) ?_
          refine G.bipush (v := nI 10) dX6_talk_80 (by decide) ?_
          refine G.iload_n2 dX6_talk_82 ?_
          first | with_reducible refine G.imuln dX6_talk_83 ?_ | refine G.imul dX6_talk_83 ?_
          first | with_reducible refine G.iaddn dX6_talk_84 ?_ | refine G.iadd dX6_talk_84 ?_
          refine G.iload_n1 dX6_talk_85 ?_
          first | with_reducible refine G.iaddn dX6_talk_86 ?_ | refine G.iadd dX6_talk_86 ?_
          refine G.iload_n3 dX6_talk_87 ?_
          refine G.miast (n := 5866) 2 _ dX6_talk_88 rfl (by omega) ?_
          refine G.aload_n0 dX6_talk_89 ?_
          refine G.iload4 dX6_talk_90 ?_
          refine G.mcall (f' := fX6_good) q1919 ck_X6_good (c_X6_good E L _ ph _) dX6_talk_92 (rI.k fun r_92 M_92 h_92 => ?_)
          obtain ⟨e_92, h_92⟩ := h_92; replace e_92 := e_92.symm; replace h_92 := h_92.symm; subst e_92; subst h_92
          refine G.ireturn dX6_talk_95 ?_
          exact oFin ((if_neg no).trans ((if_pos ⟨qa, qb⟩).trans (by rw [tNat_nI (by omega), tNat_nI (by omega)]; rfl)))
        · refine G.aload_n0 dX6_talk_36 ?_
          refine G.bipush (v := -2) dX6_talk_37 (by decide) ?_
          refine G.mcall (f' := fX6_refuses) q1915 ck_X6_refuses (c_X6_refuses E L M ph (k := 2) (by decide)) dX6_talk_39 (rI.k fun r_39 M_39 h_39 => ?_)
          obtain ⟨e_39, h_39⟩ := h_39; replace e_39 := e_39.symm; replace h_39 := h_39.symm; subst e_39; subst h_39
          refine G.ireturn dX6_talk_42 ?_
          have no : ¬ (a = b ∨ ¬ zIn is 0 1) := fun z => z.elim c_2 (fun y => y (of_decide_eq_true c_11))
          first
            | exact oFin ((if_neg no).trans ((if_neg (fun z => of_decide_eq_false c_25 z.1)).trans rfl))
            | exact oFin ((if_neg no).trans ((if_neg (fun z => of_decide_eq_false c_33 z.2)).trans rfl))
    · refine G.aload_n0 dX6_talk_14 ?_
      refine G.iconst (v := -1) dX6_talk_15 (by decide) ?_
      refine G.mcall (f' := fX6_refuses) q1915 ck_X6_refuses (c_X6_refuses E L M ph (k := 1) (by decide)) dX6_talk_16 (rI.k fun r_16 M_16 h_16 => ?_)
      obtain ⟨e_16, h_16⟩ := h_16; replace e_16 := e_16.symm; replace h_16 := h_16.symm; subst e_16; subst h_16
      refine G.ireturn dX6_talk_19 ?_
      first
      | exact oFin ((if_pos (Or.inl c_2)).trans rfl)
      | exact oFin ((if_pos (Or.inr (of_decide_eq_false c_11))).trans rfl)
def oFog (M : MM) (d is : Int32) : Int32 × MM := if zIn d 0 99 ∧ zIn is 0 1 then (M.2.2.1 2 (154 + tNat d), sGood (ma M 2 (154 + tNat d) is)) else sNo M 1
theorem c_X6_fog {M : MM} (d is : Int32) : MC E fX6_fog L M ph [.int d, .int is] (rI fun r M' => (r, M') = oFog M d is) := by
  refine Ct.of [some (.ref (L.1 52)), some (.int d), some (.int is), none] rfl (Nat.le_of_ble_eq_true rfl) (show plainName RX6 = true by decide +kernel) rfl ?_
  refine G.iload_n1 dX6_fog_0 ?_
  refine G.iconst (v := nI 0) dX6_fog_1 (by decide) ?_
  refine G.bipush (v := nI 99) dX6_fog_2 (by decide) ?_
  refine G.scall (f' := fX6_lies) q1912 ck_X6_lies (c_X6_lies E _ _ _) dX6_fog_4 (sI.k fun r_4 h_4 => ?_)
  replace h_4 := h_4.symm; subst h_4
  refine G.ifb_eq (tgt := 19) dX6_fog_7 (by decide) (fun c_7 => ?_) (fun c_7 => ?_)
  · refine G.aload_n0 dX6_fog_19 ?_
    refine G.iconst (v := -1) dX6_fog_20 (by decide) ?_
    refine G.mcall (f' := fX6_refuses) q1915 ck_X6_refuses (c_X6_refuses E L M ph (k := 1) (by decide)) dX6_fog_21 (rI.k fun r_21 M_21 h_21 => ?_)
    obtain ⟨e_21, h_21⟩ := h_21; replace e_21 := e_21.symm; replace h_21 := h_21.symm; subst e_21; subst h_21
    refine G.ireturn dX6_fog_24 ?_
    first
    | exact oFin ((if_neg (fun z => of_decide_eq_false c_7 z.1)).trans rfl)
    | exact oFin ((if_neg (fun z => of_decide_eq_false c_16 z.2)).trans rfl)
  · refine G.iload_n2 dX6_fog_10 ?_
    refine G.iconst (v := nI 0) dX6_fog_11 (by decide) ?_
    refine G.iconst (v := nI 1) dX6_fog_12 (by decide) ?_
    refine G.scall (f' := fX6_lies) q1912 ck_X6_lies (c_X6_lies E _ _ _) dX6_fog_13 (sI.k fun r_13 h_13 => ?_)
    replace h_13 := h_13.symm; subst h_13
    refine G.ifb_ne (tgt := 25) dX6_fog_16 (by decide) (fun c_16 => ?_) (fun c_16 => ?_)
    · have qa := of_decide_eq_true c_7
      have qb := of_decide_eq_true c_16
      obtain ⟨j, hj, rfl⟩ := zIn_of qa (by decide)
      refine G.aload_n0 dX6_fog_25 ?_
      refine G.mgeta 2 fl_X6_24 dX6_fog_26 ?_
      refine G.sipush (v := nI 154) dX6_fog_29 (by decide) ?_
      refine G.iload_n1 dX6_fog_32 ?_
      first | with_reducible refine G.iaddn dX6_fog_33 ?_ | refine G.iadd dX6_fog_33 ?_
      refine G.miald (n := 5866) 2 _ dX6_fog_34 rfl (by omega) ?_
      refine G.istore_n3 dX6_fog_35 ?_
      refine G.aload_n0 dX6_fog_36 ?_
      refine G.mgeta 2 fl_X6_24 dX6_fog_37 ?_
      refine G.sipush (v := nI 154) dX6_fog_40 (by decide) ?_
      refine G.iload_n1 dX6_fog_43 ?_
      first | with_reducible refine G.iaddn dX6_fog_44 ?_ | refine G.iadd dX6_fog_44 ?_
      refine G.iload_n2 dX6_fog_45 ?_
      refine G.miast (n := 5866) 2 _ dX6_fog_46 rfl (by omega) ?_
      refine G.aload_n0 dX6_fog_47 ?_
      refine G.iload_n3 dX6_fog_48 ?_
      refine G.mcall (f' := fX6_good) q1919 ck_X6_good (c_X6_good E L _ ph _) dX6_fog_49 (rI.k fun r_49 M_49 h_49 => ?_)
      obtain ⟨e_49, h_49⟩ := h_49; replace e_49 := e_49.symm; replace h_49 := h_49.symm; subst e_49; subst h_49
      refine G.ireturn dX6_fog_52 ?_
      exact oFin ((if_pos ⟨qa, qb⟩).trans (by rw [tNat_nI (by omega)]; rfl))
    · refine G.aload_n0 dX6_fog_19 ?_
      refine G.iconst (v := -1) dX6_fog_20 (by decide) ?_
      refine G.mcall (f' := fX6_refuses) q1915 ck_X6_refuses (c_X6_refuses E L M ph (k := 1) (by decide)) dX6_fog_21 (rI.k fun r_21 M_21 h_21 => ?_)
      obtain ⟨e_21, h_21⟩ := h_21; replace e_21 := e_21.symm; replace h_21 := h_21.symm; subst e_21; subst h_21
      refine G.ireturn dX6_fog_24 ?_
      first
      | exact oFin ((if_neg (fun z => of_decide_eq_false c_7 z.1)).trans rfl)
      | exact oFin ((if_neg (fun z => of_decide_eq_false c_16 z.2)).trans rfl)
theorem c_X6_end {M : MM} (v : Int32) : MC E fX6_end L M ph [.int v] (rI fun r M' => (r, M') = if (nI 0).toInt ≤ v.toInt ∧ v.toInt ≤ (M.1 13).toInt then (v, ms M 13 v) else (-1, M)) := by
  refine Ct.of [some (.ref (L.1 52)), some (.int v)] rfl (Nat.le_of_ble_eq_true rfl) (show plainName RX6 = true by decide +kernel) rfl ?_
  refine G.iload_n1 dX6_end_0 ?_
  refine G.iconst (v := nI 0) dX6_end_1 (by decide) ?_
  refine G.aload_n0 dX6_end_2 ?_
  refine G.mgeti 13 fl_X6_141 dX6_end_3 ?_
  refine G.scall (f' := fX6_lies) q1912 ck_X6_lies (c_X6_lies E _ _ _) dX6_end_6 (sI.k fun r_6 h_6 => ?_)
  replace h_6 := h_6.symm; subst h_6
  refine G.ifb_ne (tgt := 14) dX6_end_9 (by decide) (fun c_9 => ?_) (fun c_9 => ?_)
  · refine G.aload_n0 dX6_end_14 ?_
    refine G.iload_n1 dX6_end_15 ?_
    refine G.mputi 13 fp_X6_141 dX6_end_16 ?_
    refine G.iload_n1 dX6_end_19 ?_
    refine G.ireturn dX6_end_20 ?_
    exact oFin (if_pos (of_decide_eq_true c_9))
  · refine G.iconst (v := -1) dX6_end_12 (by decide) ?_
    refine G.ireturn dX6_end_13 ?_
    exact oFin (if_neg (of_decide_eq_false c_9))
def oForce (M : MM) (v : Int32) : Int32 × MM := if (-1 : Int32).toInt ≤ v.toInt ∧ v.toInt ≤ (M.2.2.1 2 257 - nI 1).toInt then (M.2.2.1 2 258, sGood (ma M 2 258 v)) else sNo M 2
theorem c_X6_force {M : MM} (v : Int32) : MC E fX6_force L M ph [.int v] (rI fun r M' => (r, M') = oForce M v) := by
  refine Ct.of [some (.ref (L.1 52)), some (.int v), none] rfl (Nat.le_of_ble_eq_true rfl) (show plainName RX6 = true by decide +kernel) rfl ?_
  refine G.iload_n1 dX6_force_0 ?_
  refine G.iconst (v := -1) dX6_force_1 (by decide) ?_
  refine G.aload_n0 dX6_force_2 ?_
  refine G.mgeta 2 fl_X6_24 dX6_force_3 ?_
  refine G.sipush (v := nI 257) dX6_force_6 (by decide) ?_
  refine G.miald (n := 5866) 2 _ dX6_force_9 rfl (by omega) ?_
  refine G.iconst (v := nI 1) dX6_force_10 (by decide) ?_
  refine G.isub dX6_force_11 ?_
  refine G.scall (f' := fX6_lies) q1912 ck_X6_lies (c_X6_lies E _ _ _) dX6_force_12 (sI.k fun r_12 h_12 => ?_)
  replace h_12 := h_12.symm; subst h_12
  refine G.ifb_ne (tgt := 25) dX6_force_15 (by decide) (fun c_15 => ?_) (fun c_15 => ?_)
  · refine G.aload_n0 dX6_force_25 ?_
    refine G.mgeta 2 fl_X6_24 dX6_force_26 ?_
    refine G.sipush (v := nI 258) dX6_force_29 (by decide) ?_
    refine G.miald (n := 5866) 2 _ dX6_force_32 rfl (by omega) ?_
    refine G.istore_n2 dX6_force_33 ?_
    refine G.aload_n0 dX6_force_34 ?_
    refine G.mgeta 2 fl_X6_24 dX6_force_35 ?_
    refine G.sipush (v := nI 258) dX6_force_38 (by decide) ?_
    refine G.iload_n1 dX6_force_41 ?_
    refine G.miast (n := 5866) 2 _ dX6_force_42 rfl (by omega) ?_
    refine G.aload_n0 dX6_force_43 ?_
    refine G.iload_n2 dX6_force_44 ?_
    refine G.mcall (f' := fX6_good) q1919 ck_X6_good (c_X6_good E L _ ph _) dX6_force_45 (rI.k fun r_45 M_45 h_45 => ?_)
    obtain ⟨e_45, h_45⟩ := h_45; replace e_45 := e_45.symm; replace h_45 := h_45.symm; subst e_45; subst h_45
    refine G.ireturn dX6_force_48 ?_
    exact oFin (if_pos (of_decide_eq_true c_15))
  · refine G.aload_n0 dX6_force_18 ?_
    refine G.bipush (v := -2) dX6_force_19 (by decide) ?_
    refine G.mcall (f' := fX6_refuses) q1915 ck_X6_refuses (c_X6_refuses E L M ph (k := 2) (by decide)) dX6_force_21 (rI.k fun r_21 M_21 h_21 => ?_)
    obtain ⟨e_21, h_21⟩ := h_21; replace e_21 := e_21.symm; replace h_21 := h_21.symm; subst e_21; subst h_21
    refine G.ireturn dX6_force_24 ?_
    exact oFin (if_neg (of_decide_eq_false c_15))
theorem c_X6_salt {M : MM} : MC E fX6_salt L M ph [] (rI fun r M' => (r, M') = (M.1 6, M)) := by
  refine Ct.of [some (.ref (L.1 52))] rfl (Nat.le_of_ble_eq_true rfl) (show plainName RX6 = true by decide +kernel) rfl ?_
  refine G.aload_n0 dX6_salt_0 ?_
  refine G.mgeti 6 fl_X6_144 dX6_salt_1 ?_
  refine G.ireturn dX6_salt_4 ?_
  exact oFin rfl
theorem c_X6_fault {M : MM} : MC E fX6_fault L M ph [] (rI fun r M' => (r, M') = (M.1 14, M)) := by
  refine Ct.of [some (.ref (L.1 52))] rfl (Nat.le_of_ble_eq_true rfl) (show plainName RX6 = true by decide +kernel) rfl ?_
  refine G.aload_n0 dX6_fault_0 ?_
  refine G.mgeti 14 fl_X6_47 dX6_fault_1 ?_
  refine G.ireturn dX6_fault_4 ?_
  exact oFin rfl
theorem c_X6_stopped {M : MM} : MC E fX6_stopped L M ph [] (rI fun r M' => (r, M') = (M.1 41, M)) := by
  refine Ct.of [some (.ref (L.1 52))] rfl (Nat.le_of_ble_eq_true rfl) (show plainName RX6 = true by decide +kernel) rfl ?_
  refine G.aload_n0 dX6_stopped_0 ?_
  refine G.mgeti 41 fl_X6_100 dX6_stopped_1 ?_
  refine G.ireturn dX6_stopped_4 ?_
  exact oFin rfl
theorem c_X6_status {M : MM} : MC E fX6_status L M ph [] (rI fun r M' => (r, M') = (M.1 0, M)) := by
  refine Ct.of [some (.ref (L.1 52))] rfl (Nat.le_of_ble_eq_true rfl) (show plainName RX6 = true by decide +kernel) rfl ?_
  refine G.aload_n0 dX6_status_0 ?_
  refine G.mgeti 0 fl_X6_3 dX6_status_1 ?_
  refine G.ireturn dX6_status_4 ?_
  exact oFin rfl
end Calls
