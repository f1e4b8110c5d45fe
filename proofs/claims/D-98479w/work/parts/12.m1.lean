/-! THE MODEL'S SMALL METHODS -/
theorem c_X6_lies (E : JE) (v lo hi : Int32) : SC E fX6_lies [.int v, .int lo, .int hi] (sI fun r => r = bI (decide (lo.toInt ≤ v.toInt ∧ v.toInt ≤ hi.toInt))) := by
  intro ph
  refine Ct.of [some (.int v), some (.int lo), some (.int hi)] rfl (Nat.le_of_ble_eq_true rfl) (by decide +kernel) rfl ?_
  refine G.iload_n0 dX6_lies_0 ?_
  refine G.iload_n1 dX6_lies_1 ?_
  refine G.icmp_lt (tgt := 14) dX6_lies_2 (by decide) (fun c_2 => ?_) (fun c_2 => ?_)
  · refine G.iconst (v := nI 0) dX6_lies_14 (by decide) ?_
    refine G.ireturn dX6_lies_15 ?_ (hn := by first | rfl | exact bI_nar _)
    exact ⟨rfl, _, rfl, by simp only [i_lt] at *; first | exact bI_t (by omega) | exact bI_f (by omega)⟩
  · refine G.iload_n0 dX6_lies_5 ?_
    refine G.iload_n2 dX6_lies_6 ?_
    refine G.icmp_gt (tgt := 14) dX6_lies_7 (by decide) (fun c_7 => ?_) (fun c_7 => ?_)
    · refine G.iconst (v := nI 0) dX6_lies_14 (by decide) ?_
      refine G.ireturn dX6_lies_15 ?_ (hn := by first | rfl | exact bI_nar _)
      exact ⟨rfl, _, rfl, by simp only [i_lt] at *; first | exact bI_t (by omega) | exact bI_f (by omega)⟩
    · refine G.iconst (v := nI 1) dX6_lies_10 (by decide) ?_
      refine G.goto (tgt := 15) dX6_lies_11 (by decide) ?_
      refine G.ireturn dX6_lies_15 ?_ (hn := by first | rfl | exact bI_nar _)
      exact ⟨rfl, _, rfl, by simp only [i_lt] at *; first | exact bI_t (by omega) | exact bI_f (by omega)⟩
theorem c_X6_isIn (E : JE) (s k : Int32) : SC E fX6_isIn [.int s, .int k] (sI fun r => r = bI (decide ((s >>> (k &&& 31)) &&& nI 1 = nI 1))) := by
  intro ph
  refine Ct.of [some (.int s), some (.int k)] rfl (Nat.le_of_ble_eq_true rfl) (by decide +kernel) rfl ?_
  refine G.iload_n0 dX6_isIn_0 ?_
  refine G.iload_n1 dX6_isIn_1 ?_
  refine G.ishr dX6_isIn_2 ?_
  refine G.iconst (v := nI 1) dX6_isIn_3 (by decide) ?_
  refine G.iand dX6_isIn_4 ?_
  refine G.iconst (v := nI 1) dX6_isIn_5 (by decide) ?_
  refine G.icmp_ne (tgt := 13) dX6_isIn_6 (by decide) (fun c_6 => ?_) (fun c_6 => ?_)
  · refine G.iconst (v := nI 0) dX6_isIn_13 (by decide) ?_
    refine G.ireturn dX6_isIn_14 ?_ (hn := by first | rfl | exact bI_nar _)
    exact ⟨rfl, _, rfl, by first | exact bI_t (by assumption) | exact bI_f (by assumption) | exact bI_t (Classical.not_not.mp (by assumption))⟩
  · refine G.iconst (v := nI 1) dX6_isIn_9 (by decide) ?_
    refine G.goto (tgt := 14) dX6_isIn_10 (by decide) ?_
    refine G.ireturn dX6_isIn_14 ?_ (hn := by first | rfl | exact bI_nar _)
    exact ⟨rfl, _, rfl, by first | exact bI_t (by assumption) | exact bI_f (by assumption) | exact bI_t (Classical.not_not.mp (by assumption))⟩
theorem c_X6_lesser (E : JE) (a b : Int32) : SC E fX6_lesser [.int a, .int b] (sI fun r => r = if a < b then a else b) := by
  intro ph
  refine Ct.of [some (.int a), some (.int b)] rfl (Nat.le_of_ble_eq_true rfl) (by decide +kernel) rfl ?_
  refine G.iload_n0 dX6_lesser_0 ?_
  refine G.iload_n1 dX6_lesser_1 ?_
  refine G.icmp_ge (tgt := 9) dX6_lesser_2 (by decide) (fun c_2 => ?_) (fun c_2 => ?_)
  · refine G.iload_n1 dX6_lesser_9 ?_
    refine G.ireturn dX6_lesser_10 ?_
    exact ⟨rfl, _, rfl, by simp only [i_lt, i_le] at *; first | rw [if_pos (by omega)] | rw [if_neg (by omega)]⟩
  · refine G.iload_n0 dX6_lesser_5 ?_
    refine G.goto (tgt := 10) dX6_lesser_6 (by decide) ?_
    refine G.ireturn dX6_lesser_10 ?_
    exact ⟨rfl, _, rfl, by simp only [i_lt, i_le] at *; first | rw [if_pos (by omega)] | rw [if_neg (by omega)]⟩
theorem c_X6_canBe (E : JE) (a b : Int32) : SC E fX6_canBe [.int a, .int b] (sI fun r => r = bI (decide ((0 ≤ a.toInt ∧ a.toInt ≤ 30) ∧ (0 ≤ b.toInt ∧ b.toInt ≤ 3)))) := by
  intro ph
  refine Ct.of [some (.int a), some (.int b)] rfl (Nat.le_of_ble_eq_true rfl) (by decide +kernel) rfl ?_
  refine G.iload_n0 dX6_canBe_0 ?_
  refine G.iconst (v := nI 0) dX6_canBe_1 (by decide) ?_
  refine G.bipush (v := nI 30) dX6_canBe_2 (by decide) ?_
  refine G.scall (f' := fX6_lies) q1912 ck_X6_lies (c_X6_lies E _ _ _) dX6_canBe_4 (sI.k fun r_4 h_4 => ?_)
  replace h_4 := h_4.symm; subst h_4
  refine G.ifb_eq (tgt := 23) dX6_canBe_7 (by decide) (fun c_7 => ?_) (fun c_7 => ?_)
  · refine G.iconst (v := nI 0) dX6_canBe_23 (by decide) ?_
    refine G.ireturn dX6_canBe_24 ?_ (hn := by first | rfl | exact bI_nar _)
    exact ⟨rfl, _, rfl, by simp only [decide_eq_true_eq, decide_eq_false_iff_not, t_nI (k := 0) (by decide), t_nI (k := 30) (by decide), t_nI (k := 3) (by decide)] at *; first | exact bI_t (by omega) | exact bI_f (by omega)⟩
  · refine G.iload_n1 dX6_canBe_10 ?_
    refine G.iconst (v := nI 0) dX6_canBe_11 (by decide) ?_
    refine G.iconst (v := nI 3) dX6_canBe_12 (by decide) ?_
    refine G.scall (f' := fX6_lies) q1912 ck_X6_lies (c_X6_lies E _ _ _) dX6_canBe_13 (sI.k fun r_13 h_13 => ?_)
    replace h_13 := h_13.symm; subst h_13
    refine G.ifb_eq (tgt := 23) dX6_canBe_16 (by decide) (fun c_16 => ?_) (fun c_16 => ?_)
    · refine G.iconst (v := nI 0) dX6_canBe_23 (by decide) ?_
      refine G.ireturn dX6_canBe_24 ?_ (hn := by first | rfl | exact bI_nar _)
      exact ⟨rfl, _, rfl, by simp only [decide_eq_true_eq, decide_eq_false_iff_not, t_nI (k := 0) (by decide), t_nI (k := 30) (by decide), t_nI (k := 3) (by decide)] at *; first | exact bI_t (by omega) | exact bI_f (by omega)⟩
    · refine G.iconst (v := nI 1) dX6_canBe_19 (by decide) ?_
      refine G.goto (tgt := 24) dX6_canBe_20 (by decide) ?_
      refine G.ireturn dX6_canBe_24 ?_ (hn := by first | rfl | exact bI_nar _)
      exact ⟨rfl, _, rfl, by simp only [decide_eq_true_eq, decide_eq_false_iff_not, t_nI (k := 0) (by decide), t_nI (k := 30) (by decide), t_nI (k := 3) (by decide)] at *; first | exact bI_t (by omega) | exact bI_f (by omega)⟩
theorem c_X6_isSmall (E : JE) (b : Int32) : SC E fX6_isSmall [.int b] (sI fun r => r = bI (decide (97 ≤ b.toInt ∧ b.toInt ≤ 122))) := by
  intro ph
  refine Ct.of [some (.int b)] rfl (Nat.le_of_ble_eq_true rfl) (by decide +kernel) rfl ?_
  refine G.iload_n0 dX6_isSmall_0 ?_
  refine G.bipush (v := nI 97) dX6_isSmall_1 (by decide) ?_
  refine G.icmp_lt (tgt := 16) dX6_isSmall_3 (by decide) (fun c_3 => ?_) (fun c_3 => ?_)
  · refine G.iconst (v := nI 0) dX6_isSmall_16 (by decide) ?_
    refine G.ireturn dX6_isSmall_17 ?_ (hn := by first | rfl | exact bI_nar _)
    exact ⟨rfl, _, rfl, by simp only [i_lt, i_le, t_nI (k := 97) (by decide), t_nI (k := 122) (by decide)] at *; first | exact bI_t (by omega) | exact bI_f (by omega)⟩
  · refine G.iload_n0 dX6_isSmall_6 ?_
    refine G.bipush (v := nI 122) dX6_isSmall_7 (by decide) ?_
    refine G.icmp_gt (tgt := 16) dX6_isSmall_9 (by decide) (fun c_9 => ?_) (fun c_9 => ?_)
    · refine G.iconst (v := nI 0) dX6_isSmall_16 (by decide) ?_
      refine G.ireturn dX6_isSmall_17 ?_ (hn := by first | rfl | exact bI_nar _)
      exact ⟨rfl, _, rfl, by simp only [i_lt, i_le, t_nI (k := 97) (by decide), t_nI (k := 122) (by decide)] at *; first | exact bI_t (by omega) | exact bI_f (by omega)⟩
    · refine G.iconst (v := nI 1) dX6_isSmall_12 (by decide) ?_
      refine G.goto (tgt := 17) dX6_isSmall_13 (by decide) ?_
      refine G.ireturn dX6_isSmall_17 ?_ (hn := by first | rfl | exact bI_nar _)
      exact ⟨rfl, _, rfl, by simp only [i_lt, i_le, t_nI (k := 97) (by decide), t_nI (k := 122) (by decide)] at *; first | exact bI_t (by omega) | exact bI_f (by omega)⟩
theorem c_X6_isDigit (E : JE) (b : Int32) : SC E fX6_isDigit [.int b] (sI fun r => r = bI (decide (48 ≤ b.toInt ∧ b.toInt ≤ 57))) := by
  intro ph
  refine Ct.of [some (.int b)] rfl (Nat.le_of_ble_eq_true rfl) (by decide +kernel) rfl ?_
  refine G.iload_n0 dX6_isDigit_0 ?_
  refine G.bipush (v := nI 48) dX6_isDigit_1 (by decide) ?_
  refine G.icmp_lt (tgt := 16) dX6_isDigit_3 (by decide) (fun c_3 => ?_) (fun c_3 => ?_)
  · refine G.iconst (v := nI 0) dX6_isDigit_16 (by decide) ?_
    refine G.ireturn dX6_isDigit_17 ?_ (hn := by first | rfl | exact bI_nar _)
    exact ⟨rfl, _, rfl, by simp only [i_lt, i_le, t_nI (k := 48) (by decide), t_nI (k := 57) (by decide)] at *; first | exact bI_t (by omega) | exact bI_f (by omega)⟩
  · refine G.iload_n0 dX6_isDigit_6 ?_
    refine G.bipush (v := nI 57) dX6_isDigit_7 (by decide) ?_
    refine G.icmp_gt (tgt := 16) dX6_isDigit_9 (by decide) (fun c_9 => ?_) (fun c_9 => ?_)
    · refine G.iconst (v := nI 0) dX6_isDigit_16 (by decide) ?_
      refine G.ireturn dX6_isDigit_17 ?_ (hn := by first | rfl | exact bI_nar _)
      exact ⟨rfl, _, rfl, by simp only [i_lt, i_le, t_nI (k := 48) (by decide), t_nI (k := 57) (by decide)] at *; first | exact bI_t (by omega) | exact bI_f (by omega)⟩
    · refine G.iconst (v := nI 1) dX6_isDigit_12 (by decide) ?_
      refine G.goto (tgt := 17) dX6_isDigit_13 (by decide) ?_
      refine G.ireturn dX6_isDigit_17 ?_ (hn := by first | rfl | exact bI_nar _)
      exact ⟨rfl, _, rfl, by simp only [i_lt, i_le, t_nI (k := 48) (by decide), t_nI (k := 57) (by decide)] at *; first | exact bI_t (by omega) | exact bI_f (by omega)⟩
theorem c_X6_sign (E : JE) (c : Nat) : SC E fX6_sign [.int (nI c)] (sI fun r => r = nI (100 + c)) := by
  intro ph
  refine Ct.of [some (.int (nI c))] rfl (Nat.le_of_ble_eq_true rfl) (by decide +kernel) rfl ?_
  refine G.bipush (v := nI 100) dX6_sign_0 (by decide) ?_
  refine G.iload_n0 dX6_sign_2 ?_
  first | refine G.iaddn dX6_sign_3 ?_ | refine G.iadd dX6_sign_3 ?_
  refine G.ireturn dX6_sign_4 ?_
  exact ⟨rfl, _, rfl, rfl⟩
theorem c_X6_needOn (E : JE) (b : Bool) : SC E fX6_needOn [.int (bI b)] (sI fun r => r = nI (if b then 4 else 2)) := by
  intro ph
  refine Ct.of [some (.int (bI b))] rfl (Nat.le_of_ble_eq_true rfl) (by decide +kernel) rfl ?_
  refine G.iload_n0 dX6_needOn_0 ?_
  refine G.iconst (v := nI 1) dX6_needOn_1 (by decide) ?_
  refine G.icmp_ne (tgt := 9) dX6_needOn_2 (by decide) (fun c_2 => ?_) (fun c_2 => ?_)
  · refine G.iconst (v := nI 2) dX6_needOn_9 (by decide) ?_
    refine G.ireturn dX6_needOn_10 ?_
    exact ⟨rfl, _, rfl, by cases b <;> first | rfl | (exact absurd (by assumption) (by decide))⟩
  · refine G.iconst (v := nI 4) dX6_needOn_5 (by decide) ?_
    refine G.goto (tgt := 10) dX6_needOn_6 (by decide) ?_
    refine G.ireturn dX6_needOn_10 ?_
    exact ⟨rfl, _, rfl, by cases b <;> first | rfl | (exact absurd (by assumption) (by decide))⟩
theorem c_X6_people (E : JE) (L : ML) (M : MM) (ph : HP) : MC E fX6_people L M ph [] (rI fun r M' => r = M.2.2.1 2 256 ∧ M' = M) := by
  refine Ct.of [some (.ref (L.1 52))] rfl (Nat.le_of_ble_eq_true rfl) (by decide +kernel) rfl ?_
  refine G.aload_n0 dX6_people_0 ?_
  refine G.mgeta 2 fl_X6_24 dX6_people_1 ?_
  refine G.sipush (v := nI 256) dX6_people_4 (by decide) ?_
  refine G.miald (n := 5866) 2 _ dX6_people_7 rfl (by omega) ?_
  refine G.ireturn dX6_people_8 ?_
  exact ⟨M, rfl, _, rfl, rfl, rfl⟩
theorem c_X6_isPerson (E : JE) (L : ML) (M : MM) (ph : HP) (p : Int32) {n : Nat} (hn : n ≤ 10) (hM : M.2.2.1 2 256 = nI n) : MC E fX6_isPerson L M ph [.int p] (rI fun r M' => r = bI (decide (0 ≤ p.toInt ∧ p.toInt < n)) ∧ M' = M) := by
  refine Ct.of [some (.ref (L.1 52)), some (.int p)] rfl (Nat.le_of_ble_eq_true rfl) (by decide +kernel) rfl ?_
  refine G.iload_n1 dX6_isPerson_0 ?_
  refine G.iconst (v := nI 0) dX6_isPerson_1 (by decide) ?_
  refine G.aload_n0 dX6_isPerson_2 ?_
  refine G.mcall (f' := fX6_people) q1938 ck_X6_people (c_X6_people E L M ph) dX6_isPerson_3 (rI.k fun r_3 M_3 h_3 => ?_)
  obtain ⟨e_3, h_3⟩ := h_3; replace e_3 := e_3.symm; replace h_3 := h_3.symm; subst e_3; subst h_3
  refine G.iconst (v := nI 1) dX6_isPerson_6 (by decide) ?_
  refine G.isub dX6_isPerson_7 ?_
  refine G.scall (f' := fX6_lies) q1912 ck_X6_lies (c_X6_lies E _ _ _) dX6_isPerson_8 (sI.k fun r_8 h_8 => ?_)
  replace h_8 := h_8.symm; subst h_8
  refine G.ireturn dX6_isPerson_11 ?_ (hn := by first | rfl | exact bI_nar _)
  refine ⟨M, rfl, _, rfl, ?_, rfl⟩; rw [hM, t_sub (by omega) (by omega), t_nI (by omega)]; congr 2; rw [eq_iff_iff]; omega
theorem c_X6_roadOf (E : JE) (L : ML) (M : MM) (ph : HP) {k : Nat} (hk : k < 10) : MC E fX6_roadOf L M ph [.int (nI k)] (rI fun r M' => r = M.2.2.1 2 (34 + 2 * k) ∧ M' = M) := by
  refine Ct.of [some (.ref (L.1 52)), some (.int (nI k))] rfl (Nat.le_of_ble_eq_true rfl) (by decide +kernel) rfl ?_
  refine G.aload_n0 dX6_roadOf_0 ?_
  refine G.mgeta 2 fl_X6_24 dX6_roadOf_1 ?_
  refine G.bipush (v := nI 34) dX6_roadOf_4 (by decide) ?_
  refine G.iconst (v := nI 2) dX6_roadOf_6 (by decide) ?_
  refine G.iload_n1 dX6_roadOf_7 ?_
  first | refine G.imuln dX6_roadOf_8 ?_ | refine G.imul dX6_roadOf_8 ?_
  first | refine G.iaddn dX6_roadOf_9 ?_ | refine G.iadd dX6_roadOf_9 ?_
  refine G.miald (n := 5866) 2 _ dX6_roadOf_10 rfl (by omega) ?_
  refine G.ireturn dX6_roadOf_11 ?_
  exact ⟨M, rfl, _, rfl, rfl, rfl⟩
theorem c_X6_landOf (E : JE) (L : ML) (M : MM) (ph : HP) {k : Nat} (hk : k < 10) : MC E fX6_landOf L M ph [.int (nI k)] (rI fun r M' => r = M.2.2.1 2 (34 + 2 * k + 1) ∧ M' = M) := by
  refine Ct.of [some (.ref (L.1 52)), some (.int (nI k))] rfl (Nat.le_of_ble_eq_true rfl) (by decide +kernel) rfl ?_
  refine G.aload_n0 dX6_landOf_0 ?_
  refine G.mgeta 2 fl_X6_24 dX6_landOf_1 ?_
  refine G.bipush (v := nI 34) dX6_landOf_4 (by decide) ?_
  refine G.iconst (v := nI 2) dX6_landOf_6 (by decide) ?_
  refine G.iload_n1 dX6_landOf_7 ?_
  first | refine G.imuln dX6_landOf_8 ?_ | refine G.imul dX6_landOf_8 ?_
  first | refine G.iaddn dX6_landOf_9 ?_ | refine G.iadd dX6_landOf_9 ?_
  refine G.iconst (v := nI 1) dX6_landOf_10 (by decide) ?_
  first | refine G.iaddn dX6_landOf_11 ?_ | refine G.iadd dX6_landOf_11 ?_
  refine G.miald (n := 5866) 2 _ dX6_landOf_12 rfl (by omega) ?_
  refine G.ireturn dX6_landOf_13 ?_
  exact ⟨M, rfl, _, rfl, rfl, rfl⟩
/-- what one is worth -/
def sWorth (M : MM) (k : Nat) : Int32 := if M.2.2.1 2 k = nI 3 then nI 0 else nI 2 - M.2.2.1 2 (20 + k)
theorem c_X6_worthOf (E : JE) (L : ML) (M : MM) (ph : HP) {k : Nat} (hk : k < 10) : MC E fX6_worthOf L M ph [.int (nI k)] (rI fun r M' => r = sWorth M k ∧ M' = M) := by
  refine Ct.of [some (.ref (L.1 52)), some (.int (nI k))] rfl (Nat.le_of_ble_eq_true rfl) (by decide +kernel) rfl ?_
  refine G.aload_n0 dX6_worthOf_0 ?_
  refine G.mgeta 2 fl_X6_24 dX6_worthOf_1 ?_
  refine G.iconst (v := nI 0) dX6_worthOf_4 (by decide) ?_
  refine G.iload_n1 dX6_worthOf_5 ?_
  first | refine G.iaddn dX6_worthOf_6 ?_ | refine G.iadd dX6_worthOf_6 ?_
  refine G.miald (n := 5866) 2 _ dX6_worthOf_7 rfl (by omega) ?_
  refine G.iconst (v := nI 3) dX6_worthOf_8 (by decide) ?_
  refine G.icmp_ne (tgt := 16) dX6_worthOf_9 (by decide) (fun c_9 => ?_) (fun c_9 => ?_)
  · refine G.iconst (v := nI 2) dX6_worthOf_16 (by decide) ?_
    refine G.aload_n0 dX6_worthOf_17 ?_
    refine G.mgeta 2 fl_X6_24 dX6_worthOf_18 ?_
    refine G.bipush (v := nI 20) dX6_worthOf_21 (by decide) ?_
    refine G.iload_n1 dX6_worthOf_23 ?_
    first | refine G.iaddn dX6_worthOf_24 ?_ | refine G.iadd dX6_worthOf_24 ?_
    refine G.miald (n := 5866) 2 _ dX6_worthOf_25 rfl (by omega) ?_
    refine G.isub dX6_worthOf_26 ?_
    refine G.ireturn dX6_worthOf_27 ?_
    exact ⟨M, rfl, _, rfl, by unfold sWorth; simp_all, rfl⟩
  · refine G.iconst (v := nI 0) dX6_worthOf_12 (by decide) ?_
    refine G.goto (tgt := 27) dX6_worthOf_13 (by decide) ?_
    refine G.ireturn dX6_worthOf_27 ?_
    exact ⟨M, rfl, _, rfl, by unfold sWorth; simp_all, rfl⟩
/-- a refusal: k is -1, -2, -3, -5 or -6 -/
def sRef (M : MM) (k : Nat) : MM := ma (ms M 0 (-nI k)) 1 k (M.2.2.1 1 k + nI 1)
theorem c_X6_refuses (E : JE) (L : ML) (M : MM) (ph : HP) {k : Nat} (hk : k < 7) : MC E fX6_refuses L M ph [.int (-nI k)] (rI fun r M' => r = -nI k ∧ M' = sRef M k) := by
  refine Ct.of [some (.ref (L.1 52)), some (.int (-nI k))] rfl (Nat.le_of_ble_eq_true rfl) (by decide +kernel) rfl ?_
  refine G.aload_n0 dX6_refuses_0 ?_
  refine G.iload_n1 dX6_refuses_1 ?_
  refine G.mputi 0 fp_X6_3 dX6_refuses_2 ?_
  refine G.aload_n0 dX6_refuses_5 ?_
  refine G.mgeta 1 fl_X6_7 dX6_refuses_6 ?_
  refine G.iload_n1 dX6_refuses_9 ?_
  refine G.ineg dX6_refuses_10 ?_
  refine G.topi (nI k) Int32.neg_neg ?_
  refine G.dup2_11 dX6_refuses_11 rfl rfl ?_
  refine G.miald (n := 7) 1 _ dX6_refuses_12 rfl (by omega) ?_
  refine G.iconst (v := nI 1) dX6_refuses_13 (by decide) ?_
  first | refine G.iaddn dX6_refuses_14 ?_ | refine G.iadd dX6_refuses_14 ?_
  refine G.miast (n := 7) 1 _ dX6_refuses_15 rfl (by omega) ?_
  refine G.iload_n1 dX6_refuses_16 ?_
  refine G.ireturn dX6_refuses_17 ?_
  exact ⟨_, rfl, _, rfl, rfl, rfl⟩
theorem c_X6_good (E : JE) (L : ML) (M : MM) (ph : HP) (v : Int32) : MC E fX6_good L M ph [.int v] (rI fun r M' => r = v ∧ M' = ms M 0 (nI 0)) := by
  refine Ct.of [some (.ref (L.1 52)), some (.int v)] rfl (Nat.le_of_ble_eq_true rfl) (by decide +kernel) rfl ?_
  refine G.aload_n0 dX6_good_0 ?_
  refine G.iconst (v := nI 0) dX6_good_1 (by decide) ?_
  refine G.mputi 0 fp_X6_3 dX6_good_2 ?_
  refine G.iload_n1 dX6_good_5 ?_
  refine G.ireturn dX6_good_6 ?_
  exact ⟨_, rfl, _, rfl, rfl, rfl⟩
theorem c_X6_settled (E : JE) (L : ML) (M : MM) (ph : HP) (v : Int32) : MC E fX6_settled L M ph [.int v] (rI fun r M' => r = v ∧ M' = ms (ms M 28 (nI 0)) 0 (nI 0)) := by
  refine Ct.of [some (.ref (L.1 52)), some (.int v)] rfl (Nat.le_of_ble_eq_true rfl) (by decide +kernel) rfl ?_
  refine G.aload_n0 dX6_settled_0 ?_
  refine G.iconst (v := nI 0) dX6_settled_1 (by decide) ?_
  refine G.mputi 28 fp_X6_11 dX6_settled_2 ?_
  refine G.aload_n0 dX6_settled_5 ?_
  refine G.iload_n1 dX6_settled_6 ?_
  refine G.mcall (f' := fX6_good) q1919 ck_X6_good (c_X6_good E L _ ph _) dX6_settled_7 (rI.k fun r_7 M_7 h_7 => ?_)
  obtain ⟨e_7, h_7⟩ := h_7; replace e_7 := e_7.symm; replace h_7 := h_7.symm; subst e_7; subst h_7
  refine G.ireturn dX6_settled_10 ?_
  exact ⟨_, rfl, _, rfl, rfl, rfl⟩
theorem c_X6_doTalk (E : JE) (L : ML) (M : MM) (ph : HP) {a b : Nat} (ha : a < 10) (hb : b < 10) : MC E fX6_doTalk L M ph [.int (nI a), .int (nI b)] (rI fun r M' => r = bI (decide (M.2.2.1 2 (54 + 10 * a + b) = nI 1)) ∧ M' = M) := by
  refine Ct.of [some (.ref (L.1 52)), some (.int (nI a)), some (.int (nI b))] rfl (Nat.le_of_ble_eq_true rfl) (by decide +kernel) rfl ?_
  refine G.aload_n0 dX6_doTalk_0 ?_
  refine G.mgeta 2 fl_X6_24 dX6_doTalk_1 ?_
  refine G.bipush (v := nI 54) dX6_doTalk_4 (by decide) ?_
  refine G.bipush (v := nI 10) dX6_doTalk_6 (by decide) ?_
  refine G.iload_n1 dX6_doTalk_8 ?_
  first | refine G.imuln dX6_doTalk_9 ?_ | refine G.imul dX6_doTalk_9 ?_
  first | refine G.iaddn dX6_doTalk_10 ?_ | refine G.iadd dX6_doTalk_10 ?_
  refine G.iload_n2 dX6_doTalk_11 ?_
  first | refine G.iaddn dX6_doTalk_12 ?_ | refine G.iadd dX6_doTalk_12 ?_
  refine G.miald (n := 5866) 2 _ dX6_doTalk_13 rfl (by omega) ?_
  refine G.iconst (v := nI 1) dX6_doTalk_14 (by decide) ?_
  refine G.icmp_ne (tgt := 22) dX6_doTalk_15 (by decide) (fun c_15 => ?_) (fun c_15 => ?_)
  · refine G.iconst (v := nI 0) dX6_doTalk_22 (by decide) ?_
    refine G.ireturn dX6_doTalk_23 ?_ (hn := by first | rfl | exact bI_nar _)
    exact ⟨M, rfl, _, rfl, by first | exact bI_t (by assumption) | exact bI_f (by assumption) | exact bI_t (Classical.not_not.mp (by assumption)), rfl⟩
  · refine G.iconst (v := nI 1) dX6_doTalk_18 (by decide) ?_
    refine G.goto (tgt := 23) dX6_doTalk_19 (by decide) ?_
    refine G.ireturn dX6_doTalk_23 ?_ (hn := by first | rfl | exact bI_nar _)
    exact ⟨M, rfl, _, rfl, by first | exact bI_t (by assumption) | exact bI_f (by assumption) | exact bI_t (Classical.not_not.mp (by assumption)), rfl⟩
