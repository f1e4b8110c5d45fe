/-! LITSTRANGERS: small ones -/
theorem l_of {a b : Int32} : a.toInt64 ≤ b.toInt64 ↔ a.toInt ≤ b.toInt := by rw [l_le, i64_t, i64_t]
section Small
variable {E : JE} {L : XL} {D : XD} {ph : HP}
theorem c_X0_in (v low high : Int64) : SC E fX0_in [.long v, .long low, .long high] (sI fun r => r = bI (decide (low ≤ v ∧ v ≤ high))) := by
  intro ph
  refine Ct.of [some (.long v), none, some (.long low), none, some (.long high), none] rfl (Nat.le_of_ble_eq_true rfl) (show plainName RX0 = true by decide +kernel) rfl ?_
  refine G.lload_n0 dX0_in_0 ?_
  refine G.lload_n2 dX0_in_1 ?_
  refine G.lcmp dX0_in_2 ?_
  refine G.if_lt (tgt := 17) dX0_in_3 (by decide) (fun c_3 => ?_) (fun c_3 => ?_)
  · refine G.iconst (v := nI 0) dX0_in_17 (by decide) ?_
    refine G.ireturn dX0_in_18 ?_ (hn := by first | rfl | exact bI_nar _)
    first
    | exact ⟨rfl, _, rfl, bI_t ⟨lg_ge.mp (Int32.not_lt.mp c_3), lg_le.mp (Int32.not_lt.mp c_10)⟩⟩
    | exact ⟨rfl, _, rfl, bI_f (fun z => absurd (lg_ge.mpr z.1) (Int32.not_le.mpr c_3))⟩
    | exact ⟨rfl, _, rfl, bI_f (fun z => absurd (lg_le.mpr z.2) (Int32.not_le.mpr c_10))⟩
  · refine G.lload_n0 dX0_in_6 ?_
    refine G.lload4 dX0_in_7 ?_
    refine G.lcmp dX0_in_9 ?_
    refine G.if_gt (tgt := 17) dX0_in_10 (by decide) (fun c_10 => ?_) (fun c_10 => ?_)
    · refine G.iconst (v := nI 0) dX0_in_17 (by decide) ?_
      refine G.ireturn dX0_in_18 ?_ (hn := by first | rfl | exact bI_nar _)
      first
      | exact ⟨rfl, _, rfl, bI_t ⟨lg_ge.mp (Int32.not_lt.mp c_3), lg_le.mp (Int32.not_lt.mp c_10)⟩⟩
      | exact ⟨rfl, _, rfl, bI_f (fun z => absurd (lg_ge.mpr z.1) (Int32.not_le.mpr c_3))⟩
      | exact ⟨rfl, _, rfl, bI_f (fun z => absurd (lg_le.mpr z.2) (Int32.not_le.mpr c_10))⟩
    · refine G.iconst (v := nI 1) dX0_in_13 (by decide) ?_
      refine G.goto (tgt := 18) dX0_in_14 (by decide) ?_
      refine G.ireturn dX0_in_18 ?_ (hn := by first | rfl | exact bI_nar _)
      first
      | exact ⟨rfl, _, rfl, bI_t ⟨lg_ge.mp (Int32.not_lt.mp c_3), lg_le.mp (Int32.not_lt.mp c_10)⟩⟩
      | exact ⟨rfl, _, rfl, bI_f (fun z => absurd (lg_ge.mpr z.1) (Int32.not_le.mpr c_3))⟩
      | exact ⟨rfl, _, rfl, bI_f (fun z => absurd (lg_le.mpr z.2) (Int32.not_le.mpr c_10))⟩
theorem c_X0_has (c p : Nat) (hc : c < 2147483648) (hp : p < 31) : SC E fX0_has [.int (nI c), .int (nI p)] (sI fun r => r = bI (c.testBit p)) := by
  intro ph
  refine Ct.of [some (.int (nI c)), some (.int (nI p))] rfl (Nat.le_of_ble_eq_true rfl) (show plainName RX0 = true by decide +kernel) rfl ?_
  refine G.iload_n0 dX0_has_0 ?_
  refine G.iload_n1 dX0_has_1 ?_
  refine G.ishr dX0_has_2 ?_
  refine G.iconst (v := nI 1) dX0_has_3 (by decide) ?_
  refine G.iand dX0_has_4 ?_
  rw [bit_n hc hp]
  refine G.iconst (v := nI 1) dX0_has_5 (by decide) ?_
  refine G.icmp_ne (tgt := 13) dX0_has_6 (by decide) (fun c_6 => ?_) (fun c_6 => ?_)
  · refine G.iconst (v := nI 0) dX0_has_13 (by decide) ?_
    refine G.ireturn dX0_has_14 ?_ (hn := by first | rfl | exact bI_nar _)
    first
    | (refine ⟨rfl, _, rfl, ?_⟩
       cases e : c.testBit p with
       | true => rfl
       | false => rw [e] at c_6; exact absurd c_6 (by decide))
    | (refine ⟨rfl, _, rfl, ?_⟩
       cases e : c.testBit p with
       | false => rfl
       | true => rw [e] at c_6; exact absurd rfl c_6)
  · refine G.iconst (v := nI 1) dX0_has_9 (by decide) ?_
    refine G.goto (tgt := 14) dX0_has_10 (by decide) ?_
    refine G.ireturn dX0_has_14 ?_ (hn := by first | rfl | exact bI_nar _)
    first
    | (refine ⟨rfl, _, rfl, ?_⟩
       cases e : c.testBit p with
       | true => rfl
       | false => rw [e] at c_6; exact absurd c_6 (by decide))
    | (refine ⟨rfl, _, rfl, ?_⟩
       cases e : c.testBit p with
       | false => rfl
       | true => rw [e] at c_6; exact absurd rfl c_6)
theorem c_X0_isLetter (b : Int32) : SC E fX0_isLetter [.int b] (sI fun r => r = bI (isS b)) := by
  intro ph
  refine Ct.of [some (.int b)] rfl (Nat.le_of_ble_eq_true rfl) (show plainName RX0 = true by decide +kernel) rfl ?_
  refine G.iload_n0 dX0_isLetter_0 ?_
  refine G.bipush (v := nI 97) dX0_isLetter_1 (by decide) ?_
  refine G.icmp_lt (tgt := 16) dX0_isLetter_3 (by decide) (fun c_3 => ?_) (fun c_3 => ?_)
  · rw [i_lt, t_nI (by omega)] at c_3
    refine G.iconst (v := nI 0) dX0_isLetter_16 (by decide) ?_
    refine G.ireturn dX0_isLetter_17 ?_ (hn := by first | rfl | exact bI_nar _)
    first
    | exact ⟨rfl, _, rfl, bI_t (show 97 ≤ b.toInt ∧ b.toInt ≤ 122 from by omega)⟩
    | exact ⟨rfl, _, rfl, bI_f (show ¬ (97 ≤ b.toInt ∧ b.toInt ≤ 122) from by omega)⟩
  · rw [i_lt, t_nI (by omega)] at c_3
    refine G.iload_n0 dX0_isLetter_6 ?_
    refine G.bipush (v := nI 122) dX0_isLetter_7 (by decide) ?_
    refine G.icmp_gt (tgt := 16) dX0_isLetter_9 (by decide) (fun c_9 => ?_) (fun c_9 => ?_)
    · rw [i_lt, t_nI (by omega)] at c_9
      refine G.iconst (v := nI 0) dX0_isLetter_16 (by decide) ?_
      refine G.ireturn dX0_isLetter_17 ?_ (hn := by first | rfl | exact bI_nar _)
      first
      | exact ⟨rfl, _, rfl, bI_t (show 97 ≤ b.toInt ∧ b.toInt ≤ 122 from by omega)⟩
      | exact ⟨rfl, _, rfl, bI_f (show ¬ (97 ≤ b.toInt ∧ b.toInt ≤ 122) from by omega)⟩
    · rw [i_lt, t_nI (by omega)] at c_9
      refine G.iconst (v := nI 1) dX0_isLetter_12 (by decide) ?_
      refine G.goto (tgt := 17) dX0_isLetter_13 (by decide) ?_
      refine G.ireturn dX0_isLetter_17 ?_ (hn := by first | rfl | exact bI_nar _)
      first
      | exact ⟨rfl, _, rfl, bI_t (show 97 ≤ b.toInt ∧ b.toInt ≤ 122 from by omega)⟩
      | exact ⟨rfl, _, rfl, bI_f (show ¬ (97 ≤ b.toInt ∧ b.toInt ≤ 122) from by omega)⟩
theorem c_X0_isDigit (b : Int32) : SC E fX0_isDigit [.int b] (sI fun r => r = bI (isD b)) := by
  intro ph
  refine Ct.of [some (.int b)] rfl (Nat.le_of_ble_eq_true rfl) (show plainName RX0 = true by decide +kernel) rfl ?_
  refine G.iload_n0 dX0_isDigit_0 ?_
  refine G.bipush (v := nI 48) dX0_isDigit_1 (by decide) ?_
  refine G.icmp_lt (tgt := 16) dX0_isDigit_3 (by decide) (fun c_3 => ?_) (fun c_3 => ?_)
  · rw [i_lt, t_nI (by omega)] at c_3
    refine G.iconst (v := nI 0) dX0_isDigit_16 (by decide) ?_
    refine G.ireturn dX0_isDigit_17 ?_ (hn := by first | rfl | exact bI_nar _)
    first
    | exact ⟨rfl, _, rfl, bI_t (show 48 ≤ b.toInt ∧ b.toInt ≤ 57 from by omega)⟩
    | exact ⟨rfl, _, rfl, bI_f (show ¬ (48 ≤ b.toInt ∧ b.toInt ≤ 57) from by omega)⟩
  · rw [i_lt, t_nI (by omega)] at c_3
    refine G.iload_n0 dX0_isDigit_6 ?_
    refine G.bipush (v := nI 57) dX0_isDigit_7 (by decide) ?_
    refine G.icmp_gt (tgt := 16) dX0_isDigit_9 (by decide) (fun c_9 => ?_) (fun c_9 => ?_)
    · rw [i_lt, t_nI (by omega)] at c_9
      refine G.iconst (v := nI 0) dX0_isDigit_16 (by decide) ?_
      refine G.ireturn dX0_isDigit_17 ?_ (hn := by first | rfl | exact bI_nar _)
      first
      | exact ⟨rfl, _, rfl, bI_t (show 48 ≤ b.toInt ∧ b.toInt ≤ 57 from by omega)⟩
      | exact ⟨rfl, _, rfl, bI_f (show ¬ (48 ≤ b.toInt ∧ b.toInt ≤ 57) from by omega)⟩
    · rw [i_lt, t_nI (by omega)] at c_9
      refine G.iconst (v := nI 1) dX0_isDigit_12 (by decide) ?_
      refine G.goto (tgt := 17) dX0_isDigit_13 (by decide) ?_
      refine G.ireturn dX0_isDigit_17 ?_ (hn := by first | rfl | exact bI_nar _)
      first
      | exact ⟨rfl, _, rfl, bI_t (show 48 ≤ b.toInt ∧ b.toInt ≤ 57 from by omega)⟩
      | exact ⟨rfl, _, rfl, bI_f (show ¬ (48 ≤ b.toInt ∧ b.toInt ≤ 57) from by omega)⟩
theorem c_X0_need (b : Bool) : XC E fX0_need 0 L D ph [.int (bI b)] (wI fun r D' => r = nI (zNeed b) ∧ D' = D) := by
  refine Ct.of [some (.ref (L.1 0)), some (.int (bI b))] rfl (Nat.le_of_ble_eq_true rfl) (show plainName RX0 = true by decide +kernel) rfl ?_
  refine G.iload_n1 dX0_need_0 ?_
  refine G.ifb_eq (tgt := 8) dX0_need_1 (by decide) (fun c_1 => ?_) (fun c_1 => ?_)
  · refine G.iconst (v := nI 2) dX0_need_8 (by decide) ?_
    refine G.ireturn dX0_need_9 ?_
    first
    | exact ⟨_, rfl, _, rfl, by rw [c_1]; rfl, rfl⟩
  · refine G.iconst (v := nI 4) dX0_need_4 (by decide) ?_
    refine G.goto (tgt := 9) dX0_need_5 (by decide) ?_
    refine G.ireturn dX0_need_9 ?_
    first
    | exact ⟨_, rfl, _, rfl, by rw [c_1]; rfl, rfl⟩
theorem c_X0_books : XC E fX0_books 0 L D ph [] (wA fun r D' => r = L.1 6 ∧ D' = D) := by
  refine Ct.of [some (.ref (L.1 0))] rfl (Nat.le_of_ble_eq_true rfl) (show plainName RX0 = true by decide +kernel) rfl ?_
  refine G.aload_n0 dX0_books_0 ?_
  refine G.xgetf 0 0 1 fl_X0_10 dX0_books_1 ?_
  refine G.xgetf 1 2 6 fl_X0_88 dX0_books_4 ?_
  refine G.areturn dX0_books_7 ?_
  exact ⟨_, rfl, _, rfl, rfl, rfl⟩
theorem r_size {h : HP} {a : Nat} {m n : Int32} {e : Value} (ha : h a = some (.inr (32, [.int m, e, .int n]))) : Ct E fJ2_size [.ref a] h (fun v h' => v = some (.int n) ∧ h' = h) jNo := by
  refine Ct.of [some (.ref a)] rfl (Nat.le_of_ble_eq_true rfl) (show plainName RJ2 = true by decide +kernel) rfl ?_
  refine G.aload_n0 dJ2_size_0 ?_
  refine G.getfield (k := 2) fl_J2_48 (by assumption) rfl dJ2_size_1 ?_
  refine G.ireturn dJ2_size_4 ?_
  exact ⟨rfl, rfl⟩
theorem c_size (k : Nat) (hk : k = 2 ∨ k = 4 ∨ k = 13) : XC E fJ2_size k L D ph [] (wI fun r D' => r = D.1 k 2 ∧ D' = D) := by
  have ha : xov L D ph (L.1 k) = some (.inr (32, [.int (D.1 k 0), va_rf (D.2.2.2.1 k 1), .int (D.1 k 2)])) := by
    rcases hk with rfl | rfl | rfl
    · exact xobj 2 rfl
    · exact xobj 4 rfl
    · exact xobj 13 rfl
  refine Ct.mono ?_ (fun _ _ _ z => z) (r_size ha)
  rintro v h ⟨rfl, rfl⟩
  exact ⟨D, rfl, _, rfl, rfl, rfl⟩
theorem c_X0_many : XC E fX0_many 0 L D ph [] (wI fun r D' => r = D.1 4 2 ∧ D' = D) := by
  refine Ct.of [some (.ref (L.1 0))] rfl (Nat.le_of_ble_eq_true rfl) (show plainName RX0 = true by decide +kernel) rfl ?_
  refine G.aload_n0 dX0_many_0 ?_
  refine G.xgetf 0 0 1 fl_X0_10 dX0_many_1 ?_
  refine G.xgetf 1 1 4 fl_X0_92 dX0_many_4 ?_
  refine G.xcall (f' := fJ2_size) 4 q464 ck_J2_size (c_size 4 (by omega)) dX0_many_7 (wI.k fun r_7 D_7 h_7 => ?_)
  obtain ⟨e_7, h_7⟩ := h_7; replace e_7 := e_7.symm; replace h_7 := h_7.symm; subst e_7; subst h_7
  refine G.ireturn dX0_many_10 ?_
  exact ⟨_, rfl, _, rfl, rfl, rfl⟩
theorem c_X0_isPerson {n : Nat} (hn : n ≤ 10) (h : D.1 4 2 = nI n) (p : Int32) : XC E fX0_isPerson 0 L D ph [.int p] (wI fun r D' => r = bI (decide (0 ≤ p.toInt ∧ p.toInt < n)) ∧ D' = D) := by
  refine Ct.of [some (.ref (L.1 0)), some (.int p)] rfl (Nat.le_of_ble_eq_true rfl) (show plainName RX0 = true by decide +kernel) rfl ?_
  refine G.iload_n1 dX0_isPerson_0 ?_
  refine G.i2l dX0_isPerson_1 rfl ?_
  refine G.lconst (v := 0) dX0_isPerson_2 (by decide) ?_
  refine G.aload_n0 dX0_isPerson_3 ?_
  refine G.xcall (f' := fX0_many) 0 q460 ck_X0_many (c_X0_many) dX0_isPerson_4 (wI.k fun r_4 D_4 h_4 => ?_)
  obtain ⟨e_4, h_4⟩ := h_4; replace e_4 := e_4.symm; replace h_4 := h_4.symm; subst e_4; subst h_4
  rw [h]
  refine G.iconst (v := nI 1) dX0_isPerson_7 (by decide) ?_
  refine G.isub dX0_isPerson_8 ?_
  refine G.i2l dX0_isPerson_9 rfl ?_
  refine G.scall (f' := fX0_in) q446 ck_X0_in (c_X0_in _ _ _) dX0_isPerson_10 (sI.k fun r_10 h_10 => ?_)
  replace h_10 := h_10.symm; subst h_10
  refine G.ireturn dX0_isPerson_13 ?_ (hn := by first | rfl | exact bI_nar _)
  refine ⟨_, rfl, _, rfl, congrArg bI (decide_eq_decide.mpr ?_), rfl⟩
  rw [show (0 : Int64) = (nI 0).toInt64 from rfl, l_of, l_of, t_nI (by omega), t_sub (by omega) (by omega)]
  omega
theorem c_X0_was (v : Int32) : XC E fX0_was 0 L D ph [.int v] (wI fun r D' => r = v ∧ D' = xs D 0 7 (nI 0)) := by
  refine Ct.of [some (.ref (L.1 0)), some (.int v)] rfl (Nat.le_of_ble_eq_true rfl) (show plainName RX0 = true by decide +kernel) rfl ?_
  refine G.aload_n0 dX0_was_0 ?_
  refine G.iconst (v := nI 0) dX0_was_1 (by decide) ?_
  refine G.xputi 0 7 fp_X0_78 dX0_was_2 ?_
  refine G.iload_n1 dX0_was_5 ?_
  refine G.ireturn dX0_was_6 ?_
  exact ⟨_, rfl, _, rfl, rfl, rfl⟩
theorem c_X0_fault : XC E fX0_fault 0 L D ph [] (wI fun r D' => r = D.1 0 8 ∧ D' = D) := by
  refine Ct.of [some (.ref (L.1 0))] rfl (Nat.le_of_ble_eq_true rfl) (show plainName RX0 = true by decide +kernel) rfl ?_
  refine G.aload_n0 dX0_fault_0 ?_
  refine G.xgeti 0 8 fl_X0_52 dX0_fault_1 ?_
  refine G.ireturn dX0_fault_4 ?_
  exact ⟨_, rfl, _, rfl, rfl, rfl⟩
theorem c_X0_salt : XC E fX0_salt 0 L D ph [] (wI fun r D' => r = D.1 0 9 ∧ D' = D) := by
  refine Ct.of [some (.ref (L.1 0))] rfl (Nat.le_of_ble_eq_true rfl) (show plainName RX0 = true by decide +kernel) rfl ?_
  refine G.aload_n0 dX0_salt_0 ?_
  refine G.xgeti 0 9 fl_X0_206 dX0_salt_1 ?_
  refine G.ireturn dX0_salt_4 ?_
  exact ⟨_, rfl, _, rfl, rfl, rfl⟩
theorem c_X0_stopped : XC E fX0_stopped 0 L D ph [] (wI fun r D' => r = D.1 0 10 ∧ D' = D) := by
  refine Ct.of [some (.ref (L.1 0))] rfl (Nat.le_of_ble_eq_true rfl) (show plainName RX0 = true by decide +kernel) rfl ?_
  refine G.aload_n0 dX0_stopped_0 ?_
  refine G.xgeti 0 10 fl_X0_56 dX0_stopped_1 ?_
  refine G.ireturn dX0_stopped_4 ?_
  exact ⟨_, rfl, _, rfl, rfl, rfl⟩
theorem c_X0_status : XC E fX0_status 0 L D ph [] (wI fun r D' => r = D.1 0 7 ∧ D' = D) := by
  refine Ct.of [some (.ref (L.1 0))] rfl (Nat.le_of_ble_eq_true rfl) (show plainName RX0 = true by decide +kernel) rfl ?_
  refine G.aload_n0 dX0_status_0 ?_
  refine G.xgeti 0 7 fl_X0_78 dX0_status_1 ?_
  refine G.ireturn dX0_status_4 ?_
  exact ⟨_, rfl, _, rfl, rfl, rfl⟩
/-- a refusal is told, and counted -/
def xNo (D : XD) (k : Nat) : XD := xa (xs D 0 7 (-nI k)) 19 k (D.2.1 19 k + nI 1)
def xGood (D : XD) : XD := xs D 0 7 (nI 0)
theorem c_tell_no {k : Nat} (hk : k < 7) (h0 : 0 < k) : XC E fX0_tell 0 L D ph [.int (-nI k)] (wI fun r D' => r = -nI k ∧ D' = xNo D k) := by
  have e1 : (if nI 0 < -nI k then nI 0 else -nI k) = -nI k := by
    have : ∀ k, k < 7 → (if nI 0 < -nI k then nI 0 else -nI k) = -nI k := by decide
    exact this k hk
  have e2 : -(-nI k) = nI k := by
    have : ∀ k, k < 7 → -(-nI k) = nI k := by decide
    exact this k hk
  have e3 : ¬ 0 ≤ -nI k := by
    have : ∀ k, k < 7 → 0 < k → ¬ 0 ≤ -nI k := by decide
    exact this k hk h0
  refine Ct.of [some (.ref (L.1 0)), some (.int (-nI k))] rfl (Nat.le_of_ble_eq_true rfl) (show plainName RX0 = true by decide +kernel) rfl ?_
  refine G.aload_n0 dX0_tell_0 ?_
  refine G.iload_n1 dX0_tell_1 ?_
  refine G.iconst (v := nI 0) dX0_tell_2 (by decide) ?_
  refine G.imin q573 dX0_tell_3 ?_
  rw [e1]
  refine G.xputi 0 7 fp_X0_78 dX0_tell_6 ?_
  refine G.iload_n1 dX0_tell_9 ?_
  refine G.if_ge (tgt := 24) dX0_tell_10 (by decide) (fun c_10 => ?_) (fun c_10 => ?_)
  · exact absurd c_10 e3
  · refine G.aload_n0 dX0_tell_13 ?_
    refine G.xgetf 0 6 19 fl_X0_48 dX0_tell_14 ?_
    refine G.iload_n1 dX0_tell_17 ?_
    refine G.ineg dX0_tell_18 ?_
    rw [e2]
    refine G.dup2_11 dX0_tell_19 rfl rfl ?_
    refine G.xiald (n := 7) 19 k dX0_tell_20 rfl (by omega) ?_
    refine G.iconst (v := nI 1) dX0_tell_21 (by decide) ?_
    first | with_reducible refine G.iaddn dX0_tell_22 ?_ | refine G.iadd dX0_tell_22 ?_
    refine G.xiast (n := 7) 19 k dX0_tell_23 rfl (by omega) ?_
    refine G.iload_n1 dX0_tell_24 ?_
    refine G.ireturn dX0_tell_25 ?_
    exact ⟨_, rfl, _, rfl, rfl, rfl⟩
theorem c_tell_good {v : Int32} (h0 : 0 ≤ v) : XC E fX0_tell 0 L D ph [.int v] (wI fun r D' => r = v ∧ D' = xGood D) := by
  have e1 : (if nI 0 < v then nI 0 else v) = nI 0 := by
    split
    · rfl
    · rename_i q
      rw [i_lt] at q
      rw [i_le] at h0
      rw [i_eq]
      rw [show (0 : Int32).toInt = (nI 0).toInt from rfl] at h0
      omega
  refine Ct.of [some (.ref (L.1 0)), some (.int v)] rfl (Nat.le_of_ble_eq_true rfl) (show plainName RX0 = true by decide +kernel) rfl ?_
  refine G.aload_n0 dX0_tell_0 ?_
  refine G.iload_n1 dX0_tell_1 ?_
  refine G.iconst (v := nI 0) dX0_tell_2 (by decide) ?_
  refine G.imin q573 dX0_tell_3 ?_
  rw [e1]
  refine G.xputi 0 7 fp_X0_78 dX0_tell_6 ?_
  refine G.iload_n1 dX0_tell_9 ?_
  refine G.if_ge (tgt := 24) dX0_tell_10 (by decide) (fun c_10 => ?_) (fun c_10 => ?_)
  · refine G.iload_n1 dX0_tell_24 ?_
    refine G.ireturn dX0_tell_25 ?_
    exact ⟨_, rfl, _, rfl, rfl, rfl⟩
  · exact absurd h0 c_10
end Small
