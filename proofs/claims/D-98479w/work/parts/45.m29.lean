/-! THE MODEL READS: small steps along the tokens -/
def sFault (M : MM) (t : Nat) : MM := if M.1 21 = -1 then ms M 21 (M.2.2.1 17 t) else M
section Read
variable {E : JE} {L : ML} {ph : HP}
theorem c_X6_fine {M : MM} : MC E fX6_fine L M ph [] (rI fun r M' => r = bI (decide (M.1 21 = -1)) ∧ M' = M) := by
  refine Ct.of [some (.ref (L.1 52))] rfl (Nat.le_of_ble_eq_true rfl) (show plainName RX6 = true by decide +kernel) rfl ?_
  refine G.aload_n0 dX6_fine_0 ?_
  refine G.mgeti 21 fl_X6_161 dX6_fine_1 ?_
  refine G.iconst (v := -1) dX6_fine_4 (by decide) ?_
  refine G.icmp_ne (tgt := 12) dX6_fine_5 (by decide) (fun c_5 => ?_) (fun c_5 => ?_)
  · refine G.iconst (v := nI 0) dX6_fine_12 (by decide) ?_
    refine G.ireturn dX6_fine_13 ?_ (hn := by first | rfl | exact bI_nar _)
    first
    | exact ⟨_, rfl, _, rfl, bI_t (by assumption), rfl⟩
    | exact ⟨_, rfl, _, rfl, bI_f (by assumption), rfl⟩
  · refine G.iconst (v := nI 1) dX6_fine_8 (by decide) ?_
    refine G.goto (tgt := 13) dX6_fine_9 (by decide) ?_
    refine G.ireturn dX6_fine_13 ?_ (hn := by first | rfl | exact bI_nar _)
    first
    | exact ⟨_, rfl, _, rfl, bI_t (by assumption), rfl⟩
    | exact ⟨_, rfl, _, rfl, bI_f (by assumption), rfl⟩
theorem c_X6_faults {M : MM} {t : Nat} (ht : t < 401) (hM : M.1 19 = nI t) : MC E fX6_faults L M ph [] (rV fun M' => M' = sFault M t) := by
  refine Ct.of [some (.ref (L.1 52))] rfl (Nat.le_of_ble_eq_true rfl) (show plainName RX6 = true by decide +kernel) rfl ?_
  refine G.aload_n0 dX6_faults_0 ?_
  refine G.mcall (f' := fX6_fine) q2037 ck_X6_fine (c_X6_fine) dX6_faults_1 (rI.k fun r_1 M_1 h_1 => ?_)
  obtain ⟨e_1, h_1⟩ := h_1; replace e_1 := e_1.symm; replace h_1 := h_1.symm; subst e_1; subst h_1
  refine G.ifb_eq (tgt := 20) dX6_faults_4 (by decide) (fun c_4 => ?_) (fun c_4 => ?_)
  · have q := of_decide_eq_false c_4
    refine G.return_ dX6_faults_20 ?_
    first
    | exact ⟨_, rfl, rfl, (if_neg q).symm⟩
    | exact ⟨_, rfl, rfl, (if_pos q).symm⟩
  · have q := of_decide_eq_true c_4
    refine G.aload_n0 dX6_faults_7 ?_
    refine G.aload_n0 dX6_faults_8 ?_
    refine G.mgeta 17 fl_X6_56 dX6_faults_9 ?_
    refine G.aload_n0 dX6_faults_12 ?_
    refine G.mgeti 19 fl_X6_168 dX6_faults_13 ?_
    refine G.miald (n := 401) 17 t dX6_faults_16 hM (by omega) ?_
    refine G.mputi 21 fp_X6_161 dX6_faults_17 ?_
    refine G.return_ dX6_faults_20 ?_
    first
    | exact ⟨_, rfl, rfl, (if_neg q).symm⟩
    | exact ⟨_, rfl, rfl, (if_pos q).symm⟩
theorem c_X6_takes0 {M : MM} {t : Nat} (ht : t < 401) (hM : M.1 19 = nI t) (c : Int32) : MC E fX6_takes0 L M ph [.int c] (rI fun r M' => r = bI (decide (M.1 21 = -1 ∧ M.2.2.1 15 t = c)) ∧ M' = if M.1 21 = -1 ∧ M.2.2.1 15 t = c then ms M 19 (nI (t + 1)) else M) := by
  refine Ct.of [some (.ref (L.1 52)), some (.int c), none] rfl (Nat.le_of_ble_eq_true rfl) (show plainName RX6 = true by decide +kernel) rfl ?_
  refine G.aload_n0 dX6_takes0_0 ?_
  refine G.mcall (f' := fX6_fine) q2037 ck_X6_fine (c_X6_fine) dX6_takes0_1 (rI.k fun r_1 M_1 h_1 => ?_)
  obtain ⟨e_1, h_1⟩ := h_1; replace e_1 := e_1.symm; replace h_1 := h_1.symm; subst e_1; subst h_1
  refine G.ifb_eq (tgt := 24) dX6_takes0_4 (by decide) (fun c_4 => ?_) (fun c_4 => ?_)
  · have q := of_decide_eq_false c_4
    refine G.iconst (v := nI 0) dX6_takes0_24 (by decide) ?_
    refine G.istore_n2 dX6_takes0_25 ?_
    refine G.iload_n2 dX6_takes0_26 ?_
    refine G.if_eq (tgt := 40) dX6_takes0_27 (by decide) (fun _ => ?_) (fun c_27 => absurd c_27 (by decide))
    refine G.iload_n2 dX6_takes0_40 ?_
    refine G.ireturn dX6_takes0_41 ?_ (hn := by first | rfl | exact bI_nar _)
    first
    | exact ⟨_, rfl, _, rfl, bI_t ⟨q, by first | exact c_17 | exact Classical.not_not.mp c_17⟩, (if_pos ⟨q, by first | exact c_17 | exact Classical.not_not.mp c_17⟩).symm⟩
    | exact ⟨_, rfl, _, rfl, bI_f (fun z => c_17 z.2), (if_neg (fun z => c_17 z.2)).symm⟩
    | exact ⟨_, rfl, _, rfl, bI_f (fun z => q z.1), (if_neg (fun z => q z.1)).symm⟩
  · have q := of_decide_eq_true c_4
    refine G.aload_n0 dX6_takes0_7 ?_
    refine G.mgeta 15 fl_X6_50 dX6_takes0_8 ?_
    refine G.aload_n0 dX6_takes0_11 ?_
    refine G.mgeti 19 fl_X6_168 dX6_takes0_12 ?_
    refine G.miald (n := 401) 15 t dX6_takes0_15 hM (by omega) ?_
    refine G.iload_n1 dX6_takes0_16 ?_
    refine G.icmp_ne (tgt := 24) dX6_takes0_17 (by decide) (fun c_17 => ?_) (fun c_17 => ?_)
    · refine G.iconst (v := nI 0) dX6_takes0_24 (by decide) ?_
      refine G.istore_n2 dX6_takes0_25 ?_
      refine G.iload_n2 dX6_takes0_26 ?_
      refine G.if_eq (tgt := 40) dX6_takes0_27 (by decide) (fun _ => ?_) (fun c_27 => absurd c_27 (by decide))
      refine G.iload_n2 dX6_takes0_40 ?_
      refine G.ireturn dX6_takes0_41 ?_ (hn := by first | rfl | exact bI_nar _)
      first
      | exact ⟨_, rfl, _, rfl, bI_t ⟨q, by first | exact c_17 | exact Classical.not_not.mp c_17⟩, (if_pos ⟨q, by first | exact c_17 | exact Classical.not_not.mp c_17⟩).symm⟩
      | exact ⟨_, rfl, _, rfl, bI_f (fun z => c_17 z.2), (if_neg (fun z => c_17 z.2)).symm⟩
      | exact ⟨_, rfl, _, rfl, bI_f (fun z => q z.1), (if_neg (fun z => q z.1)).symm⟩
    · refine G.iconst (v := nI 1) dX6_takes0_20 (by decide) ?_
      refine G.goto (tgt := 25) dX6_takes0_21 (by decide) ?_
      refine G.istore_n2 dX6_takes0_25 ?_
      refine G.iload_n2 dX6_takes0_26 ?_
      refine G.if_eq (tgt := 40) dX6_takes0_27 (by decide) (fun c_27 => absurd c_27 (by decide)) (fun _ => ?_)
      refine G.aload_n0 dX6_takes0_30 ?_
      refine G.dup dX6_takes0_31 rfl ?_
      refine G.mgeti 19 fl_X6_168 dX6_takes0_32 ?_
      refine G.iconst (v := nI 1) dX6_takes0_35 (by decide) ?_
      rw [hM]
      first | with_reducible refine G.iaddn dX6_takes0_36 ?_ | refine G.iadd dX6_takes0_36 ?_
      refine G.mputi 19 fp_X6_168 dX6_takes0_37 ?_
      refine G.iload_n2 dX6_takes0_40 ?_
      refine G.ireturn dX6_takes0_41 ?_ (hn := by first | rfl | exact bI_nar _)
      first
      | exact ⟨_, rfl, _, rfl, bI_t ⟨q, by first | exact c_17 | exact Classical.not_not.mp c_17⟩, (if_pos ⟨q, by first | exact c_17 | exact Classical.not_not.mp c_17⟩).symm⟩
      | exact ⟨_, rfl, _, rfl, bI_f (fun z => c_17 z.2), (if_neg (fun z => c_17 z.2)).symm⟩
      | exact ⟨_, rfl, _, rfl, bI_f (fun z => q z.1), (if_neg (fun z => q z.1)).symm⟩
theorem c_X6_must {M : MM} {t : Nat} (ht : t < 401) (hM : M.1 19 = nI t) (c : Int32) : MC E fX6_must L M ph [.int c] (rV fun M' => M' = if M.1 21 = -1 ∧ M.2.2.1 15 t = c then ms M 19 (nI (t + 1)) else sFault M t) := by
  refine Ct.of [some (.ref (L.1 52)), some (.int c)] rfl (Nat.le_of_ble_eq_true rfl) (show plainName RX6 = true by decide +kernel) rfl ?_
  refine G.aload_n0 dX6_must_0 ?_
  refine G.iload_n1 dX6_must_1 ?_
  refine G.mcall (f' := fX6_takes0) q2033 ck_X6_takes0 (c_X6_takes0 ht hM c) dX6_must_2 (rI.k fun r_2 M_2 h_2 => ?_)
  obtain ⟨e_2, h_2⟩ := h_2; replace e_2 := e_2.symm; replace h_2 := h_2.symm; subst e_2; subst h_2
  refine G.ifb_ne (tgt := 12) dX6_must_5 (by decide) (fun c_5 => ?_) (fun c_5 => ?_)
  · have q := of_decide_eq_true c_5
    rw [show (if M.1 21 = -1 ∧ M.2.2.1 15 t = c then ms M 19 (nI (t + 1)) else M) = ms M 19 (nI (t + 1)) from if_pos q]
    refine G.return_ dX6_must_12 ?_
    first
    | exact ⟨_, rfl, rfl, (if_pos q).symm⟩
    | exact ⟨_, rfl, rfl, (if_neg q).symm⟩
  · have q := of_decide_eq_false c_5
    rw [show (if M.1 21 = -1 ∧ M.2.2.1 15 t = c then ms M 19 (nI (t + 1)) else M) = M from if_neg q]
    refine G.aload_n0 dX6_must_8 ?_
    refine G.mcall (f' := fX6_faults) q2056 ck_X6_faults (c_X6_faults ht hM) dX6_must_9 (rV.k fun M_9 h_9 => ?_)
    replace h_9 := h_9.symm; subst h_9
    refine G.return_ dX6_must_12 ?_
    first
    | exact ⟨_, rfl, rfl, (if_pos q).symm⟩
    | exact ⟨_, rfl, rfl, (if_neg q).symm⟩
end Read
