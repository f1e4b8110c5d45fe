/-! THE MODEL READS: leaves, parts, terms, sums -/
def rS (M : MM) (p l : Nat) : MM := ms (ms M 20 (nI l)) 19 (nI p)
theorem ms_x {M : MM} {j k : Nat} {a b : Int32} (h : ¬ j = k) : ms (ms M j a) k b = ms (ms M k b) j a := by
  refine Prod.ext (funext fun i => ?_) rfl
  show (ms (ms M j a) k b).1 i = (ms (ms M k b) j a).1 i
  rw [ms_1, ms_1, ms_1, ms_1]
  by_cases q : i = k
  · rw [if_pos q, if_neg (by omega), if_pos q]
  · rw [if_neg q, if_neg q]
theorem rS_t {M : MM} {p l p' : Nat} : ms (rS M p l) 19 (nI p') = rS M p' l := ms_ms
theorem rS_l {M : MM} {p l p' l' : Nat} : ms (ms (rS M p l) 20 (nI l')) 19 (nI p') = rS M p' l' := by
  unfold rS
  rw [ms_x (M := ms M 20 (nI l)) (j := 19) (k := 20) (by decide), ms_ms, ms_ms]
theorem rS_self {M : MM} {p l : Nat} (h1 : M.1 19 = nI p) (h2 : M.1 20 = nI l) : rS M p l = M := by
  refine Prod.ext (funext fun i => ?_) rfl
  show (ms (ms M 20 (nI l)) 19 (nI p)).1 i = M.1 i
  rw [ms_1, ms_1]
  by_cases q : i = 19
  · rw [if_pos q, q, h1]
  · rw [if_neg q]
    by_cases q2 : i = 20
    · rw [if_pos q2, q2, h2]
    · rw [if_neg q2]
theorem rS_x {M : MM} {p l : Nat} : mX [19, 20, 21] [] M (rS M p l) := (mX.rf.ms (by decide)).ms (by decide)
/-- what is known of the tokens while a text is read -/
def rdOk (ord : Bool) (tk : Tk) (N : Nat) (M : MM) : Prop := M.1 21 = -1 ∧ M.1 8 = nI (wLo ord) ∧ M.1 9 = nI (wHi ord) ∧ N ≤ 400 ∧ tkOk tk N ∧ (∀ t, t ≤ N → M.2.2.1 15 t = tk.1 t ∧ M.2.2.1 16 t = tk.2 t ∧ ¬ M.2.2.1 17 t = -1)
/-- it is read (the next place, the leaves so far), or bad is the place of the token that is wrong -/
def rdQ {α : Type} (M0 : MM) (N pos : Nat) : Rs α → MM → Prop
  | .inl e, M' => M'.1 21 = M0.2.2.1 17 e ∧ e ≤ N ∧ mX [19, 20, 21] [] M0 M'
  | .inr (_, p, l), M' => M' = rS M0 p l ∧ pos ≤ p ∧ p ≤ N ∧ l ≤ 50
def EvR (E : JE) (f : FS) (L : ML) (ph : HP) {α : Type} (one : Nat → Nat → Rs α) (M0 : MM) (N d : Nat) : Prop := ∀ pos lv, pos ≤ N → lv ≤ 50 → MC E f L (rS M0 pos lv) ph [.int (nI d)] (rV fun M' => rdQ M0 N pos (one pos lv) M')
def EvD (E : JE) (f : FS) (L : ML) (ph : HP) (d : Nat) : Prop := ∀ M : MM, ¬ M.1 21 = -1 → MC E f L M ph [.int (nI d)] (rV fun M' => M' = M)
theorem rdQ_bad {α : Type} {ord : Bool} {tk : Tk} {M0 : MM} {N pos e : Nat} {x : Rs α} {M' : MM} (h0 : rdOk ord tk N M0) (h : rdQ M0 N pos x M') (hx : x = .inl e) : ¬ M'.1 21 = -1 := by
  subst hx
  intro z
  exact (h0.2.2.2.2.2 e h.2.1).2.2 (h.1.symm.trans z)
section Read
variable {E : JE} {L : ML} {ph : HP}
theorem c_takes0_dead {M : MM} (hd : ¬ M.1 21 = -1) (c : Int32) : MC E fX6_takes0 L M ph [.int c] (rI fun r M' => r = bI false ∧ M' = M) := by
  refine Ct.of [some (.ref (L.1 52)), some (.int c), none] rfl (Nat.le_of_ble_eq_true rfl) (show plainName RX6 = true by decide +kernel) rfl ?_
  refine G.aload_n0 dX6_takes0_0 ?_
  refine G.mcall (f' := fX6_fine) q2037 ck_X6_fine (c_X6_fine) dX6_takes0_1 (rI.k fun r_1 M_1 h_1 => ?_)
  obtain ⟨e_1, h_1⟩ := h_1; replace e_1 := e_1.symm; replace h_1 := h_1.symm; subst e_1; subst h_1
  refine G.ifb_eq (tgt := 24) dX6_takes0_4 (by decide) (fun c_4 => ?_) (fun c_4 => ?_)
  · refine G.iconst (v := nI 0) dX6_takes0_24 (by decide) ?_
    refine G.istore_n2 dX6_takes0_25 ?_
    refine G.iload_n2 dX6_takes0_26 ?_
    refine G.if_eq (tgt := 40) dX6_takes0_27 (by decide) (fun _ => ?_) (fun c_27 => absurd c_27 (by decide))
    refine G.iload_n2 dX6_takes0_40 ?_
    refine G.ireturn dX6_takes0_41 ?_ (hn := by first | rfl | exact bI_nar _)
    exact ⟨_, rfl, _, rfl, rfl, rfl⟩
  · exact absurd (of_decide_eq_true c_4) hd
theorem c_faults_dead {M : MM} (hd : ¬ M.1 21 = -1) : MC E fX6_faults L M ph [] (rV fun M' => M' = M) := by
  refine Ct.of [some (.ref (L.1 52))] rfl (Nat.le_of_ble_eq_true rfl) (show plainName RX6 = true by decide +kernel) rfl ?_
  refine G.aload_n0 dX6_faults_0 ?_
  refine G.mcall (f' := fX6_fine) q2037 ck_X6_fine (c_X6_fine) dX6_faults_1 (rI.k fun r_1 M_1 h_1 => ?_)
  obtain ⟨e_1, h_1⟩ := h_1; replace e_1 := e_1.symm; replace h_1 := h_1.symm; subst e_1; subst h_1
  refine G.ifb_eq (tgt := 20) dX6_faults_4 (by decide) (fun c_4 => ?_) (fun c_4 => ?_)
  · refine G.return_ dX6_faults_20 ?_
    exact ⟨_, rfl, rfl, rfl⟩
  · exact absurd (of_decide_eq_true c_4) hd
theorem c_must_dead {M : MM} (hd : ¬ M.1 21 = -1) (c : Int32) : MC E fX6_must L M ph [.int c] (rV fun M' => M' = M) := by
  refine Ct.of [some (.ref (L.1 52)), some (.int c)] rfl (Nat.le_of_ble_eq_true rfl) (show plainName RX6 = true by decide +kernel) rfl ?_
  refine G.aload_n0 dX6_must_0 ?_
  refine G.iload_n1 dX6_must_1 ?_
  refine G.mcall (f' := fX6_takes0) q2033 ck_X6_takes0 (c_takes0_dead hd c) dX6_must_2 (rI.k fun r_2 M_2 h_2 => ?_)
  obtain ⟨e_2, h_2⟩ := h_2; replace e_2 := e_2.symm; replace h_2 := h_2.symm; subst e_2; subst h_2
  refine G.ifb_ne (tgt := 12) dX6_must_5 (by decide) (fun c_5 => ?_) (fun c_5 => ?_)
  · exact absurd c_5 Bool.false_ne_true
  · refine G.aload_n0 dX6_must_8 ?_
    refine G.mcall (f' := fX6_faults) q2056 ck_X6_faults (c_faults_dead hd) dX6_must_9 (rV.k fun M_9 h_9 => ?_)
    replace h_9 := h_9.symm; subst h_9
    refine G.return_ dX6_must_12 ?_
    exact ⟨_, rfl, rfl, rfl⟩
theorem c_number_dead {M : MM} (hd : ¬ M.1 21 = -1) (a b : Int32) : MC E fX6_mustNumber L M ph [.int a, .int b] (rV fun M' => M' = M) := by
  refine Ct.of [some (.ref (L.1 52)), some (.int a), some (.int b)] rfl (Nat.le_of_ble_eq_true rfl) (show plainName RX6 = true by decide +kernel) rfl ?_
  refine G.aload_n0 dX6_mustNumber_0 ?_
  refine G.mcall (f' := fX6_fine) q2037 ck_X6_fine (c_X6_fine) dX6_mustNumber_1 (rI.k fun r_1 M_1 h_1 => ?_)
  obtain ⟨e_1, h_1⟩ := h_1; replace e_1 := e_1.symm; replace h_1 := h_1.symm; subst e_1; subst h_1
  refine G.ifb_eq (tgt := 42) dX6_mustNumber_4 (by decide) (fun c_4 => ?_) (fun c_4 => ?_)
  · refine G.aload_n0 dX6_mustNumber_42 ?_
    refine G.mcall (f' := fX6_fine) q2037 ck_X6_fine (c_X6_fine) dX6_mustNumber_43 (rI.k fun r_43 M_43 h_43 => ?_)
    obtain ⟨e_43, h_43⟩ := h_43; replace e_43 := e_43.symm; replace h_43 := h_43.symm; subst e_43; subst h_43
    refine G.ifb_eq (tgt := 59) dX6_mustNumber_46 (by decide) (fun c_46 => ?_) (fun c_46 => ?_)
    · refine G.return_ dX6_mustNumber_59 ?_
      exact ⟨_, rfl, rfl, rfl⟩
    · exact absurd (of_decide_eq_true c_46) hd
  · exact absurd (of_decide_eq_true c_4) hd
/-- a token of a kind is taken, or it stays -/
theorem c_takes0_at {ord : Bool} {tk : Tk} {N : Nat} {M0 : MM} (h0 : rdOk ord tk N M0) {p l : Nat} (hp : p ≤ N) (c : Int32) : MC E fX6_takes0 L (rS M0 p l) ph [.int c] (rI fun r M' => r = bI (decide (tk.1 p = c)) ∧ M' = if tk.1 p = c then rS M0 (p + 1) l else rS M0 p l) := by
  obtain ⟨g1, g2, g3, g4, g5, g6⟩ := h0
  have hb : (rS M0 p l).1 21 = -1 := g1
  have hc : (rS M0 p l).2.2.1 15 p = tk.1 p := (g6 p hp).1
  refine MC.mono (rI.imp ?_) (c_X6_takes0 (M := rS M0 p l) (t := p) (by omega) rfl c)
  rintro r M' ⟨h1, h2⟩
  rw [hc] at h1 h2
  by_cases q : tk.1 p = c
  · rw [if_pos ⟨hb, q⟩, rS_t] at h2
    rw [if_pos q]
    exact ⟨h1.trans (congrArg bI (decide_eq_decide.mpr ⟨fun z => z.2, fun z => ⟨hb, z⟩⟩)), h2⟩
  · rw [if_neg (fun z => q z.2)] at h2
    rw [if_neg q]
    exact ⟨h1.trans (congrArg bI (decide_eq_decide.mpr ⟨fun z => z.2, fun z => ⟨hb, z⟩⟩)), h2⟩
theorem rS_fault {ord : Bool} {tk : Tk} {N : Nat} {M0 : MM} (h0 : rdOk ord tk N M0) {p l : Nat} : sFault (rS M0 p l) p = ms (rS M0 p l) 21 (M0.2.2.1 17 p) := if_pos h0.1
theorem c_faults_at {ord : Bool} {tk : Tk} {N : Nat} {M0 : MM} (h0 : rdOk ord tk N M0) {p l : Nat} (hp : p ≤ N) : MC E fX6_faults L (rS M0 p l) ph [] (rV fun M' => M' = ms (rS M0 p l) 21 (M0.2.2.1 17 p)) := by
  have h4 := h0.2.2.2.1
  refine MC.mono ?_ (c_X6_faults (M := rS M0 p l) (t := p) (by omega) rfl)
  rintro _ M' ⟨rfl, h⟩
  exact ⟨rfl, h.trans (rS_fault h0)⟩
/-- one token that there must be -/
def zMust (tk : Tk) (p l : Nat) (c : Int32) : Rs Unit := if tk.1 p = c then .inr ((), p + 1, l) else .inl p
theorem c_must_at {ord : Bool} {tk : Tk} {N : Nat} {M0 : MM} (h0 : rdOk ord tk N M0) {p l : Nat} (hp : p ≤ N) (hl : l ≤ 50) {k : Nat} (hk : 0 < k) (hk2 : k < 2147483648) : MC E fX6_must L (rS M0 p l) ph [.int (nI k)] (rV fun M' => rdQ M0 N p (zMust tk p l (nI k)) M') := by
  have h4 := h0.2.2.2.1
  have hc : (rS M0 p l).2.2.1 15 p = tk.1 p := (h0.2.2.2.2.2 p hp).1
  refine MC.mono ?_ (c_X6_must (M := rS M0 p l) (t := p) (by omega) rfl (nI k))
  rintro _ M' ⟨rfl, h⟩
  refine ⟨rfl, ?_⟩
  rw [hc] at h
  unfold zMust
  by_cases q : tk.1 p = nI k
  · rw [if_pos ⟨h0.1, q⟩, rS_t] at h
    rw [if_pos q]
    exact ⟨h, by omega, tk_in h0.2.2.2.2.1 hk hk2 q, hl⟩
  · rw [if_neg (fun z => q z.2), rS_fault h0] at h
    rw [if_neg q, h]
    exact ⟨rfl, hp, rS_x.ms (by decide)⟩
def zLf (p l : Nat) : Rs Unit := if l = 50 then .inl p else .inr ((), p + 1, l + 1)
theorem c_leaf_at {ord : Bool} {tk : Tk} {N : Nat} {M0 : MM} (h0 : rdOk ord tk N M0) {p l : Nat} (hp : p < N) (hl : l ≤ 50) : MC E fX6_leaf L (rS M0 p l) ph [] (rV fun M' => rdQ M0 N p (zLf p l) M') := by
  have h4 := h0.2.2.2.1
  have hb : (rS M0 p l).1 21 = -1 := h0.1
  have hpl := (h0.2.2.2.2.2 p (by omega)).2.2
  have h20 : (rS M0 p l).1 20 = nI l := rfl
  unfold zLf
  refine Ct.of [some (.ref (L.1 52))] rfl (Nat.le_of_ble_eq_true rfl) (show plainName RX6 = true by decide +kernel) rfl ?_
  refine G.aload_n0 dX6_leaf_0 ?_
  refine G.mgeti 20 fl_X6_177 dX6_leaf_1 ?_
  rw [h20]
  refine G.bipush (v := nI 50) dX6_leaf_4 (by decide) ?_
  refine G.icmp_ne (tgt := 13) dX6_leaf_6 (by decide) (fun c_6 => ?_) (fun c_6 => ?_)
  · have n_6 : ¬ l = 50 := fun z => c_6 (congrArg nI z)
    rw [if_neg n_6]
    refine G.aload_n0 dX6_leaf_13 ?_
    refine G.dup dX6_leaf_14 rfl ?_
    refine G.mgeti 20 fl_X6_177 dX6_leaf_15 ?_
    first
    | rw [show (ms (rS M0 p l) 21 (M0.2.2.1 17 p)).1 20 = nI l from rfl]
    | rw [h20]
    refine G.iconst (v := nI 1) dX6_leaf_18 (by decide) ?_
    first | with_reducible refine G.iaddn dX6_leaf_19 ?_ | refine G.iadd dX6_leaf_19 ?_
    refine G.mputi 20 fp_X6_177 dX6_leaf_20 ?_
    refine G.aload_n0 dX6_leaf_23 ?_
    refine G.mcall (f' := fX6_fine) q2037 ck_X6_fine (c_X6_fine) dX6_leaf_24 (rI.k fun r_24 M_24 h_24 => ?_)
    obtain ⟨e_24, h_24⟩ := h_24; replace e_24 := e_24.symm; replace h_24 := h_24.symm; subst e_24; subst h_24
    refine G.ifb_eq (tgt := 40) dX6_leaf_27 (by decide) (fun c_27 => ?_) (fun c_27 => ?_)
    · have q := of_decide_eq_false c_27
      refine G.return_ dX6_leaf_40 ?_
      first
      | exact ⟨_, rfl, rfl, rfl, by omega, (rS_x.ms (by decide)).ms (by decide)⟩
      | exact absurd hb q
      | exact absurd q hpl
      | exact ⟨_, rfl, rfl, rS_l, by omega, by omega, by omega⟩
    · have q := of_decide_eq_true c_27
      refine G.aload_n0 dX6_leaf_30 ?_
      refine G.dup dX6_leaf_31 rfl ?_
      refine G.mgeti 19 fl_X6_168 dX6_leaf_32 ?_
      try rw [show (ms (rS M0 p l) 20 (nI (l + 1))).1 19 = nI p from rfl]
      refine G.iconst (v := nI 1) dX6_leaf_35 (by decide) ?_
      first | with_reducible refine G.iaddn dX6_leaf_36 ?_ | refine G.iadd dX6_leaf_36 ?_
      refine G.mputi 19 fp_X6_168 dX6_leaf_37 ?_
      refine G.return_ dX6_leaf_40 ?_
      first
      | exact ⟨_, rfl, rfl, rfl, by omega, (rS_x.ms (by decide)).ms (by decide)⟩
      | exact absurd hb q
      | exact absurd q hpl
      | exact ⟨_, rfl, rfl, rS_l, by omega, by omega, by omega⟩
  · have n_6 : l = 50 := (nI_inj (a := l) (b := 50) (by omega) (by omega)).mp c_6
    rw [if_pos n_6]
    refine G.aload_n0 dX6_leaf_9 ?_
    refine G.mcall (f' := fX6_faults) q2056 ck_X6_faults (c_faults_at h0 (by omega)) dX6_leaf_10 (rV.k fun M_10 h_10 => ?_)
    replace h_10 := h_10.symm; subst h_10
    refine G.aload_n0 dX6_leaf_13 ?_
    refine G.dup dX6_leaf_14 rfl ?_
    refine G.mgeti 20 fl_X6_177 dX6_leaf_15 ?_
    first
    | rw [show (ms (rS M0 p l) 21 (M0.2.2.1 17 p)).1 20 = nI l from rfl]
    | rw [h20]
    refine G.iconst (v := nI 1) dX6_leaf_18 (by decide) ?_
    first | with_reducible refine G.iaddn dX6_leaf_19 ?_ | refine G.iadd dX6_leaf_19 ?_
    refine G.mputi 20 fp_X6_177 dX6_leaf_20 ?_
    refine G.aload_n0 dX6_leaf_23 ?_
    refine G.mcall (f' := fX6_fine) q2037 ck_X6_fine (c_X6_fine) dX6_leaf_24 (rI.k fun r_24 M_24 h_24 => ?_)
    obtain ⟨e_24, h_24⟩ := h_24; replace e_24 := e_24.symm; replace h_24 := h_24.symm; subst e_24; subst h_24
    refine G.ifb_eq (tgt := 40) dX6_leaf_27 (by decide) (fun c_27 => ?_) (fun c_27 => ?_)
    · have q := of_decide_eq_false c_27
      refine G.return_ dX6_leaf_40 ?_
      first
      | exact ⟨_, rfl, rfl, rfl, by omega, (rS_x.ms (by decide)).ms (by decide)⟩
      | exact absurd hb q
      | exact absurd q hpl
      | exact ⟨_, rfl, rfl, rS_l, by omega, by omega, by omega⟩
    · have q := of_decide_eq_true c_27
      refine G.aload_n0 dX6_leaf_30 ?_
      refine G.dup dX6_leaf_31 rfl ?_
      refine G.mgeti 19 fl_X6_168 dX6_leaf_32 ?_
      try rw [show (ms (rS M0 p l) 20 (nI (l + 1))).1 19 = nI p from rfl]
      refine G.iconst (v := nI 1) dX6_leaf_35 (by decide) ?_
      first | with_reducible refine G.iaddn dX6_leaf_36 ?_ | refine G.iadd dX6_leaf_36 ?_
      refine G.mputi 19 fp_X6_168 dX6_leaf_37 ?_
      refine G.return_ dX6_leaf_40 ?_
      first
      | exact ⟨_, rfl, rfl, rfl, by omega, (rS_x.ms (by decide)).ms (by decide)⟩
      | exact absurd hb q
      | exact absurd q hpl
      | exact ⟨_, rfl, rfl, rS_l, by omega, by omega, by omega⟩
def zNumb (tk : Tk) (a b : Int) (p l : Nat) : Rs Unit := if tk.1 p = nI 50 ∧ a ≤ (tk.2 p).toInt ∧ (tk.2 p).toInt ≤ b then .inr ((), p + 1, l) else .inl p
theorem c_number_at {ord : Bool} {tk : Tk} {N : Nat} {M0 : MM} (h0 : rdOk ord tk N M0) {p l : Nat} (hp : p ≤ N) (hl : l ≤ 50) (a b : Int32) : MC E fX6_mustNumber L (rS M0 p l) ph [.int a, .int b] (rV fun M' => rdQ M0 N p (zNumb tk a.toInt b.toInt p l) M') := by
  have h4 := h0.2.2.2.1
  have hb : (rS M0 p l).1 21 = -1 := h0.1
  have hpl := (h0.2.2.2.2.2 p (by omega)).2.2
  have hc : (rS M0 p l).2.2.1 15 p = tk.1 p := (h0.2.2.2.2.2 p hp).1
  have hv : (rS M0 p l).2.2.1 16 p = tk.2 p := (h0.2.2.2.2.2 p hp).2.1
  unfold zNumb
  have k42 : ¬ (tk.1 p = nI 50 ∧ a.toInt ≤ (tk.2 p).toInt ∧ (tk.2 p).toInt ≤ b.toInt) → G E fX6_mustNumber (mFin E fX6_mustNumber L ph (rV fun M' => rdQ M0 N p (if tk.1 p = nI 50 ∧ a.toInt ≤ (tk.2 p).toInt ∧ (tk.2 p).toInt ≤ b.toInt then Sum.inr ((), p + 1, l) else Sum.inl p) M')) 38 [some (.ref (L.1 52)), some (.int a), some (.int b)] [] (movl L (rS M0 p l) ph) 0 0 := by
    intro hn
    rw [if_neg hn]
    refine G.aload_n0 dX6_mustNumber_38 ?_
    refine G.mcall (f' := fX6_faults) q2056 ck_X6_faults (c_faults_at h0 (by omega)) dX6_mustNumber_39 (rV.k fun M_39 h_39 => ?_)
    replace h_39 := h_39.symm; subst h_39
    refine G.aload_n0 dX6_mustNumber_42 ?_
    refine G.mcall (f' := fX6_fine) q2037 ck_X6_fine (c_X6_fine) dX6_mustNumber_43 (rI.k fun r_43 M_43 h_43 => ?_)
    obtain ⟨e_43, h_43⟩ := h_43; replace e_43 := e_43.symm; replace h_43 := h_43.symm; subst e_43; subst h_43
    refine G.ifb_eq (tgt := 59) dX6_mustNumber_46 (by decide) (fun c_46 => ?_) (fun c_46 => ?_)
    · refine G.return_ dX6_mustNumber_59 ?_
      exact ⟨_, rfl, rfl, rfl, by omega, rS_x.ms (by decide)⟩
    · exact absurd (of_decide_eq_true c_46) hpl
  refine Ct.of [some (.ref (L.1 52)), some (.int a), some (.int b)] rfl (Nat.le_of_ble_eq_true rfl) (show plainName RX6 = true by decide +kernel) rfl ?_
  refine G.aload_n0 dX6_mustNumber_0 ?_
  refine G.mcall (f' := fX6_fine) q2037 ck_X6_fine (c_X6_fine) dX6_mustNumber_1 (rI.k fun r_1 M_1 h_1 => ?_)
  obtain ⟨e_1, h_1⟩ := h_1; replace e_1 := e_1.symm; replace h_1 := h_1.symm; subst e_1; subst h_1
  refine G.ifb_eq (tgt := 42) dX6_mustNumber_4 (by decide) (fun c_4 => ?_) (fun c_4 => ?_)
  · exact absurd hb (of_decide_eq_false c_4)
  · refine G.aload_n0 dX6_mustNumber_7 ?_
    refine G.mgeta 15 fl_X6_50 dX6_mustNumber_8 ?_
    refine G.aload_n0 dX6_mustNumber_11 ?_
    refine G.mgeti 19 fl_X6_168 dX6_mustNumber_12 ?_
    refine G.miald (n := 401) 15 p dX6_mustNumber_15 rfl (by omega) ?_
    rw [hc]
    refine G.bipush (v := nI 50) dX6_mustNumber_16 (by decide) ?_
    refine G.icmp_ne (tgt := 38) dX6_mustNumber_18 (by decide) (fun c_18 => ?_) (fun c_18 => ?_)
    · first
      | exact k42 (fun z => c_18 z.1)
      | exact k42 (fun z => of_decide_eq_false c_35 z.2)
    · refine G.aload_n0 dX6_mustNumber_21 ?_
      refine G.mgeta 16 fl_X6_53 dX6_mustNumber_22 ?_
      refine G.aload_n0 dX6_mustNumber_25 ?_
      refine G.mgeti 19 fl_X6_168 dX6_mustNumber_26 ?_
      refine G.miald (n := 401) 16 p dX6_mustNumber_29 rfl (by omega) ?_
      rw [hv]
      refine G.iload_n1 dX6_mustNumber_30 ?_
      refine G.iload_n2 dX6_mustNumber_31 ?_
      refine G.scall (f' := fX6_lies) q1912 ck_X6_lies (c_X6_lies E _ _ _) dX6_mustNumber_32 (sI.k fun r_32 h_32 => ?_)
      replace h_32 := h_32.symm; subst h_32
      refine G.ifb_ne (tgt := 42) dX6_mustNumber_35 (by decide) (fun c_35 => ?_) (fun c_35 => ?_)
      · have q := of_decide_eq_true c_35
        have q50 : tk.1 p = nI 50 := by first | exact c_18 | exact Classical.not_not.mp c_18
        rw [if_pos ⟨q50, q⟩]
        have hpN := tk_in h0.2.2.2.2.1 (by decide) (by decide) q50
        refine G.aload_n0 dX6_mustNumber_42 ?_
        refine G.mcall (f' := fX6_fine) q2037 ck_X6_fine (c_X6_fine) dX6_mustNumber_43 (rI.k fun r_43 M_43 h_43 => ?_)
        obtain ⟨e_43, h_43⟩ := h_43; replace e_43 := e_43.symm; replace h_43 := h_43.symm; subst e_43; subst h_43
        refine G.ifb_eq (tgt := 59) dX6_mustNumber_46 (by decide) (fun c_46 => ?_) (fun c_46 => ?_)
        · exact absurd hb (of_decide_eq_false c_46)
        · refine G.aload_n0 dX6_mustNumber_49 ?_
          refine G.dup dX6_mustNumber_50 rfl ?_
          refine G.mgeti 19 fl_X6_168 dX6_mustNumber_51 ?_
          rw [show (rS M0 p l).1 19 = nI p from rfl]
          refine G.iconst (v := nI 1) dX6_mustNumber_54 (by decide) ?_
          first | with_reducible refine G.iaddn dX6_mustNumber_55 ?_ | refine G.iadd dX6_mustNumber_55 ?_
          refine G.mputi 19 fp_X6_168 dX6_mustNumber_56 ?_
          refine G.return_ dX6_mustNumber_59 ?_
          exact ⟨_, rfl, rfl, rS_t, by omega, by omega, hl⟩
      · first
        | exact k42 (fun z => c_18 z.1)
        | exact k42 (fun z => of_decide_eq_false c_35 z.2)
end Read
