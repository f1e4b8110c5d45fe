/-! LISTS: reading -/
section Lists
variable {E : JE} {h : HP}
theorem c_J7_checkIndex {i n : Nat} (hi : i < n) (hn : n < 2147483648) : SC E fJ7_checkIndex [.int (nI i), .int (nI n), .null] (sI fun r => r = nI i) := by
  intro ph
  refine Ct.of [some (.int (nI i)), some (.int (nI n)), some .null] rfl (Nat.le_of_ble_eq_true rfl) (show plainName RJ7 = true by decide +kernel) rfl ?_
  refine G.iload_n0 dJ7_checkIndex_0 ?_
  refine G.if_lt (tgt := 9) dJ7_checkIndex_1 (by decide) (fun c_1 => ?_) (fun c_1 => ?_)
  · exact absurd c_1 (by rw [i_lt, t_nI (by omega)]; exact Int.not_lt.mpr (Int.natCast_nonneg i))
  · refine G.iload_n0 dJ7_checkIndex_4 ?_
    refine G.iload_n1 dJ7_checkIndex_5 ?_
    refine G.icmp_lt (tgt := 16) dJ7_checkIndex_6 (by decide) (fun c_6 => ?_) (fun c_6 => ?_)
    · refine G.iload_n0 dJ7_checkIndex_16 ?_
      refine G.ireturn dJ7_checkIndex_17 ?_
      exact ⟨rfl, _, rfl, rfl⟩
    · exact absurd ((nI_ltI (by omega) (by omega)).mpr hi) c_6
theorem c_J6_checkIndex {i n : Nat} (hi : i < n) (hn : n < 2147483648) : SC E fJ6_checkIndex [.int (nI i), .int (nI n)] (sI fun r => r = nI i) := by
  intro ph
  refine Ct.of [some (.int (nI i)), some (.int (nI n))] rfl (Nat.le_of_ble_eq_true rfl) (show plainName RJ6 = true by decide +kernel) rfl ?_
  refine G.iload_n0 dJ6_checkIndex_0 ?_
  refine G.iload_n1 dJ6_checkIndex_1 ?_
  refine G.null dJ6_checkIndex_2 ?_
  refine G.scall (f' := fJ7_checkIndex) q597 ck_J7_checkIndex (c_J7_checkIndex hi hn) dJ6_checkIndex_3 (sI.k fun r_3 h_3 => ?_)
  replace h_3 := h_3.symm; subst h_3
  refine G.ireturn dJ6_checkIndex_6 ?_
  exact ⟨rfl, _, rfl, rfl⟩
theorem r_elementData {a : Nat} {m n : Int32} {e t cap i v : Nat} {g : Nat → Option Nat} (ha : h a = some (.inr (32, [.int m, .ref e, .int n]))) (he : h e = some (.inl (t, cap, .inr (.inr (.inr (.inr g)))))) (ht : jTY t = some (.object "java/lang/Object")) (hi : i < cap) (hc : cap < 2147483648) (hg : g i = some v) : Ct E fJ2_elementData [.ref a, .int (nI i)] h (pA fun r h' => r = v ∧ h' = h) jNo := by
  refine Ct.of [some (.ref a), some (.int (nI i))] rfl (Nat.le_of_ble_eq_true rfl) (show plainName RJ2 = true by decide +kernel) rfl ?_
  refine G.aload_n0 dJ2_elementData_0 ?_
  refine G.getfield (k := 1) fl_J2_9 (by assumption) rfl dJ2_elementData_1 ?_
  refine G.iload_n1 dJ2_elementData_4 ?_
  refine G.aaload i he dJ2_elementData_5 rfl hi hc ?_ ht rfl
  rw [hg]
  refine G.areturn dJ2_elementData_6 ?_
  exact ⟨_, rfl, rfl, rfl⟩
theorem r_get {a : Nat} {m : Int32} {e t cap i n v : Nat} {g : Nat → Option Nat} (ha : h a = some (.inr (32, [.int m, .ref e, .int (nI n)]))) (he : h e = some (.inl (t, cap, .inr (.inr (.inr (.inr g)))))) (ht : jTY t = some (.object "java/lang/Object")) (hi : i < n) (hn : n ≤ cap) (hc : cap < 2147483648) (hg : g i = some v) : Ct E fJ2_get [.ref a, .int (nI i)] h (pA fun r h' => r = v ∧ h' = h) jNo := by
  refine Ct.of [some (.ref a), some (.int (nI i))] rfl (Nat.le_of_ble_eq_true rfl) (show plainName RJ2 = true by decide +kernel) rfl ?_
  refine G.iload_n1 dJ2_get_0 ?_
  refine G.aload_n0 dJ2_get_1 ?_
  refine G.getfield (k := 2) fl_J2_48 (by assumption) rfl dJ2_get_2 ?_
  refine G.scall (f' := fJ6_checkIndex) q594 ck_J6_checkIndex (c_J6_checkIndex hi (by omega)) dJ2_get_5 (sI.k fun r_5 h_5 => ?_)
  replace h_5 := h_5.symm; subst h_5
  refine G.pop dJ2_get_8 rfl ?_
  refine G.aload_n0 dJ2_get_9 ?_
  refine G.iload_n1 dJ2_get_10 ?_
  refine G.callV (f' := fJ2_elementData) q600 ck_J2_elementData (r_elementData ha he ht (by omega) hc hg) (by assumption) dJ2_get_11 jno (pA.k fun r_11 H_11 h_11 => ?_)
  obtain ⟨rfl, rfl⟩ := h_11
  refine G.areturn dJ2_get_14 ?_
  exact ⟨_, rfl, rfl, rfl⟩
theorem r_isEmpty {a : Nat} {m : Int32} {e : Value} {n : Nat} (hn : n < 2147483648) (ha : h a = some (.inr (32, [.int m, e, .int (nI n)]))) : Ct E fJ2_isEmpty [.ref a] h (pI fun r h' => r = bI (decide (n = 0)) ∧ h' = h) jNo := by
  refine Ct.of [some (.ref a)] rfl (Nat.le_of_ble_eq_true rfl) (show plainName RJ2 = true by decide +kernel) rfl ?_
  refine G.aload_n0 dJ2_isEmpty_0 ?_
  refine G.getfield (k := 2) fl_J2_48 (by assumption) rfl dJ2_isEmpty_1 ?_
  refine G.if_ne (tgt := 11) dJ2_isEmpty_4 (by decide) (fun c_4 => ?_) (fun c_4 => ?_)
  · refine G.iconst (v := nI 0) dJ2_isEmpty_11 (by decide) ?_
    refine G.ireturn dJ2_isEmpty_12 ?_ (hn := by first | rfl | exact bI_nar _)
    first
    | exact ⟨_, rfl, bI_t ((nI_inj hn (by omega)).mp (by first | exact c_4 | exact Classical.not_not.mp c_4)), rfl⟩
    | exact ⟨_, rfl, bI_f (fun z => c_4 (congrArg nI z)), rfl⟩
  · refine G.iconst (v := nI 1) dJ2_isEmpty_7 (by decide) ?_
    refine G.goto (tgt := 12) dJ2_isEmpty_8 (by decide) ?_
    refine G.ireturn dJ2_isEmpty_12 ?_ (hn := by first | rfl | exact bI_nar _)
    first
    | exact ⟨_, rfl, bI_t ((nI_inj hn (by omega)).mp (by first | exact c_4 | exact Classical.not_not.mp c_4)), rfl⟩
    | exact ⟨_, rfl, bI_f (fun z => c_4 (congrArg nI z)), rfl⟩
variable {L : XL} {D : XD} {ph : HP}
/-- a slot's list: how many, of which -/
def xls (D : XD) (L : XL) (k n : Nat) : Prop := D.1 k 2 = nI n ∧ (0 < n → D.2.2.2.1 k 1 = some (L.1 (k + 1)) ∧ n ≤ D.2.2.2.2.1 (k + 1) ∧ D.2.2.2.2.1 (k + 1) < 100000)
theorem c_get (k : Nat) (hk : k = 2 ∨ k = 4 ∨ k = 13) {n i v : Nat} (hl : xls D L k n) (hi : i < n) (hg : D.2.2.2.1 (k + 1) i = some v) : XC E fJ2_get k L D ph [.int (nI i)] (wA fun r D' => r = v ∧ D' = D) := by
  obtain ⟨h1, h2⟩ := hl
  obtain ⟨h3, h4, h5⟩ := h2 (by omega)
  have hlive : xlive D (k + 1) = true := by
    have : ¬ D.2.2.2.2.1 (k + 1) = 0 := by omega
    rcases hk with rfl | rfl | rfl <;> (unfold xlive; simp [this])
  have ha : xov L D ph (L.1 k) = some (.inr (32, [.int (D.1 k 0), .ref (L.1 (k + 1)), .int (nI n)])) := by
    have : xov L D ph (L.1 k) = some (.inr (32, [.int (D.1 k 0), va_rf (D.2.2.2.1 k 1), .int (D.1 k 2)])) := by
      rcases hk with rfl | rfl | rfl
      · exact xobj 2 rfl
      · exact xobj 4 rfl
      · exact xobj 13 rfl
    rw [this, h1, h3]
    rfl
  have he : xov L D ph (L.1 (k + 1)) = some (.inl (4, D.2.2.2.2.1 (k + 1), .inr (.inr (.inr (.inr (D.2.2.2.1 (k + 1))))))) := by
    rcases hk with rfl | rfl | rfl
    · exact xrefs 3 rfl rfl (by decide) hlive
    · exact xrefs 5 rfl rfl (by decide) hlive
    · exact xrefs 14 rfl rfl (by decide) hlive
  refine Ct.mono ?_ (fun _ _ _ z => z) (r_get (n := n) ha he rfl hi h4 (by omega) hg)
  rintro v' h' ⟨r, rfl, rfl, rfl⟩
  exact ⟨D, rfl, _, rfl, rfl, rfl⟩
end Lists
