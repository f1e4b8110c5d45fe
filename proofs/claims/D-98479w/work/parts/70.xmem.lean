/-! LITSTRANGERS' MEMORY: XD = by slots: scalars, arrays, long arrays, references, lengths, what clauses told (by address); xov L D ph: the heap ph with the cells of the slots (at L) laid over it -/
abbrev XD : Type := (Nat → Nat → Int32) × (Nat → Nat → Int32) × (Nat → Nat → Int64) × (Nat → Nat → Option Nat) × (Nat → Nat) × (Nat → Int64)
abbrev XL : Type := {L : Nat → Nat // ∀ i, i < 159 → ∀ j, j < 159 → L i = L j → i = j}
def xclL : List Nat := [1, 2, 33, 0, 33, 0, 3, 0, 0, 0, 0, 0, 0, 33, 0, 4, 0, 4, 0, 0, 0, 6, 0, 0, 0, 0, 0, 0, 0, 0, 0, 0, 0, 0, 0, 0, 0, 0, 0, 0, 0, 0, 0, 0, 0, 0, 0, 0, 0, 0, 0, 0, 0, 0, 0, 0, 0, 0, 0, 0, 0, 0, 0, 0, 0, 0, 0, 0, 0, 0, 0, 0, 0, 0, 0, 0, 0, 0, 0, 0, 0, 0, 0, 0, 0, 0, 0, 0, 0, 0, 0, 0, 0, 0, 0, 0, 0, 0, 0, 0, 0, 0, 0, 0, 0, 0, 0, 0, 0, 0, 0, 0, 0, 0, 0, 0, 0, 0, 0, 0, 0, 0, 0, 0, 0, 0, 0, 0, 0, 0, 0, 0, 0, 0, 0, 0, 0, 0, 0, 0, 0, 0, 0, 0, 0, 0, 0, 0, 0, 0, 0, 0, 0, 0, 0, 0, 0, 0, 0]
def xshL : List (List Nat) := [[101, 112, 113, 115, 117, 2, 119, 0, 0, 0, 0, 120, 0, 121, 0, 2], [102, 104, 106, 110, 111, 0, 0, 0], [0, 2, 0], [], [0, 2, 0], [], [107, 108, 109, 0, 0, 0, 0], [], [], [], [], [], [], [0, 2, 0], [], [116, 0], [], [118, 0], [], [], [], [122, 123, 124, 125, 136, 148, 160, 172, 184, 0, 196, 100], [], [], [], [], [], [], [], [], [], [], [], [], [], [], [], [], [], [], [], [], [], [], [], [], [], [], [], [], [], [], [], [], [], [], [], [], [], [], [], [], [], [], [], [], [], [], [], [], [], [], [], [], [], [], [], [], [], [], [], [], [], [], [], [], [], [], [], [], [], [], [], [], [], [], [], [], [], [], [], [], [], [], [], [], [], [], [], [], [], [], [], [], [], [], [], [], [], [], [], [], [], [], [], [], [], [], [], [], [], [], [], [], [], [], [], [], [], [], [], [], [], [], [], [], [], [], [], [], [], [], [], [], [], [], [], [], []]
def xttL : List Nat := [0, 0, 0, 4, 0, 4, 0, 0, 0, 0, 0, 3, 9, 0, 4, 0, 1, 0, 1, 0, 2, 0, 0, 0, 0, 10, 0, 0, 0, 0, 0, 0, 0, 0, 0, 0, 10, 0, 0, 0, 0, 0, 0, 0, 0, 0, 0, 0, 10, 0, 0, 0, 0, 0, 0, 0, 0, 0, 0, 0, 11, 1, 1, 1, 1, 1, 1, 1, 1, 1, 1, 1, 12, 3, 3, 3, 3, 3, 3, 3, 3, 3, 3, 3, 13, 2, 2, 2, 2, 2, 2, 2, 2, 2, 2, 2, 10, 0, 0, 0, 0, 0, 0, 0, 0, 0, 0, 0, 0, 0, 0, 0, 0, 0, 0, 0, 0, 0, 0, 0, 0, 0, 0, 0, 0, 0, 0, 0, 0, 0, 0, 0, 0, 0, 0, 0, 0, 0, 0, 0, 0, 0, 0, 0, 0, 0, 0, 0, 0, 0, 0, 0, 0, 0, 0, 0, 0, 0, 0]
def xlnL : List Nat := [0, 0, 0, 0, 0, 0, 0, 10, 10, 10, 10, 100, 2, 0, 0, 0, 10, 0, 10, 7, 400, 0, 10, 10, 10, 10, 10, 10, 10, 10, 10, 10, 10, 10, 10, 10, 11, 1024, 1024, 1024, 1024, 1024, 1024, 1024, 1024, 1024, 1024, 1024, 11, 1024, 1024, 1024, 1024, 1024, 1024, 1024, 1024, 1024, 1024, 1024, 11, 1024, 1024, 1024, 1024, 1024, 1024, 1024, 1024, 1024, 1024, 1024, 11, 1024, 1024, 1024, 1024, 1024, 1024, 1024, 1024, 1024, 1024, 1024, 11, 16384, 16384, 16384, 16384, 16384, 16384, 16384, 16384, 16384, 16384, 16384, 61, 10, 10, 10, 10, 10, 10, 10, 10, 10, 10, 10, 10, 10, 10, 10, 10, 10, 10, 10, 10, 10, 10, 10, 10, 10, 10, 10, 10, 10, 10, 10, 10, 10, 10, 10, 10, 10, 10, 10, 10, 10, 10, 10, 10, 10, 10, 10, 10, 10, 10, 10, 10, 10, 10, 10, 10, 10, 10, 10, 10, 10, 0]
def xsoL : List Nat := [9, 9, 9, 2, 9, 2, 9, 0, 0, 0, 0, 0, 2, 9, 2, 9, 1, 9, 1, 0, 0, 9, 0, 0, 0, 3, 0, 0, 0, 0, 0, 0, 0, 0, 0, 0, 3, 0, 0, 0, 0, 0, 0, 0, 0, 0, 0, 0, 3, 0, 0, 0, 0, 0, 0, 0, 0, 0, 0, 0, 3, 1, 1, 1, 1, 1, 1, 1, 1, 1, 1, 1, 3, 0, 0, 0, 0, 0, 0, 0, 0, 0, 0, 0, 3, 0, 0, 0, 0, 0, 0, 0, 0, 0, 0, 0, 3, 0, 0, 0, 0, 0, 0, 0, 0, 0, 0, 0, 0, 0, 0, 0, 0, 0, 0, 0, 0, 0, 0, 0, 0, 0, 0, 0, 0, 0, 0, 0, 0, 0, 0, 0, 0, 0, 0, 0, 0, 0, 0, 0, 0, 0, 0, 0, 0, 0, 0, 0, 0, 0, 0, 0, 0, 0, 0, 0, 0, 0, 0]
/-- 0: an array; else the class's number, and one -/
def xcl (k : Nat) : Nat := xclL.getD k 0
def xsh (k : Nat) : List Nat := xshL.getD k []
def xtt (k : Nat) : Nat := xttL.getD k 0
def xln (k : Nat) : Nat := xlnL.getD k 0
def xso (k : Nat) : Nat := xsoL.getD k 9
def xvar (k : Nat) : Bool := k == 3 || k == 5 || k == 14 || k == 158
def xlen (D : XD) (k : Nat) : Nat := if xvar k then D.2.2.2.2.1 k else xln k
/-- whether a slot has a cell -/
def xlive (D : XD) (k : Nat) : Bool := !(xvar k) || !(D.2.2.2.2.1 k == 0)
def xfv (L : XL) (D : XD) (k j : Nat) : Value := match (xsh k).getD j 0 with
  | 0 => .int (D.1 k j)
  | 1 => .long (D.2.2.1 k j)
  | 2 => va_rf (D.2.2.2.1 k j)
  | c => .ref (L.1 (c - 100))
def xfs (L : XL) (D : XD) (k : Nat) : List Value := (List.range (xsh k).length).map (xfv L D k)
def xco (L : XL) (D : XD) (k : Nat) : HE := if xcl k = 0 then (if xso k = 0 then .inl (xtt k, xlen D k, .inl (D.2.1 k)) else if xso k = 1 then .inl (1, xlen D k, .inr (.inl (D.2.2.1 k))) else if xso k = 2 then .inl (xtt k, xlen D k, .inr (.inr (.inr (.inr (D.2.2.2.1 k))))) else .inl (xtt k, xlen D k, .inr (.inr (.inr (.inr (fun j => some (L.1 (k + 1 + j)))))))) else .inr (xcl k - 1, xfs L D k)
/-- what lies in no slot: clauses with what they told -/
def xtold (t : Nat → Int64) (a : Nat) : HE → HE
  | .inr (16, [h, s, q, .long _]) => .inr (16, [h, s, q, .long (t a)])
  | e => e
def xov (L : XL) (D : XD) (ph : HP) : HP := fun a => match (List.range 159).find? (fun k => xlive D k && L.1 k == a) with
  | some k => some (xco L D k)
  | none => (ph a).map (xtold D.2.2.2.2.2 a)
def xs (D : XD) (k j : Nat) (v : Int32) : XD := (va_up D.1 k (upd (D.1 k) j v), D.2)
def xa (D : XD) (k j : Nat) (v : Int32) : XD := (D.1, va_up D.2.1 k (upd (D.2.1 k) j v), D.2.2)
def xl (D : XD) (k j : Nat) (v : Int64) : XD := (D.1, D.2.1, va_up D.2.2.1 k (vp_updL (D.2.2.1 k) j v), D.2.2.2)
def xr (D : XD) (k j : Nat) (o : Option Nat) : XD := (D.1, D.2.1, D.2.2.1, va_up D.2.2.2.1 k (va_up (D.2.2.2.1 k) j o), D.2.2.2.2)
def xn (D : XD) (k n : Nat) : XD := (D.1, D.2.1, D.2.2.1, D.2.2.2.1, va_up D.2.2.2.2.1 k n, D.2.2.2.2.2)
def xt (D : XD) (a : Nat) (v : Int64) : XD := (D.1, D.2.1, D.2.2.1, D.2.2.2.1, D.2.2.2.2.1, vp_updL D.2.2.2.2.2 a v)
def xar (D : XD) (k : Nat) (g : Nat → Int32) : XD := (D.1, va_up D.2.1 k g, D.2.2)
theorem xov_at {L : XL} {D : XD} {ph : HP} {k : Nat} (hk : k < 159) (hl : xlive D k = true) : xov L D ph (L.1 k) = some (xco L D k) := by
  unfold xov
  cases h : (List.range 159).find? (fun j => xlive D j && L.1 j == L.1 k) with
  | none => exact absurd (List.find?_eq_none.mp h k (List.mem_range.mpr hk)) (by simp [hl])
  | some j =>
    have h1 := List.find?_some h
    rw [Bool.and_eq_true] at h1
    have h2 := L.2 j (List.mem_range.mp (List.mem_of_find?_eq_some h)) k hk (by simpa using h1.2)
    rw [h2]
/-- an address that is no slot's -/
def xoff (L : XL) (D : XD) (a : Nat) : Prop := ∀ k, k < 159 → xlive D k = true → L.1 k ≠ a
theorem xov_off {L : XL} {D : XD} {ph : HP} {a : Nat} (h : xoff L D a) : xov L D ph a = (ph a).map (xtold D.2.2.2.2.2 a) := by
  unfold xov
  cases h1 : (List.range 159).find? (fun k => xlive D k && L.1 k == a) with
  | none => rfl
  | some j =>
    have h2 := List.find?_some h1
    rw [Bool.and_eq_true] at h2
    exact absurd (by simpa using h2.2) (h j (List.mem_range.mp (List.mem_of_find?_eq_some h1)) h2.1)
theorem xov_none {L : XL} {D : XD} {ph : HP} {a : Nat} (h : xov L D ph a = none) : xoff L D a := by
  intro k hk hl e
  subst e
  rw [xov_at hk hl] at h
  cases h
theorem xov_put {L : XL} {D D' : XD} {ph : HP} {k : Nat} {e : HE} (hk : k < 159) (hl : xlive D k = true) (hv : ∀ j, xlive D' j = xlive D j) (ht : D'.2.2.2.2.2 = D.2.2.2.2.2) (h : xco L D' k = e) (ho : ∀ j, j ≠ k → xco L D' j = xco L D j) : jup (xov L D ph) (L.1 k) e = xov L D' ph := by
  funext a
  by_cases ha : a = L.1 k
  · subst ha
    rw [jup_s, xov_at hk ((hv k).trans hl), h]
  · rw [jup_n ha]
    unfold xov
    simp only [hv]
    cases h1 : (List.range 159).find? (fun k => xlive D k && L.1 k == a) with
    | none => rw [ht]
    | some j =>
      have h2 := List.find?_some h1
      rw [Bool.and_eq_true] at h2
      have hj : j ≠ k := fun q => ha (by rw [← q]; exact (by simpa using h2.2 : L.1 j = a).symm)
      show some (xco L D j) = some (xco L D' j)
      rw [ho j hj]
/-- a write to what lies in no slot -/
theorem xov_base {L : XL} {D : XD} {ph : HP} {a : Nat} {e : HE} (h : xoff L D a) (he : xtold D.2.2.2.2.2 a e = e) : jup (xov L D ph) a e = xov L D (jup ph a e) := by
  funext q
  by_cases hq : q = a
  · subst hq
    rw [jup_s, xov_off h, jup_s]
    show some e = some (xtold _ _ e)
    rw [he]
  · rw [jup_n hq]
    unfold xov
    cases h1 : (List.range 159).find? (fun k => xlive D k && L.1 k == q) with
    | none => rw [jup_n hq]
    | some j => rfl
theorem xfs_at {L : XL} {D : XD} {k j : Nat} (hj : j < (xsh k).length) : (xfs L D k)[j]? = some (xfv L D k j) := by
  unfold xfs
  rw [List.getElem?_map, List.getElem?_range hj]
  rfl
theorem xfs_len {L : XL} {D : XD} {k : Nat} : (xfs L D k).length = (xsh k).length := by simp [xfs]
theorem xfs_set {L : XL} {D D' : XD} {k j : Nat} (hj : j < (xsh k).length) (ho : ∀ i, i ≠ j → xfv L D' k i = xfv L D k i) : (xfs L D k).set j (xfv L D' k j) = xfs L D' k := by
  apply List.ext_getElem?
  intro i
  by_cases hi : i < (xsh k).length
  · rw [List.getElem?_set, xfs_at hi]
    by_cases hij : j = i
    · subst hij
      rw [if_pos rfl, if_pos (by rw [xfs_len]; exact hj), xfs_at hi]
    · rw [if_neg hij, xfs_at hi, ho i (fun q => hij q.symm)]
  · rw [List.getElem?_eq_none (by rw [List.length_set, xfs_len]; omega), List.getElem?_eq_none (by rw [xfs_len]; omega)]
theorem xs_at {D : XD} {k j k2 j2 : Nat} {v : Int32} : (xs D k j v).1 k2 j2 = if k2 = k then (if j2 = j then v else D.1 k j2) else D.1 k2 j2 := by
  show va_up D.1 k (upd (D.1 k) j v) k2 j2 = _
  unfold va_up
  split
  · rename_i q
    rfl
  · rfl
theorem xa_at {D : XD} {k j k2 j2 : Nat} {v : Int32} : (xa D k j v).2.1 k2 j2 = if k2 = k then (if j2 = j then v else D.2.1 k j2) else D.2.1 k2 j2 := by
  show va_up D.2.1 k (upd (D.2.1 k) j v) k2 j2 = _
  unfold va_up
  split
  · rfl
  · rfl
theorem xa_k {D : XD} {k j : Nat} {v : Int32} : (xa D k j v).2.1 k = upd (D.2.1 k) j v := if_pos rfl
theorem xl_k {D : XD} {k j : Nat} {v : Int64} : (xl D k j v).2.2.1 k = vp_updL (D.2.2.1 k) j v := if_pos rfl
theorem xr_k {D : XD} {k j : Nat} {v : Option Nat} : (xr D k j v).2.2.2.1 k = va_up (D.2.2.2.1 k) j v := if_pos rfl
theorem xr_j {D : XD} {k j : Nat} {v : Option Nat} : (xr D k j v).2.2.2.1 k j = v := by rw [xr_k]; exact if_pos rfl
theorem xco_xs {L : XL} {D : XD} {k j i : Nat} {v : Int32} (h : i ≠ k) : xco L (xs D k j v) i = xco L D i := by
  have e : (xs D k j v).1 i = D.1 i := if_neg h
  have e2 : xfs L (xs D k j v) i = xfs L D i := by
    unfold xfs xfv
    rw [e]
    rfl
  unfold xco
  rw [e2]
  rfl
theorem xco_xr {L : XL} {D : XD} {k j i : Nat} {v : Option Nat} (h : i ≠ k) : xco L (xr D k j v) i = xco L D i := by
  have e : (xr D k j v).2.2.2.1 i = D.2.2.2.1 i := if_neg h
  have e2 : xfs L (xr D k j v) i = xfs L D i := by
    unfold xfs xfv
    rw [e]
    rfl
  unfold xco
  rw [e2, e]
  rfl
theorem xco_xa {L : XL} {D : XD} {k j i : Nat} {v : Int32} (h : i ≠ k) : xco L (xa D k j v) i = xco L D i := by
  have e : (xa D k j v).2.1 i = D.2.1 i := if_neg h
  unfold xco
  rw [e]
  rfl
theorem xco_xl {L : XL} {D : XD} {k j i : Nat} {v : Int64} (h : i ≠ k) : xco L (xl D k j v) i = xco L D i := by
  have e : (xl D k j v).2.2.1 i = D.2.2.1 i := if_neg h
  have e2 : xfs L (xl D k j v) i = xfs L D i := by
    unfold xfs xfv
    rw [e]
    rfl
  unfold xco
  rw [e2, e]
  rfl
/-- nothing lies under a slot's cell -/
def xdis (L : XL) (D : XD) (ph : HP) : Prop := ∀ k, k < 159 → xlive D k = true → ph (L.1 k) = none
theorem xoff_of {L : XL} {D : XD} {ph : HP} {a : Nat} {e : HE} (hB : xdis L D ph) (h : ph a = some e) : xoff L D a := by
  intro k hk hl z
  have := hB k hk hl
  rw [z, h] at this
  cases this
theorem xbase {L : XL} {D : XD} {ph : HP} {a : Nat} {e : HE} (hB : xdis L D ph) (h : ph a = some e) (he : xtold D.2.2.2.2.2 a e = e) : xov L D ph a = some e := by
  rw [xov_off (xoff_of hB h), h]
  exact congrArg some he
theorem xclause {L : XL} {D : XD} {ph : HP} {a : Nat} {h s q : Value} {t : Int64} (hB : xdis L D ph) (e : ph a = some (.inr (16, [h, s, q, .long t]))) : xov L D ph a = some (.inr (16, [h, s, q, .long (D.2.2.2.2.2 a)])) := by
  rw [xov_off (xoff_of hB e), e]
  rfl
/-- only what lies in some slots is changed, and what clauses told -/
def xX (p : Nat → Bool) (D D' : XD) : Prop := (∀ k, p k = false → D'.1 k = D.1 k ∧ D'.2.1 k = D.2.1 k ∧ D'.2.2.1 k = D.2.2.1 k ∧ D'.2.2.2.1 k = D.2.2.2.1 k) ∧ D'.2.2.2.2.1 = D.2.2.2.2.1
theorem xX.rf {p : Nat → Bool} {D : XD} : xX p D D := ⟨fun _ _ => ⟨rfl, rfl, rfl, rfl⟩, rfl⟩
theorem xX.tr {p q : Nat → Bool} {D D' D'' : XD} (h : xX p D D') (h2 : xX q D' D'') (hq : ∀ k, q k = true → p k = true) : xX p D D'' := by
  refine ⟨fun k hk => ?_, h2.2.trans h.2⟩
  have hk2 : q k = false := by
    cases e : q k with
    | false => rfl
    | true => rw [hq k e] at hk; cases hk
  obtain ⟨a1, a2, a3, a4⟩ := h.1 k hk
  obtain ⟨b1, b2, b3, b4⟩ := h2.1 k hk2
  exact ⟨b1.trans a1, b2.trans a2, b3.trans a3, b4.trans a4⟩
theorem xX.mono {p q : Nat → Bool} {D D' : XD} (h : xX q D D') (hq : ∀ k, q k = true → p k = true) : xX p D D' := xX.rf.tr h hq
theorem ne_of_p {p : Nat → Bool} {k j : Nat} (hk : p k = true) (hj : p j = false) : ¬ j = k := fun e => by rw [e, hk] at hj; cases hj
theorem xX_s {p : Nat → Bool} {D D' : XD} {k j : Nat} {v : Int32} (h : xX p D D') (hk : p k = true) : xX p D (xs D' k j v) := ⟨fun i hi => ⟨(if_neg (ne_of_p hk hi)).trans (h.1 i hi).1, (h.1 i hi).2⟩, h.2⟩
theorem xX_a {p : Nat → Bool} {D D' : XD} {k j : Nat} {v : Int32} (h : xX p D D') (hk : p k = true) : xX p D (xa D' k j v) := ⟨fun i hi => ⟨(h.1 i hi).1, (if_neg (ne_of_p hk hi)).trans (h.1 i hi).2.1, (h.1 i hi).2.2⟩, h.2⟩
theorem xX_l {p : Nat → Bool} {D D' : XD} {k j : Nat} {v : Int64} (h : xX p D D') (hk : p k = true) : xX p D (xl D' k j v) := ⟨fun i hi => ⟨(h.1 i hi).1, (h.1 i hi).2.1, (if_neg (ne_of_p hk hi)).trans (h.1 i hi).2.2.1, (h.1 i hi).2.2.2⟩, h.2⟩
theorem xX_r {p : Nat → Bool} {D D' : XD} {k j : Nat} {v : Option Nat} (h : xX p D D') (hk : p k = true) : xX p D (xr D' k j v) := ⟨fun i hi => ⟨(h.1 i hi).1, (h.1 i hi).2.1, (h.1 i hi).2.2.1, (if_neg (ne_of_p hk hi)).trans (h.1 i hi).2.2.2⟩, h.2⟩
theorem xX_t {p : Nat → Bool} {D D' : XD} {a : Nat} {v : Int64} (h : xX p D D') : xX p D (xt D' a v) := h
theorem xdis_X {p : Nat → Bool} {L : XL} {D D' : XD} {ph : HP} (hB : xdis L D ph) (h : xX p D D') : xdis L D' ph := by
  intro k hk hl
  refine hB k hk ?_
  unfold xlive at *
  rw [h.2] at hl
  exact hl
/-- contracts: the receiver is a slot's object; nothing is made -/
def XC (E : JE) (f : FS) (k : Nat) (L : XL) (D : XD) (ph : HP) (As : List Value) (P : Option Value → XD → Prop) : Prop := Ct E f (.ref (L.1 k) :: As) (xov L D ph) (fun v h => ∃ D', h = xov L D' ph ∧ P v D') jNo
def wI (P : Int32 → XD → Prop) : Option Value → XD → Prop := fun v D => ∃ r, v = some (.int r) ∧ P r D
def wJ (P : Int64 → XD → Prop) : Option Value → XD → Prop := fun v D => ∃ r, v = some (.long r) ∧ P r D
def wV (P : XD → Prop) : Option Value → XD → Prop := fun v D => v = none ∧ P D
def wA (P : Nat → XD → Prop) : Option Value → XD → Prop := fun v D => ∃ r, v = some (.ref r) ∧ P r D
abbrev xFin (E : JE) (f : FS) (L : XL) (ph : HP) (P : Option Value → XD → Prop) : JFin := jFin E f (fun v h => ∃ D', h = xov L D' ph ∧ P v D') jNo
section XMem
variable {E : JE} {f : FS} {F : JFin} {pc : Nat} {ls : List (Option Value)} {st : List Value} {ph : HP} {kc ks : Nat} {L : XL} {D : XD}
theorem wI.k {P : Int32 → XD → Prop} (k : ∀ r D', P r D' → G E f F pc ls (.int r :: st) (xov L D' ph) kc ks) : ∀ v D', wI P v D' → G E f F pc ls (v.toList ++ st) (xov L D' ph) kc ks := by
  rintro _ D' ⟨r, rfl, h⟩
  exact k r D' h
theorem wJ.k {P : Int64 → XD → Prop} (k : ∀ r D', P r D' → G E f F pc ls (.long r :: st) (xov L D' ph) kc ks) : ∀ v D', wJ P v D' → G E f F pc ls (v.toList ++ st) (xov L D' ph) kc ks := by
  rintro _ D' ⟨r, rfl, h⟩
  exact k r D' h
theorem wV.k {P : XD → Prop} (k : ∀ D', P D' → G E f F pc ls st (xov L D' ph) kc ks) : ∀ v D', wV P v D' → G E f F pc ls (v.toList ++ st) (xov L D' ph) kc ks := by
  rintro _ D' ⟨rfl, h⟩
  exact k D' h
theorem wA.k {P : Nat → XD → Prop} (k : ∀ r D', P r D' → G E f F pc ls (.ref r :: st) (xov L D' ph) kc ks) : ∀ v D', wA P v D' → G E f F pc ls (v.toList ++ st) (xov L D' ph) kc ks := by
  rintro _ D' ⟨r, rfl, h⟩
  exact k r D' h
theorem xobj (k : Nat) {ci : Nat} (hc : xcl k = ci + 1) (hk : k < 159 := by decide) (hl : xlive D k = true := by rfl) : xov L D ph (L.1 k) = some (.inr (ci, xfs L D k)) := by
  rw [xov_at hk hl]
  unfold xco
  rw [if_neg (by omega), hc]
  rfl
theorem xints (k : Nat) (hc : xcl k = 0) (hs : xso k = 0) (hk : k < 159) (hl : xlive D k = true) : xov L D ph (L.1 k) = some (.inl (xtt k, xlen D k, .inl (D.2.1 k))) := by
  rw [xov_at hk hl]
  unfold xco
  rw [if_pos hc, if_pos hs]
theorem xlongs (k : Nat) (hc : xcl k = 0) (hs : xso k = 1) (hk : k < 159) (hl : xlive D k = true) : xov L D ph (L.1 k) = some (.inl (1, xlen D k, .inr (.inl (D.2.2.1 k)))) := by
  rw [xov_at hk hl]
  unfold xco
  rw [if_pos hc, if_neg (by omega), if_pos hs]
theorem xrefs (k : Nat) (hc : xcl k = 0) (hs : xso k = 2) (hk : k < 159) (hl : xlive D k = true) : xov L D ph (L.1 k) = some (.inl (xtt k, xlen D k, .inr (.inr (.inr (.inr (D.2.2.2.1 k)))))) := by
  rw [xov_at hk hl]
  unfold xco
  rw [if_pos hc, if_neg (by omega), if_neg (by omega), if_pos hs]
theorem xouter (k : Nat) (hc : xcl k = 0) (hs : xso k = 3) (hk : k < 159) (hl : xlive D k = true) : xov L D ph (L.1 k) = some (.inl (xtt k, xlen D k, .inr (.inr (.inr (.inr (fun j => some (L.1 (k + 1 + j)))))))) := by
  rw [xov_at hk hl]
  unfold xco
  rw [if_pos hc, if_neg (by omega), if_neg (by omega), if_neg (by omega)]
theorem G.xgeti {idx ci : Nat} (k j : Nat) (hl : jFL f.1.cls idx ci j) (hd : decode f.2.1 pc = .ok (.getfield idx, 3)) (kk : G E f F (pc + 3) ls (.int (D.1 k j) :: st) (xov L D ph) kc ks) (hc : xcl k = ci + 1 := by rfl) (ht : xfv L D k j = .int (D.1 k j) := by rfl) (hj : j < (xsh k).length := by exact Nat.le_of_ble_eq_true rfl) (hk : k < 159 := by exact Nat.le_of_ble_eq_true rfl) (hv : xlive D k = true := by rfl) : G E f F pc ls (.ref (L.1 k) :: st) (xov L D ph) kc ks := G.getfield hl (xobj k hc hk hv) ((xfs_at hj).trans (by rw [ht])) hd kk
theorem G.xgetf {idx ci : Nat} (k j s : Nat) (hl : jFL f.1.cls idx ci j) (hd : decode f.2.1 pc = .ok (.getfield idx, 3)) (kk : G E f F (pc + 3) ls (.ref (L.1 s) :: st) (xov L D ph) kc ks) (hc : xcl k = ci + 1 := by rfl) (ht : xfv L D k j = .ref (L.1 s) := by rfl) (hj : j < (xsh k).length := by exact Nat.le_of_ble_eq_true rfl) (hk : k < 159 := by exact Nat.le_of_ble_eq_true rfl) (hv : xlive D k = true := by rfl) : G E f F pc ls (.ref (L.1 k) :: st) (xov L D ph) kc ks := G.getfield hl (xobj k hc hk hv) ((xfs_at hj).trans (by rw [ht])) hd kk
theorem G.xgetr {idx ci : Nat} (k j : Nat) (hl : jFL f.1.cls idx ci j) (hd : decode f.2.1 pc = .ok (.getfield idx, 3)) (kk : G E f F (pc + 3) ls (va_rf (D.2.2.2.1 k j) :: st) (xov L D ph) kc ks) (hc : xcl k = ci + 1 := by rfl) (ht : xfv L D k j = va_rf (D.2.2.2.1 k j) := by rfl) (hj : j < (xsh k).length := by exact Nat.le_of_ble_eq_true rfl) (hk : k < 159 := by exact Nat.le_of_ble_eq_true rfl) (hv : xlive D k = true := by rfl) : G E f F pc ls (.ref (L.1 k) :: st) (xov L D ph) kc ks := G.getfield hl (xobj k hc hk hv) ((xfs_at hj).trans (by rw [ht])) hd kk
theorem G.xputi {idx ci : Nat} {ty : FieldType} {v : Int32} (k j : Nat) (hl : jFP f.1.cls idx ci j ty) (hd : decode f.2.1 pc = .ok (.putfield idx, 3)) (kk : G E f F (pc + 3) ls st (xov L (xs D k j v) ph) kc ks) (hn : narrow ty (.int v) = .int v := by rfl) (hfit : fits ty (.int v) = true := by rfl) (hc : xcl k = ci + 1 := by rfl) (ht : (xsh k).getD j 0 = 0 := by rfl) (hj : j < (xsh k).length := by exact Nat.le_of_ble_eq_true rfl) (hk : k < 159 := by exact Nat.le_of_ble_eq_true rfl) (hv : xlive D k = true := by rfl) (hz : (ci == 43) = false := by rfl) : G E f F pc ls (.int v :: .ref (L.1 k) :: st) (xov L D ph) kc ks := by
  refine G.putfield hl (xobj k hc hk hv) hd ?_ (by rw [xfs_len]; exact hj) hn hfit hz
  have e : xfv L (xs D k j v) k j = .int v := by
    unfold xfv
    rw [ht, xs_at, if_pos rfl, if_pos rfl]
    rfl
  have e2 : (xfs L D k).set j (.int v) = xfs L (xs D k j v) k := by
    rw [← e]
    refine xfs_set hj (fun i hi => ?_)
    unfold xfv
    split
    · rw [xs_at, if_pos rfl, if_neg hi]
    · rfl
    · rfl
    · rfl
  rw [e2, xov_put (D' := xs D k j v) hk hv (fun _ => rfl) rfl (e := .inr (ci, xfs L (xs D k j v) k)) (by unfold xco; rw [if_neg (by omega), hc]; rfl) (fun i hi => xco_xs hi)]
  exact kk
theorem G.xputr {idx ci : Nat} {ty : FieldType} {v : Option Nat} (k j : Nat) (hl : jFP f.1.cls idx ci j ty) (hd : decode f.2.1 pc = .ok (.putfield idx, 3)) (kk : G E f F (pc + 3) ls st (xov L (xr D k j v) ph) kc ks) (hn : narrow ty (va_rf v) = va_rf v) (hfit : fits ty (va_rf v) = true) (hc : xcl k = ci + 1 := by rfl) (ht : (xsh k).getD j 0 = 2 := by rfl) (hj : j < (xsh k).length := by exact Nat.le_of_ble_eq_true rfl) (hk : k < 159 := by exact Nat.le_of_ble_eq_true rfl) (hv : xlive D k = true := by rfl) (hz : (ci == 43) = false := by rfl) : G E f F pc ls (va_rf v :: .ref (L.1 k) :: st) (xov L D ph) kc ks := by
  refine G.putfield hl (xobj k hc hk hv) hd ?_ (by rw [xfs_len]; exact hj) hn hfit hz
  have e : xfv L (xr D k j v) k j = va_rf v := by
    unfold xfv
    rw [ht, xr_j]
    rfl
  have e2 : (xfs L D k).set j (va_rf v) = xfs L (xr D k j v) k := by
    rw [← e]
    refine xfs_set hj (fun i hi => ?_)
    unfold xfv
    split
    · rfl
    · rfl
    · rw [xr_k]
      exact congrArg va_rf (if_neg hi)
    · rfl
  rw [e2, xov_put (D' := xr D k j v) hk hv (fun _ => rfl) rfl (e := .inr (ci, xfs L (xr D k j v) k)) (by unfold xco; rw [if_neg (by omega), hc]; rfl) (fun i hi => xco_xr hi)]
  exact kk
theorem G.xiald {i : Int32} {n : Nat} (k j : Nat) (hd : decode f.2.1 pc = .ok (.iaload, 1)) (hi : i = nI j) (hj : j < n) (kk : G E f F (pc + 1) ls (.int (D.2.1 k j) :: st) (xov L D ph) kc ks) (hn : xlen D k = n := by rfl) (ht : xtt k = 0 := by rfl) (hc : xcl k = 0 := by rfl) (hs : xso k = 0 := by rfl) (hk : k < 159 := by exact Nat.le_of_ble_eq_true rfl) (hv : xlive D k = true := by rfl) (hb : n < 2147483648 := by exact Nat.le_of_ble_eq_true rfl) : G E f F pc ls (.int i :: .ref (L.1 k) :: st) (xov L D ph) kc ks := by
  subst hn
  exact G.iaload j ((xints k hc hs hk hv).trans (by rw [ht])) hd hi hj hb kk
theorem G.xbald {i : Int32} {n : Nat} (k j : Nat) (hd : decode f.2.1 pc = .ok (.baload, 1)) (hi : i = nI j) (hj : j < n) (kk : G E f F (pc + 1) ls (.int (D.2.1 k j) :: st) (xov L D ph) kc ks) (hn : xlen D k = n := by rfl) (ht : xtt k = 2 := by rfl) (hc : xcl k = 0 := by rfl) (hs : xso k = 0 := by rfl) (hk : k < 159 := by exact Nat.le_of_ble_eq_true rfl) (hv : xlive D k = true := by rfl) (hb : n < 2147483648 := by exact Nat.le_of_ble_eq_true rfl) : G E f F pc ls (.int i :: .ref (L.1 k) :: st) (xov L D ph) kc ks := by
  subst hn
  exact G.baload j ((xints k hc hs hk hv).trans (by rw [ht])) hd hi hj hb kk
theorem G.xzald {i : Int32} {n : Nat} (k j : Nat) (hd : decode f.2.1 pc = .ok (.baload, 1)) (hi : i = nI j) (hj : j < n) (kk : G E f F (pc + 1) ls (.int (D.2.1 k j) :: st) (xov L D ph) kc ks) (hn : xlen D k = n := by rfl) (ht : xtt k = 3 := by rfl) (hc : xcl k = 0 := by rfl) (hs : xso k = 0 := by rfl) (hk : k < 159 := by exact Nat.le_of_ble_eq_true rfl) (hv : xlive D k = true := by rfl) (hb : n < 2147483648 := by exact Nat.le_of_ble_eq_true rfl) : G E f F pc ls (.int i :: .ref (L.1 k) :: st) (xov L D ph) kc ks := by
  subst hn
  exact G.zaload j ((xints k hc hs hk hv).trans (by rw [ht])) hd hi hj hb kk
theorem G.xiast {i v : Int32} {n : Nat} (k j : Nat) (hd : decode f.2.1 pc = .ok (.iastore, 1)) (hi : i = nI j) (hj : j < n) (kk : G E f F (pc + 1) ls st (xov L (xa D k j v) ph) kc ks) (hn : xlen D k = n := by rfl) (ht : xtt k = 0 := by rfl) (hc : xcl k = 0 := by rfl) (hs : xso k = 0 := by rfl) (hk : k < 159 := by exact Nat.le_of_ble_eq_true rfl) (hv : xlive D k = true := by rfl) (hb : n < 2147483648 := by exact Nat.le_of_ble_eq_true rfl) : G E f F pc ls (.int v :: .int i :: .ref (L.1 k) :: st) (xov L D ph) kc ks := by
  subst hn
  refine G.iastore j ((xints k hc hs hk hv).trans (by rw [ht])) hd hi hj hb ?_
  rw [xov_put (D' := xa D k j v) hk hv (fun _ => rfl) rfl (by unfold xco; rw [if_pos hc, if_pos hs, ht, xa_k]; rfl) (fun i hi => xco_xa hi)]
  exact kk
theorem G.xbast {i v : Int32} {n : Nat} (k j : Nat) (hd : decode f.2.1 pc = .ok (.bastore, 1)) (hi : i = nI j) (hj : j < n) (kk : G E f F (pc + 1) ls st (xov L (xa D k j v.toInt8.toInt32) ph) kc ks) (hn : xlen D k = n := by rfl) (ht : xtt k = 2 := by rfl) (hc : xcl k = 0 := by rfl) (hs : xso k = 0 := by rfl) (hk : k < 159 := by exact Nat.le_of_ble_eq_true rfl) (hv : xlive D k = true := by rfl) (hb : n < 2147483648 := by exact Nat.le_of_ble_eq_true rfl) : G E f F pc ls (.int v :: .int i :: .ref (L.1 k) :: st) (xov L D ph) kc ks := by
  subst hn
  refine G.bastore j ((xints k hc hs hk hv).trans (by rw [ht])) hd hi hj hb ?_
  rw [xov_put (D' := xa D k j v.toInt8.toInt32) hk hv (fun _ => rfl) rfl (by unfold xco; rw [if_pos hc, if_pos hs, ht, xa_k]; rfl) (fun i hi => xco_xa hi)]
  exact kk
theorem G.xzast {i v : Int32} {n : Nat} (k j : Nat) (hd : decode f.2.1 pc = .ok (.bastore, 1)) (hi : i = nI j) (hj : j < n) (hx : narrow .boolean (.int v) = .int v) (kk : G E f F (pc + 1) ls st (xov L (xa D k j v) ph) kc ks) (hn : xlen D k = n := by rfl) (ht : xtt k = 3 := by rfl) (hc : xcl k = 0 := by rfl) (hs : xso k = 0 := by rfl) (hk : k < 159 := by exact Nat.le_of_ble_eq_true rfl) (hv : xlive D k = true := by rfl) (hb : n < 2147483648 := by exact Nat.le_of_ble_eq_true rfl) : G E f F pc ls (.int v :: .int i :: .ref (L.1 k) :: st) (xov L D ph) kc ks := by
  subst hn
  refine G.zastore j ((xints k hc hs hk hv).trans (by rw [ht])) hd hi hj hb hx ?_
  rw [xov_put (D' := xa D k j v) hk hv (fun _ => rfl) rfl (by unfold xco; rw [if_pos hc, if_pos hs, ht, xa_k]; rfl) (fun i hi => xco_xa hi)]
  exact kk
theorem G.xlald {i : Int32} {n : Nat} (k j : Nat) (hd : decode f.2.1 pc = .ok (.laload, 1)) (hi : i = nI j) (hj : j < n) (kk : G E f F (pc + 1) ls (.long (D.2.2.1 k j) :: st) (xov L D ph) kc ks) (hn : xlen D k = n := by rfl) (hc : xcl k = 0 := by rfl) (hs : xso k = 1 := by rfl) (hk : k < 159 := by exact Nat.le_of_ble_eq_true rfl) (hv : xlive D k = true := by rfl) (hb : n < 2147483648 := by exact Nat.le_of_ble_eq_true rfl) : G E f F pc ls (.int i :: .ref (L.1 k) :: st) (xov L D ph) kc ks := by
  subst hn
  exact G.laload j (xlongs k hc hs hk hv) hd hi hj hb kk
theorem G.xlast {i : Int32} {v : Int64} {n : Nat} (k j : Nat) (hd : decode f.2.1 pc = .ok (.lastore, 1)) (hi : i = nI j) (hj : j < n) (kk : G E f F (pc + 1) ls st (xov L (xl D k j v) ph) kc ks) (hn : xlen D k = n := by rfl) (hc : xcl k = 0 := by rfl) (hs : xso k = 1 := by rfl) (hk : k < 159 := by exact Nat.le_of_ble_eq_true rfl) (hv : xlive D k = true := by rfl) (hb : n < 2147483648 := by exact Nat.le_of_ble_eq_true rfl) : G E f F pc ls (.long v :: .int i :: .ref (L.1 k) :: st) (xov L D ph) kc ks := by
  subst hn
  refine G.lastore j (xlongs k hc hs hk hv) hd hi hj hb ?_
  rw [xov_put (D' := xl D k j v) hk hv (fun _ => rfl) rfl (by unfold xco; rw [if_pos hc, if_neg (by omega), if_pos hs, xl_k]; rfl) (fun i hi => xco_xl hi)]
  exact kk
/-- the rows of an outer array -/
theorem G.xoald {i : Int32} {n : Nat} {ty : FieldType} (k j : Nat) (hd : decode f.2.1 pc = .ok (.aaload, 1)) (hi : i = nI j) (hj : j < n) (kk : G E f F (pc + 1) ls (.ref (L.1 (k + 1 + j)) :: st) (xov L D ph) kc ks) (hn : xlen D k = n := by rfl) (ht : jTY (xtt k) = some ty := by rfl) (hty : ty.isReference = true := by rfl) (hc : xcl k = 0 := by rfl) (hs : xso k = 3 := by rfl) (hk : k < 159 := by exact Nat.le_of_ble_eq_true rfl) (hv : xlive D k = true := by rfl) (hb : n < 2147483648 := by exact Nat.le_of_ble_eq_true rfl) : G E f F pc ls (.int i :: .ref (L.1 k) :: st) (xov L D ph) kc ks := by
  subst hn
  exact G.aaload j (xouter k hc hs hk hv) hd hi hj hb kk ht hty
theorem G.xqald {i : Int32} {n : Nat} {ty : FieldType} (k j : Nat) (hd : decode f.2.1 pc = .ok (.aaload, 1)) (hi : i = nI j) (hj : j < n) (kk : G E f F (pc + 1) ls (va_rf (D.2.2.2.1 k j) :: st) (xov L D ph) kc ks) (hn : xlen D k = n := by rfl) (ht : jTY (xtt k) = some ty := by rfl) (hty : ty.isReference = true := by rfl) (hc : xcl k = 0 := by rfl) (hs : xso k = 2 := by rfl) (hk : k < 159 := by exact Nat.le_of_ble_eq_true rfl) (hv : xlive D k = true := by rfl) (hb : n < 2147483648) : G E f F pc ls (.int i :: .ref (L.1 k) :: st) (xov L D ph) kc ks := by
  subst hn
  exact G.aaload j (xrefs k hc hs hk hv) hd hi hj hb kk ht hty
theorem G.xalen (k : Nat) {v : Int32} (hd : decode f.2.1 pc = .ok (.arraylength, 1)) (hv : Int32.ofNat (xlen D k) = v) (kk : G E f F (pc + 1) ls (.int v :: st) (xov L D ph) kc ks) {ty : FieldType} (ht : jTY (xtt k) = some ty := by rfl) (hc : xcl k = 0 := by rfl) (hs : xso k = 0 := by rfl) (hk : k < 159 := by exact Nat.le_of_ble_eq_true rfl) (hl : xlive D k = true := by rfl) : G E f F pc ls (.ref (L.1 k) :: st) (xov L D ph) kc ks := G.arraylength (xints k hc hs hk hl) hd hv kk ht
variable {f' : FS} {rest As : List Value} {idx n : Nat} {P : Option Value → XD → Prop}
/-- a call of a slot's object: nothing is made -/
theorem G.xcall {ci : Nat} (k : Nat) (Lk : Cond.methodLink f.1.cls idx f'.1 ∈ lw_all) (ck : CkV f' n) (hct : XC E f' k L D ph As P) (hd : decode f.2.1 pc = .ok (.invokevirtual idx, 3)) (kk : ∀ v D', P v D' → G E f F (pc + 3) ls (v.toList ++ rest) (xov L D' ph) kc ks) (hc : xcl k = ci + 1 := by rfl)
    (hci : (jCL ci).map (fun r => r.1) = some f'.1.cls := by rfl) (hst : st = As.reverse ++ .ref (L.1 k) :: rest := by rfl) (hn : As.length = n := by rfl) (hrest : (rest.map fun v => v.category).sum ≤ 8 := by exact Nat.le_of_ble_eq_true rfl) (hroom : jroom f' f := by exact ⟨Nat.le_of_ble_eq_true rfl, Nat.le_of_ble_eq_true rfl⟩) (h0 : f'.2.2.2.2.1.cells = 0 ∧ f'.2.2.2.2.1.slots = 0 := by exact ⟨rfl, rfl⟩) (hkk : kc ≤ f.2.2.2.2.1.cells ∧ ks ≤ f.2.2.2.2.1.slots := by exact ⟨Nat.le_of_ble_eq_true rfl, Nat.le_of_ble_eq_true rfl⟩) (hk : k < 159 := by exact Nat.le_of_ble_eq_true rfl) (hv : xlive D k = true := by rfl) : G E f F pc ls st (xov L D ph) kc ks := by
  refine G.callV (rest := rest) Lk ck hct (xobj k hc hk hv) hd jno ?_ hci hst hn hrest hroom (by unfold jpay; rw [h0.1, h0.2]; exact hkk)
  rintro v _ ⟨D', rfl, hp⟩
  rw [h0.1, h0.2]
  exact kk v D' hp
/-- the same, of a nest mate -/
theorem G.xcallN {ci : Nat} {host : String} (k : Nat) (Lk : Cond.methodLinkNest f.1.cls idx f'.1 host ∈ lw_tbl) (ck : CkV f' n) (hct : XC E f' k L D ph As P) (hd : decode f.2.1 pc = .ok (.invokevirtual idx, 3)) (kk : ∀ v D', P v D' → G E f F (pc + 3) ls (v.toList ++ rest) (xov L D' ph) kc ks) (hc : xcl k = ci + 1 := by rfl)
    (hci : (jCL ci).map (fun r => r.1) = some f'.1.cls := by rfl) (hst : st = As.reverse ++ .ref (L.1 k) :: rest := by rfl) (hn : As.length = n := by rfl) (hrest : (rest.map fun v => v.category).sum ≤ 8 := by exact Nat.le_of_ble_eq_true rfl) (hroom : jroom f' f := by exact ⟨Nat.le_of_ble_eq_true rfl, Nat.le_of_ble_eq_true rfl⟩) (h0 : f'.2.2.2.2.1.cells = 0 ∧ f'.2.2.2.2.1.slots = 0 := by exact ⟨rfl, rfl⟩) (hkk : kc ≤ f.2.2.2.2.1.cells ∧ ks ≤ f.2.2.2.2.1.slots := by exact ⟨Nat.le_of_ble_eq_true rfl, Nat.le_of_ble_eq_true rfl⟩) (hk : k < 159 := by exact Nat.le_of_ble_eq_true rfl) (hv : xlive D k = true := by rfl) : G E f F pc ls st (xov L D ph) kc ks := by
  refine G.callVN (rest := rest) Lk ck hct (xobj k hc hk hv) hd jno ?_ hci hst hn hrest hroom (by unfold jpay; rw [h0.1, h0.2]; exact hkk)
  rintro v _ ⟨D', rfl, hp⟩
  rw [h0.1, h0.2]
  exact kk v D' hp
variable {Q : Option Value → Prop}
/-- a static of a nest mate -/
theorem G.scallN {host : String} (Lk : Cond.methodLinkNest f.1.cls idx f'.1 host ∈ lw_tbl) (ck : CkS f' n) (hct : SC E f' As Q) (hd : decode f.2.1 pc = .ok (.invokestatic idx, 3)) (k : ∀ v, Q v → G E f F (pc + 3) ls (v.toList ++ rest) ph kc ks)
    (hst : st = As.reverse ++ rest := by rfl) (hn : As.length = n := by rfl) (hrest : (rest.map fun v => v.category).sum ≤ 8 := by exact Nat.le_of_ble_eq_true rfl) (hroom : jroom f' f := by exact ⟨Nat.le_of_ble_eq_true rfl, Nat.le_of_ble_eq_true rfl⟩) (h0 : f'.2.2.2.2.1.cells = 0 ∧ f'.2.2.2.2.1.slots = 0 := by exact ⟨rfl, rfl⟩) (hk : kc ≤ f.2.2.2.2.1.cells ∧ ks ≤ f.2.2.2.2.1.slots := by exact ⟨Nat.le_of_ble_eq_true rfl, Nat.le_of_ble_eq_true rfl⟩) : G E f F pc ls st ph kc ks := by
  refine G.callSN (rest := rest) Lk ck (hct ph) hd jno ?_ hst hn hrest hroom (by unfold jpay; rw [h0.1, h0.2]; exact hk)
  rintro v _ ⟨rfl, hp⟩
  rw [h0.1, h0.2]
  exact k v hp
end XMem
