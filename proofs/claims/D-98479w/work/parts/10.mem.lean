/-! THE MODEL'S MEMORY: MM = int fields by number, the long field, arrays by the number of their field, the array of longs; movl L M ph: the heap ph with the model's cells (at L) laid over it -/
abbrev MM : Type := (Nat → Int32) × Int64 × (Nat → Nat → Int32) × (Nat → Int64)
def mtyL : List Nat := [0, 1, 1, 1, 1, 1, 0, 1, 0, 0, 0, 1, 1, 0, 0, 1, 1, 1, 0, 0, 0, 0, 0, 0, 0, 1, 1, 1, 0, 1, 1, 1, 1, 1, 0, 0, 1, 1, 1, 1, 1, 0, 0, 0, 0, 0, 0, 0, 2, 1, 0, 0]
def mlenL : List Nat := [0, 7, 5866, 11732, 2, 34, 0, 153, 0, 0, 0, 400, 5, 0, 0, 401, 401, 401, 0, 0, 0, 0, 0, 0, 0, 10, 560, 560, 0, 10, 100, 330, 10, 11264, 0, 0, 11264, 11264, 10, 11264, 180224, 0, 0, 0, 0, 0, 0, 0, 0, 60, 0, 0]
def mttL : List Nat := [0, 0, 0, 0, 3, 0, 0, 2, 0, 0, 0, 2, 0, 0, 0, 0, 0, 0, 0, 0, 0, 0, 0, 0, 0, 0, 0, 0, 0, 0, 0, 2, 0, 2, 0, 0, 0, 1, 0, 3, 2, 0, 0, 0, 0, 0, 0, 0, 0, 0, 0, 0]
def mty (k : Nat) : Nat := mtyL.getD k 0
def mlen (k : Nat) : Nat := mlenL.getD k 0
def mtt (k : Nat) : Nat := mttL.getD k 0
def mroles : List Nat := [52, 1, 2, 3, 4, 5, 7, 11, 12, 15, 16, 17, 25, 26, 27, 29, 30, 31, 32, 33, 36, 37, 38, 39, 40, 49]
abbrev ML : Type := {L : Nat → Nat // ∀ i ∈ mroles, ∀ j ∈ mroles, L i = L j → i = j}
def mfv (L : ML) (M : MM) (k : Nat) : Value := match mty k with
  | 0 => .int (M.1 k)
  | 1 => .ref (L.1 k)
  | _ => .long M.2.1
def mfs (L : ML) (M : MM) : List Value := (List.range 52).map (mfv L M)
def mco (L : ML) (M : MM) (k : Nat) : HE := if k = 52 then .inr (6, mfs L M) else if k = 37 then .inl (1, 11264, .inr (.inl M.2.2.2)) else .inl (mtt k, mlen k, .inl (M.2.2.1 k))
def movl (L : ML) (M : MM) (ph : HP) : HP := fun a => match mroles.find? (fun k => L.1 k == a) with
  | some k => some (mco L M k)
  | none => ph a
def ms (M : MM) (k : Nat) (v : Int32) : MM := (upd M.1 k v, M.2.1, M.2.2.1, M.2.2.2)
def msl (M : MM) (v : Int64) : MM := (M.1, v, M.2.2.1, M.2.2.2)
def ma (M : MM) (k j : Nat) (v : Int32) : MM := (M.1, M.2.1, va_up M.2.2.1 k (upd (M.2.2.1 k) j v), M.2.2.2)
def mrl (M : MM) (j : Nat) (v : Int64) : MM := (M.1, M.2.1, M.2.2.1, vp_updL M.2.2.2 j v)
theorem movl_at {L : ML} {M : MM} {ph : HP} {k : Nat} (hk : k ∈ mroles) : movl L M ph (L.1 k) = some (mco L M k) := by
  unfold movl
  cases h : mroles.find? (fun j => L.1 j == L.1 k) with
  | none => exact absurd (List.find?_eq_none.mp h k hk) (by simp)
  | some j =>
    have h1 := List.find?_some h
    have h2 := L.2 j (List.mem_of_find?_eq_some h) k hk (by simpa using h1)
    rw [h2]
theorem movl_off {L : ML} {M : MM} {ph : HP} {a : Nat} (h : ∀ k ∈ mroles, L.1 k ≠ a) : movl L M ph a = ph a := by
  unfold movl
  cases h1 : mroles.find? (fun j => L.1 j == a) with
  | none => rfl
  | some j =>
    have h2 := List.find?_some h1
    exact absurd (by simpa using h2) (h j (List.mem_of_find?_eq_some h1))
theorem movl_put {L : ML} {M M' : MM} {ph : HP} {k : Nat} {e : HE} (hk : k ∈ mroles) (h : mco L M' k = e) (ho : ∀ j ∈ mroles, j ≠ k → mco L M' j = mco L M j) : jup (movl L M ph) (L.1 k) e = movl L M' ph := by
  funext a
  by_cases ha : a = L.1 k
  · subst ha
    rw [jup_s, movl_at hk, h]
  · rw [jup_n ha]
    unfold movl
    cases h1 : mroles.find? (fun j => L.1 j == a) with
    | none => rfl
    | some j =>
      have h2 := List.find?_some h1
      have hj : j ≠ k := fun q => ha (by rw [← q]; exact (by simpa using h2 : L.1 j = a).symm)
      show some (mco L M j) = some (mco L M' j)
      rw [ho j (List.mem_of_find?_eq_some h1) hj]
theorem mfs_at {L : ML} {M : MM} {k : Nat} (hk : k < 52) : (mfs L M)[k]? = some (mfv L M k) := by
  unfold mfs
  rw [List.getElem?_map, List.getElem?_range hk]
  rfl
theorem mfs_len {L : ML} {M : MM} : (mfs L M).length = 52 := by simp [mfs]
theorem mfs_set {L : ML} {M M' : MM} {k : Nat} (hk : k < 52) (ho : ∀ j, j < 52 → j ≠ k → mfv L M' j = mfv L M j) : (mfs L M).set k (mfv L M' k) = mfs L M' := by
  apply List.ext_getElem?
  intro j
  by_cases hj : j < 52
  · rw [List.getElem?_set, mfs_at hj]
    by_cases hjk : k = j
    · subst hjk
      rw [if_pos rfl, if_pos (by rw [mfs_len]; exact hk), mfs_at hk]
    · rw [if_neg hjk, mfs_at hj, ho j hj (fun q => hjk q.symm)]
  · rw [List.getElem?_eq_none (by rw [List.length_set, mfs_len]; omega), List.getElem?_eq_none (by rw [mfs_len]; omega)]
theorem ms_1 {M : MM} {k j : Nat} {v : Int32} : (ms M k v).1 j = if j = k then v else M.1 j := rfl
theorem ms_2 {M : MM} {k : Nat} {v : Int32} : (ms M k v).2 = M.2 := rfl
theorem mfv_ms {L : ML} {M : MM} {k j : Nat} {v : Int32} (h : j ≠ k) : mfv L (ms M k v) j = mfv L M j := by
  unfold mfv
  split
  · rw [ms_1, if_neg h]
  · rfl
  · rfl
theorem mco_ms {L : ML} {M : MM} {k j : Nat} {v : Int32} (h : j ≠ 52) : mco L (ms M k v) j = mco L M j := by
  unfold mco
  rw [if_neg h, if_neg h]
  rfl
theorem mco_ma {L : ML} {M : MM} {k j i : Nat} {v : Int32} (h : j ≠ k) : mco L (ma M k i v) j = mco L M j := by
  unfold mco
  have e : (ma M k i v).2.2.1 j = M.2.2.1 j := if_neg h
  rw [e]
  rfl
theorem ma_k {M : MM} {k j : Nat} {v : Int32} : (ma M k j v).2.2.1 k = upd (M.2.2.1 k) j v := if_pos rfl
theorem m48 : ∀ j : Nat, (mty j = 0 → False) → (mty j = 1 → False) → j = 48 := by
  intro j h1 h2
  rcases Nat.lt_or_ge j 52 with h | h
  · have : ∀ j, j < 52 → mty j ≠ 0 → mty j ≠ 1 → j = 48 := by decide
    exact this j h h1 h2
  · exact absurd (by unfold mty; rw [List.getD_eq_getElem?_getD, List.getElem?_eq_none (by exact h)]; rfl) h1
def MC (E : JE) (f : FS) (L : ML) (M : MM) (ph : HP) (As : List Value) (P : Option Value → MM → Prop) : Prop := Ct E f (.ref (L.1 52) :: As) (movl L M ph) (fun v ph' => ∃ M', ph' = movl L M' ph ∧ P v M') jNo
/-- of no object: the heap is not touched -/
def SC (E : JE) (f : FS) (As : List Value) (P : Option Value → Prop) : Prop := ∀ ph : HP, Ct E f As ph (fun v ph' => ph' = ph ∧ P v) jNo
def rI (P : Int32 → MM → Prop) : Option Value → MM → Prop := fun v M => ∃ r, v = some (.int r) ∧ P r M
def rJ (P : Int64 → MM → Prop) : Option Value → MM → Prop := fun v M => ∃ r, v = some (.long r) ∧ P r M
def rV (P : MM → Prop) : Option Value → MM → Prop := fun v M => v = none ∧ P M
def sI (P : Int32 → Prop) : Option Value → Prop := fun v => ∃ r, v = some (.int r) ∧ P r
/-- the end of a body of the model -/
abbrev mFin (E : JE) (f : FS) (L : ML) (ph : HP) (P : Option Value → MM → Prop) : JFin := jFin E f (fun v ph' => ∃ M', ph' = movl L M' ph ∧ P v M') jNo
abbrev sFin (E : JE) (f : FS) (ph : HP) (P : Option Value → Prop) : JFin := jFin E f (fun v ph' => ph' = ph ∧ P v) jNo
section Mem
variable {E : JE} {f : FS} {F : JFin} {pc : Nat} {ls : List (Option Value)} {st : List Value} {ph : HP} {kc ks : Nat} {L : ML} {M : MM}
theorem rI.k {P : Int32 → MM → Prop} (k : ∀ r M', P r M' → G E f F pc ls (.int r :: st) (movl L M' ph) kc ks) : ∀ v M', rI P v M' → G E f F pc ls (v.toList ++ st) (movl L M' ph) kc ks := by
  rintro _ M' ⟨r, rfl, h⟩
  exact k r M' h
theorem rJ.k {P : Int64 → MM → Prop} (k : ∀ r M', P r M' → G E f F pc ls (.long r :: st) (movl L M' ph) kc ks) : ∀ v M', rJ P v M' → G E f F pc ls (v.toList ++ st) (movl L M' ph) kc ks := by
  rintro _ M' ⟨r, rfl, h⟩
  exact k r M' h
theorem rV.k {P : MM → Prop} (k : ∀ M', P M' → G E f F pc ls st (movl L M' ph) kc ks) : ∀ v M', rV P v M' → G E f F pc ls (v.toList ++ st) (movl L M' ph) kc ks := by
  rintro _ M' ⟨rfl, h⟩
  exact k M' h
theorem sI.k {P : Int32 → Prop} (k : ∀ r, P r → G E f F pc ls (.int r :: st) ph kc ks) : ∀ v, sI P v → G E f F pc ls (v.toList ++ st) ph kc ks := by
  rintro _ ⟨r, rfl, h⟩
  exact k r h
theorem mobj : movl L M ph (L.1 52) = some (.inr (6, mfs L M)) := movl_at (by decide)
theorem marr {k : Nat} (hk : k ∈ mroles) (h1 : k ≠ 52) (h2 : k ≠ 37) : movl L M ph (L.1 k) = some (.inl (mtt k, mlen k, .inl (M.2.2.1 k))) := by
  rw [movl_at hk]
  unfold mco
  rw [if_neg h1, if_neg h2]
theorem marr37 : movl L M ph (L.1 37) = some (.inl (1, 11264, .inr (.inl M.2.2.2))) := movl_at (by decide)
theorem G.mgeti {idx : Nat} (k : Nat) (hl : jFL f.1.cls idx 6 k) (hd : decode f.2.1 pc = .ok (.getfield idx, 3)) (kk : G E f F (pc + 3) ls (.int (M.1 k) :: st) (movl L M ph) kc ks) (ht : mfv L M k = .int (M.1 k) := by rfl) (hk : k < 52 := by exact Nat.le_of_ble_eq_true rfl) : G E f F pc ls (.ref (L.1 52) :: st) (movl L M ph) kc ks := G.getfield hl mobj ((mfs_at hk).trans (by rw [ht])) hd kk
theorem G.mgeta {idx : Nat} (k : Nat) (hl : jFL f.1.cls idx 6 k) (hd : decode f.2.1 pc = .ok (.getfield idx, 3)) (kk : G E f F (pc + 3) ls (.ref (L.1 k) :: st) (movl L M ph) kc ks) (ht : mfv L M k = .ref (L.1 k) := by rfl) (hk : k < 52 := by exact Nat.le_of_ble_eq_true rfl) : G E f F pc ls (.ref (L.1 52) :: st) (movl L M ph) kc ks := G.getfield hl mobj ((mfs_at hk).trans (by rw [ht])) hd kk
theorem G.mgetl {idx : Nat} (hl : jFL f.1.cls idx 6 48) (hd : decode f.2.1 pc = .ok (.getfield idx, 3)) (kk : G E f F (pc + 3) ls (.long M.2.1 :: st) (movl L M ph) kc ks) : G E f F pc ls (.ref (L.1 52) :: st) (movl L M ph) kc ks := G.getfield hl mobj ((mfs_at (by decide)).trans rfl) hd kk
theorem G.mputi {idx : Nat} {ty : FieldType} {v : Int32} (k : Nat) (hl : jFP f.1.cls idx 6 k ty) (hd : decode f.2.1 pc = .ok (.putfield idx, 3)) (kk : G E f F (pc + 3) ls st (movl L (ms M k v) ph) kc ks) (hn : narrow ty (.int v) = .int v := by rfl) (hfit : fits ty (.int v) = true := by rfl) (ht : mty k = 0 := by rfl) (hk : k < 52 := by exact Nat.le_of_ble_eq_true rfl) : G E f F pc ls (.int v :: .ref (L.1 52) :: st) (movl L M ph) kc ks := by
  refine G.putfield hl mobj hd ?_ (by rw [mfs_len]; exact hk) hn hfit rfl
  have e : mfv L (ms M k v) k = .int v := by
    unfold mfv
    rw [ht, ms_1, if_pos rfl]
    rfl
  have e2 : (mfs L M).set k (.int v) = mfs L (ms M k v) := by
    rw [← e]
    exact mfs_set hk (fun j _ hj => mfv_ms hj)
  rw [e2, movl_put (M' := ms M k v) (k := 52) (e := .inr (6, mfs L (ms M k v))) (by decide) rfl (fun j _ hj => mco_ms hj)]
  exact kk
theorem G.mputl {idx : Nat} {v : Int64} (hl : jFP f.1.cls idx 6 48 .long) (hd : decode f.2.1 pc = .ok (.putfield idx, 3)) (kk : G E f F (pc + 3) ls st (movl L (msl M v) ph) kc ks) : G E f F pc ls (.long v :: .ref (L.1 52) :: st) (movl L M ph) kc ks := by
  refine G.putfield hl mobj hd ?_ (by rw [mfs_len]; decide) rfl rfl rfl
  have e2 : (mfs L M).set 48 (.long v) = mfs L (msl M v) := mfs_set (M' := msl M v) (by decide) (fun j _ hj => by
    unfold mfv
    split
    · rfl
    · rfl
    · rename_i h1 h2
      exact absurd (m48 j h1 h2) hj)
  rw [e2, movl_put (M' := msl M v) (k := 52) (e := .inr (6, mfs L (msl M v))) (by decide) rfl (fun j _ hj => by unfold mco; rw [if_neg hj, if_neg hj]; rfl)]
  exact kk
theorem G.miald {i : Int32} {n : Nat} (k j : Nat) (hd : decode f.2.1 pc = .ok (.iaload, 1)) (hi : i = nI j) (hj : j < n) (kk : G E f F (pc + 1) ls (.int (M.2.2.1 k j) :: st) (movl L M ph) kc ks) (hn : mlen k = n := by rfl) (ht : mtt k = 0 := by rfl) (hk : k ∈ mroles := by decide) (h1 : k ≠ 52 := by decide) (h2 : k ≠ 37 := by decide) (hb : n < 2147483648 := by exact Nat.le_of_ble_eq_true rfl) : G E f F pc ls (.int i :: .ref (L.1 k) :: st) (movl L M ph) kc ks := by
  subst hn
  exact G.iaload j ((marr hk h1 h2).trans (by rw [ht])) hd hi hj hb kk
theorem G.mbald {i : Int32} {n : Nat} (k j : Nat) (hd : decode f.2.1 pc = .ok (.baload, 1)) (hi : i = nI j) (hj : j < n) (kk : G E f F (pc + 1) ls (.int (M.2.2.1 k j) :: st) (movl L M ph) kc ks) (hn : mlen k = n := by rfl) (ht : mtt k = 2 := by rfl) (hk : k ∈ mroles := by decide) (h1 : k ≠ 52 := by decide) (h2 : k ≠ 37 := by decide) (hb : n < 2147483648 := by exact Nat.le_of_ble_eq_true rfl) : G E f F pc ls (.int i :: .ref (L.1 k) :: st) (movl L M ph) kc ks := by
  subst hn
  exact G.baload j ((marr hk h1 h2).trans (by rw [ht])) hd hi hj hb kk
theorem G.mzald {i : Int32} {n : Nat} (k j : Nat) (hd : decode f.2.1 pc = .ok (.baload, 1)) (hi : i = nI j) (hj : j < n) (kk : G E f F (pc + 1) ls (.int (M.2.2.1 k j) :: st) (movl L M ph) kc ks) (hn : mlen k = n := by rfl) (ht : mtt k = 3 := by rfl) (hk : k ∈ mroles := by decide) (h1 : k ≠ 52 := by decide) (h2 : k ≠ 37 := by decide) (hb : n < 2147483648 := by exact Nat.le_of_ble_eq_true rfl) : G E f F pc ls (.int i :: .ref (L.1 k) :: st) (movl L M ph) kc ks := by
  subst hn
  exact G.zaload j ((marr hk h1 h2).trans (by rw [ht])) hd hi hj hb kk
theorem G.miast {i v : Int32} {n : Nat} (k j : Nat) (hd : decode f.2.1 pc = .ok (.iastore, 1)) (hi : i = nI j) (hj : j < n) (kk : G E f F (pc + 1) ls st (movl L (ma M k j v) ph) kc ks) (hn : mlen k = n := by rfl) (ht : mtt k = 0 := by rfl) (hk : k ∈ mroles := by decide) (h1 : k ≠ 52 := by decide) (h2 : k ≠ 37 := by decide) (hb : n < 2147483648 := by exact Nat.le_of_ble_eq_true rfl) : G E f F pc ls (.int v :: .int i :: .ref (L.1 k) :: st) (movl L M ph) kc ks := by
  subst hn
  refine G.iastore j ((marr hk h1 h2).trans (by rw [ht])) hd hi hj hb ?_
  rw [movl_put (M' := ma M k j v) hk (by unfold mco; rw [if_neg h1, if_neg h2, ht, ma_k]) (fun i _ hi => mco_ma hi)]
  exact kk
theorem G.mbast {i v : Int32} {n : Nat} (k j : Nat) (hd : decode f.2.1 pc = .ok (.bastore, 1)) (hi : i = nI j) (hj : j < n) (kk : G E f F (pc + 1) ls st (movl L (ma M k j v.toInt8.toInt32) ph) kc ks) (hn : mlen k = n := by rfl) (ht : mtt k = 2 := by rfl) (hk : k ∈ mroles := by decide) (h1 : k ≠ 52 := by decide) (h2 : k ≠ 37 := by decide) (hb : n < 2147483648 := by exact Nat.le_of_ble_eq_true rfl) : G E f F pc ls (.int v :: .int i :: .ref (L.1 k) :: st) (movl L M ph) kc ks := by
  subst hn
  refine G.bastore j ((marr hk h1 h2).trans (by rw [ht])) hd hi hj hb ?_
  rw [movl_put (M' := ma M k j v.toInt8.toInt32) hk (by unfold mco; rw [if_neg h1, if_neg h2, ht, ma_k]) (fun i _ hi => mco_ma hi)]
  exact kk
theorem G.mzast {i v : Int32} {n : Nat} (k j : Nat) (hd : decode f.2.1 pc = .ok (.bastore, 1)) (hi : i = nI j) (hj : j < n) (hx : narrow .boolean (.int v) = .int v) (kk : G E f F (pc + 1) ls st (movl L (ma M k j v) ph) kc ks) (hn : mlen k = n := by rfl) (ht : mtt k = 3 := by rfl) (hk : k ∈ mroles := by decide) (h1 : k ≠ 52 := by decide) (h2 : k ≠ 37 := by decide) (hb : n < 2147483648 := by exact Nat.le_of_ble_eq_true rfl) : G E f F pc ls (.int v :: .int i :: .ref (L.1 k) :: st) (movl L M ph) kc ks := by
  subst hn
  refine G.zastore j ((marr hk h1 h2).trans (by rw [ht])) hd hi hj hb hx ?_
  rw [movl_put (M' := ma M k j v) hk (by unfold mco; rw [if_neg h1, if_neg h2, ht, ma_k]) (fun i _ hi => mco_ma hi)]
  exact kk
theorem G.mlald {i : Int32} (j : Nat) (hd : decode f.2.1 pc = .ok (.laload, 1)) (hi : i = nI j) (hj : j < 11264) (kk : G E f F (pc + 1) ls (.long (M.2.2.2 j) :: st) (movl L M ph) kc ks) : G E f F pc ls (.int i :: .ref (L.1 37) :: st) (movl L M ph) kc ks := G.laload j marr37 hd hi hj (by decide) kk
theorem G.mlast {i : Int32} {v : Int64} (j : Nat) (hd : decode f.2.1 pc = .ok (.lastore, 1)) (hi : i = nI j) (hj : j < 11264) (kk : G E f F (pc + 1) ls st (movl L (mrl M j v) ph) kc ks) : G E f F pc ls (.long v :: .int i :: .ref (L.1 37) :: st) (movl L M ph) kc ks := by
  refine G.lastore j marr37 hd hi hj (by decide) ?_
  rw [movl_put (M' := mrl M j v) (k := 37) (e := .inl (1, 11264, .inr (.inl (vp_updL M.2.2.2 j v)))) (by decide) rfl (fun i _ hi => by unfold mco; rw [if_neg hi, if_neg hi]; rfl)]
  exact kk
theorem G.malen (k : Nat) {v : Int32} (hd : decode f.2.1 pc = .ok (.arraylength, 1)) (hv : Int32.ofNat (mlen k) = v) (kk : G E f F (pc + 1) ls (.int v :: st) (movl L M ph) kc ks) {ty : FieldType} (ht : jTY (mtt k) = some ty := by rfl) (hk : k ∈ mroles := by decide) (h1 : k ≠ 52 := by decide) (h2 : k ≠ 37 := by decide) : G E f F pc ls (.ref (L.1 k) :: st) (movl L M ph) kc ks := G.arraylength (marr hk h1 h2) hd hv kk ht
variable {f' : FS} {rest As : List Value} {idx n : Nat} {P : Option Value → MM → Prop}
theorem G.mcall (Lk : Cond.methodLink f.1.cls idx f'.1 ∈ lw_all) (ck : CkV f' n) (hct : MC E f' L M ph As P) (hd : decode f.2.1 pc = .ok (.invokevirtual idx, 3)) (k : ∀ v M', P v M' → G E f F (pc + 3) ls (v.toList ++ rest) (movl L M' ph) kc ks)
    (hci : f'.1.cls = RX6 := by rfl) (hst : st = As.reverse ++ .ref (L.1 52) :: rest := by rfl) (hn : As.length = n := by rfl) (hrest : (rest.map fun v => v.category).sum ≤ 8 := by exact Nat.le_of_ble_eq_true rfl) (hroom : jroom f' f := by exact ⟨Nat.le_of_ble_eq_true rfl, Nat.le_of_ble_eq_true rfl⟩) (h0 : f'.2.2.2.2.1.cells = 0 ∧ f'.2.2.2.2.1.slots = 0 := by exact ⟨rfl, rfl⟩) (hk : kc ≤ f.2.2.2.2.1.cells ∧ ks ≤ f.2.2.2.2.1.slots := by exact ⟨Nat.le_of_ble_eq_true rfl, Nat.le_of_ble_eq_true rfl⟩) : G E f F pc ls st (movl L M ph) kc ks := by
  refine G.callV (rest := rest) Lk ck hct mobj hd jno ?_ (by rw [hci]; rfl) hst hn hrest hroom (by unfold jpay; rw [h0.1, h0.2]; exact hk)
  rintro v _ ⟨M', rfl, hp⟩
  rw [h0.1, h0.2]
  exact k v M' hp
variable {Q : Option Value → Prop}
theorem G.scall (Lk : Cond.methodLink f.1.cls idx f'.1 ∈ lw_all) (ck : CkS f' n) (hct : SC E f' As Q) (hd : decode f.2.1 pc = .ok (.invokestatic idx, 3)) (k : ∀ v, Q v → G E f F (pc + 3) ls (v.toList ++ rest) ph kc ks)
    (hst : st = As.reverse ++ rest := by rfl) (hn : As.length = n := by rfl) (hrest : (rest.map fun v => v.category).sum ≤ 8 := by exact Nat.le_of_ble_eq_true rfl) (hroom : jroom f' f := by exact ⟨Nat.le_of_ble_eq_true rfl, Nat.le_of_ble_eq_true rfl⟩) (h0 : f'.2.2.2.2.1.cells = 0 ∧ f'.2.2.2.2.1.slots = 0 := by exact ⟨rfl, rfl⟩) (hk : kc ≤ f.2.2.2.2.1.cells ∧ ks ≤ f.2.2.2.2.1.slots := by exact ⟨Nat.le_of_ble_eq_true rfl, Nat.le_of_ble_eq_true rfl⟩) : G E f F pc ls st ph kc ks := by
  refine G.callS (rest := rest) Lk ck (hct ph) hd jno ?_ hst hn hrest hroom (by unfold jpay; rw [h0.1, h0.2]; exact hk)
  rintro v _ ⟨rfl, hp⟩
  rw [h0.1, h0.2]
  exact k v hp
/-- a sum, a product of counted numbers -/
theorem G.iaddn {a b : Nat} (hd : decode f.2.1 pc = .ok (.iadd, 1)) (k : G E f F (pc + 1) ls (.int (nI (a + b)) :: st) ph kc ks) : G E f F pc ls (.int (nI b) :: .int (nI a) :: st) ph kc ks := G.iadd hd (by rw [nI_add]; exact k)
theorem G.imuln {a b : Nat} (hd : decode f.2.1 pc = .ok (.imul, 1)) (k : G E f F (pc + 1) ls (.int (nI (a * b)) :: st) ph kc ks) : G E f F pc ls (.int (nI b) :: .int (nI a) :: st) ph kc ks := G.imul hd (by rw [pk_mul]; exact k)
end Mem
