/-! TOKENS of a tape -/
def zWB : List Nat := [116, 97, 107, 101, 115, 32, 99, 111, 115, 116, 115, 32, 108, 111, 100, 103, 101, 115, 32, 115, 112, 111, 105, 108, 115, 32, 98, 97, 114, 115, 32, 105, 102, 32, 111, 114, 32, 97, 110, 100, 32, 110, 111, 116, 32, 112, 101, 114, 115, 111, 110, 32, 114, 111, 97, 100, 32, 108, 97, 110, 100, 32, 104, 101, 97, 114, 100, 32, 111, 116, 104, 101, 114, 32, 116, 104, 101, 105, 114, 115, 32, 102, 97, 114, 32, 102, 111, 103, 32, 109, 111, 111, 100, 32, 100, 97, 121, 32, 108, 105, 116, 32, 110, 105, 103, 104, 116, 115, 32, 100, 111, 110, 101, 32, 115, 112, 101, 110, 116, 32, 119, 111, 114, 116, 104, 32, 104, 101, 114, 101, 32, 115, 101, 110, 100, 32, 108, 105, 103, 104, 116, 32, 100, 97, 114, 107, 32, 116, 105, 109, 101, 115, 32]
def zWs : List Nat := [0, 6, 12, 19, 26, 31, 34, 37, 41, 45, 52, 57, 62, 68, 74, 81, 85, 89, 94, 98, 102, 109, 114, 120, 126, 131, 136, 142, 147, 153]
def zW (i : Nat) : Nat := zWB.getD i 0
def zSt (j : Nat) : Nat := zWs.getD j 153
def zLen (j : Nat) : Nat := zSt (j + 1) - zSt j - 1
theorem zW_in : ∀ j, j < 29 → zSt j + zLen j + 1 = zSt (j + 1) ∧ zW (zSt j + zLen j) = 32 ∧ 0 < zLen j ∧ ∀ i, i < zLen j → ¬ zW (zSt j + i) = 32 := by decide +kernel
theorem zW_lt : ∀ i, i < 153 → zW i < 128 := by decide +kernel
theorem zSt_lt : ∀ j, j < 29 → zSt j + zLen j < 153 ∧ zSt j < 153 ∧ zLen j < 10 := by decide +kernel
theorem zSt_29 : zSt 29 = 153 := by decide
/-- whether the letters from a place on are the word -/
def zSame (tp : Nat → Int32) (k to j : Nat) : Bool := decide (to - k = zLen j) && (List.range (zLen j)).all (fun i => decide (nI (zW (zSt j + i)) = tp (k + i)))
theorem zSame_of {tp : Nat → Int32} {k to j : Nat} : zSame tp k to j = true ↔ to - k = zLen j ∧ ∀ i, i < zLen j → nI (zW (zSt j + i)) = tp (k + i) := by
  unfold zSame
  rw [Bool.and_eq_true, decide_eq_true_eq, List.all_eq_true]
  constructor
  · rintro ⟨h1, h2⟩
    exact ⟨h1, fun i hi => of_decide_eq_true (h2 i (List.mem_range.mpr hi))⟩
  · rintro ⟨h1, h2⟩
    exact ⟨h1, fun i hi => decide_eq_true (h2 i (List.mem_range.mp hi))⟩
def zWordNo (tp : Nat → Int32) (k to : Nat) : Nat := match (List.range 29).find? (zSame tp k to) with
  | none => 0
  | some j => j + 1
theorem zWordNo_of {tp : Nat → Int32} {k to j : Nat} (hj : j < 29) (h : zSame tp k to j = true) (hno : ∀ i, i < j → zSame tp k to i = false) : zWordNo tp k to = j + 1 := by
  have : (List.range 29).find? (zSame tp k to) = some j := by
    rw [List.find?_range_eq_some]
    exact ⟨h, List.mem_range.mpr hj, fun i hi => by rw [hno i hi]; rfl⟩
  unfold zWordNo
  rw [this]
theorem zWordNo_no {tp : Nat → Int32} {k to : Nat} (hno : ∀ i, i < 29 → zSame tp k to i = false) : zWordNo tp k to = 0 := by
  have : (List.range 29).find? (zSame tp k to) = none := by
    rw [List.find?_eq_none]
    intro i hi
    rw [hno i (List.mem_range.mp hi)]
    exact Bool.false_ne_true
  unfold zWordNo
  rw [this]
theorem zWordNo_le {tp : Nat → Int32} {k to : Nat} : zWordNo tp k to ≤ 29 := by
  unfold zWordNo
  cases h : (List.range 29).find? (zSame tp k to) with
  | none => exact Nat.zero_le _
  | some j =>
    have := List.mem_range.mp (List.mem_of_find?_eq_some h)
    dsimp only
    omega
def isS (b : Int32) : Bool := decide (97 ≤ b.toInt ∧ b.toInt ≤ 122)
def isD (b : Int32) : Bool := decide (48 ≤ b.toInt ∧ b.toInt ≤ 57)
/-- where a run of a kind of letters ends -/
def zRun (cls : Int32 → Bool) (tp : Nat → Int32) (size : Nat) : Nat → Nat → Nat
  | 0, k => k
  | f + 1, k => if k < size ∧ cls (tp k) = true then zRun cls tp size f (k + 1) else k
theorem zRun_b {cls : Int32 → Bool} {tp : Nat → Int32} {size : Nat} : ∀ f k, k ≤ size → k ≤ zRun cls tp size f k ∧ zRun cls tp size f k ≤ size
  | 0, k, h => ⟨Nat.le_refl _, h⟩
  | f + 1, k, h => by
    rw [zRun]
    split
    · rename_i q
      have := zRun_b (cls := cls) (tp := tp) (size := size) f (k + 1) q.1
      omega
    · omega
def zTo (tp : Nat → Int32) (size k : Nat) : Nat := if isS (tp k) then zRun isS tp size 401 (k + 1) else if isD (tp k) then zRun isD tp size 401 (k + 1) else k + 1
theorem zTo_b {tp : Nat → Int32} {size k : Nat} (h : k < size) : k < zTo tp size k ∧ zTo tp size k ≤ size := by
  unfold zTo
  split
  · have := zRun_b (cls := isS) (tp := tp) (size := size) 401 (k + 1) h
    omega
  · split
    · have := zRun_b (cls := isD) (tp := tp) (size := size) 401 (k + 1) h
      omega
    · omega
/-- the number that digits tell: it grows no more behind a million -/
def zNum (tp : Nat → Int32) (k : Nat) : Nat → Int32
  | 0 => nI 0
  | j + 1 => if nI 1000000 < zNum tp k j then zNum tp k j else nI 10 * zNum tp k j + tp (k + j) - nI 48
def zCode (tp : Nat → Int32) (size k : Nat) : Int32 := if isS (tp k) then nI (zWordNo tp k (zTo tp size k)) else if isD (tp k) then nI 50 else nI 100 + (tp k &&& nI 255)
def zVal (tp : Nat → Int32) (size k : Nat) : Int32 := if isD (tp k) then zNum tp k (zTo tp size k - k) else nI 0
/-- the tokens from a place on: where each is, its code, its value -/
def zToks (tp : Nat → Int32) (size : Nat) : Nat → Nat → List (Nat × Int32 × Int32)
  | 0, _ => []
  | f + 1, k => if k < size then (if tp k = nI 32 then zToks tp size f (k + 1) else (k, zCode tp size k, zVal tp size k) :: zToks tp size f (zTo tp size k)) else []
def tkOf (T : List (Nat × Int32 × Int32)) : Tk := (fun i => (T.getD i (0, nI 0, nI 0)).2.1, fun i => (T.getD i (0, nI 0, nI 0)).2.2)
def zPl (T : List (Nat × Int32 × Int32)) (size i : Nat) : Nat := (T.getD i (size, nI 0, nI 0)).1
theorem zToks_b {tp : Nat → Int32} {size : Nat} : ∀ f k, k ≤ size → (zToks tp size f k).length ≤ size - k ∧ ∀ x ∈ zToks tp size f k, x.1 < size ∧ ¬ tp x.1 = nI 32 ∧ x.2.1 = zCode tp size x.1 ∧ x.2.2 = zVal tp size x.1
  | 0, k, h => ⟨by rw [zToks]; exact Nat.zero_le _, fun x hx => by rw [zToks] at hx; cases hx⟩
  | f + 1, k, h => by
    rw [zToks]
    by_cases q : k < size
    · rw [if_pos q]
      by_cases q2 : tp k = nI 32
      · rw [if_pos q2]
        obtain ⟨h1, h2⟩ := zToks_b (tp := tp) (size := size) f (k + 1) q
        exact ⟨by omega, h2⟩
      · rw [if_neg q2]
        obtain ⟨b1, b2⟩ := zTo_b (tp := tp) q
        obtain ⟨h1, h2⟩ := zToks_b (tp := tp) (size := size) f (zTo tp size k) b2
        refine ⟨by rw [List.length_cons]; omega, fun x hx => ?_⟩
        rcases List.mem_cons.mp hx with rfl | hx
        · exact ⟨q, q2, rfl, rfl⟩
        · exact h2 x hx
    · rw [if_neg q]
      exact ⟨Nat.zero_le _, fun x hx => by cases hx⟩
theorem isD_t {b : Int32} (h : isD b = true) : 48 ≤ b.toInt ∧ b.toInt ≤ 57 := of_decide_eq_true h
theorem isS_t {b : Int32} (h : isS b = true) : 97 ≤ b.toInt ∧ b.toInt ≤ 122 := of_decide_eq_true h
/-- what digits tell, as a number -/
def zNumN (tp : Nat → Int32) (k : Nat) : Nat → Nat
  | 0 => 0
  | j + 1 => if 1000000 < zNumN tp k j then zNumN tp k j else 10 * zNumN tp k j + tNat (tp (k + j)) - 48
theorem zNum_N {tp : Nat → Int32} {k : Nat} : ∀ j, (∀ i, i < j → isD (tp (k + i)) = true) → zNum tp k j = nI (zNumN tp k j) ∧ zNumN tp k j ≤ 10000009
  | 0, _ => ⟨rfl, Nat.zero_le _⟩
  | j + 1, h => by
    obtain ⟨h1, h2⟩ := zNum_N (tp := tp) (k := k) j (fun i hi => h i (by omega))
    have hd := isD_t (h j (by omega))
    rw [zNum, zNumN, h1]
    by_cases q : 1000000 < zNumN tp k j
    · rw [if_pos q, if_pos ((nI_ltI (by omega) (by omega)).mpr q)]
      exact ⟨rfl, h2⟩
    · rw [if_neg q, if_neg (fun z => q ((nI_ltI (by omega) (by omega)).mp z))]
      obtain ⟨d, hd1, hd2⟩ : ∃ d, d < 58 ∧ tp (k + j) = nI d := t_of (by omega) (by omega)
      rw [hd2, tNat_nI (by omega), pk_mul, nI_add]
      rw [hd2, t_nI (by omega)] at hd
      exact ⟨pk_sub (by omega), by omega⟩
theorem zRun_all {cls : Int32 → Bool} {tp : Nat → Int32} {size : Nat} : ∀ f k i, k ≤ i → i < zRun cls tp size f k → cls (tp i) = true
  | 0, k, i, h1, h2 => by rw [zRun] at h2; omega
  | f + 1, k, i, h1, h2 => by
    rw [zRun] at h2
    split at h2
    · rename_i q
      by_cases e : i = k
      · rw [e]; exact q.2
      · exact zRun_all f (k + 1) i (by omega) h2
    · omega
theorem isS_D {b : Int32} (h : isD b = true) : isS b = false := by
  have := isD_t h
  exact decide_eq_false (by omega)
theorem zTo_dig {tp : Nat → Int32} {size k i : Nat} (h : isD (tp k) = true) (hi : k + i < zTo tp size k) : isD (tp (k + i)) = true := by
  unfold zTo at hi
  rw [if_neg (by rw [isS_D h]; exact Bool.false_ne_true), if_pos h] at hi
  by_cases e : i = 0
  · rw [e]; exact h
  · exact zRun_all 401 (k + 1) (k + i) (by omega) hi
theorem zVal_b {tp : Nat → Int32} {size k : Nat} : ∃ v, v ≤ 10000009 ∧ zVal tp size k = nI v := by
  unfold zVal
  split
  · rename_i h
    obtain ⟨h1, h2⟩ := zNum_N (tp := tp) (k := k) (zTo tp size k - k) (fun i hi => zTo_dig (size := size) h (by omega))
    exact ⟨_, h2, h1⟩
  · exact ⟨0, by omega, rfl⟩
theorem getD_of {α : Type} {T : List α} {i : Nat} {d : α} (h : i < T.length) : T.getD i d = T[i] := by
  rw [List.getD_eq_getElem?_getD, List.getElem?_eq_getElem h]
  rfl
theorem getD_no {α : Type} {T : List α} {i : Nat} {d : α} (h : T.length ≤ i) : T.getD i d = d := by
  rw [List.getD_eq_getElem?_getD, List.getElem?_eq_none h]
  rfl
theorem tkOf_ok {tp : Nat → Int32} {size f k : Nat} (hk : k ≤ size) : tkOk (tkOf (zToks tp size f k)) (zToks tp size f k).length := by
  refine ⟨fun i hi => ?_, fun i => ?_⟩
  · show ((zToks tp size f k).getD i _).2.1 = _
    rw [getD_no hi]
  · show 0 ≤ (((zToks tp size f k).getD i _).2.2).toInt
    rcases Nat.lt_or_ge i (zToks tp size f k).length with q | q
    · rw [getD_of q]
      have := (zToks_b (tp := tp) f k hk).2 _ (List.getElem_mem q)
      rw [this.2.2.2]
      obtain ⟨v, hv, e⟩ := zVal_b (tp := tp) (size := size) (k := (zToks tp size f k)[i].1)
      rw [e, t_nI (by omega)]
      omega
    · rw [getD_no q]
      decide
theorem zPl_b {tp : Nat → Int32} {size f k i : Nat} (hk : k ≤ size) : zPl (zToks tp size f k) size i ≤ size := by
  unfold zPl
  rcases Nat.lt_or_ge i (zToks tp size f k).length with q | q
  · rw [getD_of q]
    have := (zToks_b (tp := tp) f k hk).2 _ (List.getElem_mem q)
    omega
  · rw [getD_no q]
    exact Nat.le_refl _
