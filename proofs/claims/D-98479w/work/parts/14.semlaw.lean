/-! LAWS OF MEANING: places grow and stay within; what sums tell is bounded -/
def zBd (e : En) (s : Sm) : Prop := ∀ v, s e = some v → -1000000000 ≤ v.toInt ∧ v.toInt ≤ 1000000000
def enOk (e : En) : Prop := ∀ i, (-1000000000 ≤ (e.1 i).toInt ∧ (e.1 i).toInt ≤ 1000000000) ∧ (-1000000000 ≤ (e.2.1 i).toInt ∧ (e.2.1 i).toInt ≤ 1000000000) ∧ (-1000000000 ≤ (e.2.2 i).toInt ∧ (e.2.2 i).toInt ≤ 1000000000)
theorem l_lt {x y : Int64} : x < y ↔ x.toInt < y.toInt := Int64.lt_iff_toInt_lt
theorem l_le {x y : Int64} : x ≤ y ↔ x.toInt ≤ y.toInt := Int64.le_iff_toInt_le
theorem l_eq {x y : Int64} : x = y ↔ x.toInt = y.toInt := Int64.toInt_inj.symm
theorem big_t : big.toInt = 1000000000 := by decide
theorem big_n : (-big).toInt = -1000000000 := by decide
theorem zWithin_bd {v w : Int64} (h : zWithin v = some w) : -1000000000 ≤ w.toInt ∧ w.toInt ≤ 1000000000 := by
  unfold zWithin at h
  split at h
  · cases h
  · rename_i h1
    cases h
    simp only [l_lt, big_t, big_n] at h1
    omega
theorem l_div {v w : Int64} (hv : -1000000000 ≤ v.toInt ∧ v.toInt ≤ 1000000000) : (v / w).toInt = v.toInt.tdiv w.toInt := by
  refine Int64.toInt_div_of_ne_left _ _ ?_
  intro h
  rw [h] at hv
  have : Int64.minValue.toInt = -9223372036854775808 := by decide
  rw [this] at hv
  omega
theorem tdiv_bd {a b : Int} (h : -1000000000 ≤ a ∧ a ≤ 1000000000) : -1000000000 ≤ a.tdiv b ∧ a.tdiv b ≤ 1000000000 := by
  have h1 : (a.tdiv b).natAbs ≤ a.natAbs := by
    rw [Int.natAbs_tdiv]
    exact Nat.div_le_self _ _
  omega
theorem l_sub {v w : Int64} (hv : -1000000000 ≤ v.toInt ∧ v.toInt ≤ 1000000000) (hw : -1000000000 ≤ w.toInt ∧ w.toInt ≤ 1000000000) : (v - w).toInt = v.toInt - w.toInt := by
  rw [Int64.toInt_sub]
  exact Int.bmod_eq_of_le (by omega) (by omega)
theorem l_mod {v w : Int64} (hv : -1000000000 ≤ v.toInt ∧ v.toInt ≤ 1000000000) (hw : -1000000000 ≤ w.toInt ∧ w.toInt ≤ 1000000000) : (v - v / w * w).toInt = v.toInt.tmod w.toInt := by
  have hd := tdiv_bd (b := w.toInt) hv
  have h1 : (v / w * w).toInt = v.toInt.tdiv w.toInt * w.toInt := by
    rw [Int64.toInt_mul, l_div hv]
    have h2 : (v.toInt.tdiv w.toInt * w.toInt).natAbs ≤ 1000000000 * 1000000000 := by
      rw [Int.natAbs_mul]
      exact Nat.mul_le_mul (by omega) (by omega)
    exact Int.bmod_eq_of_le (by omega) (by omega)
  have h3 : v.toInt.tmod w.toInt = v.toInt - w.toInt * v.toInt.tdiv w.toInt := Int.tmod_def _ _
  have h4 : (v.toInt.tmod w.toInt).natAbs ≤ v.toInt.natAbs := by
    rw [Int.natAbs_tmod]
    exact Nat.mod_le _ _
  rw [Int64.toInt_sub, h1, h3, Int.mul_comm w.toInt]
  rw [h3, Int.mul_comm w.toInt] at h4
  exact Int.bmod_eq_of_le (by omega) (by omega)
theorem zBin_bd {e : En} {op : Int32} {a b : Sm} (ha : zBd e a) (hb : zBd e b) : zBd e (zBin op a b) := by
  intro v h
  unfold zBin at h
  cases h1 : a e with
  | none => rw [h1] at h; cases h
  | some x =>
    cases h2 : b e with
    | none => rw [h1, h2] at h; cases h
    | some y =>
      rw [h1, h2] at h
      have hx := ha x h1
      have hy := hb y h2
      dsimp only at h
      split at h
      · split at h
        · cases h
        · cases h
          rw [l_div hx]
          exact tdiv_bd hx
      · split at h
        · split at h
          · cases h
          · cases h
            rw [l_mod hx hy]
            have h4 : (x.toInt.tmod y.toInt).natAbs ≤ x.toInt.natAbs := by
              rw [Int.natAbs_tmod]
              exact Nat.mod_le _ _
            omega
        · split at h
          · exact zWithin_bd h
          · split at h
            · exact zWithin_bd h
            · exact zWithin_bd h
/-- a law of rows: what holds of each, and is kept by joining -/
theorem pRow_Q {α : Type} {Q : α → Prop} {N : Nat} {tk : Tk} {sign : Int32 → Bool} {join : Int32 → α → α → α} {one : Nat → Nat → Rs α} (h1 : ∀ pos lv s p l, one pos lv = .inr (s, p, l) → Q s ∧ pos < p ∧ p ≤ N) (h2 : ∀ c a b, sign c = true → Q a → Q b → Q (join c a b)) : ∀ (n : Nat) (acc : α) (pos lv : Nat) (s : α) (p l : Nat), Q acc → pos ≤ N → pRow tk sign join one n acc pos lv = .inr (s, p, l) → Q s ∧ pos ≤ p ∧ p ≤ N := by
  intro n
  induction n with
  | zero => intro acc pos lv s p l _ _ h; simp [pRow] at h
  | succ n ih =>
    intro acc pos lv s p l hq hp h
    rw [pRow] at h
    by_cases hs : sign (tk.1 pos) = true
    · rw [if_pos hs] at h
      cases h3 : one (pos + 1) lv with
      | inl x => rw [h3] at h; cases h
      | inr x =>
        obtain ⟨s1, p1, l1⟩ := x
        rw [h3] at h
        obtain ⟨q1, q2, q3⟩ := h1 _ _ _ _ _ h3
        obtain ⟨r1, r2, r3⟩ := ih _ _ _ _ _ _ (h2 _ _ _ hs hq q1) q3 h
        exact ⟨r1, by omega, r3⟩
    · rw [if_neg hs] at h
      cases h
      exact ⟨hq, Nat.le_refl _, hp⟩
theorem pRows_Q {α : Type} {Q : α → Prop} {N : Nat} {tk : Tk} {sign : Int32 → Bool} {join : Int32 → α → α → α} {one : Nat → Nat → Rs α} (h1 : ∀ pos lv s p l, one pos lv = .inr (s, p, l) → Q s ∧ pos < p ∧ p ≤ N) (h2 : ∀ c a b, sign c = true → Q a → Q b → Q (join c a b)) (pos lv : Nat) (s : α) (p l : Nat) (h : pRows tk sign join one pos lv = .inr (s, p, l)) : Q s ∧ pos < p ∧ p ≤ N := by
  unfold pRows at h
  cases h3 : one pos lv with
  | inl x => rw [h3] at h; cases h
  | inr x =>
    obtain ⟨s1, p1, l1⟩ := x
    rw [h3] at h
    obtain ⟨q1, q2, q3⟩ := h1 _ _ _ _ _ h3
    obtain ⟨r1, r2, r3⟩ := pRow_Q h1 h2 _ _ _ _ _ _ _ q1 q3 h
    exact ⟨r1, by omega, r3⟩
/-- tokens: none behind the last; numbers aren't negative -/
def tkOk (tk : Tk) (N : Nat) : Prop := (∀ i, N ≤ i → tk.1 i = nI 0) ∧ ∀ i, 0 ≤ (tk.2 i).toInt
theorem tk_in {tk : Tk} {N pos c : Nat} (h : tkOk tk N) (hc : 0 < c) (hb : c < 2147483648) (hp : tk.1 pos = nI c) : pos < N := by
  rcases Nat.lt_or_ge pos N with q | q
  · exact q
  · have := h.1 pos q
    rw [hp, nI_inj hb (by omega)] at this
    omega
theorem i64_t (x : Int32) : x.toInt64.toInt = x.toInt := Int32.toInt_toInt64 x
theorem pPart_Q {ord : Bool} {tk : Tk} {N : Nat} {e : En} {sub : Option (Nat → Nat → Rs Sm)} (hk : tkOk tk N) (he : enOk e) (hs : ∀ g, sub = some g → ∀ pos lv s p l, g pos lv = .inr (s, p, l) → zBd e s ∧ pos < p ∧ p ≤ N) (pos lv : Nat) (s : Sm) (p l : Nat) (h : pPart ord tk sub pos lv = .inr (s, p, l)) : zBd e s ∧ pos < p ∧ p ≤ N := by
  unfold pPart at h
  split at h
  · rename_i h1
    have hN := tk_in hk (by decide) (by decide) h1
    cases sub with
    | none => cases h
    | some g =>
      dsimp only at h
      cases h3 : g (pos + 1) lv with
      | inl x => rw [h3] at h; cases h
      | inr x =>
        obtain ⟨s1, p1, l1⟩ := x
        rw [h3] at h
        dsimp only at h
        split at h
        · rename_i h4
          have hN2 := tk_in hk (by decide) (by decide) h4
          cases h
          obtain ⟨q1, q2, q3⟩ := hs g rfl _ _ _ _ _ h3
          exact ⟨q1, by omega, by omega⟩
        · cases h
  · split at h
    · rename_i h1 h2
      have hpos : pos < N := by
        rcases Nat.lt_or_ge pos N with q | q
        · exact q
        · have := hk.1 pos q
          rw [this] at h2
          unfold isLeaf at h2
          rcases of_decide_eq_true h2 with ⟨h9, -⟩ | ⟨h9, -⟩
          · exact absurd h9 (by decide)
          · exact absurd h9 (by cases ord <;> decide)
      split at h
      · cases h
      · split at h
        · split at h
          · rename_i h5 h6
            have hN2 := tk_in hk (by decide) (by decide) h6.1
            cases h
            refine ⟨?_, by omega, by omega⟩
            intro v hv
            unfold zPers at hv
            cases hv
            split
            · exact (he _).2.1
            · exact (he _).2.2
          · cases h
        · cases h
          refine ⟨?_, by omega, by omega⟩
          intro v hv
          unfold zLeaf at hv
          split at hv
          · rename_i h7
            cases hv
            rw [i64_t]
            have h8 := hk.2 pos
            unfold isLeaf at h2
            have h9 := of_decide_eq_true h2
            rcases h9 with ⟨-, h9⟩ | ⟨-, h9⟩
            · omega
            · rw [h7] at h9
              exact absurd h9 (by cases ord <;> decide)
          · cases hv
            exact (he _).1
    · cases h
theorem pTerm_Q {ord : Bool} {tk : Tk} {N : Nat} {e : En} {sub : Option (Nat → Nat → Rs Sm)} (hk : tkOk tk N) (he : enOk e) (hs : ∀ g, sub = some g → ∀ pos lv s p l, g pos lv = .inr (s, p, l) → zBd e s ∧ pos < p ∧ p ≤ N) (pos lv : Nat) (s : Sm) (p l : Nat) (h : pTerm ord tk sub pos lv = .inr (s, p, l)) : zBd e s ∧ pos < p ∧ p ≤ N := pRows_Q (pPart_Q hk he hs) (fun _ _ _ _ => zBin_bd) pos lv s p l h
theorem pSum_Q {ord : Bool} {tk : Tk} {N : Nat} {e : En} (hk : tkOk tk N) (he : enOk e) : ∀ (r pos lv : Nat) (s : Sm) (p l : Nat), pSum ord tk r pos lv = .inr (s, p, l) → zBd e s ∧ pos < p ∧ p ≤ N := by
  intro r
  induction r with
  | zero =>
    intro pos lv s p l h
    rw [pSum] at h
    exact pRows_Q (pTerm_Q hk he (fun g hg => by cases hg)) (fun _ _ _ _ => zBin_bd) pos lv s p l h
  | succ r ih =>
    intro pos lv s p l h
    rw [pSum] at h
    exact pRows_Q (pTerm_Q hk he (fun g hg => by cases hg; exact ih)) (fun _ _ _ _ => zBin_bd) pos lv s p l h
