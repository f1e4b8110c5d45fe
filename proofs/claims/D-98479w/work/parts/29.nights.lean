/-! NIGHTS AHEAD: crews, as functions of what is kept -/
def kComes (K : KR) (p : Nat) : Int32 := if K p = nI 2 then nI 0 else if K p = nI 1 then K (10 + p) - K 33 else if K p = nI 0 then kTakes K p else nI 1000000
def kSp (K : KR) (p q : Nat) : Nat := if ¬ p = q ∧ K (54 + 10 * p + q) = nI 1 then tNat (kSpoils K p q) else 0
def zHs (K : KR) (hushed p used : Nat) : Nat → Nat
  | 0 => 0
  | q + 1 => zHs K hushed p used q + if used.testBit q && !hushed.testBit q && !hushed.testBit p then kSp K q p else 0
def zHeard (K : KR) (n hushed p used : Nat) : Nat := min 2 (kHeard K p + zHs K hushed p used n)
/-- how much the one is worth in a night, some having been there: 0, if it can't light -/
def zWorth (K : KR) (n away hushed night used : Nat) (fog : Bool) (p : Nat) : Nat := if (p < n ∧ (used ||| away).testBit p = false ∧ kComes K p ≤ nI night ∧ ¬ K p = nI 3) ∧ zHeard K n hushed p used < 2 ∧ kBarred K p (nI (zHeard K n hushed p used)) (nI (kDay K + night)) fog = false then 2 - zHeard K n hushed p used else 0
def zAll (w : Nat → Nat) (c : Nat) : Nat → Bool
  | 0 => true
  | p + 1 => zAll w c p && (!c.testBit p || decide (0 < w p))
def zSumW (w : Nat → Nat) (c : Nat) : Nat → Nat
  | 0 => 0
  | p + 1 => zSumW w c p + if c.testBit p then w p else 0
def zLow (w : Nat → Nat) (c : Nat) : Nat → Nat
  | 0 => 1000000
  | p + 1 => if c.testBit p then min (zLow w c p) (w p) else zLow w c p
/-- all of it is needed -/
def zCrew (w : Nat → Nat) (need c : Nat) : Bool := zAll w c 10 && decide (need ≤ zSumW w c 10 ∧ zSumW w c 10 < need + zLow w c 10)
def zNext (ok : Nat → Bool) (c : Nat) : Option Nat := (List.range 1024).find? (fun j => decide (c < j) && ok j)
theorem zNext_some {ok : Nat → Bool} {c j : Nat} (h : zNext ok c = some j) : c < j ∧ j < 1024 ∧ ok j = true ∧ ∀ i, c < i → i < j → ok i = false := by
  unfold zNext at h
  rw [List.find?_range_eq_some] at h
  obtain ⟨h1, h2, h3⟩ := h
  rw [Bool.and_eq_true, decide_eq_true_eq] at h1
  refine ⟨h1.1, List.mem_range.mp h2, h1.2, fun i hi hj => ?_⟩
  have := h3 i hj
  rw [decide_eq_true hi, Bool.true_and] at this
  simpa using this
theorem zNext_none {ok : Nat → Bool} {c : Nat} (h : zNext ok c = none) : ∀ i, c < i → i < 1024 → ok i = false := by
  intro i hi hj
  have := List.find?_eq_none.mp h i (List.mem_range.mpr hj)
  rw [decide_eq_true hi, Bool.true_and] at this
  simpa using this
theorem zNext_of {ok : Nat → Bool} {c j : Nat} (h1 : c < j) (h2 : j < 1024) (h3 : ok j = true) (h4 : ∀ i, c < i → i < j → ok i = false) : zNext ok c = some j := by
  unfold zNext
  rw [List.find?_range_eq_some]
  refine ⟨by rw [decide_eq_true h1, h3]; rfl, List.mem_range.mpr h2, fun i hi => ?_⟩
  rcases Nat.lt_or_ge c i with q | q
  · rw [h4 i q hi, Bool.and_false]; rfl
  · rw [decide_eq_false (by omega), Bool.false_and]; rfl
theorem zNext_no {ok : Nat → Bool} {c : Nat} (h4 : ∀ i, c < i → i < 1024 → ok i = false) : zNext ok c = none := by
  unfold zNext
  rw [List.find?_eq_none]
  intro i hi
  rcases Nat.lt_or_ge c i with q | q
  · rw [h4 i q (List.mem_range.mp hi), Bool.and_false]; exact Bool.false_ne_true
  · rw [decide_eq_false (by omega), Bool.false_and]; exact Bool.false_ne_true
/-- gone through in order: those that are crews -/
def zF {α : Type} (ok : Nat → Bool) (step : α → Nat → α) (a : α) : Nat → α
  | 0 => a
  | k + 1 => if ok k then step (zF ok step a k) k else zF ok step a k
theorem zF_skip {α : Type} {ok : Nat → Bool} {step : α → Nat → α} {a : α} {k : Nat} : ∀ d, (∀ i, k ≤ i → i < k + d → ok i = false) → zF ok step a (k + d) = zF ok step a k
  | 0, _ => rfl
  | d + 1, h => by
    rw [show k + (d + 1) = (k + d) + 1 from rfl, zF, if_neg (by rw [h (k + d) (by omega) (by omega)]; exact Bool.false_ne_true)]
    exact zF_skip d (fun i h1 h2 => h i h1 (by omega))
theorem zF_next {α : Type} {ok : Nat → Bool} {step : α → Nat → α} {a : α} {c j : Nat} (h : zNext ok c = some j) : zF ok step a (j + 1) = step (zF ok step a (c + 1)) j := by
  obtain ⟨h1, h2, h3, h4⟩ := zNext_some h
  rw [zF, if_pos h3]
  have := zF_skip (ok := ok) (step := step) (a := a) (k := c + 1) (j - (c + 1)) (fun i q1 q2 => h4 i (by omega) (by omega))
  rw [show c + 1 + (j - (c + 1)) = j from by omega] at this
  rw [this]
theorem zF_end {α : Type} {ok : Nat → Bool} {step : α → Nat → α} {a : α} {c : Nat} (h : zNext ok c = none) (hc : c < 1024) : zF ok step a 1024 = zF ok step a (c + 1) := by
  have := zF_skip (ok := ok) (step := step) (a := a) (k := c + 1) (1024 - (c + 1)) (fun i q1 q2 => zNext_none h i (by omega) (by omega))
  rwa [show c + 1 + (1024 - (c + 1)) = 1024 from by omega] at this
theorem zAll_of {w : Nat → Nat} {c : Nat} : ∀ p, (zAll w c p = true ↔ ∀ i, i < p → c.testBit i = true → 0 < w i)
  | 0 => ⟨fun _ i hi => absurd hi (by omega), fun _ => rfl⟩
  | p + 1 => by
    rw [zAll, Bool.and_eq_true, zAll_of p]
    constructor
    · rintro ⟨h1, h2⟩ i hi hb
      rcases Nat.lt_or_ge i p with q | q
      · exact h1 i q hb
      · rw [show i = p from by omega] at hb ⊢
        rw [hb] at h2
        simpa using h2
    · intro h
      refine ⟨fun i hi hb => h i (by omega) hb, ?_⟩
      cases hb : c.testBit p with
      | false => rfl
      | true => simpa using h p (by omega) hb
theorem zSumW_0 {w : Nat → Nat} : ∀ p, zSumW w 0 p = 0
  | 0 => rfl
  | p + 1 => by rw [zSumW, zSumW_0 p, if_neg (by simp)]
theorem zCrew_0 {w : Nat → Nat} {need : Nat} (hn : 0 < need) : zCrew w need 0 = false := by
  unfold zCrew
  rw [zSumW_0, decide_eq_false (by omega), Bool.and_false]
/-- nights: what is known when they are laid -/
def nOk (K : KR) (n away hushed : Nat) (M : MM) : Prop := (∀ p, p < n → M.2.2.1 29 p = kComes K p) ∧ (∀ p q, p < n → q < n → M.2.2.1 30 (10 * p + q) = nI (kSp K p q)) ∧ M.1 34 = nI away ∧ M.1 35 = nI hushed ∧ ∀ p k h, p < n → k < 11 → h < 2 → M.2.2.1 31 ((p * 11 + k) * 3 + h) = nI 0 ∨ M.2.2.1 31 ((p * 11 + k) * 3 + h) = nI (if kBarred K p (nI h) (nI (kDay K + k)) (fogOf K (kDay K + k)) then 2 else 1)
def bOr (w : Nat → Nat) : Nat → Nat
  | 0 => 0
  | p + 1 => bOr w p ||| if 0 < w p then 1 <<< p else 0
theorem bOr_bit {w : Nat → Nat} : ∀ p i, (bOr w p).testBit i = (decide (i < p) && decide (0 < w i))
  | 0, i => by rw [bOr, Nat.zero_testBit, decide_eq_false (by omega), Bool.false_and]
  | p + 1, i => by
    rw [bOr, Nat.testBit_or, bOr_bit p i]
    by_cases e : i = p
    · subst e
      rw [decide_eq_false (show ¬ i < i from by omega), Bool.false_and, Bool.false_or, decide_eq_true (show i < i + 1 from by omega), Bool.true_and]
      split
      · rename_i h; rw [decide_eq_true h, Nat.testBit_shiftLeft]; simp
      · rename_i h; rw [decide_eq_false h, Nat.zero_testBit]
    · have h1 : (if 0 < w p then 1 <<< p else 0).testBit i = false := by
        split
        · rw [Nat.one_shiftLeft, Nat.testBit_two_pow]
          exact decide_eq_false (fun z => e z.symm)
        · exact Nat.zero_testBit i
      rw [h1, Bool.or_false]
      by_cases q : i < p
      · rw [decide_eq_true q, decide_eq_true (show i < p + 1 from by omega)]
      · rw [decide_eq_false q, decide_eq_false (show ¬ i < p + 1 from by omega)]
theorem bOr_lt {w : Nat → Nat} {p : Nat} : bOr w p < 2 ^ p := by
  refine Nat.lt_pow_two_of_testBit _ (fun i hi => ?_)
  rw [bOr_bit, decide_eq_false (by omega), Bool.false_and]
theorem sub_le {a b : Nat} (h : ∀ i, a.testBit i = true → b.testBit i = true) : a ≤ b := by
  have : a &&& b = a := by
    refine Nat.eq_of_testBit_eq (fun i => ?_)
    rw [Nat.testBit_and]
    cases e : a.testBit i with
    | false => rfl
    | true => rw [h i e]; rfl
  rw [← this]
  exact Nat.and_le_right
