/-! THE MODEL: how many nights at most; late -/
def zFree (ok : Nat → Nat → Nat → Bool) : Prop := ∀ k u c, c < 1024 → ok k u c = true → (∀ i, c.testBit i = true → u.testBit i = false) ∧ ∃ i, i < 10 ∧ c.testBit i = true
theorem zOk_free {K : KR} {n away hushed : Nat} : zFree (zOk K n away hushed) := by
  intro k u c hc h
  unfold zOk zCrew at h
  rw [Bool.and_eq_true, decide_eq_true_eq, zAll_of] at h
  obtain ⟨h1, h2, -⟩ := h
  have hi : ∀ i, c.testBit i = true → i < 10 := by
    intro i hb
    rcases Nat.lt_or_ge i 10 with y | y
    · exact y
    · rw [Nat.testBit_lt_two_pow (Nat.lt_of_lt_of_le hc (Nat.pow_le_pow_right (show 0 < 2 by omega) y))] at hb
      cases hb
  refine ⟨fun i hb => ?_, ?_⟩
  · have h3 := h1 i (hi i hb) hb
    unfold zWorth at h3
    split at h3
    · rename_i q
      have h4 := q.1.2.1
      rw [Nat.testBit_or, Bool.or_eq_false_iff] at h4
      exact h4.1
    · omega
  · cases e : c with
    | zero =>
      rw [e, zSumW_0] at h2
      unfold zNeed at h2
      split at h2 <;> omega
    | succ m =>
      obtain ⟨i, hb⟩ := Nat.exists_testBit_of_ne_zero (show m + 1 ≠ 0 by omega)
      exact ⟨i, hi i (by rw [e]; exact hb), hb⟩
theorem zOnes_or {u c : Nat} (hd : ∀ i, c.testBit i = true → u.testBit i = false) : ∀ p, zOnes (u ||| c) p = zOnes u p + zOnes c p
  | 0 => rfl
  | p + 1 => by
    rw [zOnes, zOnes, zOnes, zOnes_or hd p, Nat.testBit_or]
    cases e : c.testBit p with
    | false =>
      rw [Bool.or_false, if_neg Bool.false_ne_true]
      omega
    | true =>
      rw [hd p e, Bool.false_or, if_pos rfl, if_neg Bool.false_ne_true]
      omega
theorem zOnes_pos {c i : Nat} (hb : c.testBit i = true) : ∀ p, i < p → 0 < zOnes c p
  | 0, h => absurd h (by omega)
  | p + 1, h => by
    rw [zOnes]
    by_cases e : i = p
    · rw [← e, hb, if_pos rfl]
      omega
    · have := zOnes_pos hb p (by omega)
      omega
theorem zF_congr {α : Type} {ok : Nat → Bool} {s1 s2 : α → Nat → α} {a : α} : ∀ k, (∀ x c, c < k → ok c = true → s1 x c = s2 x c) → zF ok s1 a k = zF ok s2 a k
  | 0, _ => rfl
  | k + 1, h => by
    rw [zF, zF, zF_congr k (fun x c h1 h2 => h x c (by omega) h2)]
    split
    · rename_i q; exact h _ _ (by omega) q
    · rfl
theorem zF_none {α : Type} {ok : Nat → Bool} {s : α → Nat → α} {a : α} : ∀ k, (∀ c, c < k → ok c = false) → zF ok s a k = a
  | 0, _ => rfl
  | k + 1, h => by
    rw [zF, if_neg (by rw [h k (by omega)]; exact Bool.false_ne_true)]
    exact zF_none k (fun c hc => h c (by omega))
/-- nights that are left over don't count: nobody is left -/
theorem lgN_fuel {ok : Nat → Nat → Nat → Bool} (hz : zFree ok) : ∀ f g k u, 10 ≤ f + zOnes u 10 → 10 ≤ g + zOnes u 10 → lgN ok f k u = lgN ok g k u := by
  have full : ∀ f k u, 10 ≤ zOnes u 10 → lgN ok f k u = 0 := by
    intro f k u hu
    cases f with
    | zero => rfl
    | succ f =>
      rw [lgN]
      refine zF_none 1024 (fun c hc => ?_)
      cases e : ok k u c with
      | false => rfl
      | true =>
        obtain ⟨h1, i, h2, h3⟩ := hz k u c hc e
        have h4 := zOnes_or h1 10
        have h5 := zOnes_pos h3 10 h2
        have h6 := zOnes_le (c := u ||| c) 10
        omega
  intro f
  induction f with
  | zero =>
    intro g k u h1 h2
    rw [full g k u (by omega)]
    rfl
  | succ f ih =>
    intro g k u h1 h2
    cases g with
    | zero =>
      rw [full (f + 1) k u (by omega)]
      rfl
    | succ g =>
      rw [lgN, lgN]
      refine zF_congr 1024 (fun x c hc ho => ?_)
      obtain ⟨p1, i, p2, p3⟩ := hz k u c hc ho
      have p4 := zOnes_or p1 10
      have p5 := zOnes_pos p3 10 p2
      rw [ih g (k + 1) (u ||| c) (by omega) (by omega)]
theorem lgN_ten {ok : Nat → Nat → Nat → Bool} (hz : zFree ok) (k : Nat) : lgN ok 11 k 0 ≤ 10 := by
  rw [lgN_fuel hz 11 10 k 0 (by omega) (by omega)]
  exact lgN_le 10 k 0
/-- sets that are come to by rows that last -/
def cmP (ok : Nat → Nat → Nat → Bool) (N : Nat) : Nat → Nat → Prop
  | 0, u => u = 0
  | k + 1, v => ∃ u c, u < 1024 ∧ c < 1024 ∧ cmP ok N k u ∧ ok k u c = true ∧ goodL ok N k u c = true ∧ u ||| c = v
def cmH (ok : Nat → Nat → Nat → Bool) (N k u c : Nat) : Prop := u < 1024 ∧ c < 1024 ∧ cmP ok N k u ∧ ok k u c = true ∧ goodL ok N k u c = true
/-- the table, the latest night found: of the crews in B -/
def cmS (ok : Nat → Nat → Nat → Bool) (N p : Nat) (B : Nat → Nat → Nat → Prop) (T : Nat → Int32) (r : Int32) : Prop :=
  (∀ k v, k < 11 → v < 1024 → (T (1024 * k + v) = nI 1 ∧ ((k = 0 ∧ v = 0) ∨ ∃ j u c, k = j + 1 ∧ B j u c ∧ cmH ok N j u c ∧ u ||| c = v)) ∨ (T (1024 * k + v) = nI 0 ∧ ¬ ((k = 0 ∧ v = 0) ∨ ∃ j u c, k = j + 1 ∧ B j u c ∧ cmH ok N j u c ∧ u ||| c = v))) ∧
  ((r = -1 ∧ ∀ k u c, B k u c → cmH ok N k u c → c.testBit p = false) ∨ ∃ k, r = nI k ∧ (∃ u c, B k u c ∧ cmH ok N k u c ∧ c.testBit p = true) ∧ ∀ j u c, B j u c → cmH ok N j u c → c.testBit p = true → j ≤ k)
theorem cmS.same {ok : Nat → Nat → Nat → Bool} {N p : Nat} {B B' : Nat → Nat → Nat → Prop} {T : Nat → Int32} {r : Int32} (h : cmS ok N p B T r) (hb : ∀ k u c, cmH ok N k u c → (B k u c ↔ B' k u c)) : cmS ok N p B' T r := by
  obtain ⟨h1, h2⟩ := h
  have hE : ∀ k v, (∃ j u c, k = j + 1 ∧ B j u c ∧ cmH ok N j u c ∧ u ||| c = v) ↔ ∃ j u c, k = j + 1 ∧ B' j u c ∧ cmH ok N j u c ∧ u ||| c = v := by
    intro k v
    constructor
    · rintro ⟨j, u, c, q1, q2, q3, q4⟩
      exact ⟨j, u, c, q1, (hb j u c q3).mp q2, q3, q4⟩
    · rintro ⟨j, u, c, q1, q2, q3, q4⟩
      exact ⟨j, u, c, q1, (hb j u c q3).mpr q2, q3, q4⟩
  refine ⟨fun k v a b => ?_, ?_⟩
  · rw [← hE]
    exact h1 k v a b
  · rcases h2 with ⟨q, g⟩ | ⟨k, q, ⟨u, c, g1, g2, g3⟩, g4⟩
    · exact Or.inl ⟨q, fun k u c z1 z2 => g k u c ((hb k u c z2).mpr z1) z2⟩
    · exact Or.inr ⟨k, q, ⟨u, c, (hb k u c g2).mp g1, g2, g3⟩, fun j u c z1 z2 => g4 j u c ((hb j u c z2).mpr z1) z2⟩
theorem cmS.add {ok : Nat → Nat → Nat → Bool} {N p : Nat} {B : Nat → Nat → Nat → Prop} {T : Nat → Int32} {r : Int32} (h : cmS ok N p B T r) {k u c : Nat} (hk : k < 10) (hu : u < 1024) (hc : c < 1024) (hH : cmH ok N k u c) (hle : ∀ j u' c', B j u' c' → j ≤ k) : cmS ok N p (fun j u' c' => B j u' c' ∨ (j = k ∧ u' = u ∧ c' = c)) (fun i => if i = 1024 * (k + 1) + (u ||| c) then nI 1 else T i) (if c.testBit p then nI k else r) := by
  obtain ⟨h1, h2⟩ := h
  refine ⟨fun k' v' a b => ?_, ?_⟩
  · have hlt := or_lt hu hc
    show ((if 1024 * k' + v' = 1024 * (k + 1) + (u ||| c) then nI 1 else T (1024 * k' + v')) = nI 1 ∧ _) ∨ ((if 1024 * k' + v' = 1024 * (k + 1) + (u ||| c) then nI 1 else T (1024 * k' + v')) = nI 0 ∧ _)
    by_cases e : 1024 * k' + v' = 1024 * (k + 1) + (u ||| c)
    · obtain ⟨rfl, rfl⟩ : k' = k + 1 ∧ v' = u ||| c := by omega
      exact Or.inl ⟨if_pos rfl, Or.inr ⟨k, u, c, rfl, Or.inr ⟨rfl, rfl, rfl⟩, hH, rfl⟩⟩
    · rw [if_neg e]
      rcases h1 k' v' a b with ⟨g1, g2⟩ | ⟨g1, g2⟩
      · refine Or.inl ⟨g1, ?_⟩
        rcases g2 with g | ⟨j, u', c', q1, q2, q3, q4⟩
        · exact Or.inl g
        · exact Or.inr ⟨j, u', c', q1, Or.inl q2, q3, q4⟩
      · refine Or.inr ⟨g1, fun z => g2 ?_⟩
        rcases z with g | ⟨j, u', c', q1, q2 | ⟨r1, r2, r3⟩, q3, q4⟩
        · exact Or.inl g
        · exact Or.inr ⟨j, u', c', q1, q2, q3, q4⟩
        · refine absurd ?_ e
          rw [q1, ← q4, r1, r2, r3]
  · cases e : c.testBit p with
    | true =>
      rw [if_pos rfl]
      refine Or.inr ⟨k, rfl, ⟨u, c, Or.inr ⟨rfl, rfl, rfl⟩, hH, e⟩, fun j u' c' z _ _ => ?_⟩
      rcases z with z | z
      · exact hle j u' c' z
      · omega
    | false =>
      rw [if_neg Bool.false_ne_true]
      rcases h2 with ⟨q, g⟩ | ⟨k', q, ⟨u', c', g1, g2, g3⟩, g4⟩
      · refine Or.inl ⟨q, fun j u' c' z1 z2 => ?_⟩
        rcases z1 with z | ⟨-, -, z⟩
        · exact g j u' c' z z2
        · rw [z, e]
      · refine Or.inr ⟨k', q, ⟨u', c', Or.inl g1, g2, g3⟩, fun j u2 c2 z1 z2 z3 => ?_⟩
        rcases z1 with z | ⟨-, -, z⟩
        · exact g4 j u2 c2 z z2 z3
        · rw [z, e] at z3; cases z3
def cmB (K0 U0 C0 k u c : Nat) : Prop := k < K0 ∨ (k = K0 ∧ (u < U0 ∨ (u = U0 ∧ c < C0)))
/-- what late tells: the last night of a row of most nights that has the one in its crew -/
def oLate (ok : Nat → Nat → Nat → Bool) (N p : Nat) (r : Int32) : Prop := (r = -1 ∧ ∀ k u c, k < N → cmH ok N k u c → c.testBit p = false) ∨ ∃ k, r = nI k ∧ k < N ∧ (∃ u c, cmH ok N k u c ∧ c.testBit p = true) ∧ ∀ j u c, j < N → cmH ok N j u c → c.testBit p = true → j ≤ k
theorem oLate_one {ok : Nat → Nat → Nat → Bool} {N p : Nat} {r s : Int32} (h1 : oLate ok N p r) (h2 : oLate ok N p s) : r = s := by
  rcases h1 with ⟨a1, a2⟩ | ⟨k, a1, a2, ⟨u, c, a3, a4⟩, a5⟩
  · rcases h2 with ⟨b1, b2⟩ | ⟨j, b1, b2, ⟨u', c', b3, b4⟩, b5⟩
    · rw [a1, b1]
    · rw [a2 j u' c' b2 b3] at b4; cases b4
  · rcases h2 with ⟨b1, b2⟩ | ⟨j, b1, b2, ⟨u', c', b3, b4⟩, b5⟩
    · rw [b2 k u c a2 a3] at a4; cases a4
    · have q1 := a5 j u' c' b2 b3 b4
      have q2 := b5 k u c a2 a3 a4
      rw [a1, b1, show k = j from by omega]
abbrev mLt (M M' : MM) : Prop := mX [8, 22, 23, 24, 34, 35] [25, 29, 30, 31, 32, 33, 39] M M'
theorem nOk_ma {K : KR} {n a h : Nat} {M : MM} {i : Nat} {v : Int32} (hn : nOk K n a h M) : nOk K n a h (ma M 39 i v) := hn.mv (mX.rf.ma (by decide))
theorem cmB_none {ok : Nat → Nat → Nat → Bool} {N k u c : Nat} (h : zNext (ok k u) c = none) : ∀ k' u' c', cmH ok N k' u' c' → (cmB k u (c + 1) k' u' c' ↔ cmB k (u + 1) 0 k' u' c') := by
  intro k' u' c' hH
  have key : k' = k → u' = u → c < c' → False := by
    rintro rfl rfl hc
    have := zNext_none h c' hc hH.2.1
    rw [hH.2.2.2.1] at this
    cases this
  unfold cmB
  constructor
  · intro z; omega
  · intro z
    rcases Classical.em (k' = k ∧ u' = u ∧ c < c') with y | y
    · exact (key y.1 y.2.1 y.2.2).elim
    · omega
theorem cmB_bad {ok : Nat → Nat → Nat → Bool} {N k u c j : Nat} (h : zNext (ok k u) c = some j) (hg : goodL ok N k u j = false) : ∀ k' u' c', cmH ok N k' u' c' → (cmB k u (c + 1) k' u' c' ↔ cmB k u (j + 1) k' u' c') := by
  intro k' u' c' hH
  obtain ⟨h1, h2, h3, h4⟩ := zNext_some h
  have key : k' = k → u' = u → c < c' → c' ≤ j → False := by
    rintro rfl rfl hc hj
    rcases Nat.lt_or_ge c' j with y | y
    · have := h4 c' hc y
      rw [hH.2.2.2.1] at this
      cases this
    · have := hH.2.2.2.2
      rw [show c' = j from by omega, hg] at this
      cases this
  unfold cmB
  constructor
  · intro z; omega
  · intro z
    rcases Classical.em (k' = k ∧ u' = u ∧ c < c' ∧ c' ≤ j) with y | y
    · exact (key y.1 y.2.1 y.2.2.1 y.2.2.2).elim
    · omega
theorem cmB_good {ok : Nat → Nat → Nat → Bool} {N k u c j : Nat} (h : zNext (ok k u) c = some j) : ∀ k' u' c', cmH ok N k' u' c' → ((cmB k u (c + 1) k' u' c' ∨ (k' = k ∧ u' = u ∧ c' = j)) ↔ cmB k u (j + 1) k' u' c') := by
  intro k' u' c' hH
  obtain ⟨h1, h2, h3, h4⟩ := zNext_some h
  have key : k' = k → u' = u → c < c' → c' < j → False := by
    rintro rfl rfl hc hj
    have := h4 c' hc hj
    rw [hH.2.2.2.1] at this
    cases this
  unfold cmB
  constructor
  · intro z; omega
  · intro z
    rcases Classical.em (k' = k ∧ u' = u ∧ c < c' ∧ c' < j) with y | y
    · exact (key y.1 y.2.1 y.2.2.1 y.2.2.2).elim
    · omega
theorem cmB_skip {ok : Nat → Nat → Nat → Bool} {N k u : Nat} (h : ¬ cmP ok N k u) : ∀ k' u' c', cmH ok N k' u' c' → (cmB k u 0 k' u' c' ↔ cmB k (u + 1) 0 k' u' c') := by
  intro k' u' c' hH
  have key : k' = k → u' = u → False := by
    rintro rfl rfl
    exact h hH.2.2.1
  unfold cmB
  constructor
  · intro z; omega
  · intro z
    rcases Classical.em (k' = k ∧ u' = u) with y | y
    · exact (key y.1 y.2).elim
    · omega
theorem cmB_row {ok : Nat → Nat → Nat → Bool} {N k U C v : Nat} : ((k = 0 ∧ v = 0) ∨ ∃ j u c, k = j + 1 ∧ cmB k U C j u c ∧ cmH ok N j u c ∧ u ||| c = v) ↔ cmP ok N k v := by
  cases k with
  | zero =>
    rw [cmP]
    constructor
    · rintro (z | ⟨j, u, c, z, -⟩)
      · exact z.2
      · omega
    · intro z; exact Or.inl ⟨rfl, z⟩
  | succ k =>
    rw [cmP]
    constructor
    · rintro (z | ⟨j, u, c, z, -, ⟨q1, q2, q3, q4, q5⟩, q6⟩)
      · omega
      · obtain rfl : k = j := by omega
        exact ⟨u, c, q1, q2, q3, q4, q5, q6⟩
    · rintro ⟨u, c, q1, q2, q3, q4, q5, q6⟩
      exact Or.inr ⟨k, u, c, rfl, Or.inl (by omega), ⟨q1, q2, q3, q4, q5⟩, q6⟩
theorem cmS.end_ {ok : Nat → Nat → Nat → Bool} {N p : Nat} {T : Nat → Int32} {r : Int32} (h : cmS ok N p (cmB N 0 0) T r) : oLate ok N p r := by
  rcases h.2 with ⟨q, g⟩ | ⟨k, q, ⟨u, c, g1, g2, g3⟩, g4⟩
  · exact Or.inl ⟨q, fun k u c z1 z2 => g k u c (Or.inl z1) z2⟩
  · refine Or.inr ⟨k, q, ?_, ⟨u, c, g2, g3⟩, fun j u c z1 z2 z3 => g4 j u c (Or.inl z1) z2 z3⟩
    unfold cmB at g1
    omega
theorem cmS.start {ok : Nat → Nat → Nat → Bool} {N p : Nat} {T : Nat → Int32} (h : ∀ i, i < 11264 → T i = nI (if i = 0 then 1 else 0)) : cmS ok N p (cmB 0 0 0) T (-1) := by
  have hno : ∀ k u c, ¬ cmB 0 0 0 k u c := by
    intro k u c z
    unfold cmB at z
    omega
  refine ⟨fun k v a b => ?_, Or.inl ⟨rfl, fun k u c z => absurd z (hno k u c)⟩⟩
  rw [h _ (by omega)]
  by_cases q : 1024 * k + v = 0
  · exact Or.inl ⟨by rw [if_pos q], Or.inl (by omega)⟩
  · refine Or.inr ⟨by rw [if_neg q], ?_⟩
    rintro (z | ⟨j, u, c, -, z, -⟩)
    · omega
    · exact hno _ _ _ z
section Late
variable {E : JE} {L : ML} {ph : HP}
theorem late_3 {M : MM} {K : KR} {b n p N k u : Nat} {F : JFin} (hK : KOk K b n) (h10 : n ≤ 10) (hp : p < n) (hN : N ≤ 10) (hk : k < N) (hu : u < 1024) (hcm : cmP (zOk K n 0 0) N k u)
    (go : ∀ M3 r3 a6, M3.2.2.1 2 = K → nOk K n 0 0 M3 → lOk (zOk K n 0 0) (M3.2.2.1 33) → cmS (zOk K n 0 0) N p (cmB k (u + 1) 0) (M3.2.2.1 39) r3 → mLt M M3 → G E fX6_late F 185 [some (.ref (L.1 52)), some (.int (nI p)), some (.int (nI N)), some (.int r3), some (.int (nI k)), some (.int (nI u)), a6] [] (movl L M3 ph) 0 0) :
    ∀ d c M2 r, c + d = 1023 → M2.2.2.1 2 = K → nOk K n 0 0 M2 → lOk (zOk K n 0 0) (M2.2.2.1 33) → cmS (zOk K n 0 0) N p (cmB k u (c + 1)) (M2.2.2.1 39) r → mLt M M2 → G E fX6_late F 103 [some (.ref (L.1 52)), some (.int (nI p)), some (.int (nI N)), some (.int r), some (.int (nI k)), some (.int (nI u)), some (.int (oI (zNext (zOk K n 0 0 k u) c)))] [] (movl L M2 ph) 0 0 := by
  intro d
  induction d using Nat.strongRecOn with
  | ind d ihd =>
    intro c M2 r hcd e2 hn2 hl2 hs2 hx2
    have hsm : ∀ j, zNext (zOk K n 0 0 k u) c = some j → j < 1024 := fun j z => (zNext_some z).2.1
    refine G.iload6 dX6_late_103 ?_
    refine G.iconst (v := -1) dX6_late_105 (by decide) ?_
    refine G.icmp_eq (tgt := 185) dX6_late_106 (by decide) (fun c_106 => ?_) (fun c_106 => ?_)
    · have hz := (oI_m1 hsm).mp c_106
      exact go _ _ _ e2 hn2 hl2 (hs2.same (cmB_none hz)) hx2
    · obtain ⟨j, hz⟩ : ∃ j, zNext (zOk K n 0 0 k u) c = some j := by
        cases h9 : zNext (zOk K n 0 0 k u) c with
        | none => rw [h9] at c_106; exact absurd rfl c_106
        | some j => exact ⟨j, rfl⟩
      obtain ⟨hj1, hj2, hj3, hj4⟩ := zNext_some hz
      rw [hz, show oI (some j) = nI j from rfl]
      have huj := or_lt hu hj2
      have hlg2 := lgN_le (ok := zOk K n 0 0) (10 - k) (k + 1) (u ||| j)
      have k170 : ∀ M4 r4, M4.2.2.1 2 = K → nOk K n 0 0 M4 → lOk (zOk K n 0 0) (M4.2.2.1 33) → cmS (zOk K n 0 0) N p (cmB k u (j + 1)) (M4.2.2.1 39) r4 → mLt M M4 → G E fX6_late F 170 [some (.ref (L.1 52)), some (.int (nI p)), some (.int (nI N)), some (.int r4), some (.int (nI k)), some (.int (nI u)), some (.int (nI j))] [] (movl L M4 ph) 0 0 := by
        intro M4 r4 e4 hn4 hl4 hs4 hx4
        refine G.aload_n0 dX6_late_170 ?_
        refine G.iload4 dX6_late_171 ?_
        refine G.iload5 dX6_late_173 ?_
        refine G.iload6 dX6_late_175 ?_
        refine G.mcall (f' := fX6_crewIn) q2256 ck_X6_crewIn (c_crewInK e4 hK hn4 (by decide) (by decide) (night := k) (c := j) (by omega) hu hj2) dX6_late_177 (rI.k fun r_177 M_177 h_177 => ?_)
        have er2 := h_177.1
        have s1 := h_177.2.1
        have s2 := h_177.2.2
        clear h_177
        rw [er2]
        refine G.istore6 dX6_late_180 ?_
        refine G.goto (tgt := 103) dX6_late_182 (by decide) ?_
        exact ihd (1023 - j) (by omega) j M_177 r4 (by omega) ((s2.2.2.1 2 (by decide)).trans e4) s1 (by rw [s2.2.2.1 33 (by decide)]; exact hl4) (by rw [s2.2.2.1 39 (by decide)]; exact hs4) (hx4.tr s2 (by simp) (by simp))
      refine G.aload_n0 dX6_late_109 ?_
      refine G.iload4 dX6_late_110 ?_
      refine G.iconst (v := nI 1) dX6_late_112 (by decide) ?_
      first | with_reducible refine G.iaddn dX6_late_113 ?_ | refine G.iadd dX6_late_113 ?_
      refine G.iload5 dX6_late_114 ?_
      refine G.iload6 dX6_late_116 ?_
      refine G.ior dX6_late_118 ?_
      rw [b_or (by omega) (by omega)]
      refine G.mcall (f' := fX6_longestFrom (900 + (10 - k))) q2252 (ck_X6_longestFrom _) (c_X6_longestFrom hK (by decide) (by decide) (10 - k) (k + 1) (by omega) M2 (u ||| j) e2 hn2 hl2 huj) dX6_late_119 (rI.k fun r_119 M_119 h_119 => ?_) (hroom := jroom_of rfl rfl (by omega) (Nat.le_of_ble_eq_true rfl))
      have er := h_119.1
      have p1 := h_119.2.1
      have p2 := h_119.2.2.1
      have p3 := h_119.2.2.2
      clear h_119
      rw [er]
      have e5 : M_119.2.2.1 2 = K := (p3.2.2.1 2 (by decide)).trans e2
      have hx5 : mLt M M_119 := hx2.tr p3 (by simp) (by simp)
      have hs5 : cmS (zOk K n 0 0) N p (cmB k u (c + 1)) (M_119.2.2.1 39) r := by rw [p3.2.2.1 39 (by decide)]; exact hs2
      refine G.iload_n2 dX6_late_122 ?_
      refine G.iload4 dX6_late_123 ?_
      refine G.isub dX6_late_125 ?_
      rw [pk_sub (show k ≤ N from by omega)]
      refine G.iconst (v := nI 1) dX6_late_126 (by decide) ?_
      refine G.isub dX6_late_127 ?_
      rw [pk_sub (show 1 ≤ N - k from by omega)]
      refine G.icmp_ge (tgt := 134) dX6_late_128 (by decide) (fun c_128 => ?_) (fun c_128 => ?_)
      · have n_128 : N - k - 1 ≤ lgN (zOk K n 0 0) (10 - k) (k + 1) (u ||| j) := (nI_leI (a := N - k - 1) (b := lgN (zOk K n 0 0) (10 - k) (k + 1) (u ||| j)) (by omega) (by omega)).mp c_128
        have hgj : goodL (zOk K n 0 0) N k u j = true := decide_eq_true (by omega)
        have hs6 := (hs5.add (k := k) (u := u) (c := j) (by omega) hu hj2 ⟨hu, hj2, hcm, hj3, hgj⟩ (fun j' u' c' z => by unfold cmB at z; omega)).same (cmB_good hz)
        have k169 : ∀ v, v = (if j.testBit p then nI k else r) → G E fX6_late F 169 [some (.ref (L.1 52)), some (.int (nI p)), some (.int (nI N)), some (.int r), some (.int (nI k)), some (.int (nI u)), some (.int (nI j))] [.int v] (movl L (ma M_119 39 (1024 * (k + 1) + (u ||| j)) (nI 1)) ph) 0 0 := by
          intro v hv
          refine G.istore_n3 dX6_late_169 ?_
          refine k170 _ _ e5 (nOk_ma p1) p2 ?_ (hx5.ma (by decide))
          rw [hv]
          exact hs6
        refine G.aload_n0 dX6_late_134 ?_
        refine G.mgeta 39 fl_X6_93 dX6_late_135 ?_
        refine G.sipush (v := nI 1024) dX6_late_138 (by decide) ?_
        refine G.iload4 dX6_late_141 ?_
        refine G.iconst (v := nI 1) dX6_late_143 (by decide) ?_
        first | with_reducible refine G.iaddn dX6_late_144 ?_ | refine G.iadd dX6_late_144 ?_
        first | with_reducible refine G.imuln dX6_late_145 ?_ | refine G.imul dX6_late_145 ?_
        refine G.iload5 dX6_late_146 ?_
        refine G.iload6 dX6_late_148 ?_
        refine G.ior dX6_late_150 ?_
        rw [b_or (by omega) (by omega)]
        first | with_reducible refine G.iaddn dX6_late_151 ?_ | refine G.iadd dX6_late_151 ?_
        refine G.iconst (v := nI 1) dX6_late_152 (by decide) ?_
        refine G.mzast (n := 11264) 39 (1024 * (k + 1) + (u ||| j)) dX6_late_153 rfl (by omega) rfl ?_
        refine G.iload6 dX6_late_154 ?_
        refine G.iload_n1 dX6_late_156 ?_
        refine G.scall (f' := fX6_isIn) q2211 ck_X6_isIn (c_isIn E j p (by omega) (by omega)) dX6_late_157 (sI.k fun r_157 h_157 => ?_)
        replace h_157 := h_157.symm; subst h_157
        refine G.ifb_eq (tgt := 168) dX6_late_160 (by decide) (fun c_160 => ?_) (fun c_160 => ?_)
        · refine G.iload_n3 dX6_late_168 ?_
          first
          | exact k169 _ (if_pos c_160).symm
          | exact k169 _ (if_neg (by rw [c_160]; exact Bool.false_ne_true)).symm
        · refine G.iload4 dX6_late_163 ?_
          refine G.goto (tgt := 169) dX6_late_165 (by decide) ?_
          first
          | exact k169 _ (if_pos c_160).symm
          | exact k169 _ (if_neg (by rw [c_160]; exact Bool.false_ne_true)).symm
      · have n_128 : lgN (zOk K n 0 0) (10 - k) (k + 1) (u ||| j) < N - k - 1 := Nat.lt_of_not_le (fun z => c_128 ((nI_leI (a := N - k - 1) (b := lgN (zOk K n 0 0) (10 - k) (k + 1) (u ||| j)) (by omega) (by omega)).mpr z))
        refine G.goto (tgt := 170) dX6_late_131 (by decide) ?_
        first
        | exact k170 M_119 r e5 p1 p2 (hs5.same (cmB_bad hz (decide_eq_false (by omega)))) hx5
theorem late_2 {M : MM} {K : KR} {b n p N k : Nat} {F : JFin} (hK : KOk K b n) (h10 : n ≤ 10) (hp : p < n) (hN : N ≤ 10) (hk : k < N)
    (go : ∀ M3 r3 a5 a6, M3.2.2.1 2 = K → nOk K n 0 0 M3 → lOk (zOk K n 0 0) (M3.2.2.1 33) → cmS (zOk K n 0 0) N p (cmB (k + 1) 0 0) (M3.2.2.1 39) r3 → mLt M M3 → G E fX6_late F 191 [some (.ref (L.1 52)), some (.int (nI p)), some (.int (nI N)), some (.int r3), some (.int (nI k)), a5, a6] [] (movl L M3 ph) 0 0) :
    ∀ d u M2 r a6, u + d = 1024 → M2.2.2.1 2 = K → nOk K n 0 0 M2 → lOk (zOk K n 0 0) (M2.2.2.1 33) → cmS (zOk K n 0 0) N p (cmB k u 0) (M2.2.2.1 39) r → mLt M M2 → G E fX6_late F 64 [some (.ref (L.1 52)), some (.int (nI p)), some (.int (nI N)), some (.int r), some (.int (nI k)), some (.int (nI u)), a6] [] (movl L M2 ph) 0 0 := by
  intro d
  induction d with
  | zero =>
    intro u M2 r a6 hud e2 hn2 hl2 hs2 hx2
    refine G.iload5 dX6_late_64 ?_
    refine G.sipush (v := nI 1024) dX6_late_66 (by decide) ?_
    refine G.icmp_ge (tgt := 191) dX6_late_69 (by decide) (fun c_69 => ?_) (fun c_69 => ?_)
    · refine go _ _ _ _ e2 hn2 hl2 (hs2.same (fun k' u' c' hH => ?_)) hx2
      have := hH.1
      unfold cmB
      omega
    · exact absurd (nI_leI (by omega) (by omega) |>.mpr (by omega)) c_69
  | succ d ih =>
    intro u M2 r a6 hud e2 hn2 hl2 hs2 hx2
    have hrow := hs2.1 k u (by omega) (by omega)
    rw [cmB_row] at hrow
    have k185 : ∀ M3 r3 a6, M3.2.2.1 2 = K → nOk K n 0 0 M3 → lOk (zOk K n 0 0) (M3.2.2.1 33) → cmS (zOk K n 0 0) N p (cmB k (u + 1) 0) (M3.2.2.1 39) r3 → mLt M M3 → G E fX6_late F 185 [some (.ref (L.1 52)), some (.int (nI p)), some (.int (nI N)), some (.int r3), some (.int (nI k)), some (.int (nI u)), a6] [] (movl L M3 ph) 0 0 := by
      intro M3 r3 a6 e3 hn3 hl3 hs3 hx3
      refine G.iinc5 dX6_late_185 ?_
      try rw [show ∀ a : Nat, nI a + Int32.ofInt 1 = nI (a + 1) from fun a => nI_add a 1]
      refine G.goto (tgt := 64) dX6_late_188 (by decide) ?_
      exact ih (u + 1) M3 r3 a6 (by omega) e3 hn3 hl3 hs3 hx3
    clear ih
    refine G.iload5 dX6_late_64 ?_
    refine G.sipush (v := nI 1024) dX6_late_66 (by decide) ?_
    refine G.icmp_ge (tgt := 191) dX6_late_69 (by decide) (fun c_69 => ?_) (fun c_69 => ?_)
    · exact absurd ((nI_leI (by omega) (by omega)).mp c_69) (by omega)
    · refine G.aload_n0 dX6_late_72 ?_
      refine G.mgeta 39 fl_X6_93 dX6_late_73 ?_
      refine G.sipush (v := nI 1024) dX6_late_76 (by decide) ?_
      refine G.iload4 dX6_late_79 ?_
      first | with_reducible refine G.imuln dX6_late_81 ?_ | refine G.imul dX6_late_81 ?_
      refine G.iload5 dX6_late_82 ?_
      first | with_reducible refine G.iaddn dX6_late_84 ?_ | refine G.iadd dX6_late_84 ?_
      refine G.mzald (n := 11264) 39 (1024 * k + u) dX6_late_85 rfl (by omega) ?_
      refine G.if_ne (tgt := 92) dX6_late_86 (by decide) (fun c_86 => ?_) (fun c_86 => ?_)
      · have hcm : cmP (zOk K n 0 0) N k u := by
          rcases hrow with z | z
          · exact z.2
          · exact absurd z.1 c_86
        refine G.aload_n0 dX6_late_92 ?_
        refine G.iload4 dX6_late_93 ?_
        refine G.iload5 dX6_late_95 ?_
        refine G.iconst (v := nI 0) dX6_late_97 (by decide) ?_
        refine G.mcall (f' := fX6_crewIn) q2256 ck_X6_crewIn (c_crewInK e2 hK hn2 (by decide) (by decide) (night := k) (c := 0) (by omega) (show u < 1024 from by omega) (by omega)) dX6_late_98 (rI.k fun r_98 M_98 h_98 => ?_)
        have er2 := h_98.1
        have s1 := h_98.2.1
        have s2 := h_98.2.2
        clear h_98
        rw [er2]
        refine G.istore6 dX6_late_101 ?_
        refine late_3 hK h10 hp hN hk (show u < 1024 from by omega) hcm k185 1023 0 M_98 r (by omega) ((s2.2.2.1 2 (by decide)).trans e2) s1 (by rw [s2.2.2.1 33 (by decide)]; exact hl2) ?_ (hx2.tr s2 (by simp) (by simp))
        rw [s2.2.2.1 39 (by decide)]
        refine hs2.same (fun k' u' c' hH => ?_)
        have key : k' = k → u' = u → c' = 0 → False := by
          rintro rfl rfl rfl
          have := hH.2.2.2.1
          rw [zOk_0] at this
          cases this
        unfold cmB
        constructor
        · intro z; omega
        · intro z
          rcases Classical.em (k' = k ∧ u' = u ∧ c' = 0) with y | y
          · exact (key y.1 y.2.1 y.2.2).elim
          · omega
      · refine G.goto (tgt := 185) dX6_late_89 (by decide) ?_
        refine k185 _ _ _ e2 hn2 hl2 (hs2.same (cmB_skip ?_)) hx2
        rcases hrow with z | z
        · refine absurd z.1 (fun z1 => ?_)
          have c9 : M2.2.2.1 39 (1024 * k + u) = 0 := by first | exact c_86 | exact Classical.not_not.mp c_86
          rw [c9] at z1
          exact absurd z1 (by decide)
        · exact z.2
theorem late_1 {M : MM} {K : KR} {b n p N : Nat} (hK : KOk K b n) (h10 : n ≤ 10) (hp : p < n) (hN : N ≤ 10) :
    ∀ d k M2 r a5 a6, k + d = N → M2.2.2.1 2 = K → nOk K n 0 0 M2 → lOk (zOk K n 0 0) (M2.2.2.1 33) → cmS (zOk K n 0 0) N p (cmB k 0 0) (M2.2.2.1 39) r → mLt M M2 → G E fX6_late (mFin E fX6_late L ph (rI fun r M' => oLate (zOk K n 0 0) N p r ∧ mLt M M')) 55 [some (.ref (L.1 52)), some (.int (nI p)), some (.int (nI N)), some (.int r), some (.int (nI k)), a5, a6] [] (movl L M2 ph) 0 0 := by
  intro d
  induction d with
  | zero =>
    intro k M2 r a5 a6 hkd e2 hn2 hl2 hs2 hx2
    refine G.iload4 dX6_late_55 ?_
    refine G.iload_n2 dX6_late_57 ?_
    refine G.icmp_ge (tgt := 197) dX6_late_58 (by decide) (fun c_58 => ?_) (fun c_58 => ?_)
    · refine G.iload_n3 dX6_late_197 ?_
      refine G.ireturn dX6_late_198 ?_
      rw [show k = N from by omega] at hs2
      exact ⟨_, rfl, _, rfl, hs2.end_, hx2⟩
    · exact absurd (nI_leI (by omega) (by omega) |>.mpr (by omega)) c_58
  | succ d ih =>
    intro k M2 r a5 a6 hkd e2 hn2 hl2 hs2 hx2
    have k191 : ∀ M3 r3 a5 a6, M3.2.2.1 2 = K → nOk K n 0 0 M3 → lOk (zOk K n 0 0) (M3.2.2.1 33) → cmS (zOk K n 0 0) N p (cmB (k + 1) 0 0) (M3.2.2.1 39) r3 → mLt M M3 → G E fX6_late (mFin E fX6_late L ph (rI fun r M' => oLate (zOk K n 0 0) N p r ∧ mLt M M')) 191 [some (.ref (L.1 52)), some (.int (nI p)), some (.int (nI N)), some (.int r3), some (.int (nI k)), a5, a6] [] (movl L M3 ph) 0 0 := by
      intro M3 r3 a5 a6 e3 hn3 hl3 hs3 hx3
      refine G.iinc4 dX6_late_191 ?_
      try rw [show ∀ a : Nat, nI a + Int32.ofInt 1 = nI (a + 1) from fun a => nI_add a 1]
      refine G.goto (tgt := 55) dX6_late_194 (by decide) ?_
      exact ih (k + 1) M3 r3 a5 a6 (by omega) e3 hn3 hl3 hs3 hx3
    clear ih
    refine G.iload4 dX6_late_55 ?_
    refine G.iload_n2 dX6_late_57 ?_
    refine G.icmp_ge (tgt := 197) dX6_late_58 (by decide) (fun c_58 => ?_) (fun c_58 => ?_)
    · exact absurd ((nI_leI (by omega) (by omega)).mp c_58) (by omega)
    · refine G.iconst (v := nI 0) dX6_late_61 (by decide) ?_
      refine G.istore5 dX6_late_62 ?_
      exact late_2 hK h10 hp hN (show k < N from by omega) k191 1024 0 M2 r a6 (by omega) e2 hn2 hl2 hs2 hx2
theorem late_0 {M : MM} {K : KR} {b n p N : Nat} (hK : KOk K b n) (h10 : n ≤ 10) (hp : p < n) (hN : N ≤ 10) :
    ∀ d i M2, i + d = 11264 → M2.2.2.1 2 = K → nOk K n 0 0 M2 → lOk (zOk K n 0 0) (M2.2.2.1 33) → (∀ j, j < i → M2.2.2.1 39 j = nI 0) → mLt M M2 → G E fX6_late (mFin E fX6_late L ph (rI fun r M' => oLate (zOk K n 0 0) N p r ∧ mLt M M')) 23 [some (.ref (L.1 52)), some (.int (nI p)), some (.int (nI N)), some (.int (nI i)), none, none, none] [] (movl L M2 ph) 0 0 := by
  intro d
  induction d with
  | zero =>
    intro i M2 hi e2 hn2 hl2 hf hx2
    refine G.iload_n3 dX6_late_23 ?_
    refine G.sipush (v := nI 11264) dX6_late_24 (by decide) ?_
    refine G.icmp_ge (tgt := 43) dX6_late_27 (by decide) (fun c_27 => ?_) (fun c_27 => ?_)
    · refine G.aload_n0 dX6_late_43 ?_
      refine G.mgeta 39 fl_X6_93 dX6_late_44 ?_
      refine G.iconst (v := nI 0) dX6_late_47 (by decide) ?_
      refine G.iconst (v := nI 1) dX6_late_48 (by decide) ?_
      refine G.mzast (n := 11264) 39 0 dX6_late_49 rfl (by omega) rfl ?_
      refine G.iconst (v := -1) dX6_late_50 (by decide) ?_
      refine G.istore_n3 dX6_late_51 ?_
      refine G.iconst (v := nI 0) dX6_late_52 (by decide) ?_
      refine G.istore4 dX6_late_53 ?_
      refine late_1 hK h10 hp hN N 0 _ (-1) none none (by omega) e2 (nOk_ma hn2) hl2 (cmS.start (fun i hi => ?_)) (hx2.ma (by decide))
      rw [ma_at, if_pos rfl]
      split
      · rfl
      · rename_i q; exact hf i (by omega)
    · exact absurd (nI_leI (by omega) (by omega) |>.mpr (by omega)) c_27
  | succ d ih =>
    intro i M2 hi e2 hn2 hl2 hf hx2
    refine G.iload_n3 dX6_late_23 ?_
    refine G.sipush (v := nI 11264) dX6_late_24 (by decide) ?_
    refine G.icmp_ge (tgt := 43) dX6_late_27 (by decide) (fun c_27 => ?_) (fun c_27 => ?_)
    · exact absurd ((nI_leI (by omega) (by omega)).mp c_27) (by omega)
    · refine G.aload_n0 dX6_late_30 ?_
      refine G.mgeta 39 fl_X6_93 dX6_late_31 ?_
      refine G.iload_n3 dX6_late_34 ?_
      refine G.iconst (v := nI 0) dX6_late_35 (by decide) ?_
      refine G.mzast (n := 11264) 39 i dX6_late_36 rfl (by omega) rfl ?_
      refine G.iinc3 dX6_late_37 ?_
      try rw [show ∀ a : Nat, nI a + Int32.ofInt 1 = nI (a + 1) from fun a => nI_add a 1]
      refine G.goto (tgt := 23) dX6_late_40 (by decide) ?_
      refine ih (i + 1) _ (by omega) e2 (nOk_ma hn2) hl2 (fun j hj => ?_) (hx2.ma (by decide))
      rw [ma_at, if_pos rfl]
      split
      · rfl
      · exact hf j (by omega)
def lateP (K : KR) (n : Nat) (x r : Int32) : Prop := if 0 ≤ x.toInt ∧ x.toInt < n then oLate (zOk K n 0 0) (lgN (zOk K n 0 0) 11 0 0) (tNat x) r else r = -1
theorem c_X6_late {M : MM} {K : KR} (e : M.2.2.1 2 = K) {b n : Nat} (hK : KOk K b n) (x : Int32) : MC E fX6_late L M ph [.int x] (rI fun r M' => lateP K n x r ∧ mLt M M') := by
  have h10 := hK.1.1
  refine Ct.of [some (.ref (L.1 52)), some (.int x), none, none, none, none, none] rfl (Nat.le_of_ble_eq_true rfl) (show plainName RX6 = true by decide +kernel) rfl ?_
  refine G.aload_n0 dX6_late_0 ?_
  refine G.iload_n1 dX6_late_1 ?_
  refine G.mcall (f' := fX6_isPerson) q1950 ck_X6_isPerson (c_X6_isPerson E L M ph x h10 (by rw [e]; exact hK.1.2)) dX6_late_2 (rI.k fun r_2 M_2 h_2 => ?_)
  obtain ⟨e_2, h_2⟩ := h_2; replace e_2 := e_2.symm; replace h_2 := h_2.symm; subst e_2; subst h_2
  refine G.ifb_ne (tgt := 10) dX6_late_5 (by decide) (fun c_5 => ?_) (fun c_5 => ?_)
  · have q := of_decide_eq_true c_5
    obtain ⟨p, hp, rfl⟩ := oP q h10
    rw [show lateP K n (nI p) = oLate (zOk K n 0 0) (lgN (zOk K n 0 0) 11 0 0) p from by funext r; unfold lateP; rw [if_pos q, tNat_nI (by omega)]]
    refine G.aload_n0 dX6_late_10 ?_
    refine G.mcall (f' := fX6_looks) q2244 ck_X6_looks (c_looksK e hK) dX6_late_11 (rV.k fun M_11 h_11 => ?_)
    have g1 := h_11.1
    have g2 := h_11.2.1
    have g3 := h_11.2.2.1
    have g4 := h_11.2.2.2
    clear h_11
    refine G.aload_n0 dX6_late_14 ?_
    refine G.iconst (v := nI 0) dX6_late_15 (by decide) ?_
    refine G.iconst (v := nI 0) dX6_late_16 (by decide) ?_
    refine G.mcall (f' := fX6_longestFrom (900 + 11)) q2252 (ck_X6_longestFrom _) (c_X6_longestFrom hK (by decide) (by decide) 11 0 rfl M_11 0 g3 g1 (fun k u h1 h2 => Or.inl (g2 _ (by omega))) (by decide)) dX6_late_17 (rI.k fun r_17 M_17 h_17 => ?_)
    have er := h_17.1
    have q1 := h_17.2.1
    have q2 := h_17.2.2.1
    have q3 := h_17.2.2.2
    clear h_17
    rw [er]
    refine G.istore_n2 dX6_late_20 ?_
    refine G.iconst (v := nI 0) dX6_late_21 (by decide) ?_
    refine G.istore_n3 dX6_late_22 ?_
    exact late_0 hK h10 hp (lgN_ten zOk_free 0) 11264 0 M_17 rfl ((q3.2.2.1 2 (by decide)).trans g3) q1 q2 (fun j hj => absurd hj (by omega)) ((g4.mono (by simp) (by simp)).tr q3 (by simp) (by simp))
  · refine G.iconst (v := -1) dX6_late_8 (by decide) ?_
    refine G.ireturn dX6_late_9 ?_
    exact ⟨_, rfl, _, rfl, (show lateP K n x (-1) by unfold lateP; rw [if_neg (of_decide_eq_false c_5)]), mX.rf⟩
end Late
