/-! LAW, ORDERS: what holds, holds again -/
theorem bOk_blk {ord : Bool} {K K' : KR} {i : Nat} (h1 : K' (259 + i) = K (259 + i)) (h2 : ∀ j, j < 400 → K' (266 + (400 * i + j)) = K (266 + (400 * i + j)) ∧ K' (3066 + (400 * i + j)) = K (3066 + (400 * i + j))) (h : bOk ord K i) : bOk ord K' i := by
  have eS : kS K' i = kS K i := by unfold kS; rw [h1]
  have h400 := h.1
  have eT : bTk K' (400 * i) (kS K i) = bTk K (400 * i) (kS K i) := by
    unfold bTk
    refine Prod.ext (funext fun j => ?_) (funext fun j => ?_)
    · show (if j < kS K i then _ else _) = (if j < kS K i then _ else _)
      split
      · exact (h2 j (by omega)).1
      · rfl
    · show (if j < kS K i then _ else _) = (if j < kS K i then _ else _)
      split
      · exact (h2 j (by omega)).2
      · rfl
  unfold bOk
  rw [eS, eT, h1]
  exact h
theorem tkOf_far {T : List (Nat × Int32 × Int32)} {i : Nat} (h : T.length ≤ i) : (tkOf T).1 i = nI 0 ∧ (tkOf T).2 i = nI 0 := by
  unfold tkOf
  dsimp only
  rw [getD_no h]
  exact ⟨rfl, rfl⟩
/-- the law that was laid, as it is read again -/
theorem bTk_lay {K : KR} {T : List (Nat × Int32 × Int32)} {t : Nat} (ht : t < 7) (hN : T.length ≤ 400) {x : Int32} : bTk (upd (kLay K (tkOf T) T.length t T.length) 257 x) (400 * t) T.length = tkOf T := by
  refine Prod.ext (funext fun i => ?_) (funext fun i => ?_)
  · show (if i < T.length then upd _ 257 x (266 + (400 * t + i)) else nI 0) = (tkOf T).1 i
    split
    · rw [pk_un (by omega)]
      unfold kLay
      rw [if_neg (by omega), if_pos (by omega), show 266 + (400 * t + i) - (266 + 400 * t) = i from by omega]
    · exact (tkOf_far (by omega)).1.symm
  · show (if i < T.length then upd _ 257 x (3066 + (400 * t + i)) else nI 0) = (tkOf T).2 i
    split
    · rw [pk_un (by omega)]
      unfold kLay
      rw [if_neg (by omega), if_neg (by omega), if_pos (by omega), show 3066 + (400 * t + i) - (3066 + 400 * t) = i from by omega]
    · exact (tkOf_far (by omega)).2.symm
theorem kLay_S {K : KR} {tk : Tk} {N t : Nat} (ht : t < 7) (hN : N ≤ 400) {x : Int32} : upd (kLay K tk N t N) 257 x (259 + t) = nI N := by
  rw [pk_un (by omega)]
  unfold kLay
  rw [if_pos rfl]
theorem kLay_far {K : KR} {tk : Tk} {N t i : Nat} (hN : N ≤ 400) (hi : ¬ i = 259 + t) (h1 : ¬ (266 + 400 * t ≤ i ∧ i < 266 + 400 * t + 400)) (h2 : ¬ (3066 + 400 * t ≤ i ∧ i < 3066 + 400 * t + 400)) : kLay K tk N t N i = K i := by
  unfold kLay
  rw [if_neg hi, if_neg (by omega), if_neg (by omega)]
theorem KOk_law {K : KR} {b n t : Nat} {T : List (Nat × Int32 × Int32)} (h : KOk K b n) (hN : T.length ≤ 400) (h257 : K 257 = nI t) (h6 : t ≤ 6) (ht : ¬ t = 6) (htk : tkOk (tkOf T) T.length) {cs : List (Nat × Cl)} (hP : pText false (tkOf T) T.length = .inr cs) : KOk (upd (kLay K (tkOf T) T.length t T.length) 257 (nI (t + 1))) b n := by
  have h10 := h.1.1
  obtain ⟨g1, g2, g3, ⟨TT, t1, t2⟩, g5, g6, g7, t', g8, g9, g10, g11⟩ := h
  have et : t' = t := (nI_inj (by omega) (by omega)).mp (g9.symm.trans h257)
  subst et
  have hu : ∀ i, i < 259 → ¬ i = 257 → upd (kLay K (tkOf T) T.length t' T.length) 257 (nI (t' + 1)) i = K i := fun i h1 h2 => (pk_un h2).trans (kLay_far hN (by omega) (by omega) (by omega))
  refine ⟨⟨g1.1, (hu _ (by omega) (by omega)).trans g1.2⟩, fun r hr => ?_, kNum_ext (fun j hj => hu j (by omega) (by omega)) g3, ⟨TT, fun r s hr hs => (hu _ (by omega) (by omega)).trans (t1 r s hr hs), t2⟩, fun d hd => by rw [hu _ (by omega) (by omega)]; exact g5 d hd, by rw [hu _ (by omega) (by omega)]; exact g6, by rw [hu _ (by omega) (by omega)]; exact g7, t' + 1, by omega, pk_us, ?_, fun i hi => ?_⟩
  · have := g2 r hr
    unfold kPer at *
    rw [hu _ (by omega) (by omega), hu _ (by omega) (by omega), hu _ (by omega) (by omega), hu _ (by omega) (by omega), hu _ (by omega) (by omega)]
    exact this
  · rw [hu _ (by omega) (by omega)]
    rcases g10 with z | ⟨f, hf, z⟩
    · exact Or.inl z
    · exact Or.inr ⟨f, by omega, z⟩
  · by_cases e : i = t'
    · subst e
      have eS : kS (upd (kLay K (tkOf T) T.length i T.length) 257 (nI (i + 1))) i = T.length := by
        unfold kS
        rw [kLay_S (by omega) hN, tNat_nI (by omega)]
      unfold bOk
      rw [eS, bTk_lay (by omega) hN, kLay_S (by omega) hN]
      exact ⟨hN, rfl, htk, cs, hP⟩
    · refine bOk_blk ?_ (fun j hj => ⟨?_, ?_⟩) (g11 i (by omega))
      · rw [pk_un (by omega), kLay_far hN (by omega) (by omega) (by omega)]
      · rw [pk_un (by omega), kLay_far hN (by omega) (by omega) (by omega)]
      · rw [pk_un (by omega), kLay_far hN (by omega) (by omega) (by omega)]
/-- clauses of orders: twelve at most, twenty times at most -/
theorem pCls_times {tk : Tk} : ∀ {k : Nat} {acc : List (Nat × Cl)} {pos lv : Nat} {cs : List (Nat × Cl)} {p l : Nat}, pCls true tk k acc pos lv = .inr (cs, p, l) → (∀ c ∈ acc, ∃ j, j ≤ 20 ∧ c.2.2.2.1 = nI j) → cs.length ≤ acc.length + k ∧ ∀ c ∈ cs, ∃ j, j ≤ 20 ∧ c.2.2.2.1 = nI j
  | 0, acc, pos, lv, cs, p, l, h, _ => by simp [pCls] at h
  | k + 1, acc, pos, lv, cs, p, l, h, ha => by
    obtain ⟨c, p1, l1, h1, hc⟩ := pCls_on h
    replace h1 : pOrdCl tk pos lv = .inr (c, p1, l1) := h1
    obtain ⟨hh, hsu, p2, l2, -, -, -, -, hT⟩ := pOrdCl_of h1
    obtain ⟨-, -, j, -, hj, ej⟩ := pOrd_c (pos := pos) (lv := lv) hT
    have ha2 : ∀ x ∈ acc ++ [(pos, c)], ∃ j, j ≤ 20 ∧ x.2.2.2.1 = nI j := by
      intro x hx
      rcases List.mem_append.mp hx with y | y
      · exact ha x y
      · rw [List.mem_singleton.mp y]
        exact ⟨j, hj, ej⟩
    rcases hc with ⟨-, h2⟩ | ⟨-, h2, -⟩
    · obtain ⟨g1, g2⟩ := pCls_times h2 ha2
      rw [List.length_append, List.length_singleton] at g1
      exact ⟨by omega, g2⟩
    · rw [h2]
      exact ⟨by rw [List.length_append, List.length_singleton]; omega, ha2⟩
theorem runO_ok {n : Nat} : ∀ {cs : List Cl} {i : Nat} {s : St} {d b : Nat} {x : St × Nat}, (∀ c ∈ cs, ∃ j, j ≤ 20 ∧ c.2.2.1 = nI j) → stOk s b n → runO n cs i s d = .inr x → stOk x.1 (b + 40 * cs.length) n ∧ x.2 ≤ d + 20 * cs.length ∧ far x.1 s
  | [], i, s, d, b, x, _, h, e => by
    cases e
    exact ⟨h, Nat.le_refl _, far_rf⟩
  | c :: cs, i, s, d, b, x, hc, h, e => by
    rw [runO] at e
    cases ht : timesO n c (tNat c.2.2.1) s d with
    | none => rw [ht] at e; cases e
    | some y =>
      rw [ht] at e
      obtain ⟨j, hj, ej⟩ := hc c List.mem_cons_self
      obtain ⟨g1, g2, g3⟩ := timesO_ok h ht
      rw [ej, tNat_nI (by omega)] at g1 g2
      obtain ⟨q1, q2, q3⟩ := runO_ok (fun c hx => hc c (List.mem_cons_of_mem _ hx)) (stOk_mono g1 (show b + 2 * j ≤ b + 40 by omega)) e
      rw [List.length_cons]
      exact ⟨stOk_mono q1 (by omega), by omega, far_tr q3 g3⟩
theorem Inv_14 {M : MM} {b : Nat} {x y : Int32} (h : Inv M b) : Inv (ms (ms (ms M 41 x) 13 (nI 0)) 14 y) b ∧ Inv (ms M 13 (nI 0)) b ∧ Inv (ms (ms M 13 (nI 0)) 14 y) b := by
  obtain ⟨a1, a2, a3, a4, a5, a6⟩ := h
  exact ⟨⟨a1, ⟨0, by omega, rfl⟩, a3, a4, a5, a6⟩, ⟨a1, ⟨0, by omega, rfl⟩, a3, a4, a5, a6⟩, ⟨a1, ⟨0, by omega, rfl⟩, a3, a4, a5, a6⟩⟩
def vL (M : MM) : Nat := tNat (M.2.2.1 2 257)
theorem vL_ok {M : MM} {b : Nat} (h : Inv M b) : vL M ≤ 6 ∧ M.2.2.1 2 257 = nI (vL M) := by
  obtain ⟨t, h1, h2, -⟩ := (Inv_K h).2.2.2.2.2.2.2
  unfold vL
  rw [h2, tNat_nI (by omega)]
  exact ⟨h1, rfl⟩
theorem inv_law {M : MM} {b : Nat} (h : Inv M b) : Inv (oLaw M (vT M) (vL M)).2 b := by
  obtain ⟨g1, g2, g3, g4⟩ := Inv_st h
  have hlen := (zToks_b (tp := M.2.2.1 11) (size := vT M) 401 0 (by omega)).1
  have hok : tkOk (tkOf (zToks (M.2.2.1 11) (vT M) 401 0)) (zToks (M.2.2.1 11) (vT M) 401 0).length := tkOf_ok (by omega)
  unfold oLaw
  split
  · exact Inv_no (Inv_14 (x := 0) (y := 0) h).2.1
  · rename_i q
    generalize zToks (M.2.2.1 11) (vT M) 401 0 = T at *
    cases hP : pText false (tkOf T) T.length with
    | inl e => exact Inv_no (Inv_14 (x := 0) h).2.2
    | inr cs =>
      refine Inv_kept (Inv_14 (x := 0) h).2.2 (fun n hK => ?_)
      exact KOk_law (K := M.2.2.1 2) hK (by omega) (vL_ok h).2 (vL_ok h).1 q hok hP
theorem inv_orders {M : MM} {b : Nat} (h : Inv M b) : Inv (oOrders M (vN M) (vU M) (vT M)).2 (b + 480) := by
  obtain ⟨g1, g2, g3, g4⟩ := Inv_st h
  have hlen := (zToks_b (tp := M.2.2.1 11) (size := vT M) 401 0 (by omega)).1
  unfold oOrders
  generalize zToks (M.2.2.1 11) (vT M) 401 0 = T at *
  cases hP : pText true (tkOf T) T.length with
  | inl e => exact Inv_no (Inv_mono (Inv_14 h).1 (by omega))
  | inr cs =>
    dsimp only
    obtain ⟨p, l, hp, hNp⟩ := pCls_N hP
    obtain ⟨t1, t2⟩ := pCls_times hp (fun c hc => by cases hc)
    have hKL : KOk (kLay (M.2.2.1 2) (tkOf T) T.length 6 T.length) b (vN M) := KOk_lay g1.1 (fun i hi => kLay_far (by omega) (by omega) (by omega) (by omega)) (fun i h1 h2 => kLay_far (by omega) (by omega) (by omega) (by omega))
    have hS0 : stOk (kLay (M.2.2.1 2) (tkOf T) T.length 6 T.length, M.2.2.1 26, vU M) b (vN M) := ⟨hKL, g1.2.1, g1.2.2⟩
    cases hr : runO (vN M) (cs.map (fun c => c.2)) 0 (kLay (M.2.2.1 2) (tkOf T) T.length 6 T.length, M.2.2.1 26, vU M) 0 with
    | inl i =>
      dsimp only
      refine Inv_no (Inv_mono (?_ : Inv _ b) (by omega))
      obtain ⟨-, a2, a3, a4, a5, a6⟩ := (Inv_14 (x := -1) (y := -1) h).1
      exact ⟨⟨vN M, vU M, hS0, g2⟩, a2, a3, a4, a5, a6⟩
    | inr x =>
      dsimp only
      obtain ⟨q1, -⟩ := runO_ok (fun c hc => by
        obtain ⟨y, hy, rfl⟩ := List.mem_map.mp hc
        exact t2 y hy) hS0 hr
      rw [List.length_map] at q1
      have : cs.length ≤ 12 := by simpa using t1
      exact Inv_good (Inv_put (Inv_14 (x := -1) (y := -1) h).1 (by omega) (stOk_mono q1 (by omega)))
