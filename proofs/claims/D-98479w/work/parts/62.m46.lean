/-! EACH CALL of the model: what it tells; what holds, holds again -/
def vN (M : MM) : Nat := kN (M.2.2.1 2)
def vU (M : MM) : Nat := tNat (M.1 28)
def vT (M : MM) : Nat := tNat (M.1 13)
theorem Inv_st {M : MM} {b : Nat} (h : Inv M b) : stOk (got M (vU M)) b (vN M) ∧ M.1 28 = nI (vU M) ∧ vT M ≤ 400 ∧ M.1 13 = nI (vT M) := by
  obtain ⟨⟨n, u, g1, g2⟩, ⟨t, g3, g4⟩, -⟩ := h
  have en : vN M = n := g1.1.n
  have hu := g1.2.1
  have eu : vU M = u := by unfold vU; rw [g2, tNat_nI (by have : u ≤ 16 := hu; omega)]
  have et : vT M = t := by unfold vT; rw [g4, tNat_nI (by omega)]
  rw [en, eu, et]
  exact ⟨g1, g2, g3, g4⟩
theorem Inv_K {M : MM} {b : Nat} (h : Inv M b) : KOk (M.2.2.1 2) b (vN M) := (Inv_st h).1.1
theorem vN_le {M : MM} {b : Nat} (h : Inv M b) : vN M ≤ 10 ∧ M.2.2.1 2 256 = nI (vN M) := (Inv_K h).1
theorem mar_sSet {M : MM} {k j : Nat} {v : Int32} : ma M k j v = mar M k (upd (M.2.2.1 k) j v) := rfl
theorem sAdd_mar {M : MM} {n : Nat} {a b h : Int32} : sAdd M n a b h = mar M 2 (upd (upd (upd (upd (upd (upd (M.2.2.1 2) (34 + 2 * n) a) (34 + 2 * n + 1) b) n (nI 0)) (10 + n) (-1)) (20 + n) h) 256 (nI (n + 1))) := by
  unfold sAdd
  rw [ma_eq (M := M), ma_mar, ma_mar, ma_mar, ma_mar, ma_mar]
theorem inv_person {M : MM} {b : Nat} (h : Inv M b) (x y : Int32) : Inv (oPerson M (vN M) x y).2 b := by
  unfold oPerson
  split
  · rename_i q
    split
    · exact Inv_no h
    · rename_i q2
      obtain ⟨r, hr, rfl⟩ := t_of (p := x) (n := 31) q.1.1 (by omega)
      obtain ⟨l, hl, rfl⟩ := t_of (p := y) (n := 4) q.2.1 (by omega)
      rw [sAdd_mar]
      exact Inv_set h (Nat.le_refl b) (KOk_add (h := 0) (Inv_K h) (by have := (vN_le h).1; omega) (by omega) (by omega) (by omega))
  · exact Inv_no h
theorem inv_hear {M : MM} {b : Nat} (h : Inv M b) (p v : Int32) : Inv (oHear M (vN M) p v).2 b := by
  unfold oHear
  split
  · rename_i q
    split
    · rename_i q2
      split
      · exact Inv_no h
      · obtain ⟨w, hw, rfl⟩ := zIn_of q (by decide)
        rw [mar_sSet]
        exact Inv_set h (Nat.le_refl b) (KOk_one (Inv_K h) (Or.inl ⟨tNat p, tNat_lt q2.1 q2.2, rfl, w, by omega, rfl⟩))
    · exact Inv_no h
  · exact Inv_no h
theorem bI_of {v : Int32} (h : zIn v 0 1) : ∃ w : Bool, v = bI w := by
  obtain ⟨w, hw, rfl⟩ := zIn_of h (by decide)
  rcases (show w = 0 ∨ w = 1 by omega) with rfl | rfl
  · exact ⟨false, rfl⟩
  · exact ⟨true, rfl⟩
theorem inv_talk {M : MM} {b : Nat} (h : Inv M b) (x y is : Int32) : Inv (oTalk M (vN M) x y is).2 b := by
  unfold oTalk
  split
  · exact Inv_no h
  · rename_i q
    split
    · rename_i q2
      obtain ⟨w, rfl⟩ := bI_of (Classical.not_not.mp (fun z => q (Or.inr z)))
      rw [ma_eq (M := M), ma_mar]
      have h10 := (vN_le h).1
      obtain ⟨p, hp, rfl⟩ := t_of (p := x) (n := vN M) q2.1.1 q2.1.2
      obtain ⟨r, hr, rfl⟩ := t_of (p := y) (n := vN M) q2.2.1 q2.2.2
      rw [tNat_nI (by omega), tNat_nI (by omega)]
      exact Inv_kept h (fun n hK => by
        have en : n = vN M := hK.n.symm
        subst en
        exact KOk_talk hK hp hr (fun z => q (Or.inl (by rw [z]))))
    · exact Inv_no h
theorem inv_fog {M : MM} {b : Nat} (h : Inv M b) (d is : Int32) : Inv (oFog M d is).2 b := by
  unfold oFog
  split
  · rename_i q
    obtain ⟨w, rfl⟩ := bI_of q.2
    obtain ⟨k, hk, rfl⟩ := zIn_of q.1 (by decide)
    rw [ma_eq, tNat_nI (by omega)]
    exact Inv_kept h (fun n hK => KOk_one hK (Or.inr (Or.inr (Or.inl ⟨k, by omega, rfl, w, rfl⟩))))
  · exact Inv_no h
theorem inv_terms {M : MM} {b : Nat} (h : Inv M b) (what v : Int32) : Inv (oTerms M (vN M) what v).2 b := by
  unfold oTerms
  split
  · rename_i q
    split
    · exact Inv_no h
    · obtain ⟨w, hw, rfl⟩ := zIn_of q.1 (by decide)
      rw [tNat_nI (by omega)] at q ⊢
      obtain ⟨x, hx, rfl⟩ := zIn_of q.2 (by unfold tHi; split <;> (try split) <;> decide)
      rw [mar_sSet]
      refine Inv_set h (Nat.le_refl b) (KOk_one (Inv_K h) ?_)
      rcases (show w = 0 ∨ w = 1 ∨ w = 2 by omega) with rfl | rfl | rfl
      · exact Or.inr (Or.inl ⟨rfl, x, hx, rfl⟩)
      · exact Or.inr (Or.inr (Or.inr (Or.inl ⟨rfl, x, hx, rfl⟩)))
      · exact Or.inr (Or.inr (Or.inr (Or.inr ⟨rfl, x, hx, rfl⟩)))
  · exact Inv_no h
theorem inv_force {M : MM} {b : Nat} (h : Inv M b) (v : Int32) : Inv (oForce M v).2 b := by
  unfold oForce
  split
  · rename_i q
    rw [ma_eq]
    exact Inv_kept h (fun n hK => KOk_force hK (by rw [t_m1] at q; exact q.1) q.2)
  · exact Inv_no h
theorem inv_act {M : MM} {b : Nat} (h : Inv M b) {o : Int32 × MM} (h1 : Inv o.2 (b + 2)) : Inv (oGoodOr o).2 (b + 2) := by
  unfold oGoodOr
  split
  · exact Inv_good h1
  · exact Inv_no h1
theorem inv_send {M : MM} {b : Nat} (h : Inv M b) (p : Int32) : Inv (oGoodOr (oSendK M (vN M) (vU M) p)).2 (b + 2) := by
  obtain ⟨g1, g2, -⟩ := Inv_st h
  rw [oSend_put g2]
  exact inv_act h (Inv_put h (by omega) (aSend_ok g1))
theorem inv_light {M : MM} {b : Nat} (h : Inv M b) (p : Int32) : Inv (oGoodOr (oLightK M (vN M) (vU M) p)).2 (b + 2) := by
  obtain ⟨g1, g2, -⟩ := Inv_st h
  rw [oLight_put g2]
  exact inv_act h (Inv_put h (by omega) (aLight_ok g1))
theorem inv_dark {M : MM} {b : Nat} (h : Inv M b) : Inv (oGoodOr (oDarkK M (vN M) (vU M))).2 (b + 2) := by
  obtain ⟨g1, g2, -⟩ := Inv_st h
  rw [oDark_put g2]
  exact inv_act h (Inv_put h (by omega) (aDark_ok g1))
theorem KOk_ext {K K' : KR} {b n : Nat} (he : ∀ i, i < 5866 → K' i = K i) (h : KOk K b n) : KOk K' b n := by
  refine KOk_lay h (fun i hi => he i (by omega)) (fun i h1 h2 => he i (by omega))
theorem inv_undo {M : MM} {b : Nat} (h : Inv M b) : Inv (oUndo M (vU M)).2 b := by
  obtain ⟨g1, g2, -⟩ := Inv_st h
  unfold oUndo
  split
  · exact Inv_no h
  · rename_i q
    obtain ⟨hK, hu, hl⟩ := id g1
    obtain ⟨l1, l2, l3⟩ := hl (vU M - 1) (by show vU M - 1 < vU M; omega)
    have h10 := hK.1.1
    have hr : ∀ j, j < 34 → cpA (M.2.2.1 2) (fun i => M.2.2.1 26 (35 * (vU M - 1) + i)) 0 34 j = lRow (got M (vU M)).2.1 (vU M - 1) j := by
      intro j hj
      rw [cpA_at, if_pos (by omega), Nat.sub_zero]
      rfl
    have hK2 : KOk (cpA (M.2.2.1 2) (fun i => M.2.2.1 26 (35 * (vU M - 1) + i)) 0 34) b (vN M) := by
      refine hK.mov (fun i hi => ?_) (fun p hp => kMov_ext (by omega) hr (l1 p hp)) (kNum_ext hr l2)
      rw [cpA_at, if_neg (by omega)]
      rfl
    exact Inv_to h (Nat.le_refl b) ⟨vN M, vU M - 1, ⟨hK2, by show vU M - 1 ≤ 16; have : vU M ≤ 16 := hu; omega, fun i hi => hl i (by show i < vU M; have : i < vU M - 1 := hi; omega)⟩, rfl⟩ rfl rfl rfl rfl rfl rfl
theorem inv_image {M : MM} {b : Nat} (h : Inv M b) (k : Int32) : Inv (oImage M k).2 b := by
  obtain ⟨g1, g2, -⟩ := Inv_st h
  unfold oImage
  split
  · rename_i q
    obtain ⟨j, hj, rfl⟩ := zIn_of q (by decide)
    rw [tNat_nI (by omega)]
    obtain ⟨a1, a2, a3, a4, a5, a6⟩ := h
    refine ⟨⟨vN M, vU M, g1, g2⟩, a2, a3, fun k hk => ?_, a5, a6⟩
    show ma (mar M 3 _) 4 j (nI 1) |>.2.2.1 4 k = nI 0 ∨ _
    by_cases e : k = j
    · subst e
      refine Or.inr ⟨(show (ma (mar M 3 (cpA (M.2.2.1 3) (M.2.2.1 2) (5866 * k) 5866)) 4 k (nI 1)).2.2.1 4 k = nI 1 from by rw [ma_at, if_pos rfl, if_pos rfl]), vN M, KOk_ext (fun i hi => ?_) g1.1⟩
      show cpA (M.2.2.1 3) (M.2.2.1 2) (5866 * k) 5866 (5866 * k + i) = M.2.2.1 2 i
      rw [cpA_at, if_pos (by omega), show 5866 * k + i - 5866 * k = i from by omega]
    · have e4 : (ma (mar M 3 (cpA (M.2.2.1 3) (M.2.2.1 2) (5866 * j) 5866)) 4 j (nI 1)).2.2.1 4 k = M.2.2.1 4 k := by
        rw [ma_at, if_pos rfl, if_neg e]
        rfl
      rw [e4]
      rcases a4 k hk with z | ⟨z, n, y⟩
      · exact Or.inl z
      · refine Or.inr ⟨e4.trans z, n, KOk_ext (fun i hi => ?_) y⟩
        show cpA (M.2.2.1 3) (M.2.2.1 2) (5866 * j) 5866 (5866 * k + i) = _
        rw [cpA_at, if_neg (by omega)]
  · exact Inv_no h
theorem inv_back {M : MM} {b : Nat} (h : Inv M b) (k : Int32) : Inv (oBack M k).2 b := by
  unfold oBack
  split
  · rename_i q
    obtain ⟨j, hj, rfl⟩ := zIn_of q (by decide)
    rw [tNat_nI (by omega)]
    split
    · exact Inv_no h
    · rename_i q2
      obtain ⟨a1, a2, a3, a4, a5, a6⟩ := id h
      rcases a4 j (by omega) with z | ⟨z, n, y⟩
      · exact absurd z q2
      · refine Inv_set h (Nat.le_refl b) (KOk_ext (fun i hi => ?_) y)
        rw [cpA_at, if_pos (by omega), Nat.sub_zero]
  · exact Inv_no h
theorem inv_end {M : MM} {b : Nat} (h : Inv M b) (v : Int32) : Inv (if (nI 0).toInt ≤ v.toInt ∧ v.toInt ≤ (M.1 13).toInt then (v, ms M 13 v) else (-1, M)).2 b := by
  split
  · rename_i q
    obtain ⟨⟨n, u, a0, a1⟩, ⟨t, ht, a2⟩, a3, a4, a5, a6⟩ := h
    rw [a2, t_nI (by omega), t_nI (by omega)] at q
    obtain ⟨w, hw, rfl⟩ := t_of (p := v) (n := 401) q.1 (by omega)
    exact ⟨⟨n, u, a0, a1⟩, ⟨w, by omega, rfl⟩, a3, a4, a5, a6⟩
  · exact h
theorem sByte_b {v : Int32} {r : Nat} : -128 ≤ (sByte v r).toInt ∧ (sByte v r).toInt ≤ 127 := by
  unfold sByte
  rw [Int8.toInt_toInt32]
  have h1 := Int8.le_toInt ((v >>> ((nI 24 - nI (8 * r)) &&& 31)).toInt8)
  have h2 := Int8.toInt_lt ((v >>> ((nI 24 - nI (8 * r)) &&& 31)).toInt8)
  omega
theorem mar_k {M : MM} {k : Nat} {f : Nat → Int32} : (mar M k f).2.2.1 k = f := if_pos rfl
theorem inv_feed {M : MM} {bb : Nat} (h : Inv M bb) (a b c d e : Int32) : Inv (oFeed M (vT M) a b c d e).2 bb := by
  obtain ⟨g1, g2, g3, g4⟩ := Inv_st h
  unfold oFeed
  split
  · exact h
  · rename_i q
    obtain ⟨a1, a2, a3, a4, a5, a6⟩ := h
    refine ⟨⟨vN M, vU M, g1, g2⟩, ⟨vT M + 20, by omega, rfl⟩, a3, a4, a5, fun i hi => ?_⟩
    have e : (mar M 11 (cpA (M.2.2.1 11) (fun k => sByte (fiveOf a b c d e (k / 4)) (k % 4)) (vT M) 20)).2.2.1 11 = cpA (M.2.2.1 11) (fun k => sByte (fiveOf a b c d e (k / 4)) (k % 4)) (vT M) 20 := mar_k
    have e2 : ∀ (X : MM) v, (ms X 13 v).2.2.1 = X.2.2.1 := fun _ _ => rfl
    dsimp only
    rw [e2, e, cpA_at]
    split
    · exact sByte_b
    · exact a6 i hi
theorem inv_winter {M : MM} {b : Nat} (h : Inv M b) (s m : Int32) : Inv (oWinter M (vN M) s m).2 b := by
  unfold oWinter
  split
  · rename_i q
    obtain ⟨w, hw, rfl⟩ := t_of (p := m) (n := 61) (by have := q.2.1; rw [t_nI (by omega)] at this; omega) (by have := q.2.2; rw [t_nI (by omega)] at this; omega)
    obtain ⟨a1, a2, a3, a4, a5, a6⟩ := h
    exact ⟨a1, a2, a3, a4, ⟨w, by omega, rfl⟩, a6⟩
  · exact Inv_no h
theorem rowRun_inv {M : MM} {b : Nat} (h : Inv M b) {T : Nat → Int32} {c : Nat × Nat} : ∀ j, ∃ K n, (rowRun T (ms M 13 (nI 0), c) j).1 = mar (ms M 13 (nI 0)) 2 K ∧ KOk K b n
  | 0 => ⟨M.2.2.1 2, vN M, (mar_id (M := ms M 13 (nI 0)) (k := 2)).symm, Inv_K h⟩
  | j + 1 => by
    obtain ⟨K, n, h1, h2⟩ := rowRun_inv h (T := T) (c := c) j
    rw [rowRun]
    unfold rowStep
    split
    · rename_i q
      rw [h1] at q ⊢
      rw [show (mar (ms M 13 (nI 0)) 2 K).2.2.1 2 = K from rfl, h2.n] at q ⊢
      obtain ⟨r, hr, er⟩ := t_of (p := T (3 * j)) (n := 31) q.1.1.1 (by have := q.1.1.2; omega)
      obtain ⟨l, hl, el⟩ := t_of (p := T (3 * j + 1)) (n := 4) q.1.2.1 (by have := q.1.2.2; omega)
      obtain ⟨w, hw, ew⟩ := zIn_of q.2.1 (by decide)
      refine ⟨_, n + 1, ?_, KOk_add (K := K) (r := r) (l := l) (h := w) h2 (by have := q.2.2; omega) (by omega) (by omega) hw⟩
      dsimp only
      rw [sAdd_mar, er, el, ew, mar_mar]
      rfl
    · exact ⟨K, n, h1, h2⟩
theorem inv_row {M : MM} {b : Nat} (h : Inv M b) : Inv (oRow M (vT M)).2 b := by
  have h13 : Inv (ms M 13 (nI 0)) b := by
    obtain ⟨a1, a2, a3, a4, a5, a6⟩ := h
    exact ⟨a1, ⟨0, by omega, rfl⟩, a3, a4, a5, a6⟩
  unfold oRow
  split
  · exact Inv_no h13
  · obtain ⟨K, n, h1, h2⟩ := rowRun_inv h (T := M.2.2.1 11) (c := (0, if vT M % 3 = 0 then 0 else 1)) (vT M / 3)
    dsimp only
    rw [h1]
    have h6 : ∀ v, Inv (ms (ms M 13 (nI 0)) 6 v) b := fun v => by
      obtain ⟨a1, a2, a3, a4, a5, a6⟩ := h13
      exact ⟨a1, a2, a3, a4, a5, a6⟩
    exact Inv_set (h6 (nI (rowRun (M.2.2.1 11) (ms M 13 (nI 0), 0, if vT M % 3 = 0 then 0 else 1) (vT M / 3)).2.2)) (Nat.le_refl b) h2
