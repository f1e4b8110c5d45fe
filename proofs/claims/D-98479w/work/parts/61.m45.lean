/-! WHAT HOLDS of the model between two calls -/
def imOk (M : MM) (b : Nat) : Prop := ∀ k, k < 2 → M.2.2.1 4 k = nI 0 ∨ (M.2.2.1 4 k = nI 1 ∧ ∃ n, KOk (fun i => M.2.2.1 3 (5866 * k + i)) b n)
def Inv (M : MM) (b : Nat) : Prop := (∃ n u, stOk (got M u) b n ∧ M.1 28 = nI u) ∧ (∃ t, t ≤ 400 ∧ M.1 13 = nI t) ∧ (∀ i, i < 153 → M.2.2.1 7 i = nI (zW i)) ∧ imOk M b ∧ (∃ d, d ≤ 60 ∧ M.1 50 = nI d) ∧ ∀ i, i < 400 → -128 ≤ (M.2.2.1 11 i).toInt ∧ (M.2.2.1 11 i).toInt ≤ 127
theorem stOk_mono {s : St} {b b' n : Nat} (h : stOk s b n) (hb : b ≤ b') : stOk s b' n := ⟨KOk_mono h.1 hb, h.2.1, lfOk_mono h.2.2 hb⟩
theorem imOk_mono {M : MM} {b b' : Nat} (h : imOk M b) (hb : b ≤ b') : imOk M b' := by
  intro k hk
  rcases h k hk with z | ⟨z, n, y⟩
  · exact Or.inl z
  · exact Or.inr ⟨z, n, KOk_mono y hb⟩
/-- what it needs: of no scratch -/
theorem Inv_to {M M' : MM} {b b' : Nat} (h : Inv M b) (hb : b ≤ b') (h1 : ∃ n u, stOk (got M' u) b' n ∧ M'.1 28 = nI u) (h13 : M'.1 13 = M.1 13) (h7 : M'.2.2.1 7 = M.2.2.1 7) (h3 : M'.2.2.1 3 = M.2.2.1 3) (h4 : M'.2.2.1 4 = M.2.2.1 4) (h50 : M'.1 50 = M.1 50) (h11 : M'.2.2.1 11 = M.2.2.1 11) : Inv M' b' := by
  obtain ⟨-, g2, g3, g4, g5, g6⟩ := h
  refine ⟨h1, by rw [h13]; exact g2, by rw [h7]; exact g3, ?_, by rw [h50]; exact g5, by rw [h11]; exact g6⟩
  have := imOk_mono g4 hb
  unfold imOk at *
  rw [h3, h4]
  exact this
theorem Inv_mS {M M' : MM} {b : Nat} (h : Inv M b) (hx : mS M M') : Inv M' b := by
  obtain ⟨⟨n, u, g1, g2⟩, -⟩ := id h
  refine Inv_to h (Nat.le_refl b) ⟨n, u, ?_, (hx.1 28 (by decide)).trans g2⟩ (hx.1 13 (by decide)) (hx.2.2.1 7 (by decide)) (hx.2.2.1 3 (by decide)) (hx.2.2.1 4 (by decide)) (hx.1 50 (by decide)) (hx.2.2.1 11 (by decide))
  unfold got
  rw [hx.2.2.1 2 (by decide), hx.2.2.1 26 (by decide)]
  exact g1
theorem Inv_mono {M : MM} {b b' : Nat} (h : Inv M b) (hb : b ≤ b') : Inv M b' := by
  obtain ⟨⟨n, u, g1, g2⟩, -⟩ := id h
  exact Inv_to h hb ⟨n, u, stOk_mono g1 hb, g2⟩ rfl rfl rfl rfl rfl rfl
theorem Inv_no {M : MM} {b k : Nat} (h : Inv M b) : Inv (sNo M k).2 b := by
  obtain ⟨⟨n, u, g1, g2⟩, -⟩ := id h
  exact Inv_to h (Nat.le_refl b) ⟨n, u, g1, g2⟩ rfl rfl rfl rfl rfl rfl
theorem Inv_good {M : MM} {b : Nat} (h : Inv M b) : Inv (sGood M) b := by
  obtain ⟨⟨n, u, g1, g2⟩, -⟩ := id h
  exact Inv_to h (Nat.le_refl b) ⟨n, u, g1, g2⟩ rfl rfl rfl rfl rfl rfl
/-- the row kept is another one, nothing is left to be undone -/
theorem Inv_set {M : MM} {b b' n : Nat} {K : KR} (h : Inv M b) (hb : b ≤ b') (hK : KOk K b' n) : Inv (sSet (mar M 2 K)) b' := by
  refine Inv_to h hb ⟨n, 0, ⟨hK, by show 0 ≤ 16; omega, fun i hi => absurd hi (Nat.not_lt_zero i)⟩, rfl⟩ rfl rfl rfl rfl rfl rfl
/-- the same persons: only what isn't moved is changed -/
theorem Inv_kept {M : MM} {b : Nat} {K : KR} (h : Inv M b) (hK : ∀ n, KOk (M.2.2.1 2) b n → KOk K b n) : Inv (sGood (mar M 2 K)) b := by
  obtain ⟨⟨n, u, g1, g2⟩, -⟩ := id h
  exact Inv_to h (Nat.le_refl b) ⟨n, u, ⟨hK n g1.1, g1.2.1, g1.2.2⟩, g2⟩ rfl rfl rfl rfl rfl rfl
theorem Inv_put {M : MM} {b b' n : Nat} {s : St} (h : Inv M b) (hb : b ≤ b') (hs : stOk s b' n) : Inv (put M s) b' := Inv_to h hb ⟨n, s.2.2, hs, rfl⟩ rfl rfl rfl rfl rfl rfl
/-- cells of one kind are changed -/
theorem KOk_talk {K : KR} {b n p q : Nat} {v : Bool} (h : KOk K b n) (hp : p < n) (hq : q < n) (hpq : ¬ p = q) : KOk (upd (upd K (54 + 10 * p + q) (bI v)) (54 + 10 * q + p) (bI v)) b n := by
  have h10 := h.1.1
  obtain ⟨g1, g2, g3, ⟨T, t1, t2, t3, t4⟩, g5, g6, g7, t, g8, g9, g10, g11⟩ := h
  have hu : ∀ i, i < 54 ∨ 154 ≤ i → upd (upd K (54 + 10 * p + q) (bI v)) (54 + 10 * q + p) (bI v) i = K i := fun i hi => (pk_un (by omega)).trans (pk_un (by omega))
  refine ⟨⟨g1.1, (hu _ (by omega)).trans g1.2⟩, fun r hr => ?_, kNum_ext (fun j hj => hu j (by omega)) g3, ⟨fun r s => if (r = p ∧ s = q) ∨ (r = q ∧ s = p) then v else T r s, ?_, ?_, ?_, ?_⟩, fun d hd => by rw [hu _ (by omega)]; exact g5 d hd, by rw [hu _ (by omega)]; exact g6, by rw [hu _ (by omega)]; exact g7, t, g8, (hu _ (by omega)).trans g9, by rw [hu _ (by omega)]; exact g10, fun i hi => bOk_ext (fun j hj => hu j (by omega)) (g11 i hi)⟩
  · have := g2 r hr
    unfold kPer at *
    rw [hu _ (by omega), hu _ (by omega), hu _ (by omega), hu _ (by omega), hu _ (by omega)]
    exact this
  · intro r s hr hs
    dsimp only
    by_cases e1 : r = q ∧ s = p
    · rw [if_pos (Or.inr e1), e1.1, e1.2, pk_us]
    · rw [pk_un (by omega)]
      by_cases e2 : r = p ∧ s = q
      · rw [if_pos (Or.inl e2), e2.1, e2.2, pk_us]
      · rw [pk_un (by omega), if_neg (fun z => z.elim e2 e1)]
        exact t1 r s hr hs
  · intro r s
    dsimp only
    by_cases e : (r = p ∧ s = q) ∨ (r = q ∧ s = p)
    · rw [if_pos e, if_pos (by omega)]
    · rw [if_neg e, if_neg (by omega), t2]
  · intro r
    dsimp only
    rw [if_neg (by omega), t3]
  · intro r s hr
    dsimp only
    rw [if_neg (by omega), t4 r s hr]
theorem KOk_one {K : KR} {b n j : Nat} {v : Int32} (h : KOk K b n) (hj : (∃ p, p < n ∧ j = 20 + p ∧ ∃ w, w < 3 ∧ v = nI w) ∨ (j = 33 ∧ ∃ w, w ≤ 999 ∧ v = nI w) ∨ (∃ d, d < 100 ∧ j = 154 + d ∧ ∃ w : Bool, v = bI w) ∨ (j = 254 ∧ ∃ w, w ≤ 10 ∧ v = nI w) ∨ (j = 255 ∧ ∃ w, w ≤ 9 ∧ v = nI w)) : KOk (upd K j v) b n := by
  have h10 := h.1.1
  obtain ⟨g1, g2, g3, ⟨T, t1, t2⟩, g5, g6, g7, t, g8, g9, g10, g11⟩ := h
  have hu : ∀ i, ¬ i = j → upd K j v i = K i := fun i hi => pk_un hi
  refine ⟨⟨g1.1, (hu _ (by omega)).trans g1.2⟩, fun r hr => ?_, ?_, ⟨T, fun r s hr hs => (hu _ (by omega)).trans (t1 r s hr hs), t2⟩, fun d hd => ?_, ?_, ?_, t, g8, (hu _ (by omega)).trans g9, by rw [hu _ (by omega)]; exact g10, fun i hi => bOk_ext (fun k hk => hu k (by omega)) (g11 i hi)⟩
  · have := g2 r hr
    unfold kPer at *
    rw [hu r (by omega), hu (10 + r) (by omega), hu (34 + 2 * r) (by omega), hu (34 + 2 * r + 1) (by omega)]
    refine ⟨this.1, this.2.1, ?_, this.2.2.2⟩
    by_cases e : 20 + r = j
    · rw [e, pk_us]
      obtain ⟨p, hp, -, w, hw, ew⟩ := hj.resolve_right (by omega)
      exact ⟨w, hw, ew⟩
    · rw [hu _ e]
      exact this.2.2.1
  · unfold kNum at *
    rw [hu 30 (by omega), hu 31 (by omega), hu 32 (by omega)]
    refine ⟨g3.1, g3.2.1, g3.2.2.1, ?_⟩
    by_cases e : 33 = j
    · rw [← e, pk_us]
      rcases hj with ⟨p, hp, z, -⟩ | ⟨-, z⟩ | ⟨d, hd, z, -⟩ | ⟨z, -⟩ | ⟨z, -⟩
      · omega
      · exact z
      · omega
      · omega
      · omega
    · rw [hu _ e]
      exact g3.2.2.2
  · by_cases e : 154 + d = j
    · rw [e, pk_us]
      rcases hj with ⟨p, hp, z, -⟩ | ⟨z, -⟩ | ⟨d, hd, -, z⟩ | ⟨z, -⟩ | ⟨z, -⟩
      · omega
      · omega
      · exact z
      · omega
      · omega
    · rw [hu _ e]
      exact g5 d hd
  · by_cases e : 254 = j
    · rw [← e, pk_us]
      rcases hj with ⟨p, hp, z, -⟩ | ⟨z, -⟩ | ⟨d, hd, z, -⟩ | ⟨-, z⟩ | ⟨z, -⟩
      · omega
      · omega
      · omega
      · exact z
      · omega
    · rw [hu _ e]
      exact g6
  · by_cases e : 255 = j
    · rw [← e, pk_us]
      rcases hj with ⟨p, hp, z, -⟩ | ⟨z, -⟩ | ⟨d, hd, z, -⟩ | ⟨z, -⟩ | ⟨-, z⟩
      · omega
      · omega
      · omega
      · omega
      · exact z
    · rw [hu _ e]
      exact g7
theorem KOk_force {K : KR} {b n : Nat} {v : Int32} (h : KOk K b n) (h1 : -1 ≤ v.toInt) (h2 : v.toInt ≤ (K 257 - nI 1).toInt) : KOk (upd K 258 v) b n := by
  have h10 := h.1.1
  obtain ⟨g1, g2, g3, ⟨T, t1, t2⟩, g5, g6, g7, t, g8, g9, g10, g11⟩ := h
  have hu : ∀ i, ¬ i = 258 → upd K 258 v i = K i := fun i hi => pk_un hi
  refine ⟨⟨g1.1, (hu _ (by omega)).trans g1.2⟩, fun r hr => ?_, kNum_ext (fun j hj => hu j (by omega)) g3, ⟨T, fun r s hr hs => (hu _ (by omega)).trans (t1 r s hr hs), t2⟩, fun d hd => by rw [hu _ (by omega)]; exact g5 d hd, by rw [hu _ (by omega)]; exact g6, by rw [hu _ (by omega)]; exact g7, t, g8, (hu _ (by omega)).trans g9, ?_, fun i hi => bOk_ext (fun k hk => hu k (by omega)) (g11 i hi)⟩
  · have := g2 r hr
    unfold kPer at *
    rw [hu _ (by omega), hu _ (by omega), hu _ (by omega), hu _ (by omega), hu _ (by omega)]
    exact this
  · rw [pk_us]
    rw [g9, t_sub (by omega) (by omega)] at h2
    by_cases e : v.toInt = -1
    · exact Or.inl (by rw [i_eq, t_m1]; exact e)
    · obtain ⟨f, hf, ef⟩ := t_of (p := v) (n := t) (by omega) (by omega)
      exact Or.inr ⟨f, hf, ef⟩
theorem KOk_add {K : KR} {b n r l h : Nat} (hK : KOk K b n) (hn : n < 10) (hr : r ≤ 30) (hl : l ≤ 3) (hh : h ≤ 2) : KOk (upd (upd (upd (upd (upd (upd K (34 + 2 * n) (nI r)) (34 + 2 * n + 1) (nI l)) n (nI 0)) (10 + n) (-1)) (20 + n) (nI h)) 256 (nI (n + 1))) b (n + 1) := by
  obtain ⟨g1, g2, g3, ⟨T, t1, t2, t3, t4⟩, g5, g6, g7, t, g8, g9, g10, g11⟩ := hK
  have hu : ∀ i, ¬ i = 34 + 2 * n → ¬ i = 34 + 2 * n + 1 → ¬ i = n → ¬ i = 10 + n → ¬ i = 20 + n → ¬ i = 256 → upd (upd (upd (upd (upd (upd K (34 + 2 * n) (nI r)) (34 + 2 * n + 1) (nI l)) n (nI 0)) (10 + n) (-1)) (20 + n) (nI h)) 256 (nI (n + 1)) i = K i := fun i h1 h2 h3 h4 h5 h6 => by rw [pk_un h6, pk_un h5, pk_un h4, pk_un h3, pk_un h2, pk_un h1]
  have far : ∀ i, 54 ≤ i → ¬ i = 256 → upd (upd (upd (upd (upd (upd K (34 + 2 * n) (nI r)) (34 + 2 * n + 1) (nI l)) n (nI 0)) (10 + n) (-1)) (20 + n) (nI h)) 256 (nI (n + 1)) i = K i := fun i h1 h2 => hu i (by omega) (by omega) (by omega) (by omega) (by omega) h2
  refine ⟨⟨by omega, pk_us⟩, fun p hp => ?_, ?_, ⟨T, fun r s hr hs => (far _ (by omega) (by omega)).trans (t1 r s hr hs), t2, t3, fun p q hp => t4 p q (by omega)⟩, fun d hd => by rw [far _ (by omega) (by omega)]; exact g5 d hd, by rw [far _ (by omega) (by omega)]; exact g6, by rw [far _ (by omega) (by omega)]; exact g7, t, g8, (far _ (by omega) (by omega)).trans g9, by rw [far _ (by omega) (by omega)]; exact g10, fun i hi => bOk_ext (fun k hk => far k (by omega) (by omega)) (g11 i hi)⟩
  · by_cases e : p = n
    · subst e
      unfold kPer
      refine ⟨⟨0, by omega, ?_⟩, fun z => ?_, ⟨h, by omega, ?_⟩, ⟨r, hr, ?_⟩, ⟨l, by omega, ?_⟩⟩
      · rw [pk_un (by omega), pk_un (by omega), pk_un (by omega), pk_us]
      · rw [pk_un (by omega), pk_un (by omega), pk_un (by omega), pk_us, nI_inj (by omega) (by omega)] at z
        omega
      · rw [pk_un (by omega), pk_us]
      · rw [pk_un (by omega), pk_un (by omega), pk_un (by omega), pk_un (by omega), pk_un (by omega), pk_us]
      · rw [pk_un (by omega), pk_un (by omega), pk_un (by omega), pk_un (by omega), pk_us]
    · have := g2 p (by omega)
      unfold kPer at *
      rw [hu _ (by omega) (by omega) (by omega) (by omega) (by omega) (by omega), hu _ (by omega) (by omega) (by omega) (by omega) (by omega) (by omega), hu _ (by omega) (by omega) (by omega) (by omega) (by omega) (by omega), hu _ (by omega) (by omega) (by omega) (by omega) (by omega) (by omega), hu _ (by omega) (by omega) (by omega) (by omega) (by omega) (by omega)]
      exact this
  · unfold kNum at *
    rw [hu _ (by omega) (by omega) (by omega) (by omega) (by omega) (by omega), hu _ (by omega) (by omega) (by omega) (by omega) (by omega) (by omega), hu _ (by omega) (by omega) (by omega) (by omega) (by omega) (by omega), hu _ (by omega) (by omega) (by omega) (by omega) (by omega) (by omega)]
    exact g3
