/-! THE MODEL TELLS: sums and tests along the tokens -/
def mX (fs as : List Nat) (M M' : MM) : Prop := (∀ k, k ∉ fs → M'.1 k = M.1 k) ∧ (48 ∉ fs → M'.2.1 = M.2.1) ∧ (∀ k, k ∉ as → M'.2.2.1 k = M.2.2.1 k) ∧ (37 ∉ as → M'.2.2.2 = M.2.2.2)
theorem mX.rf {fs as : List Nat} {M : MM} : mX fs as M M := ⟨fun _ _ => rfl, fun _ => rfl, fun _ _ => rfl, fun _ => rfl⟩
theorem mX.ms {fs as : List Nat} {M M' : MM} {k : Nat} {v : Int32} (h : mX fs as M M') (hk : k ∈ fs) : mX fs as M (ms M' k v) := ⟨fun j hj => by rw [ms_1, if_neg (fun e => hj (by rw [e]; exact hk))]; exact h.1 j hj, h.2.1, h.2.2.1, h.2.2.2⟩
theorem mX.ma {fs as : List Nat} {M M' : MM} {k j : Nat} {v : Int32} (h : mX fs as M M') (hk : k ∈ as) : mX fs as M (ma M' k j v) := ⟨h.1, h.2.1, fun i hi => (if_neg (fun e => hi (by rw [e]; exact hk))).trans (h.2.2.1 i hi), h.2.2.2⟩
theorem mX.msl {fs as : List Nat} {M M' : MM} {v : Int64} (h : mX fs as M M') (hk : 48 ∈ fs) : mX fs as M (msl M' v) := ⟨h.1, fun q => absurd hk q, h.2.2.1, h.2.2.2⟩
theorem mX.mrl {fs as : List Nat} {M M' : MM} {j : Nat} {v : Int64} (h : mX fs as M M') (hk : 37 ∈ as) : mX fs as M (mrl M' j v) := ⟨h.1, h.2.1, h.2.2.1, fun q => absurd hk q⟩
theorem mX.tr {fs as fs' as' : List Nat} {M M' M'' : MM} (h : mX fs as M M') (h2 : mX fs' as' M' M'') (hf : ∀ x ∈ fs', x ∈ fs) (ha : ∀ x ∈ as', x ∈ as) : mX fs as M M'' := ⟨fun k hk => (h2.1 k (fun q => hk (hf _ q))).trans (h.1 k hk), fun hk => (h2.2.1 (fun q => hk (hf _ q))).trans (h.2.1 hk), fun k hk => (h2.2.2.1 k (fun q => hk (ha _ q))).trans (h.2.2.1 k hk), fun hk => (h2.2.2.2 (fun q => hk (ha _ q))).trans (h.2.2.2 hk)⟩
theorem mX.mono {fs as fs' as' : List Nat} {M M' : MM} (h : mX fs' as' M M') (hf : ∀ x ∈ fs', x ∈ fs) (ha : ∀ x ∈ as', x ∈ as) : mX fs as M M' := mX.rf.tr h hf ha
theorem jroom_of {f f' : FS} {d d' c s c' s' : Nat} (h1 : f'.2.2.2.2.1 = jrm d' c' s') (h2 : f.2.2.2.2.1 = jrm d c s) (hd : d' + 1 ≤ d) (hm : f'.2.2.1 ≤ 21) : jroom f' f := by
  unfold jroom
  rw [h1, h2]
  simp only [jrm]
  omega
/-- along the tokens of a block: N tokens from B on -/
def EvC (M : MM) (B N : Nat) (tk : Tk) (ord : Bool) (e : En) (n : Nat) : Prop :=
  B + N ≤ 2800 ∧ M.1 23 = nI (B + N) ∧ M.1 8 = nI (wLo ord) ∧ (∀ i, i < N → M.2.2.1 2 (266 + (B + i)) = tk.1 i) ∧ (∀ i, i < N → M.2.2.1 2 (3066 + (B + i)) = tk.2 i) ∧ tkOk tk N ∧ enOk e ∧ (∀ i, i < 10 → (ord = true → i < 5) → (M.2.2.1 25 i).toInt64 = e.1 i) ∧ n ≤ 10 ∧ M.2.2.1 2 256 = nI n ∧ (∀ k, k < 10 → e.2.1 k = if k < n then (sWorth M k).toInt64 else -1) ∧ (∀ k, k < 10 → e.2.2 k = if k < n then (if M.2.2.1 2 k = nI 2 then 1 else 0) else -1)
theorem EvC.mv {M M' : MM} {B N : Nat} {tk : Tk} {ord : Bool} {e : En} {n : Nat} (h : EvC M B N tk ord e n) (hx : mX [22, 24] [] M M') : EvC M' B N tk ord e n := by
  have e2 : M'.2.2.1 2 = M.2.2.1 2 := hx.2.2.1 2 (by decide)
  have e25 : M'.2.2.1 25 = M.2.2.1 25 := hx.2.2.1 25 (by decide)
  have hw : ∀ k, sWorth M' k = sWorth M k := fun k => by unfold sWorth; rw [e2]
  unfold EvC
  rw [e2, e25, hx.1 23 (by decide), hx.1 8 (by decide)]
  simp only [hw]
  exact h
def zB {α : Type} (live b : Bool) (o : Option α) : Bool := if live && !b then o.isNone else b
/-- a method of sums, along the tokens -/
def EvS (E : JE) (f : FS) (L : ML) (ph : HP) (P1 : Nat → Nat → Rs Sm) (B N : Nat) (tk : Tk) (ord : Bool) (e : En) (n : Nat) : Prop := ∀ (M : MM) (pos lv : Nat) (s : Sm) (p l : Nat) (live b : Bool), EvC M B N tk ord e n → P1 pos lv = .inr (s, p, l) → M.1 22 = nI (B + pos) → M.1 24 = bI b → MC E f L M ph [.int (bI live)] (rJ fun r M' => mX [22, 24] [] M M' ∧ M'.1 22 = nI (B + p) ∧ M'.1 24 = bI (zB live b (s e)) ∧ (live = true → b = false → ∀ v, s e = some v → r = v))
def EvT (E : JE) (f : FS) (L : ML) (ph : HP) (P1 : Nat → Nat → Rs Ts) (B N : Nat) (tk : Tk) (ord : Bool) (e : En) (n : Nat) : Prop := ∀ (M : MM) (pos lv : Nat) (s : Ts) (p l : Nat) (live b : Bool), EvC M B N tk ord e n → P1 pos lv = .inr (s, p, l) → M.1 22 = nI (B + pos) → M.1 24 = bI b → MC E f L M ph [.int (bI live)] (rI fun r M' => ∃ rb : Bool, r = bI rb ∧ mX [22, 24] [] M M' ∧ M'.1 22 = nI (B + p) ∧ M'.1 24 = bI (zB live b (s e)) ∧ (live = true → b = false → ∀ v, s e = some v → rb = v))
section Ev
variable {E : JE} {L : ML} {ph : HP} {B N : Nat} {tk : Tk} {ord : Bool} {e : En} {n : Nat}
theorem c_X6_codeAt {M : MM} {pos : Nat} (hC : EvC M B N tk ord e n) (hp : pos ≤ N + 1) : MC E fX6_codeAt L M ph [.int (nI (B + pos))] (rI fun r M' => r = tk.1 pos ∧ M' = M) := by
  obtain ⟨h1, h2, -, h4, -, h6, -⟩ := hC
  refine Ct.of [some (.ref (L.1 52)), some (.int (nI (B + pos)))] rfl (Nat.le_of_ble_eq_true rfl) (show plainName RX6 = true by decide +kernel) rfl ?_
  refine G.iload_n1 dX6_codeAt_0 ?_
  refine G.aload_n0 dX6_codeAt_1 ?_
  refine G.mgeti 23 fl_X6_245 dX6_codeAt_2 ?_
  rw [h2]
  refine G.icmp_ge (tgt := 21) dX6_codeAt_5 (by decide) (fun c_5 => ?_) (fun c_5 => ?_)
  · have q := (nI_leI (by omega) (by omega)).mp c_5
    refine G.iconst (v := nI 0) dX6_codeAt_21 (by decide) ?_
    refine G.ireturn dX6_codeAt_22 ?_
    first | exact ⟨M, rfl, _, rfl, (h6.1 pos (by omega)).symm, rfl⟩ | exact ⟨M, rfl, _, rfl, rfl, rfl⟩
  · have q : ¬ B + N ≤ B + pos := fun z => c_5 ((nI_leI (by omega) (by omega)).mpr z)
    refine G.aload_n0 dX6_codeAt_8 ?_
    refine G.mgeta 2 fl_X6_24 dX6_codeAt_9 ?_
    refine G.sipush (v := nI 266) dX6_codeAt_12 (by decide) ?_
    refine G.iload_n1 dX6_codeAt_15 ?_
    first | with_reducible refine G.iaddn dX6_codeAt_16 ?_ | refine G.iadd dX6_codeAt_16 ?_
    refine G.miald (n := 5866) 2 _ dX6_codeAt_17 rfl (by omega) ?_
    rw [h4 pos (by omega)]
    refine G.goto (tgt := 22) dX6_codeAt_18 (by decide) ?_
    refine G.ireturn dX6_codeAt_22 ?_
    first | exact ⟨M, rfl, _, rfl, (h6.1 pos (by omega)).symm, rfl⟩ | exact ⟨M, rfl, _, rfl, rfl, rfl⟩
theorem c_X6_passes0 {M : MM} {pos : Nat} (c : Int32) (hC : EvC M B N tk ord e n) (hp : pos ≤ N) (hgo : M.1 22 = nI (B + pos)) : MC E fX6_passes0 L M ph [.int c] (rI fun r M' => r = bI (decide (tk.1 pos = c)) ∧ M' = if tk.1 pos = c then ms M 22 (nI (B + pos + 1)) else M) := by
  have hC' := hC
  obtain ⟨h1, -⟩ := hC'
  refine Ct.of [some (.ref (L.1 52)), some (.int c), none] rfl (Nat.le_of_ble_eq_true rfl) (show plainName RX6 = true by decide +kernel) rfl ?_
  refine G.aload_n0 dX6_passes0_0 ?_
  refine G.aload_n0 dX6_passes0_1 ?_
  refine G.mgeti 22 fl_X6_248 dX6_passes0_2 ?_
  rw [hgo]
  refine G.mcall (f' := fX6_codeAt) q2124 ck_X6_codeAt (c_X6_codeAt (pos := pos) hC (by omega)) dX6_passes0_5 (rI.k fun r_5 M_5 h_5 => ?_)
  obtain ⟨e_5, h_5⟩ := h_5; replace e_5 := e_5.symm; replace h_5 := h_5.symm; subst e_5; subst h_5
  refine G.iload_n1 dX6_passes0_8 ?_
  refine G.icmp_ne (tgt := 16) dX6_passes0_9 (by decide) (fun c_9 => ?_) (fun c_9 => ?_)
  · refine G.iconst (v := nI 0) dX6_passes0_16 (by decide) ?_
    refine G.istore_n2 dX6_passes0_17 ?_
    refine G.iload_n2 dX6_passes0_18 ?_
    refine G.if_eq (tgt := 32) dX6_passes0_19 (by decide) (fun _ => ?_) (fun c_19 => absurd c_19 (by decide))
    refine G.iload_n2 dX6_passes0_32 ?_
    refine G.ireturn dX6_passes0_33 ?_ (hn := by first | rfl | exact bI_nar _)
    first | exact ⟨_, rfl, _, rfl, bI_t (by first | assumption | exact Classical.not_not.mp (by assumption)), by rw [if_pos (by first | assumption | exact Classical.not_not.mp (by assumption))]⟩ | exact ⟨_, rfl, _, rfl, bI_f (by assumption), by rw [if_neg (by assumption)]⟩
  · refine G.iconst (v := nI 1) dX6_passes0_12 (by decide) ?_
    refine G.goto (tgt := 17) dX6_passes0_13 (by decide) ?_
    refine G.istore_n2 dX6_passes0_17 ?_
    refine G.iload_n2 dX6_passes0_18 ?_
    refine G.if_eq (tgt := 32) dX6_passes0_19 (by decide) (fun c_19 => absurd c_19 (by decide)) (fun _ => ?_)
    refine G.aload_n0 dX6_passes0_22 ?_
    refine G.dup dX6_passes0_23 rfl ?_
    refine G.mgeti 22 fl_X6_248 dX6_passes0_24 ?_
    rw [hgo]
    refine G.iconst (v := nI 1) dX6_passes0_27 (by decide) ?_
    first | with_reducible refine G.iaddn dX6_passes0_28 ?_ | refine G.iadd dX6_passes0_28 ?_
    refine G.mputi 22 fp_X6_248 dX6_passes0_29 ?_
    refine G.iload_n2 dX6_passes0_32 ?_
    refine G.ireturn dX6_passes0_33 ?_ (hn := by first | rfl | exact bI_nar _)
    first | exact ⟨_, rfl, _, rfl, bI_t (by first | assumption | exact Classical.not_not.mp (by assumption)), by rw [if_pos (by first | assumption | exact Classical.not_not.mp (by assumption))]⟩ | exact ⟨_, rfl, _, rfl, bI_f (by assumption), by rw [if_neg (by assumption)]⟩
theorem lg_gt {x y : Int64} : 0 < lg_cmp x y ↔ y < x := by
  unfold lg_cmp
  split
  · rename_i h; exact ⟨fun _ => h, fun _ => by decide⟩
  · rename_i h
    split <;> exact ⟨fun q => absurd q (by decide), fun q => absurd q h⟩
theorem lg_eq {x y : Int64} : lg_cmp x y = 0 ↔ x = y := by
  unfold lg_cmp
  split
  · rename_i h; exact ⟨fun q => absurd q (by decide), fun q => by rw [q] at h; exact (Int64.lt_irrefl h).elim⟩
  · split
    · rename_i h; exact ⟨fun _ => h, fun _ => rfl⟩
    · rename_i h; exact ⟨fun q => absurd q (by decide), fun q => absurd q h⟩
theorem lg_lt {x y : Int64} : lg_cmp x y < 0 ↔ x < y := by
  unfold lg_cmp
  split
  · rename_i h; exact ⟨fun q => absurd q (by decide), fun q => by simp only [l_lt] at *; omega⟩
  · split
    · rename_i h; exact ⟨fun q => absurd q (by decide), fun q => by rw [h] at q; exact (Int64.lt_irrefl q).elim⟩
    · rename_i h1 h2
      refine ⟨fun _ => ?_, fun _ => by decide⟩
      simp only [l_lt, l_eq] at *
      omega
theorem lg_ge {x y : Int64} : 0 ≤ lg_cmp x y ↔ y ≤ x := by
  have h := @lg_lt x y
  rw [i_le, l_le]
  rw [i_lt, l_lt] at h
  rw [show (0 : Int32).toInt = 0 from rfl] at *
  omega
theorem lg_le {x y : Int64} : lg_cmp x y ≤ 0 ↔ x ≤ y := by
  have h := @lg_gt x y
  rw [i_le, l_le]
  rw [i_lt, l_lt] at h
  rw [show (0 : Int32).toInt = 0 from rfl] at *
  omega
def zOor (v : Int64) : Bool := decide (big < v ∨ v < -big)
theorem zOor_t {v : Int64} (h : big < v ∨ v < -big) : zOor v = true := decide_eq_true h
theorem zOor_f {v : Int64} (h1 : ¬ big < v) (h2 : ¬ v < -big) : zOor v = false := decide_eq_false (fun h => h.elim h1 h2)
theorem c_X6_bounded {M : MM} (v : Int64) (live b : Bool) (hb : M.1 24 = bI b) : MC E fX6_bounded L M ph [.long v, .int (bI live)] (rJ fun r M' => mX [22, 24] [] M M' ∧ M'.1 22 = M.1 22 ∧ M'.1 24 = bI (b || (live && zOor v)) ∧ r = if (b || (live && zOor v)) then 0 else v) := by
  refine Ct.of [some (.ref (L.1 52)), some (.long v), none, some (.int (bI live))] rfl (Nat.le_of_ble_eq_true rfl) (show plainName RX6 = true by decide +kernel) rfl ?_
  have key : ∀ M', mX [22, 24] [] M M' → M'.1 22 = M.1 22 → M'.1 24 = bI (b || (live && zOor v)) → G E fX6_bounded (mFin E fX6_bounded L ph (rJ fun r M' => mX [22, 24] [] M M' ∧ M'.1 22 = M.1 22 ∧ M'.1 24 = bI (b || (live && zOor v)) ∧ r = if (b || (live && zOor v)) then 0 else v)) 25 [some (.ref (L.1 52)), some (.long v), none, some (.int (bI live))] [] (movl L M' ph) 0 0 := by
    intro M' hx h22 h24
    refine G.aload_n0 dX6_bounded_25 ?_
    refine G.mgeti 24 fl_X6_258 dX6_bounded_26 ?_
    rw [h24]
    refine G.ifb_eq (tgt := 36) dX6_bounded_29 (by decide) (fun c_29 => ?_) (fun c_29 => ?_)
    · refine G.lload_n1 dX6_bounded_36 ?_
      refine G.lreturn dX6_bounded_37 ?_
      first | exact ⟨_, rfl, _, rfl, hx, h22, h24, by rw [if_pos (by assumption)]⟩ | exact ⟨_, rfl, _, rfl, hx, h22, h24, by rw [if_neg (by simp_all)]⟩
    · refine G.lconst (v := 0) dX6_bounded_32 (by decide) ?_
      refine G.goto (tgt := 37) dX6_bounded_33 (by decide) ?_
      refine G.lreturn dX6_bounded_37 ?_
      first | exact ⟨_, rfl, _, rfl, hx, h22, h24, by rw [if_pos (by assumption)]⟩ | exact ⟨_, rfl, _, rfl, hx, h22, h24, by rw [if_neg (by simp_all)]⟩
  refine G.iload_n3 dX6_bounded_0 ?_
  refine G.ifb_eq (tgt := 25) dX6_bounded_1 (by decide) (fun c_1 => ?_) (fun c_1 => ?_)
  · exact key _ mX.rf rfl (by rw [hb, c_1]; simp)
  · refine G.lload_n1 dX6_bounded_4 ?_
    refine G.ldc2 q2149 dX6_bounded_5 ?_
    refine G.lcmp dX6_bounded_8 ?_
    refine G.if_gt (tgt := 20) dX6_bounded_9 (by decide) (fun c_9 => ?_) (fun c_9 => ?_)
    · refine G.aload_n0 dX6_bounded_20 ?_
      refine G.iconst (v := nI 1) dX6_bounded_21 (by decide) ?_
      refine G.mputi 24 fp_X6_258 dX6_bounded_22 ?_ (hn := by first | rfl | exact bI_nar _) (hfit := by first | rfl | exact bI_fit _)
      first
      | exact key _ (mX.rf.ms (by decide)) rfl (by rw [ms_1, if_pos rfl, c_1, zOor_t (Or.inl (lg_gt.mp c_9))]; cases b <;> rfl)
      | exact key _ (mX.rf.ms (by decide)) rfl (by rw [ms_1, if_pos rfl, c_1, zOor_t (Or.inr (Int64.not_le.mp (fun h => c_17 (lg_ge.mpr h))))]; cases b <;> rfl)
      | exact key _ mX.rf rfl (by rw [hb, c_1, zOor_f (fun h => c_9 (lg_gt.mpr h)) (Int64.not_lt.mpr (lg_ge.mp c_17))]; cases b <;> rfl)
    · refine G.lload_n1 dX6_bounded_12 ?_
      refine G.ldc2 q2150 dX6_bounded_13 ?_
      refine G.lcmp dX6_bounded_16 ?_
      refine G.if_ge (tgt := 25) dX6_bounded_17 (by decide) (fun c_17 => ?_) (fun c_17 => ?_)
      · first
        | exact key _ (mX.rf.ms (by decide)) rfl (by rw [ms_1, if_pos rfl, c_1, zOor_t (Or.inl (lg_gt.mp c_9))]; cases b <;> rfl)
        | exact key _ (mX.rf.ms (by decide)) rfl (by rw [ms_1, if_pos rfl, c_1, zOor_t (Or.inr (Int64.not_le.mp (fun h => c_17 (lg_ge.mpr h))))]; cases b <;> rfl)
        | exact key _ mX.rf rfl (by rw [hb, c_1, zOor_f (fun h => c_9 (lg_gt.mpr h)) (Int64.not_lt.mpr (lg_ge.mp c_17))]; cases b <;> rfl)
      · refine G.aload_n0 dX6_bounded_20 ?_
        refine G.iconst (v := nI 1) dX6_bounded_21 (by decide) ?_
        refine G.mputi 24 fp_X6_258 dX6_bounded_22 ?_ (hn := by first | rfl | exact bI_nar _) (hfit := by first | rfl | exact bI_fit _)
        first
        | exact key _ (mX.rf.ms (by decide)) rfl (by rw [ms_1, if_pos rfl, c_1, zOor_t (Or.inl (lg_gt.mp c_9))]; cases b <;> rfl)
        | exact key _ (mX.rf.ms (by decide)) rfl (by rw [ms_1, if_pos rfl, c_1, zOor_t (Or.inr (Int64.not_le.mp (fun h => c_17 (lg_ge.mpr h))))]; cases b <;> rfl)
        | exact key _ mX.rf rfl (by rw [hb, c_1, zOor_f (fun h => c_9 (lg_gt.mpr h)) (Int64.not_lt.mpr (lg_ge.mp c_17))]; cases b <;> rfl)
end Ev
