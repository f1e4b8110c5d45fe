/-! THE MODEL TELLS: rows of parts, of terms -/
theorem pRows_of {α : Type} {tk : Tk} {sign : Int32 → Bool} {join : Int32 → α → α → α} {one : Nat → Nat → Rs α} {pos lv : Nat} {s : α} {p l : Nat} (h : pRows tk sign join one pos lv = .inr (s, p, l)) : ∃ s1 p1 l1, one pos lv = .inr (s1, p1, l1) ∧ pRow tk sign join one 402 s1 p1 l1 = .inr (s, p, l) := by
  unfold pRows at h
  cases h3 : one pos lv with
  | inl x => rw [h3] at h; cases h
  | inr x =>
    obtain ⟨s1, p1, l1⟩ := x
    rw [h3] at h
    exact ⟨s1, p1, l1, rfl, h⟩
theorem pRow_on {α : Type} {tk : Tk} {sign : Int32 → Bool} {join : Int32 → α → α → α} {one : Nat → Nat → Rs α} {n pos lv : Nat} {acc s : α} {p l : Nat} (h : pRow tk sign join one (n + 1) acc pos lv = .inr (s, p, l)) (hs : sign (tk.1 pos) = true) : ∃ s1 p1 l1, one (pos + 1) lv = .inr (s1, p1, l1) ∧ pRow tk sign join one n (join (tk.1 pos) acc s1) p1 l1 = .inr (s, p, l) := by
  rw [pRow, if_pos hs] at h
  cases h3 : one (pos + 1) lv with
  | inl x => rw [h3] at h; cases h
  | inr x =>
    obtain ⟨s1, p1, l1⟩ := x
    rw [h3] at h
    exact ⟨s1, p1, l1, rfl, h⟩
theorem pRow_end {α : Type} {tk : Tk} {sign : Int32 → Bool} {join : Int32 → α → α → α} {one : Nat → Nat → Rs α} {n pos lv : Nat} {acc s : α} {p l : Nat} (h : pRow tk sign join one (n + 1) acc pos lv = .inr (s, p, l)) (hs : sign (tk.1 pos) = false) : acc = s ∧ pos = p ∧ lv = l := by
  rw [pRow, if_neg (by rw [hs]; decide)] at h
  cases h
  exact ⟨rfl, rfl, rfl⟩
/-- a sum's value is 'w' where it counts -/
def zV {α : Type} (live b : Bool) (o : Option α) (r : α) : Prop := live = true → b = false → ∀ v, o = some v → r = v
theorem zBin_n1 {op : Int32} {a b : Sm} {e : En} (h : a e = none) : zBin op a b e = none := by
  unfold zBin; rw [h]
theorem zBin_n2 {op : Int32} {a b : Sm} {e : En} {v : Int64} (h1 : a e = some v) (h : b e = none) : zBin op a b e = none := by
  unfold zBin; rw [h1, h]
theorem zWithin_eq (v : Int64) : zWithin v = if zOor v = true then none else some v := by
  unfold zWithin zOor
  by_cases h : big < v ∨ v < -big
  · rw [if_pos h, if_pos (decide_eq_true h)]
  · rw [if_neg h, if_neg (by simp [h])]
theorem zOor_bd {v : Int64} (h : -1000000000 ≤ v.toInt ∧ v.toInt ≤ 1000000000) : zOor v = false := by
  refine zOor_f (fun q => ?_) (fun q => ?_)
  · rw [l_lt, big_t] at q; omega
  · rw [l_lt, big_n] at q; omega
/-- what a bounded result does to the flag and to the value -/
theorem z_fin {live b : Bool} {o : Option Int64} {b4 : Bool} {r : Int64} (h1 : live = false ∨ b = true → b4 = b) (h2 : live = true → b = false → (o = none → (b4 || zOor r) = true) ∧ ∀ v, o = some v → (b4 || zOor r) = false ∧ r = v) : (b4 || (live && zOor r)) = zB live b o ∧ zV live b o (if (b4 || (live && zOor r)) = true then 0 else r) := by
  cases live with
  | false =>
    rw [h1 (Or.inl rfl)]
    refine ⟨by rw [zB_dead (Or.inl rfl)]; cases b <;> rfl, fun h => (by cases h)⟩
  | true =>
    cases b with
    | true =>
      rw [h1 (Or.inr rfl)]
      exact ⟨by rw [zB_dead (Or.inr rfl)]; rfl, fun _ h => (by cases h)⟩
    | false =>
      obtain ⟨g1, g2⟩ := h2 rfl rfl
      cases o with
      | none => exact ⟨by rw [Bool.true_and, g1 rfl]; rfl, fun _ _ v h => (by cases h)⟩
      | some v =>
        obtain ⟨g3, g4⟩ := g2 v rfl
        rw [Bool.true_and, g3]
        exact ⟨rfl, fun _ _ v' h => by cases h; rw [if_neg (by decide)]; exact g4⟩
theorem zB_or {α : Type} {live b : Bool} {o : Option α} (h : live = true) (h2 : b = false) : zB live b o = o.isNone := by
  unfold zB; rw [h, h2]; rfl
theorem z_mul {live b : Bool} {acc s1 : Sm} {e : En} {op : Int32} {v w w2 r : Int64} {b4 : Bool} (hop : op = nI 142 ∨ op = nI 147 ∨ op = nI 137) (ha : zBd e acc) (hs : zBd e s1) (hv : zV live b (acc e) v) (hw : zV live (zB live b (acc e)) (s1 e) w)
    (h4 : (op = nI 142 ∨ ¬ w = 0) ∧ b4 = zB live (zB live b (acc e)) (s1 e) ∧ w2 = w ∨ (¬ op = nI 142 ∧ w = 0) ∧ b4 = (zB live (zB live b (acc e)) (s1 e) || live) ∧ w2 = 1)
    (hr : r = if op = nI 142 then v * w2 else if op = nI 147 then v / w2 else v - v / w2 * w2) : (b4 || (live && zOor r)) = zB live b (zBin op acc s1 e) ∧ zV live b (zBin op acc s1 e) (if (b4 || (live && zOor r)) = true then 0 else r) := by
  refine z_fin (fun h => ?_) (fun hl hb => ?_)
  · have e1 : zB live (zB live b (acc e)) (s1 e) = b := by
      have e0 : zB live b (acc e) = b := zB_dead h
      rw [e0]; exact zB_dead h
    rcases h4 with ⟨-, h5, -⟩ | ⟨-, h5, -⟩
    · rw [h5, e1]
    · rw [h5, e1]
      rcases h with h | h <;> rw [h] <;> simp
  · have e0 : zB live b (acc e) = (acc e).isNone := zB_or hl hb
    have hd1 : ¬ nI 147 = nI 142 := by decide
    have hd2 : ¬ nI 137 = nI 142 := by decide
    have hd3 : ¬ nI 137 = nI 147 := by decide
    have hd4 : ¬ nI 142 = nI 147 := by decide
    have hd5 : ¬ nI 142 = nI 137 := by decide
    cases h1 : acc e with
    | none =>
      rw [zBin_n1 h1]
      refine ⟨fun _ => ?_, fun v h => (by cases h)⟩
      have : zB live (zB live b (acc e)) (s1 e) = true := by
        rw [e0, h1]; exact zB_dead (Or.inr rfl)
      rcases h4 with ⟨-, h5, -⟩ | ⟨-, h5, -⟩ <;> rw [h5, this] <;> rfl
    | some x =>
      have hvx := hv hl hb x h1
      rw [h1] at e0
      have e0' : zB live b (acc e) = false := by rw [h1, e0]; rfl
      cases h2 : s1 e with
      | none =>
        rw [zBin_n2 h1 h2]
        refine ⟨fun _ => ?_, fun v h => (by cases h)⟩
        have : zB live (zB live b (acc e)) (s1 e) = true := by
          rw [e0', h2]; exact zB_or hl rfl
        rcases h4 with ⟨-, h5, -⟩ | ⟨-, h5, -⟩ <;> rw [h5, this] <;> rfl
      | some y =>
        have hwy := hw hl e0' y h2
        have hx := ha x h1
        have hy := hs y h2
        have e3 : zB live (zB live b (acc e)) (s1 e) = false := by
          rw [e0', h2]; exact zB_some
        rw [e3] at h4
        subst hvx; subst hwy
        have hz : zBin op acc s1 e = if op = nI 147 then (if w = 0 then none else some (v / w)) else if op = nI 137 then (if w = 0 then none else some (v - v / w * w)) else if op = nI 143 then zWithin (v + w) else if op = nI 145 then zWithin (v - w) else zWithin (v * w) := by
          unfold zBin; rw [h1, h2]
        rw [hz]
        rcases h4 with ⟨h5, h6, h7⟩ | ⟨⟨h5, h6⟩, h7, h8⟩
        · subst h6; subst h7
          rcases hop with h | h | h
          · subst h
            rw [if_neg hd4, if_neg hd5, if_neg (by decide), if_neg (by decide), zWithin_eq]
            rw [if_pos rfl] at hr
            subst hr
            rw [Bool.false_or]
            split
            · rename_i q; exact ⟨fun _ => q, fun v h => (by cases h)⟩
            · rename_i q; exact ⟨fun h => (by cases h), fun v h => (by cases h; exact ⟨by simpa using q, rfl⟩)⟩
          · subst h
            have h9 : ¬ w2 = 0 := h5.resolve_left hd1
            rw [if_pos rfl, if_neg h9]
            rw [if_neg hd1, if_pos rfl] at hr
            subst hr
            refine ⟨fun h => (by cases h), fun v' h => ?_⟩
            cases h
            refine ⟨?_, rfl⟩
            rw [Bool.false_or]
            exact zOor_bd (by rw [l_div hx]; exact tdiv_bd hx)
          · subst h
            have h9 : ¬ w2 = 0 := h5.resolve_left hd2
            rw [if_neg hd3, if_pos rfl, if_neg h9]
            rw [if_neg hd2, if_neg hd3] at hr
            subst hr
            refine ⟨fun h => (by cases h), fun v' h => ?_⟩
            cases h
            refine ⟨?_, rfl⟩
            rw [Bool.false_or]
            refine zOor_bd ?_
            rw [l_mod hx hy]
            have h10 := Int.natAbs_tmod v.toInt w2.toInt
            have h11 := Nat.mod_le v.toInt.natAbs w2.toInt.natAbs
            omega
        · subst h6
          rw [h7, hl]
          have : (if op = nI 147 then (if (0 : Int64) = 0 then none else some (v / 0)) else if op = nI 137 then (if (0 : Int64) = 0 then none else some (v - v / 0 * 0)) else if op = nI 143 then zWithin (v + 0) else if op = nI 145 then zWithin (v - 0) else zWithin (v * 0)) = none := by
            rcases hop with h | h | h
            · exact absurd h h5
            · rw [if_pos h, if_pos rfl]
            · subst h; rw [if_neg hd3, if_pos rfl, if_pos rfl]
          rw [this]
          exact ⟨fun _ => rfl, fun v h => (by cases h)⟩
theorem z_add {live b : Bool} {acc s1 : Sm} {e : En} {op : Int32} {v w r : Int64} (hop : op = nI 143 ∨ op = nI 145) (hv : zV live b (acc e) v) (hw : zV live (zB live b (acc e)) (s1 e) w)
    (hr : r = if op = nI 143 then v + w else v - w) : (zB live (zB live b (acc e)) (s1 e) || (live && zOor r)) = zB live b (zBin op acc s1 e) ∧ zV live b (zBin op acc s1 e) (if (zB live (zB live b (acc e)) (s1 e) || (live && zOor r)) = true then 0 else r) := by
  refine z_fin (fun h => ?_) (fun hl hb => ?_)
  · have e0 : zB live b (acc e) = b := zB_dead h
    rw [e0]; exact zB_dead h
  · have e0 : zB live b (acc e) = (acc e).isNone := zB_or hl hb
    cases h1 : acc e with
    | none =>
      rw [zBin_n1 h1]
      refine ⟨fun _ => ?_, fun v h => (by cases h)⟩
      rw [h1] at e0
      rw [e0, show zB live (none : Option Int64).isNone (s1 e) = true from zB_dead (Or.inr rfl)]; rfl
    | some x =>
      have hvx := hv hl hb x h1
      rw [h1] at e0
      have e0' : zB live b (acc e) = false := by rw [h1, e0]; rfl
      cases h2 : s1 e with
      | none =>
        rw [zBin_n2 h1 h2]
        refine ⟨fun _ => ?_, fun v h => (by cases h)⟩
        rw [e0, show zB live (some x : Option Int64).isNone (none : Option Int64) = true from zB_or hl rfl]; rfl
      | some y =>
        have hwy := hw hl e0' y h2
        subst hvx; subst hwy
        rw [e0, show zB live (some v : Option Int64).isNone (some w) = false from zB_some]
        have hz : zBin op acc s1 e = if op = nI 147 then (if w = 0 then none else some (v / w)) else if op = nI 137 then (if w = 0 then none else some (v - v / w * w)) else if op = nI 143 then zWithin (v + w) else if op = nI 145 then zWithin (v - w) else zWithin (v * w) := by
          unfold zBin; rw [h1, h2]
        have hz2 : zBin op acc s1 e = zWithin r := by
          rw [hz]
          rcases hop with h | h
          · subst h; rw [if_neg (by decide), if_neg (by decide), if_pos rfl, hr, if_pos rfl]
          · subst h; rw [if_neg (by decide), if_neg (by decide), if_neg (by decide), if_pos rfl, hr, if_neg (by decide)]
        rw [hz2, zWithin_eq, Bool.false_or]
        split
        · rename_i q; exact ⟨fun _ => q, fun v h => (by cases h)⟩
        · rename_i q; exact ⟨fun h => (by cases h), fun v h => (by cases h; exact ⟨by simpa using q, rfl⟩)⟩
section Ev
variable {E : JE} {L : ML} {ph : HP} {B N : Nat} {tk : Tk} {ord : Bool} {e : En} {n : Nat}
theorem e_term {dp : Nat} {one : Nat → Nat → Rs Sm} (hdp : 10 ≤ dp) (hone : EvS E (fX6_partOf dp) L ph one B N tk ord e n) (hQ : ∀ pos lv s p l, one pos lv = .inr (s, p, l) → zBd e s ∧ pos < p ∧ p ≤ N) : EvS E (fX6_termOf (dp + 1)) L ph (pRows tk isMul zBin one) B N tk ord e n := by
  intro M pos lv s p l live b hC hP hgo hb
  obtain ⟨s0, p0, l0, hP0, hPr⟩ := pRows_of hP
  obtain ⟨hQ0, hlt0, hle0⟩ := hQ _ _ _ _ _ hP0
  have hBN : B + N ≤ 2800 := hC.1
  have loop : ∀ (k : Nat) (acc : Sm) (M2 : MM) (pos2 lv2 : Nat) (v : Int64) (a4 a5 a6 : Option Value), mX [22, 24] [] M M2 → M2.1 22 = nI (B + pos2) → M2.1 24 = bI (zB live b (acc e)) → zV live b (acc e) v → zBd e acc → pos2 ≤ N → pRow tk isMul zBin one k acc pos2 lv2 = .inr (s, p, l) → G E (fX6_termOf (dp + 1)) (mFin E (fX6_termOf (dp + 1)) L ph (rJ fun r M' => mX [22, 24] [] M M' ∧ M'.1 22 = nI (B + p) ∧ M'.1 24 = bI (zB live b (s e)) ∧ (live = true → b = false → ∀ v, s e = some v → r = v))) 6 [some (.ref (L.1 52)), some (.int (bI live)), some (.long v), none, a4, a5, a6] [] (movl L M2 ph) 0 0 := by
    intro k
    induction k with
    | zero => intro acc M2 pos2 lv2 v a4 a5 a6 _ _ _ _ _ _ h; simp [pRow] at h
    | succ k ih =>
      intro acc M2 pos2 lv2 v a4 a5 a6 hx h22 h24 hv hbd hle h
      have hC2 := hC.mv hx
      have k54 : (tk.1 pos2 = nI 142 ∨ tk.1 pos2 = nI 147 ∨ tk.1 pos2 = nI 137) → G E (fX6_termOf (dp + 1)) (mFin E (fX6_termOf (dp + 1)) L ph (rJ fun r M' => mX [22, 24] [] M M' ∧ M'.1 22 = nI (B + p) ∧ M'.1 24 = bI (zB live b (s e)) ∧ (live = true → b = false → ∀ v, s e = some v → r = v))) 54 [some (.ref (L.1 52)), some (.int (bI live)), some (.long v), none, a4, a5, a6] [] (movl L M2 ph) 0 0 := by
        intro hop
        obtain ⟨s1, p1, l1, h1, h2⟩ := pRow_on h (show isMul (tk.1 pos2) = true from decide_eq_true hop)
        obtain ⟨hQ1, hlt1, hle1⟩ := hQ _ _ _ _ _ h1
        have k121 : ∀ (M3 : MM) (w w2 : Int64) (b4 : Bool), mX [22, 24] [] M M3 → M3.1 22 = nI (B + p1) → M3.1 24 = bI b4 → zV live (zB live b (acc e)) (s1 e) w → ((tk.1 pos2 = nI 142 ∨ ¬ w = 0) ∧ b4 = zB live (zB live b (acc e)) (s1 e) ∧ w2 = w ∨ (¬ tk.1 pos2 = nI 142 ∧ w = 0) ∧ b4 = (zB live (zB live b (acc e)) (s1 e) || live) ∧ w2 = 1) → G E (fX6_termOf (dp + 1)) (mFin E (fX6_termOf (dp + 1)) L ph (rJ fun r M' => mX [22, 24] [] M M' ∧ M'.1 22 = nI (B + p) ∧ M'.1 24 = bI (zB live b (s e)) ∧ (live = true → b = false → ∀ v, s e = some v → r = v))) 121 [some (.ref (L.1 52)), some (.int (bI live)), some (.long v), none, some (.int (tk.1 pos2)), some (.long w2), none] [] (movl L M3 ph) 0 0 := by
          intro M3 w w2 b4 hx3 h223 h243 hw h4
          have hz2 : ¬ tk.1 pos2 = nI 142 → ¬ w2 = 0 := by
            intro q
            rcases h4 with ⟨h5, -, h6⟩ | ⟨-, -, h6⟩
            · rw [h6]; exact h5.resolve_left q
            · rw [h6]; decide
          have k160 : ∀ r, r = (if tk.1 pos2 = nI 142 then v * w2 else if tk.1 pos2 = nI 147 then v / w2 else v - v / w2 * w2) → G E (fX6_termOf (dp + 1)) (mFin E (fX6_termOf (dp + 1)) L ph (rJ fun r M' => mX [22, 24] [] M M' ∧ M'.1 22 = nI (B + p) ∧ M'.1 24 = bI (zB live b (s e)) ∧ (live = true → b = false → ∀ v, s e = some v → r = v))) 160 [some (.ref (L.1 52)), some (.int (bI live)), some (.long v), none, some (.int (tk.1 pos2)), some (.long w2), none] [.long r, .ref (L.1 52)] (movl L M3 ph) 0 0 := by
            intro r hr
            obtain ⟨z1, z2⟩ := z_mul hop hbd hQ1 hv hw h4 hr
            refine G.iload_n1 dX6_termOf_160 ?_
            refine G.mcall (f' := fX6_bounded) q2145 ck_X6_bounded (c_X6_bounded r live b4 h243) dX6_termOf_161 (rJ.k fun r_161 M_161 h_161 => ?_) (hroom := jroom_of rfl rfl (by omega) (Nat.le_of_ble_eq_true rfl))
            obtain ⟨g1, g2, g3, g4⟩ := h_161
            subst g4
            refine G.lstore_n2 dX6_termOf_164 ?_
            refine G.goto (tgt := 6) dX6_termOf_165 (by decide) ?_
            exact ih (zBin (tk.1 pos2) acc s1) _ p1 l1 _ _ _ _ (hx3.tr g1 (by simp) (by simp)) (g2.trans h223) (by rw [g3, z1]) z2 (zBin_bd hbd hQ1) hle1 h2
          refine G.aload_n0 dX6_termOf_121 ?_
          refine G.iload4 dX6_termOf_122 ?_
          refine G.bipush (v := nI 42) dX6_termOf_124 (by decide) ?_
          refine G.scall (f' := fX6_sign) q2053 ck_X6_sign (c_X6_sign E 42) dX6_termOf_126 (sI.k fun r_126 h_126 => ?_) (hroom := jroom_of rfl rfl (by omega) (Nat.le_of_ble_eq_true rfl))
          replace h_126 := h_126.symm; subst h_126
          refine G.icmp_ne (tgt := 139) dX6_termOf_129 (by decide) (fun c_129 => ?_) (fun c_129 => ?_)
          · refine G.iload4 dX6_termOf_139 ?_
            refine G.bipush (v := nI 47) dX6_termOf_141 (by decide) ?_
            refine G.scall (f' := fX6_sign) q2053 ck_X6_sign (c_X6_sign E 47) dX6_termOf_143 (sI.k fun r_143 h_143 => ?_) (hroom := jroom_of rfl rfl (by omega) (Nat.le_of_ble_eq_true rfl))
            replace h_143 := h_143.symm; subst h_143
            refine G.icmp_ne (tgt := 156) dX6_termOf_146 (by decide) (fun c_146 => ?_) (fun c_146 => ?_)
            · refine G.lload_n2 dX6_termOf_156 ?_
              refine G.lload5 dX6_termOf_157 ?_
              refine G.lrem dX6_termOf_159 (hz2 (by assumption)) ?_
              first | exact k160 _ (by rw [if_pos c_129]) | exact k160 _ (by rw [if_neg c_129, if_pos c_146]) | exact k160 _ (by rw [if_neg c_129, if_neg c_146])
            · refine G.lload_n2 dX6_termOf_149 ?_
              refine G.lload5 dX6_termOf_150 ?_
              refine G.ldiv dX6_termOf_152 (hz2 (by assumption)) ?_
              refine G.goto (tgt := 160) dX6_termOf_153 (by decide) ?_
              first | exact k160 _ (by rw [if_pos c_129]) | exact k160 _ (by rw [if_neg c_129, if_pos c_146]) | exact k160 _ (by rw [if_neg c_129, if_neg c_146])
          · refine G.lload_n2 dX6_termOf_132 ?_
            refine G.lload5 dX6_termOf_133 ?_
            refine G.lmul dX6_termOf_135 ?_
            refine G.goto (tgt := 160) dX6_termOf_136 (by decide) ?_
            first | exact k160 _ (by rw [if_pos c_129]) | exact k160 _ (by rw [if_neg c_129, if_pos c_146]) | exact k160 _ (by rw [if_neg c_129, if_neg c_146])
        refine G.aload_n0 dX6_termOf_54 ?_
        refine G.aload_n0 dX6_termOf_55 ?_
        refine G.mgeti 22 fl_X6_248 dX6_termOf_56 ?_
        rw [h22]
        refine G.mcall (f' := fX6_codeAt) q2124 ck_X6_codeAt (c_X6_codeAt (pos := pos2) hC2 (by omega)) dX6_termOf_59 (rI.k fun r_59 M_59 h_59 => ?_) (hroom := jroom_of rfl rfl (by omega) (Nat.le_of_ble_eq_true rfl))
        obtain ⟨e_59, h_59⟩ := h_59; replace e_59 := e_59.symm; replace h_59 := h_59.symm; subst e_59; subst h_59
        refine G.istore4 dX6_termOf_62 ?_
        refine G.aload_n0 dX6_termOf_64 ?_
        refine G.dup dX6_termOf_65 rfl ?_
        refine G.mgeti 22 fl_X6_248 dX6_termOf_66 ?_
        rw [h22]
        refine G.iconst (v := nI 1) dX6_termOf_69 (by decide) ?_
        first | with_reducible refine G.iaddn dX6_termOf_70 ?_ | refine G.iadd dX6_termOf_70 ?_
        refine G.mputi 22 fp_X6_248 dX6_termOf_71 ?_
        refine G.aload_n0 dX6_termOf_74 ?_
        refine G.iload_n1 dX6_termOf_75 ?_
        refine G.mcall (f' := fX6_partOf (dp)) q2136 (ck_X6_partOf _) (hone (ms M2 22 (nI (B + pos2 + 1))) (pos2 + 1) lv2 s1 p1 l1 live (zB live b (acc e)) (hC2.mv (mX.rf.ms (by decide))) h1 rfl h24) dX6_termOf_76 (rJ.k fun r_76 M_76 h_76 => ?_) (hroom := jroom_of rfl rfl (by omega) (Nat.le_of_ble_eq_true rfl))
        obtain ⟨hx3, hg3, hb3, hw3⟩ := h_76
        have hx3' : mX [22, 24] [] M M_76 := (hx.ms (by decide)).tr hx3 (by simp) (by simp)
        refine G.lstore5 dX6_termOf_79 ?_
        refine G.iload4 dX6_termOf_81 ?_
        refine G.bipush (v := nI 42) dX6_termOf_83 (by decide) ?_
        refine G.scall (f' := fX6_sign) q2053 ck_X6_sign (c_X6_sign E 42) dX6_termOf_85 (sI.k fun r_85 h_85 => ?_) (hroom := jroom_of rfl rfl (by omega) (Nat.le_of_ble_eq_true rfl))
        replace h_85 := h_85.symm; subst h_85
        refine G.icmp_eq (tgt := 121) dX6_termOf_88 (by decide) (fun c_88 => ?_) (fun c_88 => ?_)
        · first
          | exact k121 _ r_76 _ _ hx3' hg3 hb3 hw3 (Or.inl ⟨Or.inl c_88, rfl, rfl⟩)
          | exact k121 _ r_76 _ _ hx3' hg3 hb3 hw3 (Or.inl ⟨Or.inr (fun q => c_95 (lg_eq.mpr q)), rfl, rfl⟩)
          | exact k121 _ r_76 _ (zB live (zB live b (acc e)) (s1 e) || live) (hx3'.ms (by decide)) hg3 (by rw [ms_1, if_pos rfl]; exact bI_tt (by rw [c_103]; rfl)) hw3 (Or.inr ⟨⟨c_88, lg_eq.mp c_95⟩, rfl, rfl⟩)
          | exact k121 _ r_76 _ (zB live (zB live b (acc e)) (s1 e) || live) (hx3'.ms (by decide)) hg3 (by rw [ms_1, if_pos rfl]; exact bI_tt (by rw [c_107]; simp)) hw3 (Or.inr ⟨⟨c_88, lg_eq.mp c_95⟩, rfl, rfl⟩)
          | exact k121 _ r_76 _ (zB live (zB live b (acc e)) (s1 e) || live) (hx3'.ms (by decide)) hg3 (by rw [ms_1, if_pos rfl]; exact bI_ff (by rw [c_103, c_107]; rfl)) hw3 (Or.inr ⟨⟨c_88, lg_eq.mp c_95⟩, rfl, rfl⟩)
        · refine G.lload5 dX6_termOf_91 ?_
          refine G.lconst (v := 0) dX6_termOf_93 (by decide) ?_
          refine G.lcmp dX6_termOf_94 ?_
          refine G.if_ne (tgt := 121) dX6_termOf_95 (by decide) (fun c_95 => ?_) (fun c_95 => ?_)
          · first
            | exact k121 _ r_76 _ _ hx3' hg3 hb3 hw3 (Or.inl ⟨Or.inl c_88, rfl, rfl⟩)
            | exact k121 _ r_76 _ _ hx3' hg3 hb3 hw3 (Or.inl ⟨Or.inr (fun q => c_95 (lg_eq.mpr q)), rfl, rfl⟩)
            | exact k121 _ r_76 _ (zB live (zB live b (acc e)) (s1 e) || live) (hx3'.ms (by decide)) hg3 (by rw [ms_1, if_pos rfl]; exact bI_tt (by rw [c_103]; rfl)) hw3 (Or.inr ⟨⟨c_88, lg_eq.mp c_95⟩, rfl, rfl⟩)
            | exact k121 _ r_76 _ (zB live (zB live b (acc e)) (s1 e) || live) (hx3'.ms (by decide)) hg3 (by rw [ms_1, if_pos rfl]; exact bI_tt (by rw [c_107]; simp)) hw3 (Or.inr ⟨⟨c_88, lg_eq.mp c_95⟩, rfl, rfl⟩)
            | exact k121 _ r_76 _ (zB live (zB live b (acc e)) (s1 e) || live) (hx3'.ms (by decide)) hg3 (by rw [ms_1, if_pos rfl]; exact bI_ff (by rw [c_103, c_107]; rfl)) hw3 (Or.inr ⟨⟨c_88, lg_eq.mp c_95⟩, rfl, rfl⟩)
          · refine G.aload_n0 dX6_termOf_98 ?_
            refine G.aload_n0 dX6_termOf_99 ?_
            refine G.mgeti 24 fl_X6_258 dX6_termOf_100 ?_
            refine G.topi (bI (zB live (zB live b (acc e)) (s1 e))) hb3 ?_
            refine G.ifb_ne (tgt := 110) dX6_termOf_103 (by decide) (fun c_103 => ?_) (fun c_103 => ?_)
            · refine G.iconst (v := nI 1) dX6_termOf_110 (by decide) ?_
              refine G.goto (tgt := 115) dX6_termOf_111 (by decide) ?_
              refine G.mputi 24 fp_X6_258 dX6_termOf_115 ?_ (hn := by first | rfl | exact bI_nar _) (hfit := by first | rfl | exact bI_fit _)
              refine G.lconst (v := 1) dX6_termOf_118 (by decide) ?_
              refine G.lstore5 dX6_termOf_119 ?_
              first
              | exact k121 _ r_76 _ _ hx3' hg3 hb3 hw3 (Or.inl ⟨Or.inl c_88, rfl, rfl⟩)
              | exact k121 _ r_76 _ _ hx3' hg3 hb3 hw3 (Or.inl ⟨Or.inr (fun q => c_95 (lg_eq.mpr q)), rfl, rfl⟩)
              | exact k121 _ r_76 _ (zB live (zB live b (acc e)) (s1 e) || live) (hx3'.ms (by decide)) hg3 (by rw [ms_1, if_pos rfl]; exact bI_tt (by rw [c_103]; rfl)) hw3 (Or.inr ⟨⟨c_88, lg_eq.mp c_95⟩, rfl, rfl⟩)
              | exact k121 _ r_76 _ (zB live (zB live b (acc e)) (s1 e) || live) (hx3'.ms (by decide)) hg3 (by rw [ms_1, if_pos rfl]; exact bI_tt (by rw [c_107]; simp)) hw3 (Or.inr ⟨⟨c_88, lg_eq.mp c_95⟩, rfl, rfl⟩)
              | exact k121 _ r_76 _ (zB live (zB live b (acc e)) (s1 e) || live) (hx3'.ms (by decide)) hg3 (by rw [ms_1, if_pos rfl]; exact bI_ff (by rw [c_103, c_107]; rfl)) hw3 (Or.inr ⟨⟨c_88, lg_eq.mp c_95⟩, rfl, rfl⟩)
            · refine G.iload_n1 dX6_termOf_106 ?_
              refine G.ifb_eq (tgt := 114) dX6_termOf_107 (by decide) (fun c_107 => ?_) (fun c_107 => ?_)
              · refine G.iconst (v := nI 0) dX6_termOf_114 (by decide) ?_
                refine G.mputi 24 fp_X6_258 dX6_termOf_115 ?_ (hn := by first | rfl | exact bI_nar _) (hfit := by first | rfl | exact bI_fit _)
                refine G.lconst (v := 1) dX6_termOf_118 (by decide) ?_
                refine G.lstore5 dX6_termOf_119 ?_
                first
                | exact k121 _ r_76 _ _ hx3' hg3 hb3 hw3 (Or.inl ⟨Or.inl c_88, rfl, rfl⟩)
                | exact k121 _ r_76 _ _ hx3' hg3 hb3 hw3 (Or.inl ⟨Or.inr (fun q => c_95 (lg_eq.mpr q)), rfl, rfl⟩)
                | exact k121 _ r_76 _ (zB live (zB live b (acc e)) (s1 e) || live) (hx3'.ms (by decide)) hg3 (by rw [ms_1, if_pos rfl]; exact bI_tt (by rw [c_103]; rfl)) hw3 (Or.inr ⟨⟨c_88, lg_eq.mp c_95⟩, rfl, rfl⟩)
                | exact k121 _ r_76 _ (zB live (zB live b (acc e)) (s1 e) || live) (hx3'.ms (by decide)) hg3 (by rw [ms_1, if_pos rfl]; exact bI_tt (by rw [c_107]; simp)) hw3 (Or.inr ⟨⟨c_88, lg_eq.mp c_95⟩, rfl, rfl⟩)
                | exact k121 _ r_76 _ (zB live (zB live b (acc e)) (s1 e) || live) (hx3'.ms (by decide)) hg3 (by rw [ms_1, if_pos rfl]; exact bI_ff (by rw [c_103, c_107]; rfl)) hw3 (Or.inr ⟨⟨c_88, lg_eq.mp c_95⟩, rfl, rfl⟩)
              · refine G.iconst (v := nI 1) dX6_termOf_110 (by decide) ?_
                refine G.goto (tgt := 115) dX6_termOf_111 (by decide) ?_
                refine G.mputi 24 fp_X6_258 dX6_termOf_115 ?_ (hn := by first | rfl | exact bI_nar _) (hfit := by first | rfl | exact bI_fit _)
                refine G.lconst (v := 1) dX6_termOf_118 (by decide) ?_
                refine G.lstore5 dX6_termOf_119 ?_
                first
                | exact k121 _ r_76 _ _ hx3' hg3 hb3 hw3 (Or.inl ⟨Or.inl c_88, rfl, rfl⟩)
                | exact k121 _ r_76 _ _ hx3' hg3 hb3 hw3 (Or.inl ⟨Or.inr (fun q => c_95 (lg_eq.mpr q)), rfl, rfl⟩)
                | exact k121 _ r_76 _ (zB live (zB live b (acc e)) (s1 e) || live) (hx3'.ms (by decide)) hg3 (by rw [ms_1, if_pos rfl]; exact bI_tt (by rw [c_103]; rfl)) hw3 (Or.inr ⟨⟨c_88, lg_eq.mp c_95⟩, rfl, rfl⟩)
                | exact k121 _ r_76 _ (zB live (zB live b (acc e)) (s1 e) || live) (hx3'.ms (by decide)) hg3 (by rw [ms_1, if_pos rfl]; exact bI_tt (by rw [c_107]; simp)) hw3 (Or.inr ⟨⟨c_88, lg_eq.mp c_95⟩, rfl, rfl⟩)
                | exact k121 _ r_76 _ (zB live (zB live b (acc e)) (s1 e) || live) (hx3'.ms (by decide)) hg3 (by rw [ms_1, if_pos rfl]; exact bI_ff (by rw [c_103, c_107]; rfl)) hw3 (Or.inr ⟨⟨c_88, lg_eq.mp c_95⟩, rfl, rfl⟩)
      refine G.aload_n0 dX6_termOf_6 ?_
      refine G.aload_n0 dX6_termOf_7 ?_
      refine G.mgeti 22 fl_X6_248 dX6_termOf_8 ?_
      rw [h22]
      refine G.mcall (f' := fX6_codeAt) q2124 ck_X6_codeAt (c_X6_codeAt (pos := pos2) hC2 (by omega)) dX6_termOf_11 (rI.k fun r_11 M_11 h_11 => ?_) (hroom := jroom_of rfl rfl (by omega) (Nat.le_of_ble_eq_true rfl))
      obtain ⟨e_11, h_11⟩ := h_11; replace e_11 := e_11.symm; replace h_11 := h_11.symm; subst e_11; subst h_11
      refine G.bipush (v := nI 42) dX6_termOf_14 (by decide) ?_
      refine G.scall (f' := fX6_sign) q2053 ck_X6_sign (c_X6_sign E 42) dX6_termOf_16 (sI.k fun r_16 h_16 => ?_) (hroom := jroom_of rfl rfl (by omega) (Nat.le_of_ble_eq_true rfl))
      replace h_16 := h_16.symm; subst h_16
      refine G.icmp_eq (tgt := 54) dX6_termOf_19 (by decide) (fun c_19 => ?_) (fun c_19 => ?_)
      · first | exact k54 (Or.inl c_19) | exact k54 (Or.inr (Or.inl c_35)) | exact k54 (Or.inr (Or.inr c_51))
      · refine G.aload_n0 dX6_termOf_22 ?_
        refine G.aload_n0 dX6_termOf_23 ?_
        refine G.mgeti 22 fl_X6_248 dX6_termOf_24 ?_
        rw [h22]
        refine G.mcall (f' := fX6_codeAt) q2124 ck_X6_codeAt (c_X6_codeAt (pos := pos2) hC2 (by omega)) dX6_termOf_27 (rI.k fun r_27 M_27 h_27 => ?_) (hroom := jroom_of rfl rfl (by omega) (Nat.le_of_ble_eq_true rfl))
        obtain ⟨e_27, h_27⟩ := h_27; replace e_27 := e_27.symm; replace h_27 := h_27.symm; subst e_27; subst h_27
        refine G.bipush (v := nI 47) dX6_termOf_30 (by decide) ?_
        refine G.scall (f' := fX6_sign) q2053 ck_X6_sign (c_X6_sign E 47) dX6_termOf_32 (sI.k fun r_32 h_32 => ?_) (hroom := jroom_of rfl rfl (by omega) (Nat.le_of_ble_eq_true rfl))
        replace h_32 := h_32.symm; subst h_32
        refine G.icmp_eq (tgt := 54) dX6_termOf_35 (by decide) (fun c_35 => ?_) (fun c_35 => ?_)
        · first | exact k54 (Or.inl c_19) | exact k54 (Or.inr (Or.inl c_35)) | exact k54 (Or.inr (Or.inr c_51))
        · refine G.aload_n0 dX6_termOf_38 ?_
          refine G.aload_n0 dX6_termOf_39 ?_
          refine G.mgeti 22 fl_X6_248 dX6_termOf_40 ?_
          rw [h22]
          refine G.mcall (f' := fX6_codeAt) q2124 ck_X6_codeAt (c_X6_codeAt (pos := pos2) hC2 (by omega)) dX6_termOf_43 (rI.k fun r_43 M_43 h_43 => ?_) (hroom := jroom_of rfl rfl (by omega) (Nat.le_of_ble_eq_true rfl))
          obtain ⟨e_43, h_43⟩ := h_43; replace e_43 := e_43.symm; replace h_43 := h_43.symm; subst e_43; subst h_43
          refine G.bipush (v := nI 37) dX6_termOf_46 (by decide) ?_
          refine G.scall (f' := fX6_sign) q2053 ck_X6_sign (c_X6_sign E 37) dX6_termOf_48 (sI.k fun r_48 h_48 => ?_) (hroom := jroom_of rfl rfl (by omega) (Nat.le_of_ble_eq_true rfl))
          replace h_48 := h_48.symm; subst h_48
          refine G.icmp_ne (tgt := 168) dX6_termOf_51 (by decide) (fun c_51 => ?_) (fun c_51 => ?_)
          · refine G.lload_n2 dX6_termOf_168 ?_
            refine G.lreturn dX6_termOf_169 ?_
            obtain ⟨rfl, rfl, rfl⟩ := pRow_end h (show isMul (tk.1 pos2) = false from decide_eq_false (fun q => by rcases q with q | q | q; exact c_19 q; exact c_35 q; exact c_51 q))
            exact ⟨_, rfl, _, rfl, hx, h22, h24, hv⟩
          · first | exact k54 (Or.inl c_19) | exact k54 (Or.inr (Or.inl c_35)) | exact k54 (Or.inr (Or.inr c_51))
  refine Ct.of [some (.ref (L.1 52)), some (.int (bI live)), none, none, none, none, none] rfl (Nat.le_of_ble_eq_true rfl) (show plainName RX6 = true by decide +kernel) rfl ?_
  refine G.aload_n0 dX6_termOf_0 ?_
  refine G.iload_n1 dX6_termOf_1 ?_
  refine G.mcall (f' := fX6_partOf (dp)) q2136 (ck_X6_partOf _) (hone M pos lv s0 p0 l0 live b hC hP0 hgo hb) dX6_termOf_2 (rJ.k fun r_2 M_2 h_2 => ?_) (hroom := jroom_of rfl rfl (by omega) (Nat.le_of_ble_eq_true rfl))
  obtain ⟨hx, hg', hb', hv⟩ := h_2
  refine G.lstore_n2 dX6_termOf_5 ?_
  exact loop 402 s0 _ p0 l0 _ _ _ _ hx hg' hb' hv hQ0 hle0 hPr
end Ev
