/-! THE MODEL TELLS: a part -/
theorem pPart_open {ord : Bool} {tk : Tk} {sub : Option (Nat → Nat → Rs Sm)} {pos lv : Nat} {s : Sm} {p l : Nat} (h : pPart ord tk sub pos lv = .inr (s, p, l)) (q : tk.1 pos = nI 191) : ∃ g p1, sub = some g ∧ g (pos + 1) lv = .inr (s, p1, l) ∧ tk.1 p1 = nI 193 ∧ p = p1 + 1 := by
  unfold pPart at h
  rw [if_pos q] at h
  cases sub with
  | none => cases h
  | some g =>
    dsimp only at h
    cases h3 : g (pos + 1) lv with
    | inl x => rw [h3] at h; cases h
    | inr x =>
      obtain ⟨s1, p1, l1⟩ := x
      rw [h3] at h
      dsimp only at h
      split at h
      · rename_i h4
        cases h
        exact ⟨g, p1, rfl, h3, h4, rfl⟩
      · cases h
def isPers (c : Int32) : Prop := c = nI 24 ∨ c = nI 25
theorem pPart_leaf {ord : Bool} {tk : Tk} {sub : Option (Nat → Nat → Rs Sm)} {pos lv : Nat} {s : Sm} {p l : Nat} (h : pPart ord tk sub pos lv = .inr (s, p, l)) (q : ¬ tk.1 pos = nI 191) : isLeaf ord (tk.1 pos) (tk.2 pos) = true ∧ ((isPers (tk.1 pos) ∧ tk.1 (pos + 1) = nI 50 ∧ 0 ≤ (tk.2 (pos + 1)).toInt ∧ (tk.2 (pos + 1)).toInt ≤ 9 ∧ s = zPers (tk.1 pos) (tk.2 (pos + 1)) ∧ p = pos + 2) ∨ (¬ isPers (tk.1 pos) ∧ s = zLeaf ord (tk.1 pos) (tk.2 pos) ∧ p = pos + 1)) := by
  unfold pPart at h
  rw [if_neg q] at h
  split at h
  · rename_i h2
    refine ⟨h2, ?_⟩
    split at h
    · cases h
    · split at h
      · rename_i h3
        split at h
        · rename_i h4
          cases h
          exact Or.inl ⟨h3, h4.1, h4.2.1, h4.2.2, rfl, rfl⟩
        · cases h
      · rename_i h3
        cases h
        exact Or.inr ⟨h3, rfl, rfl⟩
  · cases h
theorem zB_dead {α : Type} {live b : Bool} {o : Option α} (h : live = false ∨ b = true) : zB live b o = b := by
  unfold zB
  rcases h with h | h <;> rw [h] <;> simp
theorem zB_some {α : Type} {live b : Bool} {v : α} : zB live b (some v) = b := by
  unfold zB
  cases live <;> cases b <;> rfl
section Ev
variable {E : JE} {L : ML} {ph : HP} {B N : Nat} {tk : Tk} {ord : Bool} {e : En} {n : Nat}
theorem leaf_word {ord : Bool} {c v : Int32} (h : isLeaf ord c v = true) (h1 : ¬ c = nI 50) : ∃ k, k < 10 ∧ c - nI (wLo ord) = nI k ∧ c.toInt.toNat - wLo ord = k ∧ (¬ isPers c → ord = true → k < 5) := by
  unfold isLeaf at h
  rcases of_decide_eq_true h with ⟨h2, -⟩ | ⟨h2, h3⟩
  · exact absurd h2 h1
  · have h4 : ∃ j, j < 26 ∧ c = nI j := by
      have : (wHi ord : Int) ≤ 25 := by cases ord <;> decide
      exact t_of (by omega) (by omega)
    obtain ⟨j, hj, rfl⟩ := h4
    rw [t_nI (by omega)] at h2 h3 ⊢
    have h5 : wHi ord ≤ wLo ord + 9 := by cases ord <;> decide
    refine ⟨j - wLo ord, by omega, pk_sub (by omega), by omega, fun hp ho => ?_⟩
    subst ho
    have e19 : wLo true = 19 := rfl
    have e1 : ¬ j = 24 := fun z => hp (Or.inl (by rw [z]))
    have e2 : ¬ j = 25 := fun z => hp (Or.inr (by rw [z]))
    omega
theorem e_part {ds : Nat} {sub : Option (Nat → Nat → Rs Sm)} (hds : 9 ≤ ds) (hk0 : tkOk tk N) (he0 : enOk e) (hsub : ∀ g, sub = some g → EvS E (fX6_sumOf ds) L ph g B N tk ord e n ∧ ∀ pos lv s p l, g pos lv = .inr (s, p, l) → zBd e s ∧ pos < p ∧ p ≤ N) : EvS E (fX6_partOf (ds + 1)) L ph (pPart ord tk sub) B N tk ord e n := by
  intro M pos lv s p l live b hC hP hgo hb
  have hC' := hC
  obtain ⟨h1, h2, h3, h4, h5, h6, h7, h8, h9, h10, h11, h12⟩ := hC'
  obtain ⟨-, hlt, hle⟩ := pPart_Q (e := e) hk0 he0 (fun g hg => (hsub g hg).2) _ _ _ _ _ hP
  refine Ct.of [some (.ref (L.1 52)), some (.int (bI live)), none, none] rfl (Nat.le_of_ble_eq_true rfl) (show plainName RX6 = true by decide +kernel) rfl ?_
  have k87 : ∀ (M2 : MM) (kz : Nat), ¬ tk.1 pos = nI 191 → mX [22, 24] [] M M2 → M2.1 22 = nI (B + p) → M2.1 24 = bI b → (isPers (tk.1 pos) → nI kz = tk.2 (pos + 1) ∧ kz < 10) → G E (fX6_partOf (ds + 1)) (mFin E (fX6_partOf (ds + 1)) L ph (rJ fun r M' => mX [22, 24] [] M M' ∧ M'.1 22 = nI (B + p) ∧ M'.1 24 = bI (zB live b (s e)) ∧ (live = true → b = false → ∀ v, s e = some v → r = v))) 87 [some (.ref (L.1 52)), some (.int (bI live)), some (.int (tk.1 pos)), some (.int (nI kz))] [] (movl L M2 ph) 0 0 := by
    intro M2 kz q hx h22 h24 hz
    obtain ⟨hlf, hcs⟩ := pPart_leaf hP q
    have e2 : M2.2.2.1 2 = M.2.2.1 2 := hx.2.2.1 2 (by decide)
    have e25 : M2.2.2.1 25 = M.2.2.1 25 := hx.2.2.1 25 (by decide)
    have ew : ∀ k, sWorth M2 k = sWorth M k := fun k => by unfold sWorth; rw [e2]
    have hpp : isPers (tk.1 pos) → s e = some (if tk.1 pos = nI 24 then e.2.1 kz else e.2.2 kz) := by
      intro hq
      rcases hcs with ⟨-, -, -, -, rfl, -⟩ | ⟨hq2, -⟩
      · unfold zPers
        rw [← (hz hq).1, t_nI (by have := (hz hq).2; omega)]
        rfl
      · exact absurd hq hq2
    have hll : ¬ isPers (tk.1 pos) → s e = some (if tk.1 pos = nI 50 then (tk.2 pos).toInt64 else e.1 ((tk.1 pos).toInt.toNat - wLo ord)) ∧ p = pos + 1 := by
      intro hq
      rcases hcs with ⟨hq2, -⟩ | ⟨-, rfl, hp⟩
      · exact absurd hq2 hq
      · refine ⟨?_, hp⟩
        unfold zLeaf
        split <;> rfl
    refine G.iload_n1 dX6_partOf_87 ?_
    refine G.ifb_eq (tgt := 98) dX6_partOf_88 (by decide) (fun c_88 => ?_) (fun c_88 => ?_)
    · refine G.lconst (v := 0) dX6_partOf_98 (by decide) ?_
      refine G.lreturn dX6_partOf_99 ?_
      exact ⟨_, rfl, _, rfl, hx, h22, by rw [zB_dead (by first | exact Or.inl (by assumption) | exact Or.inr (by assumption))]; exact h24, fun a1 a2 => by simp_all⟩
    · refine G.aload_n0 dX6_partOf_91 ?_
      refine G.mgeti 24 fl_X6_258 dX6_partOf_92 ?_
      refine G.topi (bI b) h24 ?_
      refine G.ifb_eq (tgt := 100) dX6_partOf_95 (by decide) (fun c_95 => ?_) (fun c_95 => ?_)
      · refine G.iload_n2 dX6_partOf_100 ?_
        refine G.bipush (v := nI 24) dX6_partOf_101 (by decide) ?_
        refine G.icmp_eq (tgt := 112) dX6_partOf_103 (by decide) (fun c_103 => ?_) (fun c_103 => ?_)
        · refine G.aload_n0 dX6_partOf_112 ?_
          refine G.iload_n3 dX6_partOf_113 ?_
          have hpz : isPers (tk.1 pos) := by first | exact Or.inl (by assumption) | exact Or.inr (by first | assumption | exact Classical.not_not.mp (by assumption))
          refine G.mcall (f' := fX6_isPerson) q1950 ck_X6_isPerson (c_X6_isPerson E L M2 ph (nI kz) h9 (by rw [e2]; exact h10)) dX6_partOf_114 (rI.k fun r_114 M_114 h_114 => ?_) (hroom := jroom_of rfl rfl (by omega) (Nat.le_of_ble_eq_true rfl))
          obtain ⟨e_114, h_114⟩ := h_114; replace e_114 := e_114.symm; replace h_114 := h_114.symm; subst e_114; subst h_114
          refine G.ifb_ne (tgt := 126) dX6_partOf_117 (by decide) (fun c_117 => ?_) (fun c_117 => ?_)
          · have hkn : kz < n := by have := of_decide_eq_true c_117; rw [t_nI (by have := (hz hpz).2; omega)] at this; omega
            refine G.iload_n2 dX6_partOf_126 ?_
            refine G.bipush (v := nI 24) dX6_partOf_127 (by decide) ?_
            refine G.icmp_ne (tgt := 141) dX6_partOf_129 (by decide) (fun c_129 => ?_) (fun c_129 => ?_)
            · refine G.aload_n0 dX6_partOf_141 ?_
              refine G.mgeta 2 fl_X6_24 dX6_partOf_142 ?_
              refine G.iconst (v := nI 0) dX6_partOf_145 (by decide) ?_
              refine G.iload_n3 dX6_partOf_146 ?_
              first | with_reducible refine G.iaddn dX6_partOf_147 ?_ | refine G.iadd dX6_partOf_147 ?_
              refine G.miald (n := 5866) 2 _ dX6_partOf_148 rfl (by have := (hz hpz).2; omega) ?_
              refine G.topi (M.2.2.1 2 kz) (by rw [e2, Nat.zero_add]) ?_
              refine G.iconst (v := nI 2) dX6_partOf_149 (by decide) ?_
              refine G.icmp_ne (tgt := 157) dX6_partOf_150 (by decide) (fun c_150 => ?_) (fun c_150 => ?_)
              · refine G.lconst (v := 0) dX6_partOf_157 (by decide) ?_
                refine G.lreturn dX6_partOf_158 ?_
                refine ⟨_, rfl, _, rfl, hx, h22, by rw [hpp hpz, zB_some]; exact h24, fun _ _ v hv0 => ?_⟩
                rw [hpp hpz] at hv0
                cases hv0
                rw [h11 kz (hz hpz).2, h12 kz (hz hpz).2]
                first
                  | (rw [if_neg hkn, if_neg hkn]; split <;> rfl)
                  | (rw [if_pos c_129, if_pos hkn, ew])
                  | (rw [if_neg c_129, if_pos hkn, if_pos c_150])
                  | (rw [if_neg c_129, if_pos hkn, if_neg c_150])
              · refine G.lconst (v := 1) dX6_partOf_153 (by decide) ?_
                refine G.goto (tgt := 158) dX6_partOf_154 (by decide) ?_
                refine G.lreturn dX6_partOf_158 ?_
                refine ⟨_, rfl, _, rfl, hx, h22, by rw [hpp hpz, zB_some]; exact h24, fun _ _ v hv0 => ?_⟩
                rw [hpp hpz] at hv0
                cases hv0
                rw [h11 kz (hz hpz).2, h12 kz (hz hpz).2]
                first
                  | (rw [if_neg hkn, if_neg hkn]; split <;> rfl)
                  | (rw [if_pos c_129, if_pos hkn, ew])
                  | (rw [if_neg c_129, if_pos hkn, if_pos c_150])
                  | (rw [if_neg c_129, if_pos hkn, if_neg c_150])
            · refine G.aload_n0 dX6_partOf_132 ?_
              refine G.iload_n3 dX6_partOf_133 ?_
              refine G.mcall (f' := fX6_worthOf) q1966 ck_X6_worthOf (c_X6_worthOf E L M2 ph (hz hpz).2) dX6_partOf_134 (rI.k fun r_134 M_134 h_134 => ?_) (hroom := jroom_of rfl rfl (by omega) (Nat.le_of_ble_eq_true rfl))
              obtain ⟨e_134, h_134⟩ := h_134; replace e_134 := e_134.symm; replace h_134 := h_134.symm; subst e_134; subst h_134
              refine G.i2l dX6_partOf_137 rfl ?_
              refine G.goto (tgt := 158) dX6_partOf_138 (by decide) ?_
              refine G.lreturn dX6_partOf_158 ?_
              refine ⟨_, rfl, _, rfl, hx, h22, by rw [hpp hpz, zB_some]; exact h24, fun _ _ v hv0 => ?_⟩
              rw [hpp hpz] at hv0
              cases hv0
              rw [h11 kz (hz hpz).2, h12 kz (hz hpz).2]
              first
                | (rw [if_neg hkn, if_neg hkn]; split <;> rfl)
                | (rw [if_pos c_129, if_pos hkn, ew])
                | (rw [if_neg c_129, if_pos hkn, if_pos c_150])
                | (rw [if_neg c_129, if_pos hkn, if_neg c_150])
          · have hkn : ¬ kz < n := by have := of_decide_eq_false c_117; rw [t_nI (by have := (hz hpz).2; omega)] at this; omega
            refine G.ldc2 q2144 dX6_partOf_120 ?_
            refine G.goto (tgt := 158) dX6_partOf_123 (by decide) ?_
            refine G.lreturn dX6_partOf_158 ?_
            refine ⟨_, rfl, _, rfl, hx, h22, by rw [hpp hpz, zB_some]; exact h24, fun _ _ v hv0 => ?_⟩
            rw [hpp hpz] at hv0
            cases hv0
            rw [h11 kz (hz hpz).2, h12 kz (hz hpz).2]
            first
              | (rw [if_neg hkn, if_neg hkn]; split <;> rfl)
              | (rw [if_pos c_129, if_pos hkn, ew])
              | (rw [if_neg c_129, if_pos hkn, if_pos c_150])
              | (rw [if_neg c_129, if_pos hkn, if_neg c_150])
        · refine G.iload_n2 dX6_partOf_106 ?_
          refine G.bipush (v := nI 25) dX6_partOf_107 (by decide) ?_
          refine G.icmp_ne (tgt := 159) dX6_partOf_109 (by decide) (fun c_109 => ?_) (fun c_109 => ?_)
          · refine G.iload_n2 dX6_partOf_159 ?_
            refine G.bipush (v := nI 50) dX6_partOf_160 (by decide) ?_
            refine G.icmp_ne (tgt := 184) dX6_partOf_162 (by decide) (fun c_162 => ?_) (fun c_162 => ?_)
            · obtain ⟨kw, hkw, hw1, hw2, hw5⟩ := leaf_word hlf c_162
              refine G.aload_n0 dX6_partOf_184 ?_
              refine G.mgeta 25 fl_X6_59 dX6_partOf_185 ?_
              refine G.iload_n2 dX6_partOf_188 ?_
              refine G.aload_n0 dX6_partOf_189 ?_
              refine G.mgeti 8 fl_X6_220 dX6_partOf_190 ?_
              refine G.topi (nI (wLo ord)) ((hx.1 8 (by decide)).trans h3) ?_
              refine G.isub dX6_partOf_193 ?_
              refine G.topi (nI kw) hw1 ?_
              refine G.miald (n := 10) 25 _ dX6_partOf_194 rfl (by omega) ?_
              refine G.i2l dX6_partOf_195 rfl ?_
              refine G.lreturn dX6_partOf_196 ?_
              have hnp : ¬ isPers (tk.1 pos) := fun hq => hq.elim c_103 c_109
              refine ⟨_, rfl, _, rfl, hx, h22, by rw [(hll hnp).1, zB_some]; exact h24, fun _ _ v hv0 => ?_⟩
              rw [(hll hnp).1] at hv0
              cases hv0
              first
                | rw [if_pos c_162]
                | (rw [if_neg c_162, hw2, e25]; exact h8 kw hkw (hw5 hnp))
            · refine G.aload_n0 dX6_partOf_165 ?_
              refine G.mgeta 2 fl_X6_24 dX6_partOf_166 ?_
              refine G.sipush (v := nI 3066) dX6_partOf_169 (by decide) ?_
              refine G.aload_n0 dX6_partOf_172 ?_
              refine G.mgeti 22 fl_X6_248 dX6_partOf_173 ?_
              refine G.topi (nI (B + (pos + 1))) (by rw [h22, (hll (fun hq => by rcases hq with hq | hq <;> simp_all)).2]) ?_
              first | with_reducible refine G.iaddn dX6_partOf_176 ?_ | refine G.iadd dX6_partOf_176 ?_
              refine G.iconst (v := nI 1) dX6_partOf_177 (by decide) ?_
              refine G.isub dX6_partOf_178 ?_
              refine G.topi (nI (3066 + (B + pos))) (by rw [show 3066 + (B + (pos + 1)) = (3066 + (B + pos)) + 1 by omega]; exact pk_sub (by omega)) ?_
              refine G.miald (n := 5866) 2 _ dX6_partOf_179 rfl (by omega) ?_
              refine G.topi (tk.2 pos) (by rw [e2]; exact h5 pos (by omega)) ?_
              refine G.i2l dX6_partOf_180 rfl ?_
              refine G.goto (tgt := 196) dX6_partOf_181 (by decide) ?_
              refine G.lreturn dX6_partOf_196 ?_
              have hnp : ¬ isPers (tk.1 pos) := fun hq => hq.elim c_103 c_109
              refine ⟨_, rfl, _, rfl, hx, h22, by rw [(hll hnp).1, zB_some]; exact h24, fun _ _ v hv0 => ?_⟩
              rw [(hll hnp).1] at hv0
              cases hv0
              first
                | rw [if_pos c_162]
                | (rw [if_neg c_162, hw2, e25]; exact h8 kw hkw (hw5 hnp))
          · refine G.aload_n0 dX6_partOf_112 ?_
            refine G.iload_n3 dX6_partOf_113 ?_
            have hpz : isPers (tk.1 pos) := by first | exact Or.inl (by assumption) | exact Or.inr (by first | assumption | exact Classical.not_not.mp (by assumption))
            refine G.mcall (f' := fX6_isPerson) q1950 ck_X6_isPerson (c_X6_isPerson E L M2 ph (nI kz) h9 (by rw [e2]; exact h10)) dX6_partOf_114 (rI.k fun r_114 M_114 h_114 => ?_) (hroom := jroom_of rfl rfl (by omega) (Nat.le_of_ble_eq_true rfl))
            obtain ⟨e_114, h_114⟩ := h_114; replace e_114 := e_114.symm; replace h_114 := h_114.symm; subst e_114; subst h_114
            refine G.ifb_ne (tgt := 126) dX6_partOf_117 (by decide) (fun c_117 => ?_) (fun c_117 => ?_)
            · have hkn : kz < n := by have := of_decide_eq_true c_117; rw [t_nI (by have := (hz hpz).2; omega)] at this; omega
              refine G.iload_n2 dX6_partOf_126 ?_
              refine G.bipush (v := nI 24) dX6_partOf_127 (by decide) ?_
              refine G.icmp_ne (tgt := 141) dX6_partOf_129 (by decide) (fun c_129 => ?_) (fun c_129 => ?_)
              · refine G.aload_n0 dX6_partOf_141 ?_
                refine G.mgeta 2 fl_X6_24 dX6_partOf_142 ?_
                refine G.iconst (v := nI 0) dX6_partOf_145 (by decide) ?_
                refine G.iload_n3 dX6_partOf_146 ?_
                first | with_reducible refine G.iaddn dX6_partOf_147 ?_ | refine G.iadd dX6_partOf_147 ?_
                refine G.miald (n := 5866) 2 _ dX6_partOf_148 rfl (by have := (hz hpz).2; omega) ?_
                refine G.topi (M.2.2.1 2 kz) (by rw [e2, Nat.zero_add]) ?_
                refine G.iconst (v := nI 2) dX6_partOf_149 (by decide) ?_
                refine G.icmp_ne (tgt := 157) dX6_partOf_150 (by decide) (fun c_150 => ?_) (fun c_150 => ?_)
                · refine G.lconst (v := 0) dX6_partOf_157 (by decide) ?_
                  refine G.lreturn dX6_partOf_158 ?_
                  refine ⟨_, rfl, _, rfl, hx, h22, by rw [hpp hpz, zB_some]; exact h24, fun _ _ v hv0 => ?_⟩
                  rw [hpp hpz] at hv0
                  cases hv0
                  rw [h11 kz (hz hpz).2, h12 kz (hz hpz).2]
                  first
                    | (rw [if_neg hkn, if_neg hkn]; split <;> rfl)
                    | (rw [if_pos c_129, if_pos hkn, ew])
                    | (rw [if_neg c_129, if_pos hkn, if_pos c_150])
                    | (rw [if_neg c_129, if_pos hkn, if_neg c_150])
                · refine G.lconst (v := 1) dX6_partOf_153 (by decide) ?_
                  refine G.goto (tgt := 158) dX6_partOf_154 (by decide) ?_
                  refine G.lreturn dX6_partOf_158 ?_
                  refine ⟨_, rfl, _, rfl, hx, h22, by rw [hpp hpz, zB_some]; exact h24, fun _ _ v hv0 => ?_⟩
                  rw [hpp hpz] at hv0
                  cases hv0
                  rw [h11 kz (hz hpz).2, h12 kz (hz hpz).2]
                  first
                    | (rw [if_neg hkn, if_neg hkn]; split <;> rfl)
                    | (rw [if_pos c_129, if_pos hkn, ew])
                    | (rw [if_neg c_129, if_pos hkn, if_pos c_150])
                    | (rw [if_neg c_129, if_pos hkn, if_neg c_150])
              · refine G.aload_n0 dX6_partOf_132 ?_
                refine G.iload_n3 dX6_partOf_133 ?_
                refine G.mcall (f' := fX6_worthOf) q1966 ck_X6_worthOf (c_X6_worthOf E L M2 ph (hz hpz).2) dX6_partOf_134 (rI.k fun r_134 M_134 h_134 => ?_) (hroom := jroom_of rfl rfl (by omega) (Nat.le_of_ble_eq_true rfl))
                obtain ⟨e_134, h_134⟩ := h_134; replace e_134 := e_134.symm; replace h_134 := h_134.symm; subst e_134; subst h_134
                refine G.i2l dX6_partOf_137 rfl ?_
                refine G.goto (tgt := 158) dX6_partOf_138 (by decide) ?_
                refine G.lreturn dX6_partOf_158 ?_
                refine ⟨_, rfl, _, rfl, hx, h22, by rw [hpp hpz, zB_some]; exact h24, fun _ _ v hv0 => ?_⟩
                rw [hpp hpz] at hv0
                cases hv0
                rw [h11 kz (hz hpz).2, h12 kz (hz hpz).2]
                first
                  | (rw [if_neg hkn, if_neg hkn]; split <;> rfl)
                  | (rw [if_pos c_129, if_pos hkn, ew])
                  | (rw [if_neg c_129, if_pos hkn, if_pos c_150])
                  | (rw [if_neg c_129, if_pos hkn, if_neg c_150])
            · have hkn : ¬ kz < n := by have := of_decide_eq_false c_117; rw [t_nI (by have := (hz hpz).2; omega)] at this; omega
              refine G.ldc2 q2144 dX6_partOf_120 ?_
              refine G.goto (tgt := 158) dX6_partOf_123 (by decide) ?_
              refine G.lreturn dX6_partOf_158 ?_
              refine ⟨_, rfl, _, rfl, hx, h22, by rw [hpp hpz, zB_some]; exact h24, fun _ _ v hv0 => ?_⟩
              rw [hpp hpz] at hv0
              cases hv0
              rw [h11 kz (hz hpz).2, h12 kz (hz hpz).2]
              first
                | (rw [if_neg hkn, if_neg hkn]; split <;> rfl)
                | (rw [if_pos c_129, if_pos hkn, ew])
                | (rw [if_neg c_129, if_pos hkn, if_pos c_150])
                | (rw [if_neg c_129, if_pos hkn, if_neg c_150])
      · refine G.lconst (v := 0) dX6_partOf_98 (by decide) ?_
        refine G.lreturn dX6_partOf_99 ?_
        exact ⟨_, rfl, _, rfl, hx, h22, by rw [zB_dead (by first | exact Or.inl (by assumption) | exact Or.inr (by assumption))]; exact h24, fun a1 a2 => by simp_all⟩
  refine G.aload_n0 dX6_partOf_0 ?_
  refine G.bipush (v := nI 91) dX6_partOf_1 (by decide) ?_
  refine G.scall (f' := fX6_sign) q2053 ck_X6_sign (c_X6_sign E 91) dX6_partOf_3 (sI.k fun r_3 h_3 => ?_) (hroom := jroom_of rfl rfl (by omega) (Nat.le_of_ble_eq_true rfl))
  replace h_3 := h_3.symm; subst h_3
  refine G.mcall (f' := fX6_passes0) q2140 ck_X6_passes0 (c_X6_passes0 (pos := pos) (nI 191) hC (by omega) hgo) dX6_partOf_6 (rI.k fun r_6 M_6 h_6 => ?_) (hroom := jroom_of rfl rfl (by omega) (Nat.le_of_ble_eq_true rfl))
  obtain ⟨e_6, h_6⟩ := h_6; replace e_6 := e_6.symm; replace h_6 := h_6.symm; subst e_6; subst h_6
  refine G.ifb_eq (tgt := 30) dX6_partOf_9 (by decide) (fun c_9 => ?_) (fun c_9 => ?_)
  · have q := of_decide_eq_false c_9
    rw [if_neg q]
    obtain ⟨hlf, hcs⟩ := pPart_leaf hP q
    refine G.aload_n0 dX6_partOf_30 ?_
    refine G.aload_n0 dX6_partOf_31 ?_
    refine G.mgeti 22 fl_X6_248 dX6_partOf_32 ?_
    rw [hgo]
    refine G.mcall (f' := fX6_codeAt) q2124 ck_X6_codeAt (c_X6_codeAt (pos := pos) hC (by omega)) dX6_partOf_35 (rI.k fun r_35 M_35 h_35 => ?_) (hroom := jroom_of rfl rfl (by omega) (Nat.le_of_ble_eq_true rfl))
    obtain ⟨e_35, h_35⟩ := h_35; replace e_35 := e_35.symm; replace h_35 := h_35.symm; subst e_35; subst h_35
    refine G.istore_n2 dX6_partOf_38 ?_
    refine G.iconst (v := nI 0) dX6_partOf_39 (by decide) ?_
    refine G.istore_n3 dX6_partOf_40 ?_
    refine G.aload_n0 dX6_partOf_41 ?_
    refine G.dup dX6_partOf_42 rfl ?_
    refine G.mgeti 22 fl_X6_248 dX6_partOf_43 ?_
    rw [hgo]
    refine G.iconst (v := nI 1) dX6_partOf_46 (by decide) ?_
    first | with_reducible refine G.iaddn dX6_partOf_47 ?_ | refine G.iadd dX6_partOf_47 ?_
    refine G.mputi 22 fp_X6_248 dX6_partOf_48 ?_
    refine G.iload_n2 dX6_partOf_51 ?_
    refine G.bipush (v := nI 24) dX6_partOf_52 (by decide) ?_
    refine G.icmp_eq (tgt := 63) dX6_partOf_54 (by decide) (fun c_54 => ?_) (fun c_54 => ?_)
    · have hpz : isPers (tk.1 pos) := by first | exact Or.inl (by assumption) | exact Or.inr (by first | assumption | exact Classical.not_not.mp (by assumption))
      obtain ⟨hn50, hz0, hz9, hp2⟩ : tk.1 (pos + 1) = nI 50 ∧ 0 ≤ (tk.2 (pos + 1)).toInt ∧ (tk.2 (pos + 1)).toInt ≤ 9 ∧ p = pos + 2 := by
        rcases hcs with ⟨-, a1, a2, a3, -, a4⟩ | ⟨a1, -⟩
        · exact ⟨a1, a2, a3, a4⟩
        · exact absurd hpz a1
      have hpN := tk_in hk0 (by decide) (by decide) hn50
      obtain ⟨kz, hkz, ekz⟩ := t_of (n := 10) hz0 (by omega)
      refine G.aload_n0 dX6_partOf_63 ?_
      refine G.mgeta 2 fl_X6_24 dX6_partOf_64 ?_
      refine G.sipush (v := nI 3066) dX6_partOf_67 (by decide) ?_
      refine G.aload_n0 dX6_partOf_70 ?_
      refine G.mgeti 22 fl_X6_248 dX6_partOf_71 ?_
      refine G.topi (nI (B + (pos + 1))) rfl ?_
      first | with_reducible refine G.iaddn dX6_partOf_74 ?_ | refine G.iadd dX6_partOf_74 ?_
      refine G.miald (n := 5866) 2 _ dX6_partOf_75 rfl (by omega) ?_
      refine G.topi (nI kz) ((h5 (pos + 1) (by omega)).trans ekz) ?_
      refine G.istore_n3 dX6_partOf_76 ?_
      refine G.aload_n0 dX6_partOf_77 ?_
      refine G.dup dX6_partOf_78 rfl ?_
      refine G.mgeti 22 fl_X6_248 dX6_partOf_79 ?_
      refine G.topi (nI (B + (pos + 1))) rfl ?_
      refine G.iconst (v := nI 1) dX6_partOf_82 (by decide) ?_
      first | with_reducible refine G.iaddn dX6_partOf_83 ?_ | refine G.iadd dX6_partOf_83 ?_
      refine G.mputi 22 fp_X6_248 dX6_partOf_84 ?_
      first
      | exact k87 _ kz q ((mX.rf.ms (by decide)).ms (by decide)) (by rw [ms_1, if_pos rfl, hp2]; rfl) hb (fun _ => ⟨ekz.symm, hkz⟩)
      | exact k87 _ 0 q (mX.rf.ms (by decide)) (by rw [ms_1, if_pos rfl]; rcases hcs with ⟨a1, -⟩ | ⟨-, -, a1⟩; (rcases a1 with a1 | a1 <;> simp_all); (rw [a1]; rfl)) hb (fun hq => by rcases hq with hq | hq <;> simp_all)
    · refine G.iload_n2 dX6_partOf_57 ?_
      refine G.bipush (v := nI 25) dX6_partOf_58 (by decide) ?_
      refine G.icmp_ne (tgt := 87) dX6_partOf_60 (by decide) (fun c_60 => ?_) (fun c_60 => ?_)
      · first
        | exact k87 _ kz q ((mX.rf.ms (by decide)).ms (by decide)) (by rw [ms_1, if_pos rfl, hp2]; rfl) hb (fun _ => ⟨ekz.symm, hkz⟩)
        | exact k87 _ 0 q (mX.rf.ms (by decide)) (by rw [ms_1, if_pos rfl]; rcases hcs with ⟨a1, -⟩ | ⟨-, -, a1⟩; (rcases a1 with a1 | a1 <;> simp_all); (rw [a1]; rfl)) hb (fun hq => by rcases hq with hq | hq <;> simp_all)
      · have hpz : isPers (tk.1 pos) := by first | exact Or.inl (by assumption) | exact Or.inr (by first | assumption | exact Classical.not_not.mp (by assumption))
        obtain ⟨hn50, hz0, hz9, hp2⟩ : tk.1 (pos + 1) = nI 50 ∧ 0 ≤ (tk.2 (pos + 1)).toInt ∧ (tk.2 (pos + 1)).toInt ≤ 9 ∧ p = pos + 2 := by
          rcases hcs with ⟨-, a1, a2, a3, -, a4⟩ | ⟨a1, -⟩
          · exact ⟨a1, a2, a3, a4⟩
          · exact absurd hpz a1
        have hpN := tk_in hk0 (by decide) (by decide) hn50
        obtain ⟨kz, hkz, ekz⟩ := t_of (n := 10) hz0 (by omega)
        refine G.aload_n0 dX6_partOf_63 ?_
        refine G.mgeta 2 fl_X6_24 dX6_partOf_64 ?_
        refine G.sipush (v := nI 3066) dX6_partOf_67 (by decide) ?_
        refine G.aload_n0 dX6_partOf_70 ?_
        refine G.mgeti 22 fl_X6_248 dX6_partOf_71 ?_
        refine G.topi (nI (B + (pos + 1))) rfl ?_
        first | with_reducible refine G.iaddn dX6_partOf_74 ?_ | refine G.iadd dX6_partOf_74 ?_
        refine G.miald (n := 5866) 2 _ dX6_partOf_75 rfl (by omega) ?_
        refine G.topi (nI kz) ((h5 (pos + 1) (by omega)).trans ekz) ?_
        refine G.istore_n3 dX6_partOf_76 ?_
        refine G.aload_n0 dX6_partOf_77 ?_
        refine G.dup dX6_partOf_78 rfl ?_
        refine G.mgeti 22 fl_X6_248 dX6_partOf_79 ?_
        refine G.topi (nI (B + (pos + 1))) rfl ?_
        refine G.iconst (v := nI 1) dX6_partOf_82 (by decide) ?_
        first | with_reducible refine G.iaddn dX6_partOf_83 ?_ | refine G.iadd dX6_partOf_83 ?_
        refine G.mputi 22 fp_X6_248 dX6_partOf_84 ?_
        first
        | exact k87 _ kz q ((mX.rf.ms (by decide)).ms (by decide)) (by rw [ms_1, if_pos rfl, hp2]; rfl) hb (fun _ => ⟨ekz.symm, hkz⟩)
        | exact k87 _ 0 q (mX.rf.ms (by decide)) (by rw [ms_1, if_pos rfl]; rcases hcs with ⟨a1, -⟩ | ⟨-, -, a1⟩; (rcases a1 with a1 | a1 <;> simp_all); (rw [a1]; rfl)) hb (fun hq => by rcases hq with hq | hq <;> simp_all)
  · have q := of_decide_eq_true c_9
    rw [if_pos q]
    obtain ⟨g, p1, hg, hg2, hcl, rfl⟩ := pPart_open hP q
    refine G.aload_n0 dX6_partOf_12 ?_
    refine G.iload_n1 dX6_partOf_13 ?_
    refine G.mcall (f' := fX6_sumOf (ds)) q2128 (ck_X6_sumOf _) ((hsub g hg).1 (ms M 22 (nI (B + pos + 1))) (pos + 1) lv s p1 l live b (hC.mv (mX.rf.ms (by decide))) hg2 rfl hb) dX6_partOf_14 (rJ.k fun r_14 M_14 h_14 => ?_) (hroom := jroom_of rfl rfl (by omega) (Nat.le_of_ble_eq_true rfl))
    obtain ⟨hx, hg', hb', hv⟩ := h_14
    refine G.lstore_n2 dX6_partOf_17 ?_
    refine G.aload_n0 dX6_partOf_18 ?_
    refine G.dup dX6_partOf_19 rfl ?_
    refine G.mgeti 22 fl_X6_248 dX6_partOf_20 ?_
    rw [hg']
    refine G.iconst (v := nI 1) dX6_partOf_23 (by decide) ?_
    first | with_reducible refine G.iaddn dX6_partOf_24 ?_ | refine G.iadd dX6_partOf_24 ?_
    refine G.mputi 22 fp_X6_248 dX6_partOf_25 ?_
    refine G.lload_n2 dX6_partOf_28 ?_
    refine G.lreturn dX6_partOf_29 ?_
    exact ⟨_, rfl, _, rfl, ((mX.rf.ms (by decide)).tr hx (by simp) (by simp)).ms (by decide), rfl, hb', hv⟩
end Ev
