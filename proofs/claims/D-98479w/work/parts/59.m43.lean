/-! ORDERS, whole -/
theorem pCls_pre {ord : Bool} {tk : Tk} : ∀ {k : Nat} {acc : List (Nat × Cl)} {pos lv : Nat} {cs : List (Nat × Cl)} {p l : Nat}, pCls ord tk k acc pos lv = .inr (cs, p, l) → ∃ rest, cs = acc ++ rest
  | 0, acc, pos, lv, cs, p, l, h => by simp [pCls] at h
  | k + 1, acc, pos, lv, cs, p, l, h => by
    obtain ⟨c, p1, l1, h1, ⟨-, h2⟩ | ⟨-, h2, -⟩⟩ := pCls_on h
    · obtain ⟨r, hr⟩ := pCls_pre h2
      exact ⟨(pos, c) :: r, by rw [hr, List.append_assoc]; rfl⟩
    · exact ⟨[(pos, c)], h2⟩
/-- orders: what is told, what is kept -/
def oOrders (M : MM) (n u size : Nat) : Int32 × MM := match pText true (tkOf (zToks (M.2.2.1 11) size 401 0)) (zToks (M.2.2.1 11) size 401 0).length with
  | .inl e => sNo (ms (ms (ms M 41 (-1)) 13 (nI 0)) 14 (nI (zPl (zToks (M.2.2.1 11) size 401 0) size e))) 6
  | .inr cs => match runO n (cs.map (fun c => c.2)) 0 (kLay (M.2.2.1 2) (tkOf (zToks (M.2.2.1 11) size 401 0)) (zToks (M.2.2.1 11) size 401 0).length 6 (zToks (M.2.2.1 11) size 401 0).length, M.2.2.1 26, u) 0 with
    | .inl i => sNo (ms (mar (ms (ms (ms M 41 (-1)) 13 (nI 0)) 14 (-1)) 2 (kLay (M.2.2.1 2) (tkOf (zToks (M.2.2.1 11) size 401 0)) (zToks (M.2.2.1 11) size 401 0).length 6 (zToks (M.2.2.1 11) size 401 0).length)) 41 (nI i)) 3
    | .inr x => (nI x.2, sGood (put (ms (ms (ms M 41 (-1)) 13 (nI 0)) 14 (-1)) x.1))
section Orders
variable {E : JE} {L : ML} {ph : HP}

theorem orders_end {M : MM} {N : Nat} {a5 : Option Value} {p : Nat} {s : St} {done i : Nat} {u : Nat} {M2 : MM} {P : Int32 → MM → Prop} (hN : N ≤ 400) (hp : N ≤ p) (hp2 : p ≤ 400) (hM : mQ (put M s) M2) (h42 : M2.1 42 = nI done) (h43 : M2.1 43 = nI (2400 + p + 1)) (hP : ∀ M', mQ (ms (put M s) 0 (nI 0)) M' → P (nI done) M') : G E fX6_orders (mFin E fX6_orders L ph (rI P)) 112 [some (.ref (L.1 52)), some (.int (nI u)), some (.int (nI (2400 + N))), some (.int (nI i)), a5] [] (movl L M2 ph) 0 0 := by
  refine G.aload_n0 dX6_orders_112 ?_
  refine G.mgeti 43 fl_X6_414 dX6_orders_113 ?_
  rw [h43]
  refine G.iload_n2 dX6_orders_116 ?_
  refine G.icmp_ge (tgt := 215) dX6_orders_117 (by decide) (fun c_117 => ?_) (fun c_117 => ?_)
  · refine G.aload_n0 dX6_orders_215 ?_
    refine G.aload_n0 dX6_orders_216 ?_
    refine G.mgeti 42 fl_X6_411 dX6_orders_217 ?_
    rw [h42]
    refine G.mcall (f' := fX6_good) q1919 ck_X6_good (c_X6_good E L _ ph _) dX6_orders_220 (rI.k fun r_220 M_220 h_220 => ?_)
    obtain ⟨e_220, h_220⟩ := h_220; replace e_220 := e_220.symm; replace h_220 := h_220.symm; subst e_220; subst h_220
    refine G.ireturn dX6_orders_223 ?_
    exact ⟨_, rfl, _, rfl, hP _ (mX_ms2 hM)⟩
  · exact absurd (nI_leI (by omega) (by omega) |>.mpr (by omega)) c_117
theorem orders_undo {M M2 : MM} {N : Nat} {s0 s' : St} {i u : Nat} {a5 : Option Value} {P : Int32 → MM → Prop} (hs : s0.2.2 = u) (ha : ∀ k, k < 34 → M.2.2.1 5 k = s0.1 k) (hl : ∀ k, k < 560 → M.2.2.1 27 k = s0.2.1 k) (hM : mQ (put M s') M2) (hP : ∀ M', mQ (sRef (ms (put M (cpA s'.1 s0.1 0 34, cpA s'.2.1 s0.2.1 0 560, u)) 41 (nI i)) 3) M' → P (-nI 3) M') : G E fX6_orders (mFin E fX6_orders L ph (rI P)) 131 [some (.ref (L.1 52)), some (.int (nI u)), some (.int (nI (2400 + N))), some (.int (nI i)), a5] [] (movl L M2 ph) 0 0 := by
  obtain ⟨g1, g2, g3, g4⟩ := mQ_st hM
  have e5 : M2.2.2.1 5 = M.2.2.1 5 := hM.2.2.1 5 (by decide)
  have e27 : M2.2.2.1 27 = M.2.2.1 27 := hM.2.2.1 27 (by decide)
  have k192 : G E fX6_orders (mFin E fX6_orders L ph (rI P)) 192 [some (.ref (L.1 52)), some (.int (nI u)), some (.int (nI (2400 + N))), some (.int (nI i)), some (.int (nI 560))] [] (movl L (mar (mar M2 2 (cpA s'.1 s0.1 0 34)) 26 (cpA s'.2.1 s0.2.1 0 560)) ph) 0 0 := by
    refine G.aload_n0 dX6_orders_192 ?_
    refine G.iload_n1 dX6_orders_193 ?_
    refine G.mputi 28 fp_X6_11 dX6_orders_194 ?_
    refine G.aload_n0 dX6_orders_197 ?_
    refine G.iload_n3 dX6_orders_198 ?_
    refine G.mputi 41 fp_X6_100 dX6_orders_199 ?_
    refine G.aload_n0 dX6_orders_202 ?_
    refine G.bipush (v := -3) dX6_orders_203 (by decide) ?_
    refine G.mcall (f' := fX6_refuses) q1915 ck_X6_refuses (c_X6_refuses E L _ ph (k := 3) (by decide)) dX6_orders_205 (rI.k fun r_205 M_205 h_205 => ?_)
    obtain ⟨e_205, h_205⟩ := h_205; replace e_205 := e_205.symm; replace h_205 := h_205.symm; subst e_205; subst h_205
    refine G.ireturn dX6_orders_208 ?_
    refine ⟨_, rfl, _, rfl, hP _ (mX_ref2 (mX_ms2 ?_) (by decide))⟩
    have h := mX_put (s := (cpA s'.1 s0.1 0 34, cpA s'.2.1 s0.2.1 0 560, u)) hM
    rw [put_put] at h
    have e : put M2 (cpA s'.1 s0.1 0 34, cpA s'.2.1 s0.2.1 0 560, u) = ms (mar (mar M2 2 (cpA s'.1 s0.1 0 34)) 26 (cpA s'.2.1 s0.2.1 0 560)) 28 (nI u) := by
      refine Prod.ext rfl (Prod.ext rfl (Prod.ext (funext fun j => ?_) rfl))
      show va_up (va_up M2.2.2.1 26 _) 2 _ j = va_up (va_up M2.2.2.1 2 _) 26 _ j
      unfold va_up
      by_cases q1 : j = 2
      · rw [if_pos q1, if_neg (by omega), if_pos q1]
      · rw [if_neg q1, if_neg q1]
    rw [e] at h
    exact h
  have loop2 : ∀ d j, j + d = 560 → G E fX6_orders (mFin E fX6_orders L ph (rI P)) 164 [some (.ref (L.1 52)), some (.int (nI u)), some (.int (nI (2400 + N))), some (.int (nI i)), some (.int (nI j))] [] (movl L (mar (mar M2 2 (cpA s'.1 s0.1 0 34)) 26 (cpA s'.2.1 s0.2.1 0 j)) ph) 0 0 := by
    intro d
    induction d with
    | zero =>
      intro j hj
      obtain rfl : j = 560 := by omega
      refine G.iload4 dX6_orders_164 ?_
      refine G.sipush (v := nI 560) dX6_orders_166 (by decide) ?_
      refine G.icmp_ge (tgt := 192) dX6_orders_169 (by decide) (fun c_169 => ?_) (fun c_169 => ?_)
      · exact k192
      · exact absurd (nI_leI (by omega) (by omega) |>.mpr (by omega)) c_169
    | succ d ih =>
      intro j hj
      refine G.iload4 dX6_orders_164 ?_
      refine G.sipush (v := nI 560) dX6_orders_166 (by decide) ?_
      refine G.icmp_ge (tgt := 192) dX6_orders_169 (by decide) (fun c_169 => ?_) (fun c_169 => ?_)
      · exact absurd ((nI_leI (by omega) (by omega)).mp c_169) (by omega)
      · refine G.aload_n0 dX6_orders_172 ?_
        refine G.mgeta 26 fl_X6_62 dX6_orders_173 ?_
        refine G.iload4 dX6_orders_176 ?_
        refine G.aload_n0 dX6_orders_178 ?_
        refine G.mgeta 27 fl_X6_65 dX6_orders_179 ?_
        refine G.iload4 dX6_orders_182 ?_
        refine G.miald (n := 560) 27 j dX6_orders_184 rfl (by omega) ?_
        rw [show (mar (mar M2 2 (cpA s'.1 s0.1 0 34)) 26 (cpA s'.2.1 s0.2.1 0 j)).2.2.1 27 j = s0.2.1 j from (congrFun e27 j).trans (hl j (by omega))]
        refine G.miast (n := 560) 26 j dX6_orders_185 rfl (by omega) ?_
        rw [ma_mar, show upd (cpA s'.2.1 s0.2.1 0 j) j (s0.2.1 j) = cpA s'.2.1 s0.2.1 0 (j + 1) from by
          have := cpA_s (h := s'.2.1) (g := s0.2.1) (a := 0) (j := j)
          rw [Nat.zero_add] at this
          exact this]
        refine G.iinc4 dX6_orders_186 ?_
        try rw [show ∀ a : Nat, nI a + Int32.ofInt 1 = nI (a + 1) from fun a => nI_add a 1]
        refine G.goto (tgt := 164) dX6_orders_189 (by decide) ?_
        exact ih (j + 1) (by omega)
  have loop1 : ∀ d j, j + d = 34 → G E fX6_orders (mFin E fX6_orders L ph (rI P)) 134 [some (.ref (L.1 52)), some (.int (nI u)), some (.int (nI (2400 + N))), some (.int (nI i)), some (.int (nI j))] [] (movl L (mar M2 2 (cpA s'.1 s0.1 0 j)) ph) 0 0 := by
    intro d
    induction d with
    | zero =>
      intro j hj
      obtain rfl : j = 34 := by omega
      refine G.iload4 dX6_orders_134 ?_
      refine G.bipush (v := nI 34) dX6_orders_136 (by decide) ?_
      refine G.icmp_ge (tgt := 161) dX6_orders_138 (by decide) (fun c_138 => ?_) (fun c_138 => ?_)
      · refine G.iconst (v := nI 0) dX6_orders_161 (by decide) ?_
        refine G.istore4 dX6_orders_162 ?_
        have := loop2 560 0 rfl
        rw [cpA_0] at this
        rw [show mar (mar M2 2 (cpA s'.1 s0.1 0 34)) 26 s'.2.1 = mar M2 2 (cpA s'.1 s0.1 0 34) from by
          rw [← g2]
          exact mar_id (M := mar M2 2 (cpA s'.1 s0.1 0 34)) (k := 26)] at this
        exact this
      · exact absurd (nI_leI (by omega) (by omega) |>.mpr (by omega)) c_138
    | succ d ih =>
      intro j hj
      refine G.iload4 dX6_orders_134 ?_
      refine G.bipush (v := nI 34) dX6_orders_136 (by decide) ?_
      refine G.icmp_ge (tgt := 161) dX6_orders_138 (by decide) (fun c_138 => ?_) (fun c_138 => ?_)
      · exact absurd ((nI_leI (by omega) (by omega)).mp c_138) (by omega)
      · refine G.aload_n0 dX6_orders_141 ?_
        refine G.mgeta 2 fl_X6_24 dX6_orders_142 ?_
        refine G.iload4 dX6_orders_145 ?_
        refine G.aload_n0 dX6_orders_147 ?_
        refine G.mgeta 5 fl_X6_34 dX6_orders_148 ?_
        refine G.iload4 dX6_orders_151 ?_
        refine G.miald (n := 34) 5 j dX6_orders_153 rfl (by omega) ?_
        rw [show (mar M2 2 (cpA s'.1 s0.1 0 j)).2.2.1 5 j = s0.1 j from (congrFun e5 j).trans (ha j (by omega))]
        refine G.miast (n := 5866) 2 j dX6_orders_154 rfl (by omega) ?_
        rw [ma_mar, show upd (cpA s'.1 s0.1 0 j) j (s0.1 j) = cpA s'.1 s0.1 0 (j + 1) from by
          have := cpA_s (h := s'.1) (g := s0.1) (a := 0) (j := j)
          rw [Nat.zero_add] at this
          exact this]
        refine G.iinc4 dX6_orders_155 ?_
        try rw [show ∀ a : Nat, nI a + Int32.ofInt 1 = nI (a + 1) from fun a => nI_add a 1]
        refine G.goto (tgt := 134) dX6_orders_158 (by decide) ?_
        exact ih (j + 1) (by omega)
  refine G.iconst (v := nI 0) dX6_orders_131 (by decide) ?_
  refine G.istore4 dX6_orders_132 ?_
  have := loop1 34 0 rfl
  rw [cpA_0] at this
  rw [show mar M2 2 s'.1 = M2 from by rw [← g1]; exact mar_id] at this
  exact this
end Orders
