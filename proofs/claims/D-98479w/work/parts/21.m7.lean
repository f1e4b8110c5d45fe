/-! THE MODEL TELLS: what the clauses of the law in force tell -/
section Tells
variable {E : JE} {L : ML} {ph : HP}
theorem kPer_en {K : KR} {b n : Nat} {a : Nat → Int32} (h : KOk K b n) : (∀ k, k < 10 → (aEn K a).2.1 k = if k < n then (wOf K k).toInt64 else -1) ∧ (∀ k, k < 10 → (aEn K a).2.2 k = if k < n then (if K k = nI 2 then 1 else 0) else -1) := by
  have e := h.n
  refine ⟨fun k _ => ?_, fun k _ => ?_⟩
  · show (if k < kN K then (wOf K k).toInt64 else -1) = _
    rw [e]
  · show (if k < kN K then (if K k = nI 2 then (1 : Int64) else 0) else -1) = _
    rw [e]
theorem zB_n {o : Option Int64} : zB true false o = o.isNone := rfl
theorem zB_m {o : Option Bool} : zB true false o = o.isNone := rfl
theorem clamp_eq {v high : Int64} (w : Int64) (h : w = if v < 0 then 0 else if high < v then high else v) : w = zClamp high v := h
theorem c_X6_tells {M : MM} {b n : Nat} (hK : KOk (M.2.2.1 2) b n) (ha : ∀ i, i < 10 → -1000000000 ≤ (M.2.2.1 25 i).toInt ∧ (M.2.2.1 25 i).toInt ≤ 1000000000) (head high without : Nat) (hh : head < 100) : MC E fX6_tells L M ph [.int (nI head), .int (nI high), .int (nI without)] (rI fun r M' => r = tellsOf (M.2.2.1 2) head (M.2.2.1 25) high without ∧ mX [8, 22, 23, 24] [] M M') := by
  refine Ct.of [some (.ref (L.1 52)), some (.int (nI head)), some (.int (nI high)), some (.int (nI without)), none, none, none, none, none, none, none] rfl (Nat.le_of_ble_eq_true rfl) (show plainName RX6 = true by decide +kernel) rfl ?_
  obtain ⟨t, ht, ht1, hf, hl⟩ := hK.2.2.2.2.2.2.2
  refine G.aload_n0 dX6_tells_0 ?_
  refine G.mgeta 2 fl_X6_24 dX6_tells_1 ?_
  refine G.sipush (v := nI 258) dX6_tells_4 (by decide) ?_
  refine G.miald (n := 5866) 2 _ dX6_tells_7 rfl (by omega) ?_
  refine G.iconst (v := -1) dX6_tells_8 (by decide) ?_
  refine G.icmp_ne (tgt := 14) dX6_tells_9 (by decide) (fun c_9 => ?_) (fun c_9 => ?_)
  · obtain ⟨f, hft, hf1⟩ := hf.resolve_left c_9
    obtain ⟨hN, hN1, htk, cs, hcs⟩ := hl f hft
    obtain ⟨p, l, hp, hNp⟩ := pCls_N hcs
    have hen := aEn_ok (a := M.2.2.1 25) hK ha
    have hps := kPer_en (a := M.2.2.1 25) hK
    have hr : tellsOf (M.2.2.1 2) head (M.2.2.1 25) high without = (zTells (cs.map (fun c => c.2)) head (aEn (M.2.2.1 2) (M.2.2.1 25)) (nI high).toInt64 (nI without).toInt64).toInt32 := by
      unfold tellsOf
      rw [if_neg c_9, hf1, tNat_nI (by omega)]
      unfold bCls
      rw [hcs]
    rw [hr]
    generalize hgN : kS (M.2.2.1 2) f = N at *
    generalize hge : aEn (M.2.2.1 2) (M.2.2.1 25) = e at *
    generalize hgt : bTk (M.2.2.1 2) (400 * f) N = tk at *
    refine G.aload_n0 dX6_tells_14 ?_
    refine G.bipush (v := nI 10) dX6_tells_15 (by decide) ?_
    refine G.mputi 8 fp_X6_220 dX6_tells_17 ?_
    refine G.iload_n3 dX6_tells_20 ?_
    refine G.i2l dX6_tells_21 rfl ?_
    refine G.lstore4 dX6_tells_22 ?_
    refine G.aload_n0 dX6_tells_24 ?_
    refine G.sipush (v := nI 400) dX6_tells_25 (by decide) ?_
    refine G.aload_n0 dX6_tells_28 ?_
    refine G.mgeta 2 fl_X6_24 dX6_tells_29 ?_
    refine G.sipush (v := nI 258) dX6_tells_32 (by decide) ?_
    refine G.miald (n := 5866) 2 _ dX6_tells_35 rfl (by omega) ?_
    rw [show (ms M 8 (nI 10)).2.2.1 2 258 = nI f from hf1]
    first | with_reducible refine G.imuln dX6_tells_36 ?_ | refine G.imul dX6_tells_36 ?_
    refine G.mputi 22 fp_X6_248 dX6_tells_37 ?_
    refine G.aload_n0 dX6_tells_40 ?_
    refine G.aload_n0 dX6_tells_41 ?_
    refine G.mgeti 22 fl_X6_248 dX6_tells_42 ?_
    refine G.aload_n0 dX6_tells_45 ?_
    refine G.mgeta 2 fl_X6_24 dX6_tells_46 ?_
    refine G.sipush (v := nI 259) dX6_tells_49 (by decide) ?_
    refine G.aload_n0 dX6_tells_52 ?_
    refine G.mgeta 2 fl_X6_24 dX6_tells_53 ?_
    refine G.sipush (v := nI 258) dX6_tells_56 (by decide) ?_
    refine G.miald (n := 5866) 2 _ dX6_tells_59 rfl (by omega) ?_
    rw [show (ms (ms M 8 (nI 10)) 22 (nI (400 * f))).2.2.1 2 258 = nI f from hf1]
    first | with_reducible refine G.iaddn dX6_tells_60 ?_ | refine G.iadd dX6_tells_60 ?_
    refine G.miald (n := 5866) 2 _ dX6_tells_61 rfl (by omega) ?_
    rw [show (ms (ms M 8 (nI 10)) 22 (nI (400 * f))).1 22 = nI (400 * f) from rfl, show (ms (ms M 8 (nI 10)) 22 (nI (400 * f))).2.2.1 2 (259 + f) = nI N from hN1]
    first | with_reducible refine G.iaddn dX6_tells_62 ?_ | refine G.iadd dX6_tells_62 ?_
    refine G.mputi 23 fp_X6_245 dX6_tells_63 ?_
    have hC : EvC (ms (ms (ms M 8 (nI 10)) 22 (nI (400 * f))) 23 (nI (400 * f + N))) (400 * f) N tk false e n := ⟨by omega, rfl, rfl, fun i hi => by rw [← hgt]; exact (if_pos hi).symm, fun i hi => by rw [← hgt]; exact (if_pos hi).symm, htk, hen, fun i hi _ => by rw [← hge]; exact (if_pos hi).symm, hK.1.1, hK.1.2, fun k hk => by rw [hps.1 k hk]; rfl, fun k hk => by rw [hps.2 k hk]; rfl⟩
    have hx0 : mX [8, 22, 23, 24] [] M (ms (ms (ms M 8 (nI 10)) 22 (nI (400 * f))) 23 (nI (400 * f + N))) := ((mX.rf.ms (by decide)).ms (by decide)).ms (by decide)
    have hg0 : (ms (ms (ms M 8 (nI 10)) 22 (nI (400 * f))) 23 (nI (400 * f + N))).1 22 = nI (400 * f + 0) := rfl
    generalize ms (ms (ms M 8 (nI 10)) 22 (nI (400 * f))) 23 (nI (400 * f + N)) = M1 at hC hx0 hg0 ⊢
    have exit : ∀ (M2 : MM) (pos : Nat) (told : Int64) (a6 a7 a8 a9 a10 : Option Value), mX [22, 24] [] M1 M2 → M2.1 22 = nI (400 * f + pos) → N ≤ pos → pos ≤ N + 1 → told = zTells (cs.map (fun c => c.2)) head e (nI high).toInt64 (nI without).toInt64 → G E fX6_tells (mFin E fX6_tells L ph (rI fun r M' => r = (zTells (cs.map (fun c => c.2)) head e (nI high).toInt64 (nI without).toInt64).toInt32 ∧ mX [8, 22, 23, 24] [] M M')) 66 [some (.ref (L.1 52)), some (.int (nI head)), some (.int (nI high)), some (.int (nI without)), some (.long told), none, a6, a7, a8, a9, a10] [] (movl L M2 ph) 0 0 := by
      intro M2 pos told a6 a7 a8 a9 a10 hx h22 hn hn1 ht
      have h23 : M2.1 23 = nI (400 * f + N) := (hx.1 23 (by decide)).trans hC.2.1
      refine G.aload_n0 dX6_tells_66 ?_
      refine G.mgeti 22 fl_X6_248 dX6_tells_67 ?_
      refine G.aload_n0 dX6_tells_70 ?_
      refine G.mgeti 23 fl_X6_245 dX6_tells_71 ?_
      rw [h22, h23]
      refine G.icmp_ge (tgt := 218) dX6_tells_74 (by decide) (fun c_74 => ?_) (fun c_74 => absurd c_74 (by exact fun z => z ((nI_leI (by omega) (by omega)).mpr (by omega))))
      refine G.lload4 dX6_tells_218 ?_
      refine G.l2i dX6_tells_220 rfl ?_
      refine G.ireturn dX6_tells_221 ?_
      exact ⟨_, rfl, _, rfl, by rw [ht], hx0.tr hx (by simp) (by simp)⟩
    have loop : ∀ (k : Nat) (acc : List (Nat × Cl)) (M2 : MM) (pos lv : Nat) (told : Int64) (a6 a7 a8 a9 a10 : Option Value), mX [22, 24] [] M1 M2 → M2.1 22 = nI (400 * f + pos) → told = zTells (acc.map (fun c => c.2)) head e (nI high).toInt64 (nI without).toInt64 → pCls false tk k acc pos lv = .inr (cs, p, l) → G E fX6_tells (mFin E fX6_tells L ph (rI fun r M' => r = (zTells (cs.map (fun c => c.2)) head e (nI high).toInt64 (nI without).toInt64).toInt32 ∧ mX [8, 22, 23, 24] [] M M')) 66 [some (.ref (L.1 52)), some (.int (nI head)), some (.int (nI high)), some (.int (nI without)), some (.long told), none, a6, a7, a8, a9, a10] [] (movl L M2 ph) 0 0 := by
      intro k
      induction k with
      | zero => intro acc M2 pos lv told a6 a7 a8 a9 a10 _ _ _ h; simp [pCls] at h
      | succ k ih =>
        intro acc M2 pos lv told a6 a7 a8 a9 a10 hx h22 ht h
        obtain ⟨c, pc, lc, hc, hcont⟩ := pCls_on h
        obtain ⟨hd, s, p1, l1, hd1, hd5, hhd, hs, hif⟩ := pLawCl_of hc
        have hposN : pos < N := tk_in htk (by omega) (by omega) hhd
        have h23 : M2.1 23 = nI (400 * f + N) := (hx.1 23 (by decide)).trans hC.2.1
        have hc1 : c.1 = hd ∧ c.2.1 = s := by
          rcases pIf_of hif with ⟨-, t, -, rfl⟩ | ⟨-, rfl, -⟩ <;> exact ⟨rfl, rfl⟩
        have hp1 : p1 ≤ N := by
          rcases hs with ⟨-, -, q, -⟩ | ⟨-, s1, -, q⟩
          · omega
          · exact (pSum_Q htk hen 8 _ _ _ _ _ q).2.2
        have hpc : pc ≤ N := by
          rcases pIf_of hif with ⟨-, t, q, -⟩ | ⟨-, -, q, -⟩
          · exact (pTest_Q htk hen 8 _ _ _ _ _ q).2.2
          · omega
        have k205 : ∀ (M5 : MM) (told' : Int64) (a6 a7 a8 a9 a10 : Option Value), mX [22, 24] [] M1 M5 → M5.1 22 = nI (400 * f + pc) → told' = zTells ((acc ++ [(pos, c)]).map (fun c => c.2)) head e (nI high).toInt64 (nI without).toInt64 → G E fX6_tells (mFin E fX6_tells L ph (rI fun r M' => r = (zTells (cs.map (fun c => c.2)) head e (nI high).toInt64 (nI without).toInt64).toInt32 ∧ mX [8, 22, 23, 24] [] M M')) 205 [some (.ref (L.1 52)), some (.int (nI head)), some (.int (nI high)), some (.int (nI without)), some (.long told'), none, a6, a7, a8, a9, a10] [] (movl L M5 ph) 0 0 := by
          intro M5 told' a6 a7 a8 a9 a10 hx5 h5 ht5
          refine G.aload_n0 dX6_tells_205 ?_
          refine G.dup dX6_tells_206 rfl ?_
          refine G.mgeti 22 fl_X6_248 dX6_tells_207 ?_
          refine G.iconst (v := nI 1) dX6_tells_210 (by decide) ?_
          rw [h5]
          first | with_reducible refine G.iaddn dX6_tells_211 ?_ | refine G.iadd dX6_tells_211 ?_
          refine G.mputi 22 fp_X6_248 dX6_tells_212 ?_
          refine G.goto (tgt := 66) dX6_tells_215 (by decide) ?_
          rcases hcont with ⟨q1, q2⟩ | ⟨q1, q2, q3, -⟩
          · exact ih _ _ (pc + 1) _ _ _ _ _ _ _ (hx5.ms (by decide)) rfl ht5 q2
          · subst q3
            exact exit _ (p + 1) _ _ _ _ _ _ (hx5.ms (by decide)) rfl (by omega) (by omega) (by rw [q2]; exact ht5)
        have k152 : ∀ (M4 : MM) (v : Int64) (hb tb : Bool) (a10 : Option Value), mX [22, 24] [] M1 M4 → M4.1 22 = nI (400 * f + pc) → M4.1 24 = bI tb → (hb && !tb) = zHolds c.2.2.2 e → (∀ w, zTold s e = some w → v = w) → G E fX6_tells (mFin E fX6_tells L ph (rI fun r M' => r = (zTells (cs.map (fun c => c.2)) head e (nI high).toInt64 (nI without).toInt64).toInt32 ∧ mX [8, 22, 23, 24] [] M M')) 152 [some (.ref (L.1 52)), some (.int (nI head)), some (.int (nI high)), some (.int (nI without)), some (.long told), none, some (.int (nI hd)), some (.long v), none, some (.int (bI (zTold s e).isNone)), a10] [.int (bI hb)] (movl L M4 ph) 0 0 := by
          intro M4 v hb tb a10 hx4 h4 h4b hh hv
          have no : ¬ (hd = head ∧ zHolds c.2.2.2 e = true) ∨ zTold s e = none → told = zTells ((acc ++ [(pos, c)]).map (fun c => c.2)) head e (nI high).toInt64 (nI without).toInt64 := by
            intro z
            rw [List.map_append, List.map_cons, List.map_nil, zTells_snoc, hc1.1, hc1.2, ← ht]
            rcases z with z | z
            · rw [if_neg z]
            · rw [z]; split <;> rfl
          have nb1 : hb = false → ¬ zHolds c.2.2.2 e = true := fun q z => by rw [← hh, q, Bool.false_and] at z; cases z
          have nb2 : tb = true → ¬ zHolds c.2.2.2 e = true := fun q z => by rw [← hh, q, Bool.not_true, Bool.and_false] at z; cases z
          have yes : nI hd = nI head → hb = true → bI tb = 0 → (zTold s e).isNone = false → ∀ w', w' = zClamp (nI high).toInt64 v → w' = zTells ((acc ++ [(pos, c)]).map (fun c => c.2)) head e (nI high).toInt64 (nI without).toInt64 := by
            intro z1 z2 z3 z4 w' hw'
            rw [List.map_append, List.map_cons, List.map_nil, zTells_snoc, hc1.1, hc1.2, if_pos ⟨(nI_inj (by omega) (by omega)).mp z1, by rw [← hh, z2, bI_0.mp z3]; rfl⟩]
            cases hz : zTold s e with
            | none => rw [hz] at z4; cases z4
            | some w => rw [hw', hv w hz]
          refine G.istore10 dX6_tells_152 ?_
          refine G.iload6 dX6_tells_154 ?_
          refine G.iload_n1 dX6_tells_156 ?_
          refine G.icmp_ne (tgt := 205) dX6_tells_157 (by decide) (fun c_157 => ?_) (fun c_157 => ?_)
          · first
            | exact k205 _ _ _ _ _ _ _ hx4 h4 (no (Or.inl (fun z => c_157 (congrArg nI z.1))))
            | exact k205 _ _ _ _ _ _ _ hx4 h4 (no (Or.inl (fun z => nb1 c_162 z.2)))
            | exact k205 _ _ _ _ _ _ _ hx4 h4 (no (Or.inl (fun z => nb2 (bI_n0.mp c_169) z.2)))
            | exact k205 _ _ _ _ _ _ _ hx4 h4 (no (Or.inr (Option.isNone_iff_eq_none.mp c_174)))
          · refine G.iload10 dX6_tells_160 ?_
            refine G.ifb_eq (tgt := 205) dX6_tells_162 (by decide) (fun c_162 => ?_) (fun c_162 => ?_)
            · first
              | exact k205 _ _ _ _ _ _ _ hx4 h4 (no (Or.inl (fun z => c_157 (congrArg nI z.1))))
              | exact k205 _ _ _ _ _ _ _ hx4 h4 (no (Or.inl (fun z => nb1 c_162 z.2)))
              | exact k205 _ _ _ _ _ _ _ hx4 h4 (no (Or.inl (fun z => nb2 (bI_n0.mp c_169) z.2)))
              | exact k205 _ _ _ _ _ _ _ hx4 h4 (no (Or.inr (Option.isNone_iff_eq_none.mp c_174)))
            · refine G.aload_n0 dX6_tells_165 ?_
              refine G.mgeti 24 fl_X6_258 dX6_tells_166 ?_
              rw [h4b]
              refine G.if_ne (tgt := 205) dX6_tells_169 (by decide) (fun c_169 => ?_) (fun c_169 => ?_)
              · first
                | exact k205 _ _ _ _ _ _ _ hx4 h4 (no (Or.inl (fun z => c_157 (congrArg nI z.1))))
                | exact k205 _ _ _ _ _ _ _ hx4 h4 (no (Or.inl (fun z => nb1 c_162 z.2)))
                | exact k205 _ _ _ _ _ _ _ hx4 h4 (no (Or.inl (fun z => nb2 (bI_n0.mp c_169) z.2)))
                | exact k205 _ _ _ _ _ _ _ hx4 h4 (no (Or.inr (Option.isNone_iff_eq_none.mp c_174)))
              · refine G.iload9 dX6_tells_172 ?_
                refine G.ifb_ne (tgt := 205) dX6_tells_174 (by decide) (fun c_174 => ?_) (fun c_174 => ?_)
                · first
                  | exact k205 _ _ _ _ _ _ _ hx4 h4 (no (Or.inl (fun z => c_157 (congrArg nI z.1))))
                  | exact k205 _ _ _ _ _ _ _ hx4 h4 (no (Or.inl (fun z => nb1 c_162 z.2)))
                  | exact k205 _ _ _ _ _ _ _ hx4 h4 (no (Or.inl (fun z => nb2 (bI_n0.mp c_169) z.2)))
                  | exact k205 _ _ _ _ _ _ _ hx4 h4 (no (Or.inr (Option.isNone_iff_eq_none.mp c_174)))
                · refine G.lload7 dX6_tells_177 ?_
                  refine G.lconst (v := 0) dX6_tells_179 (by decide) ?_
                  refine G.lcmp dX6_tells_180 ?_
                  refine G.if_ge (tgt := 188) dX6_tells_181 (by decide) (fun c_181 => ?_) (fun c_181 => ?_)
                  · refine G.lload7 dX6_tells_188 ?_
                    refine G.iload_n2 dX6_tells_190 ?_
                    refine G.i2l dX6_tells_191 rfl ?_
                    refine G.lcmp dX6_tells_192 ?_
                    refine G.if_le (tgt := 201) dX6_tells_193 (by decide) (fun c_193 => ?_) (fun c_193 => ?_)
                    · refine G.lload7 dX6_tells_201 ?_
                      refine G.lstore4 dX6_tells_203 ?_
                      first
                        | refine k205 _ _ _ _ _ _ _ hx4 h4 (yes (Classical.not_not.mp c_157) c_162 c_169 c_174 _ ?_)
                        | refine k205 _ _ _ _ _ _ _ hx4 h4 (yes c_157 c_162 c_169 c_174 _ ?_)
                      unfold zClamp
                      first
                        | rw [if_pos (lg_lt.mp (Int32.not_le.mp c_181))]
                        | rw [if_neg (Int64.not_lt.mpr (lg_ge.mp c_181)), if_neg (Int64.not_lt.mpr (lg_le.mp c_193))]
                        | rw [if_neg (Int64.not_lt.mpr (lg_ge.mp c_181)), if_pos (Int64.not_le.mp (fun z => c_193 (lg_le.mpr z)))]
                    · refine G.iload_n2 dX6_tells_196 ?_
                      refine G.i2l dX6_tells_197 rfl ?_
                      refine G.goto (tgt := 203) dX6_tells_198 (by decide) ?_
                      refine G.lstore4 dX6_tells_203 ?_
                      first
                        | refine k205 _ _ _ _ _ _ _ hx4 h4 (yes (Classical.not_not.mp c_157) c_162 c_169 c_174 _ ?_)
                        | refine k205 _ _ _ _ _ _ _ hx4 h4 (yes c_157 c_162 c_169 c_174 _ ?_)
                      unfold zClamp
                      first
                        | rw [if_pos (lg_lt.mp (Int32.not_le.mp c_181))]
                        | rw [if_neg (Int64.not_lt.mpr (lg_ge.mp c_181)), if_neg (Int64.not_lt.mpr (lg_le.mp c_193))]
                        | rw [if_neg (Int64.not_lt.mpr (lg_ge.mp c_181)), if_pos (Int64.not_le.mp (fun z => c_193 (lg_le.mpr z)))]
                  · refine G.lconst (v := 0) dX6_tells_184 (by decide) ?_
                    refine G.goto (tgt := 203) dX6_tells_185 (by decide) ?_
                    refine G.lstore4 dX6_tells_203 ?_
                    first
                      | refine k205 _ _ _ _ _ _ _ hx4 h4 (yes (Classical.not_not.mp c_157) c_162 c_169 c_174 _ ?_)
                      | refine k205 _ _ _ _ _ _ _ hx4 h4 (yes c_157 c_162 c_169 c_174 _ ?_)
                    unfold zClamp
                    first
                      | rw [if_pos (lg_lt.mp (Int32.not_le.mp c_181))]
                      | rw [if_neg (Int64.not_lt.mpr (lg_ge.mp c_181)), if_neg (Int64.not_lt.mpr (lg_le.mp c_193))]
                      | rw [if_neg (Int64.not_lt.mpr (lg_ge.mp c_181)), if_pos (Int64.not_le.mp (fun z => c_193 (lg_le.mpr z)))]
        have k117 : ∀ (M3 : MM) (v : Int64) (a9 a10 : Option Value), mX [22, 24] [] M1 M3 → M3.1 22 = nI (400 * f + p1) → M3.1 24 = bI (zTold s e).isNone → (∀ w, zTold s e = some w → v = w) → G E fX6_tells (mFin E fX6_tells L ph (rI fun r M' => r = (zTells (cs.map (fun c => c.2)) head e (nI high).toInt64 (nI without).toInt64).toInt32 ∧ mX [8, 22, 23, 24] [] M M')) 117 [some (.ref (L.1 52)), some (.int (nI head)), some (.int (nI high)), some (.int (nI without)), some (.long told), none, some (.int (nI hd)), a7, a8, a9, a10] [.long v] (movl L M3 ph) 0 0 := by
          intro M3 v a9 a10 hx3 h3 h3b hv
          refine G.lstore7 dX6_tells_117 ?_
          refine G.aload_n0 dX6_tells_119 ?_
          refine G.mgeti 24 fl_X6_258 dX6_tells_120 ?_
          rw [h3b]
          refine G.istore9 dX6_tells_123 ?_
          refine G.aload_n0 dX6_tells_125 ?_
          refine G.iconst (v := nI 0) dX6_tells_126 (by decide) ?_
          refine G.mputi 24 fp_X6_258 dX6_tells_127 ?_ (hn := by first | rfl | exact bI_nar _) (hfit := by first | rfl | exact bI_fit _)
          refine G.aload_n0 dX6_tells_130 ?_
          refine G.bipush (v := nI 6) dX6_tells_131 (by decide) ?_
          refine G.mcall (f' := fX6_passes0) q2140 ck_X6_passes0 (c_X6_passes0 (pos := p1) (nI 6) ((hC.mv hx3).mv (mX.rf.ms (by decide))) hp1 h3) dX6_tells_133 (rI.k fun r_133 M_133 h_133 => ?_)
          obtain ⟨e_133, h_133⟩ := h_133; replace e_133 := e_133.symm; replace h_133 := h_133.symm; subst e_133; subst h_133
          refine G.ifb_eq (tgt := 147) dX6_tells_136 (by decide) (fun c_136 => ?_) (fun c_136 => ?_)
          · have q := of_decide_eq_false c_136
            rw [if_neg q]
            obtain ⟨hcn, hpc1⟩ : c.2.2.2 = none ∧ pc = p1 := by
              rcases pIf_of hif with ⟨z, -⟩ | ⟨-, z1, z, -⟩
              · exact absurd z q
              · exact ⟨by rw [z1], z⟩
            refine G.iconst (v := nI 1) dX6_tells_147 (by decide) ?_
            refine G.goto (tgt := 152) dX6_tells_148 (by decide) ?_
            first
            | exact k152 _ v true false _ (hx3.ms (by decide)) (h3.trans (congrArg (fun z => nI (400 * f + z)) hpc1.symm)) rfl ((congrArg (fun z => zHolds z e) hcn).symm) hv
            | exact k152 _ v true _ _ (((hx3.ms (by decide)).ms (by decide)).tr g1 (by simp) (by simp)) g2 g3 ((congrArg (fun z => z && !(tt e).isNone) c_144).symm.trans hz) hv
            | exact k152 _ v false _ _ (((hx3.ms (by decide)).ms (by decide)).tr g1 (by simp) (by simp)) g2 g3 ((congrArg (fun z => z && !(tt e).isNone) c_144).symm.trans hz) hv
          · have q := of_decide_eq_true c_136
            rw [if_pos q]
            obtain ⟨tt, q2, q3⟩ : ∃ tt, pTest false tk 8 (p1 + 1) l1 = .inr (tt, pc, lc) ∧ c = (hd, s, 1, some tt) := by
              rcases pIf_of hif with ⟨-, tt, q2, q3⟩ | ⟨q1, -⟩
              · exact ⟨tt, q2, q3⟩
              · exact absurd q q1
            refine G.aload_n0 dX6_tells_139 ?_
            refine G.iconst (v := nI 1) dX6_tells_140 (by decide) ?_
            refine G.mcall (f' := fX6_testOf (72)) q2151 (ck_X6_testOf _) (e_tests (ord := false) (by omega) htk hen 8 (by omega) _ (p1 + 1) l1 tt pc lc true false (((hC.mv hx3).mv (mX.rf.ms (by decide))).mv (mX.rf.ms (by decide))) q2 rfl rfl) dX6_tells_141 (rI.k fun r_141 M_141 h_141 => ?_)
            obtain ⟨rb, rfl, g1, g2, g3, g4⟩ := h_141
            have hz : (rb && !(tt e).isNone) = zHolds c.2.2.2 e := by
              rw [q3]
              show _ = (tt e == some true)
              cases h9 : tt e with
              | none => cases rb <;> rfl
              | some w => rw [g4 rfl rfl w h9]; cases w <;> rfl
            refine G.ifb_eq (tgt := 151) dX6_tells_144 (by decide) (fun c_144 => ?_) (fun c_144 => ?_)
            · refine G.iconst (v := nI 0) dX6_tells_151 (by decide) ?_
              first
              | exact k152 _ v true false _ (hx3.ms (by decide)) (h3.trans (congrArg (fun z => nI (400 * f + z)) hpc1.symm)) rfl ((congrArg (fun z => zHolds z e) hcn).symm) hv
              | exact k152 _ v true _ _ (((hx3.ms (by decide)).ms (by decide)).tr g1 (by simp) (by simp)) g2 g3 ((congrArg (fun z => z && !(tt e).isNone) c_144).symm.trans hz) hv
              | exact k152 _ v false _ _ (((hx3.ms (by decide)).ms (by decide)).tr g1 (by simp) (by simp)) g2 g3 ((congrArg (fun z => z && !(tt e).isNone) c_144).symm.trans hz) hv
            · refine G.iconst (v := nI 1) dX6_tells_147 (by decide) ?_
              refine G.goto (tgt := 152) dX6_tells_148 (by decide) ?_
              first
              | exact k152 _ v true false _ (hx3.ms (by decide)) (h3.trans (congrArg (fun z => nI (400 * f + z)) hpc1.symm)) rfl ((congrArg (fun z => zHolds z e) hcn).symm) hv
              | exact k152 _ v true _ _ (((hx3.ms (by decide)).ms (by decide)).tr g1 (by simp) (by simp)) g2 g3 ((congrArg (fun z => z && !(tt e).isNone) c_144).symm.trans hz) hv
              | exact k152 _ v false _ _ (((hx3.ms (by decide)).ms (by decide)).tr g1 (by simp) (by simp)) g2 g3 ((congrArg (fun z => z && !(tt e).isNone) c_144).symm.trans hz) hv
        refine G.aload_n0 dX6_tells_66 ?_
        refine G.mgeti 22 fl_X6_248 dX6_tells_67 ?_
        refine G.aload_n0 dX6_tells_70 ?_
        refine G.mgeti 23 fl_X6_245 dX6_tells_71 ?_
        rw [h22, h23]
        refine G.icmp_ge (tgt := 218) dX6_tells_74 (by decide) (fun c_74 => absurd c_74 (by exact fun z => absurd ((nI_leI (by omega) (by omega)).mp z) (by omega))) (fun c_74 => ?_)
        refine G.aload_n0 dX6_tells_77 ?_
        refine G.aload_n0 dX6_tells_78 ?_
        refine G.mgeti 22 fl_X6_248 dX6_tells_79 ?_
        rw [h22]
        refine G.mcall (f' := fX6_codeAt) q2124 ck_X6_codeAt (c_X6_codeAt (pos := pos) (hC.mv hx) (by omega)) dX6_tells_82 (rI.k fun r_82 M_82 h_82 => ?_)
        obtain ⟨e_82, h_82⟩ := h_82; replace e_82 := e_82.symm; replace h_82 := h_82.symm; subst e_82; subst h_82
        refine G.istore6 dX6_tells_85 ?_
        refine G.aload_n0 dX6_tells_87 ?_
        refine G.iconst (v := nI 0) dX6_tells_88 (by decide) ?_
        refine G.mputi 24 fp_X6_258 dX6_tells_89 ?_ (hn := by first | rfl | exact bI_nar _) (hfit := by first | rfl | exact bI_fit _)
        refine G.aload_n0 dX6_tells_92 ?_
        refine G.dup dX6_tells_93 rfl ?_
        refine G.mgeti 22 fl_X6_248 dX6_tells_94 ?_
        refine G.iconst (v := nI 1) dX6_tells_97 (by decide) ?_
        rw [show (ms M2 24 (nI 0)).1 22 = nI (400 * f + pos) from h22]
        first | with_reducible refine G.iaddn dX6_tells_98 ?_ | refine G.iadd dX6_tells_98 ?_
        refine G.mputi 22 fp_X6_248 dX6_tells_99 ?_
        refine G.iload6 dX6_tells_102 ?_
        refine G.iconst (v := nI 5) dX6_tells_104 (by decide) ?_
        rw [hhd]
        refine G.icmp_ne (tgt := 112) dX6_tells_105 (by decide) (fun c_105 => ?_) (fun c_105 => ?_)
        · have hd5' : ¬ hd = 5 := fun z => c_105 (congrArg nI z)
          obtain ⟨s1, rfl, hs1⟩ := (hs.resolve_left (fun z => hd5' z.1)).2
          refine G.aload_n0 dX6_tells_112 ?_
          refine G.iconst (v := nI 1) dX6_tells_113 (by decide) ?_
          refine G.mcall (f' := fX6_sumOf (36)) q2128 (ck_X6_sumOf _) (e_sums htk hen 8 _ (pos + 1) lv s1 p1 l1 true false ((hC.mv hx).mv ((mX.rf.ms (by decide)).ms (by decide))) hs1 rfl rfl) dX6_tells_114 (rJ.k fun r_114 M_114 h_114 => ?_)
          obtain ⟨g1, g2, g3, g4⟩ := h_114
          first
          | exact k117 _ _ _ _ (((hx.ms (by decide)).ms (by decide)).tr g1 (by simp) (by simp)) g2 g3 (fun w hw => g4 rfl rfl w hw)
          | exact k117 _ _ _ _ ((hx.ms (by decide)).ms (by decide)) rfl rfl (fun w hw => Option.some.inj hw)
        · have hd5' : hd = 5 := (nI_inj (by omega) (by omega)).mp c_105
          obtain ⟨rfl, rfl, rfl⟩ : s = none ∧ p1 = pos + 1 ∧ l1 = lv := by
            rcases hs with ⟨-, q⟩ | ⟨q, -⟩
            · exact q
            · omega
          refine G.lconst (v := 1) dX6_tells_108 (by decide) ?_
          refine G.goto (tgt := 117) dX6_tells_109 (by decide) ?_
          first
          | exact k117 _ _ _ _ (((hx.ms (by decide)).ms (by decide)).tr g1 (by simp) (by simp)) g2 g3 (fun w hw => g4 rfl rfl w hw)
          | exact k117 _ _ _ _ ((hx.ms (by decide)).ms (by decide)) rfl rfl (fun w hw => Option.some.inj hw)
    exact loop 12 [] M1 0 0 _ _ _ _ _ _ mX.rf hg0 rfl hp
  · refine G.iload_n3 dX6_tells_12 ?_
    refine G.ireturn dX6_tells_13 ?_
    exact ⟨_, rfl, _, rfl, by unfold tellsOf; rw [if_pos c_9], mX.rf⟩
end Tells
