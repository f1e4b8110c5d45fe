/-! THE MODEL SPLITS its tape: the loop -/
/-- tokens found so far lie in the rows -/
def spI (M : MM) (A : List (Nat × Int32 × Int32)) (M2 : MM) : Prop := mX [18] [15, 16, 17] M M2 ∧ M2.1 18 = nI A.length ∧ ∀ i, i < A.length → M2.2.2.1 17 i = nI (A.getD i (0, nI 0, nI 0)).1 ∧ M2.2.2.1 15 i = (A.getD i (0, nI 0, nI 0)).2.1 ∧ M2.2.2.1 16 i = (A.getD i (0, nI 0, nI 0)).2.2
theorem spI.put {M M2 : MM} {A : List (Nat × Int32 × Int32)} {k : Nat} {v : Int32} (h : spI M A M2) (hk : k = 15 ∨ k = 16 ∨ k = 17) : spI M A (ma M2 k A.length v) := by
  obtain ⟨h1, h2, h3⟩ := h
  refine ⟨h1.ma (by rcases hk with rfl | rfl | rfl <;> decide), h2, fun i hi => ?_⟩
  obtain ⟨a, b, c⟩ := h3 i hi
  have key : ∀ j, (ma M2 k A.length v).2.2.1 j i = M2.2.2.1 j i := by
    intro j
    rw [ma_at]
    split
    · rename_i q
      rw [if_neg (by omega), q]
    · rfl
  rw [key, key, key]
  exact ⟨a, b, c⟩
theorem spI.add {M M2 : MM} {A : List (Nat × Int32 × Int32)} {x : Nat × Int32 × Int32} (h : spI M A M2) (h1 : M2.2.2.1 17 A.length = nI x.1) (h2 : M2.2.2.1 15 A.length = x.2.1) (h3 : M2.2.2.1 16 A.length = x.2.2) : spI M (A ++ [x]) (ms M2 18 (nI (A.length + 1))) := by
  obtain ⟨g1, g2, g3⟩ := h
  refine ⟨g1.ms (by decide), by rw [List.length_append]; rfl, fun i hi => ?_⟩
  rw [List.length_append, List.length_singleton] at hi
  show M2.2.2.1 17 i = _ ∧ M2.2.2.1 15 i = _ ∧ M2.2.2.1 16 i = _
  rcases Nat.lt_or_ge i A.length with y | y
  · rw [show (A ++ [x]).getD i (0, nI 0, nI 0) = A.getD i (0, nI 0, nI 0) from by rw [getD_of (by rw [List.length_append]; omega), getD_of y, List.getElem_append_left y]]
    exact g3 i y
  · obtain rfl : i = A.length := by omega
    rw [show (A ++ [x]).getD A.length (0, nI 0, nI 0) = x from by rw [getD_of (by rw [List.length_append, List.length_singleton]; omega), List.getElem_append_right (Nat.le_refl _)]; simp]
    exact ⟨h1, h2, h3⟩
/-- the tokens lie in the rows, the end behind them -/
def spQ (M : MM) (size : Nat) (T : List (Nat × Int32 × Int32)) (M' : MM) : Prop := mX [18] [15, 16, 17] M M' ∧ M'.1 18 = nI T.length ∧ ∀ i, i ≤ T.length → M'.2.2.1 17 i = nI (zPl T size i) ∧ M'.2.2.1 15 i = (tkOf T).1 i ∧ M'.2.2.1 16 i = (tkOf T).2 i
theorem ma_1 {M : MM} {a b : Nat} {c : Int32} {k : Nat} : (ma M a b c).1 k = M.1 k := rfl
section Split
variable {E : JE} {L : ML} {ph : HP}
theorem c_X6_splits {M : MM} (hw : ∀ i, i < 153 → M.2.2.1 7 i = nI (zW i)) {size : Nat} (hs : size ≤ 400) : MC E fX6_splits L M ph [.int (nI size)] (rV fun M' => spQ M size (zToks (M.2.2.1 11) size 401 0) M') := by
  generalize htp : M.2.2.1 11 = tp
  refine Ct.of [some (.ref (L.1 52)), some (.int (nI size)), none, none, none, none] rfl (Nat.le_of_ble_eq_true rfl) (show plainName RX6 = true by decide +kernel) rfl ?_
  have loop : ∀ f k A M2 a3 a4 a5, size < f + k → k ≤ size → A.length ≤ k → zToks tp size 401 0 = A ++ zToks tp size f k → spI M A M2 → G E fX6_splits (mFin E fX6_splits L ph (rV fun M' => spQ M size (zToks tp size 401 0) M')) 7 [some (.ref (L.1 52)), some (.int (nI size)), some (.int (nI k)), a3, a4, a5] [] (movl L M2 ph) 0 0 := by
    intro f
    induction f with
    | zero => intro k A M2 a3 a4 a5 h1 h2; omega
    | succ f ih =>
      intro k A M2 a3 a4 a5 h1 h2 hA hT hI
      have h18 := hI.2.1
      have e11 : M2.2.2.1 11 = tp := (hI.1.2.2.1 11 (by decide)).trans htp
      have e7 : ∀ i, i < 153 → M2.2.2.1 7 i = nI (zW i) := fun i hi => by rw [hI.1.2.2.1 7 (by decide)]; exact hw i hi
      have k247 : ∀ M5 a5, ¬ tp k = nI 32 → k < size → spI M A M5 → M5.2.2.1 17 A.length = nI k → M5.2.2.1 15 A.length = zCode tp size k → M5.2.2.1 16 A.length = zVal tp size k → G E fX6_splits (mFin E fX6_splits L ph (rV fun M' => spQ M size (zToks tp size 401 0) M')) 247 [some (.ref (L.1 52)), some (.int (nI size)), some (.int (nI k)), some (.int (tp k)), some (.int (nI (zTo tp size k))), a5] [] (movl L M5 ph) 0 0 := by
        intro M5 a5 hb hk5 hI5 g1 g2 g3
        have h185 := hI5.2.1
        obtain ⟨b1, b2⟩ := zTo_b (tp := tp) hk5
        refine G.aload_n0 dX6_splits_247 ?_
        refine G.dup dX6_splits_248 rfl ?_
        refine G.mgeti 18 fl_X6_147 dX6_splits_249 ?_
        rw [h185]
        refine G.iconst (v := nI 1) dX6_splits_252 (by decide) ?_
        first | with_reducible refine G.iaddn dX6_splits_253 ?_ | refine G.iadd dX6_splits_253 ?_
        refine G.mputi 18 fp_X6_147 dX6_splits_254 ?_
        refine G.iload4 dX6_splits_257 ?_
        refine G.istore_n2 dX6_splits_259 ?_
        refine G.goto (tgt := 7) dX6_splits_260 (by decide) ?_
        refine ih (zTo tp size k) (A ++ [(k, zCode tp size k, zVal tp size k)]) _ _ _ _ (by omega) b2 (by rw [List.length_append, List.length_singleton]; omega) ?_ (hI5.add g1 g2 g3)
        rw [hT, zToks, if_pos hk5, if_neg hb, List.append_assoc]
        rfl
      have k169 : ∀ d j M5, j + d = zTo tp size k - k → isD (tp k) = true → ¬ tp k = nI 32 → k < size → spI M A M5 → M5.2.2.1 17 A.length = nI k → M5.2.2.1 15 A.length = zCode tp size k → M5.2.2.1 16 A.length = zNum tp k j → G E fX6_splits (mFin E fX6_splits L ph (rV fun M' => spQ M size (zToks tp size 401 0) M')) 169 [some (.ref (L.1 52)), some (.int (nI size)), some (.int (nI k)), some (.int (tp k)), some (.int (nI (zTo tp size k))), some (.int (nI (k + j)))] [] (movl L M5 ph) 0 0 := by
        intro d
        induction d with
        | zero =>
          intro j M5 hj hD hb hk5 hI5 g1 g2 g3
          obtain ⟨b1, b2⟩ := zTo_b (tp := tp) hk5
          refine G.iload5 dX6_splits_169 ?_
          refine G.iload4 dX6_splits_171 ?_
          refine G.icmp_ge (tgt := 247) dX6_splits_173 (by decide) (fun c_173 => ?_) (fun c_173 => ?_)
          · exact k247 M5 _ hb hk5 hI5 g1 g2 (by rw [g3, show j = zTo tp size k - k from by omega]; exact (if_pos hD).symm)
          · exact absurd (nI_leI (by omega) (by omega) |>.mpr (by omega)) c_173
        | succ d ih2 =>
          intro j M5 hj hD hb hk5 hI5 g1 g2 g3
          obtain ⟨b1, b2⟩ := zTo_b (tp := tp) hk5
          have h185 := hI5.2.1
          have e115 : M5.2.2.1 11 (k + j) = tp (k + j) := by rw [hI5.1.2.2.1 11 (by decide), htp]
          have k240 : ∀ v, v = zNum tp k (j + 1) → G E fX6_splits (mFin E fX6_splits L ph (rV fun M' => spQ M size (zToks tp size 401 0) M')) 240 [some (.ref (L.1 52)), some (.int (nI size)), some (.int (nI k)), some (.int (tp k)), some (.int (nI (zTo tp size k))), some (.int (nI (k + j)))] [.int v, .int (nI A.length), .ref (L.1 16)] (movl L M5 ph) 0 0 := by
            intro v hv
            refine G.miast (n := 401) 16 A.length dX6_splits_240 rfl (by omega) ?_
            refine G.iinc5 dX6_splits_241 ?_
            try rw [show ∀ a : Nat, nI a + Int32.ofInt 1 = nI (a + 1) from fun a => nI_add a 1]
            refine G.goto (tgt := 169) dX6_splits_244 (by decide) ?_
            refine ih2 (j + 1) _ (by omega) hD hb hk5 (hI5.put (Or.inr (Or.inl rfl))) g1 g2 ?_
            rw [ma_at, if_pos rfl, if_pos rfl]
            exact hv
          clear ih2 ih
          refine G.iload5 dX6_splits_169 ?_
          refine G.iload4 dX6_splits_171 ?_
          refine G.icmp_ge (tgt := 247) dX6_splits_173 (by decide) (fun c_173 => ?_) (fun c_173 => ?_)
          · exact absurd ((nI_leI (by omega) (by omega)).mp c_173) (by omega)
          · refine G.iload_n3 dX6_splits_176 ?_
            refine G.scall (f' := fX6_isDigit) q2017 ck_X6_isDigit (c_isDigit _) dX6_splits_177 (sI.k fun r_177 h_177 => ?_)
            replace h_177 := h_177.symm; subst h_177
            refine G.ifb_eq (tgt := 247) dX6_splits_180 (by decide) (fun c_180 => ?_) (fun c_180 => ?_)
            · exact absurd hD (by rw [c_180]; exact Bool.false_ne_true)
            · refine G.aload_n0 dX6_splits_183 ?_
              refine G.mgeta 16 fl_X6_53 dX6_splits_184 ?_
              refine G.aload_n0 dX6_splits_187 ?_
              refine G.mgeti 18 fl_X6_147 dX6_splits_188 ?_
              rw [h185]
              refine G.aload_n0 dX6_splits_191 ?_
              refine G.mgeta 16 fl_X6_53 dX6_splits_192 ?_
              refine G.aload_n0 dX6_splits_195 ?_
              refine G.mgeti 18 fl_X6_147 dX6_splits_196 ?_
              rw [h185]
              refine G.miald (n := 401) 16 A.length dX6_splits_199 rfl (by omega) ?_
              rw [g3]
              refine G.ldc q2024 dX6_splits_200 ?_
              refine G.topi (nI 1000000) (by decide) ?_
              refine G.icmp_le (tgt := 217) dX6_splits_202 (by decide) (fun c_202 => ?_) (fun c_202 => ?_)
              · refine G.bipush (v := nI 10) dX6_splits_217 (by decide) ?_
                refine G.aload_n0 dX6_splits_219 ?_
                refine G.mgeta 16 fl_X6_53 dX6_splits_220 ?_
                refine G.aload_n0 dX6_splits_223 ?_
                refine G.mgeti 18 fl_X6_147 dX6_splits_224 ?_
                rw [h185]
                refine G.miald (n := 401) 16 A.length dX6_splits_227 rfl (by omega) ?_
                rw [g3]
                refine G.imul dX6_splits_228 ?_
                refine G.aload_n0 dX6_splits_229 ?_
                refine G.mgeta 11 fl_X6_41 dX6_splits_230 ?_
                refine G.iload5 dX6_splits_233 ?_
                refine G.mbald (n := 400) 11 (k + j) dX6_splits_235 rfl (by omega) ?_
                rw [e115]
                refine G.iadd dX6_splits_236 ?_
                refine G.bipush (v := nI 48) dX6_splits_237 (by decide) ?_
                refine G.isub dX6_splits_239 ?_
                first
                | exact k240 _ (by rw [zNum, if_neg (by rw [Int32.lt_iff_toInt_lt]; rw [i_le] at c_202; omega)])
                | exact k240 _ (by rw [zNum, if_pos (by rw [Int32.lt_iff_toInt_lt]; rw [i_le] at c_202; omega)])
              · refine G.aload_n0 dX6_splits_205 ?_
                refine G.mgeta 16 fl_X6_53 dX6_splits_206 ?_
                refine G.aload_n0 dX6_splits_209 ?_
                refine G.mgeti 18 fl_X6_147 dX6_splits_210 ?_
                rw [h185]
                refine G.miald (n := 401) 16 A.length dX6_splits_213 rfl (by omega) ?_
                rw [g3]
                refine G.goto (tgt := 240) dX6_splits_214 (by decide) ?_
                first
                | exact k240 _ (by rw [zNum, if_neg (by rw [Int32.lt_iff_toInt_lt]; rw [i_le] at c_202; omega)])
                | exact k240 _ (by rw [zNum, if_pos (by rw [Int32.lt_iff_toInt_lt]; rw [i_le] at c_202; omega)])
      have k165 : ∀ cd M5, M5 = ma (ma M2 17 A.length (nI k)) 16 A.length (nI 0) → cd = zCode tp size k → ¬ tp k = nI 32 → k < size → G E fX6_splits (mFin E fX6_splits L ph (rV fun M' => spQ M size (zToks tp size 401 0) M')) 165 [some (.ref (L.1 52)), some (.int (nI size)), some (.int (nI k)), some (.int (tp k)), some (.int (nI (zTo tp size k))), a5] [.int cd, .int (nI A.length), .ref (L.1 15)] (movl L M5 ph) 0 0 := by
        intro cd M5 h5 hcd hb hk5
        obtain ⟨b1, b2⟩ := zTo_b (tp := tp) hk5
        have hI5 : spI M A M5 := by rw [h5]; exact (hI.put (Or.inr (Or.inr rfl))).put (Or.inr (Or.inl rfl))
        have hI6 : spI M A (ma M5 15 A.length cd) := hI5.put (Or.inl rfl)
        have g1 : (ma M5 15 A.length cd).2.2.1 17 A.length = nI k := by rw [h5]; simp only [ma_at]; rfl
        have g2 : (ma M5 15 A.length cd).2.2.1 15 A.length = zCode tp size k := by rw [ma_at, if_pos rfl, if_pos rfl]; exact hcd
        have g3 : (ma M5 15 A.length cd).2.2.1 16 A.length = nI 0 := by rw [h5]; simp only [ma_at]; rfl
        clear ih
        refine G.miast (n := 401) 15 A.length dX6_splits_165 rfl (by omega) ?_
        refine G.iload_n2 dX6_splits_166 ?_
        refine G.istore5 dX6_splits_167 ?_
        cases hD : isD (tp k) with
        | true => exact k169 (zTo tp size k - k) 0 _ (by omega) hD hb hk5 hI6 g1 g2 g3
        | false =>
          refine G.iload5 dX6_splits_169 ?_
          refine G.iload4 dX6_splits_171 ?_
          refine G.icmp_ge (tgt := 247) dX6_splits_173 (by decide) (fun c_173 => ?_) (fun c_173 => ?_)
          · exact absurd ((nI_leI (by omega) (by omega)).mp c_173) (by omega)
          · refine G.iload_n3 dX6_splits_176 ?_
            refine G.scall (f' := fX6_isDigit) q2017 ck_X6_isDigit (c_isDigit _) dX6_splits_177 (sI.k fun r_177 h_177 => ?_)
            replace h_177 := h_177.symm; subst h_177
            refine G.ifb_eq (tgt := 247) dX6_splits_180 (by decide) (fun c_180 => ?_) (fun c_180 => ?_)
            · exact k247 _ _ hb hk5 hI6 g1 g2 (by rw [g3]; exact (if_neg (by rw [hD]; exact Bool.false_ne_true)).symm)
            · exact absurd c_180 (by rw [hD]; exact Bool.false_ne_true)
      have k100 : ¬ tp k = nI 32 → k < size → G E fX6_splits (mFin E fX6_splits L ph (rV fun M' => spQ M size (zToks tp size 401 0) M')) 100 [some (.ref (L.1 52)), some (.int (nI size)), some (.int (nI k)), some (.int (tp k)), some (.int (nI (zTo tp size k))), a5] [] (movl L M2 ph) 0 0 := by
        intro hb hk5
        obtain ⟨b1, b2⟩ := zTo_b (tp := tp) hk5
        clear ih
        refine G.aload_n0 dX6_splits_100 ?_
        refine G.mgeta 17 fl_X6_56 dX6_splits_101 ?_
        refine G.aload_n0 dX6_splits_104 ?_
        refine G.mgeti 18 fl_X6_147 dX6_splits_105 ?_
        rw [h18]
        refine G.iload_n2 dX6_splits_108 ?_
        refine G.miast (n := 401) 17 A.length dX6_splits_109 rfl (by omega) ?_
        refine G.aload_n0 dX6_splits_110 ?_
        refine G.mgeta 16 fl_X6_53 dX6_splits_111 ?_
        refine G.aload_n0 dX6_splits_114 ?_
        refine G.mgeti 18 fl_X6_147 dX6_splits_115 ?_
        rw [ma_1, h18]
        refine G.iconst (v := nI 0) dX6_splits_118 (by decide) ?_
        refine G.miast (n := 401) 16 A.length dX6_splits_119 rfl (by omega) ?_
        refine G.aload_n0 dX6_splits_120 ?_
        refine G.mgeta 15 fl_X6_50 dX6_splits_121 ?_
        refine G.aload_n0 dX6_splits_124 ?_
        refine G.mgeti 18 fl_X6_147 dX6_splits_125 ?_
        rw [ma_1, ma_1, h18]
        refine G.iload_n3 dX6_splits_128 ?_
        refine G.scall (f' := fX6_isSmall) q2014 ck_X6_isSmall (c_isSmall _) dX6_splits_129 (sI.k fun r_129 h_129 => ?_)
        replace h_129 := h_129.symm; subst h_129
        refine G.ifb_eq (tgt := 145) dX6_splits_132 (by decide) (fun c_132 => ?_) (fun c_132 => ?_)
        · refine G.iload_n3 dX6_splits_145 ?_
          refine G.scall (f' := fX6_isDigit) q2017 ck_X6_isDigit (c_isDigit _) dX6_splits_146 (sI.k fun r_146 h_146 => ?_)
          replace h_146 := h_146.symm; subst h_146
          refine G.ifb_eq (tgt := 157) dX6_splits_149 (by decide) (fun c_149 => ?_) (fun c_149 => ?_)
          · refine G.bipush (v := nI 100) dX6_splits_157 (by decide) ?_
            refine G.iload_n3 dX6_splits_159 ?_
            refine G.sipush (v := nI 255) dX6_splits_160 (by decide) ?_
            refine G.iand dX6_splits_163 ?_
            refine G.iadd dX6_splits_164 ?_
            first
            | exact k165 _ _ rfl (by rw [zCode, if_pos c_132, r139]; show nI (zWordNo (M2.2.2.1 11) _ _) = _; rw [e11]) hb hk5
            | exact k165 _ _ rfl (by rw [zCode, if_neg (by rw [c_132]; exact Bool.false_ne_true), if_pos c_149]) hb hk5
            | exact k165 _ _ rfl (by rw [zCode, if_neg (by rw [c_132]; exact Bool.false_ne_true), if_neg (by rw [c_149]; exact Bool.false_ne_true)]) hb hk5
          · refine G.bipush (v := nI 50) dX6_splits_152 (by decide) ?_
            refine G.goto (tgt := 165) dX6_splits_154 (by decide) ?_
            first
            | exact k165 _ _ rfl (by rw [zCode, if_pos c_132, r139]; show nI (zWordNo (M2.2.2.1 11) _ _) = _; rw [e11]) hb hk5
            | exact k165 _ _ rfl (by rw [zCode, if_neg (by rw [c_132]; exact Bool.false_ne_true), if_pos c_149]) hb hk5
            | exact k165 _ _ rfl (by rw [zCode, if_neg (by rw [c_132]; exact Bool.false_ne_true), if_neg (by rw [c_149]; exact Bool.false_ne_true)]) hb hk5
        · refine G.aload_n0 dX6_splits_135 ?_
          refine G.iload_n2 dX6_splits_136 ?_
          refine G.iload4 dX6_splits_137 ?_
          refine G.mcall (f' := fX6_wordOf) q2020 ck_X6_wordOf (c_X6_wordOf (M := ma (ma M2 17 A.length (nI k)) 16 A.length (nI 0)) (fun i hi => by simp only [ma_at]; exact e7 i hi) b1 (by omega)) dX6_splits_139 (rI.k fun r_139 M_139 h_139 => ?_)
          obtain ⟨r139, h139⟩ := h_139
          replace h139 := h139.symm
          subst h139
          refine G.goto (tgt := 165) dX6_splits_142 (by decide) ?_
          first
          | exact k165 _ _ rfl (by rw [zCode, if_pos c_132, r139]; show nI (zWordNo (M2.2.2.1 11) _ _) = _; rw [e11]) hb hk5
          | exact k165 _ _ rfl (by rw [zCode, if_neg (by rw [c_132]; exact Bool.false_ne_true), if_pos c_149]) hb hk5
          | exact k165 _ _ rfl (by rw [zCode, if_neg (by rw [c_132]; exact Bool.false_ne_true), if_neg (by rw [c_149]; exact Bool.false_ne_true)]) hb hk5
      have k75 : ∀ f2 t, size < f2 + t → t ≤ size → isD (tp k) = true → ¬ tp k = nI 32 → k < size → zTo tp size k = zRun isD tp size f2 t → G E fX6_splits (mFin E fX6_splits L ph (rV fun M' => spQ M size (zToks tp size 401 0) M')) 75 [some (.ref (L.1 52)), some (.int (nI size)), some (.int (nI k)), some (.int (tp k)), some (.int (nI t)), a5] [] (movl L M2 ph) 0 0 := by
        intro f2
        induction f2 with
        | zero => intro t h3 h4; omega
        | succ f2 ih2 =>
          intro t h3 h4 hD hb hk5 ht
          rw [zRun] at ht
          clear ih
          refine G.iload4 dX6_splits_75 ?_
          refine G.iload_n1 dX6_splits_77 ?_
          refine G.icmp_ge (tgt := 100) dX6_splits_78 (by decide) (fun c_78 => ?_) (fun c_78 => ?_)
          · have n_78 : size ≤ t := (nI_leI (a := size) (b := t) (by omega) (by omega)).mp c_78
            first
            | (rw [if_neg (fun z => absurd z.1 (by omega))] at ht; rw [← ht]; exact k100 hb hk5)
            | (rw [if_neg (fun z => by have z2 := z.2; rw [e11] at c_91; rw [c_91] at z2; cases z2)] at ht; rw [← ht]; exact k100 hb hk5)
          · have n_78 : t < size := Nat.lt_of_not_le (fun z => c_78 ((nI_leI (a := size) (b := t) (by omega) (by omega)).mpr z))
            refine G.aload_n0 dX6_splits_81 ?_
            refine G.mgeta 11 fl_X6_41 dX6_splits_82 ?_
            refine G.iload4 dX6_splits_85 ?_
            refine G.mbald (n := 400) 11 t dX6_splits_87 rfl (by omega) ?_
            refine G.scall (f' := fX6_isDigit) q2017 ck_X6_isDigit (c_isDigit _) dX6_splits_88 (sI.k fun r_88 h_88 => ?_)
            replace h_88 := h_88.symm; subst h_88
            refine G.ifb_eq (tgt := 100) dX6_splits_91 (by decide) (fun c_91 => ?_) (fun c_91 => ?_)
            · first
              | (rw [if_neg (fun z => absurd z.1 (by omega))] at ht; rw [← ht]; exact k100 hb hk5)
              | (rw [if_neg (fun z => by have z2 := z.2; rw [e11] at c_91; rw [c_91] at z2; cases z2)] at ht; rw [← ht]; exact k100 hb hk5)
            · refine G.iinc4 dX6_splits_94 ?_
              try rw [show ∀ a : Nat, nI a + Int32.ofInt 1 = nI (a + 1) from fun a => nI_add a 1]
              refine G.goto (tgt := 75) dX6_splits_97 (by decide) ?_
              rw [if_pos ⟨by omega, by rw [← e11]; exact c_91⟩] at ht
              exact ih2 (t + 1) (by omega) (by omega) hD hb hk5 ht
      have k68 : ∀ t, (isS (tp k) = true → zTo tp size k = t) → (isS (tp k) = false → t = k + 1) → ¬ tp k = nI 32 → k < size → G E fX6_splits (mFin E fX6_splits L ph (rV fun M' => spQ M size (zToks tp size 401 0) M')) 68 [some (.ref (L.1 52)), some (.int (nI size)), some (.int (nI k)), some (.int (tp k)), some (.int (nI t)), a5] [] (movl L M2 ph) 0 0 := by
        intro t ht1 ht2 hb hk5
        clear ih
        refine G.iload_n3 dX6_splits_68 ?_
        refine G.scall (f' := fX6_isDigit) q2017 ck_X6_isDigit (c_isDigit _) dX6_splits_69 (sI.k fun r_69 h_69 => ?_)
        replace h_69 := h_69.symm; subst h_69
        refine G.ifb_eq (tgt := 100) dX6_splits_72 (by decide) (fun c_72 => ?_) (fun c_72 => ?_)
        · have htt : t = zTo tp size k := by
            cases hS : isS (tp k) with
            | true => exact (ht1 hS).symm
            | false =>
              rw [ht2 hS]
              unfold zTo
              rw [if_neg (by rw [hS]; exact Bool.false_ne_true), if_neg (by rw [c_72]; exact Bool.false_ne_true)]
          rw [htt]
          exact k100 hb hk5
        · have hns := isS_D c_72
          have htt := ht2 hns
          subst htt
          refine k75 401 (k + 1) (by omega) (by omega) c_72 hb hk5 ?_
          unfold zTo
          rw [if_neg (by rw [hns]; exact Bool.false_ne_true), if_pos c_72]
      have k43 : ∀ f2 t, size < f2 + t → t ≤ size → isS (tp k) = true → ¬ tp k = nI 32 → k < size → zTo tp size k = zRun isS tp size f2 t → G E fX6_splits (mFin E fX6_splits L ph (rV fun M' => spQ M size (zToks tp size 401 0) M')) 43 [some (.ref (L.1 52)), some (.int (nI size)), some (.int (nI k)), some (.int (tp k)), some (.int (nI t)), a5] [] (movl L M2 ph) 0 0 := by
        intro f2
        induction f2 with
        | zero => intro t h3 h4; omega
        | succ f2 ih2 =>
          intro t h3 h4 hS hb hk5 ht
          rw [zRun] at ht
          clear ih
          refine G.iload4 dX6_splits_43 ?_
          refine G.iload_n1 dX6_splits_45 ?_
          refine G.icmp_ge (tgt := 68) dX6_splits_46 (by decide) (fun c_46 => ?_) (fun c_46 => ?_)
          · have n_46 : size ≤ t := (nI_leI (a := size) (b := t) (by omega) (by omega)).mp c_46
            first
            | (rw [if_neg (fun z => absurd z.1 (by omega))] at ht; exact k68 t (fun _ => ht) (fun z => by rw [hS] at z; cases z) hb hk5)
            | (rw [if_neg (fun z => by have z2 := z.2; rw [e11] at c_59; rw [c_59] at z2; cases z2)] at ht; exact k68 t (fun _ => ht) (fun z => by rw [hS] at z; cases z) hb hk5)
          · have n_46 : t < size := Nat.lt_of_not_le (fun z => c_46 ((nI_leI (a := size) (b := t) (by omega) (by omega)).mpr z))
            refine G.aload_n0 dX6_splits_49 ?_
            refine G.mgeta 11 fl_X6_41 dX6_splits_50 ?_
            refine G.iload4 dX6_splits_53 ?_
            refine G.mbald (n := 400) 11 t dX6_splits_55 rfl (by omega) ?_
            refine G.scall (f' := fX6_isSmall) q2014 ck_X6_isSmall (c_isSmall _) dX6_splits_56 (sI.k fun r_56 h_56 => ?_)
            replace h_56 := h_56.symm; subst h_56
            refine G.ifb_eq (tgt := 68) dX6_splits_59 (by decide) (fun c_59 => ?_) (fun c_59 => ?_)
            · first
              | (rw [if_neg (fun z => absurd z.1 (by omega))] at ht; exact k68 t (fun _ => ht) (fun z => by rw [hS] at z; cases z) hb hk5)
              | (rw [if_neg (fun z => by have z2 := z.2; rw [e11] at c_59; rw [c_59] at z2; cases z2)] at ht; exact k68 t (fun _ => ht) (fun z => by rw [hS] at z; cases z) hb hk5)
            · refine G.iinc4 dX6_splits_62 ?_
              try rw [show ∀ a : Nat, nI a + Int32.ofInt 1 = nI (a + 1) from fun a => nI_add a 1]
              refine G.goto (tgt := 43) dX6_splits_65 (by decide) ?_
              rw [if_pos ⟨by omega, by rw [← e11]; exact c_59⟩] at ht
              exact ih2 (t + 1) (by omega) (by omega) hS hb hk5 ht
      refine G.iload_n2 dX6_splits_7 ?_
      refine G.iload_n1 dX6_splits_8 ?_
      refine G.icmp_ge (tgt := 263) dX6_splits_9 (by decide) (fun c_9 => ?_) (fun c_9 => ?_)
      · have n_9 : size ≤ k := (nI_leI (a := size) (b := k) (by omega) (by omega)).mp c_9
        refine G.aload_n0 dX6_splits_263 ?_
        refine G.mgeta 17 fl_X6_56 dX6_splits_264 ?_
        refine G.aload_n0 dX6_splits_267 ?_
        refine G.mgeti 18 fl_X6_147 dX6_splits_268 ?_
        rw [h18]
        refine G.iload_n1 dX6_splits_271 ?_
        refine G.miast (n := 401) 17 A.length dX6_splits_272 rfl (by omega) ?_
        refine G.aload_n0 dX6_splits_273 ?_
        refine G.mgeta 15 fl_X6_50 dX6_splits_274 ?_
        refine G.aload_n0 dX6_splits_277 ?_
        refine G.mgeti 18 fl_X6_147 dX6_splits_278 ?_
        rw [ma_1, h18]
        refine G.iconst (v := nI 0) dX6_splits_281 (by decide) ?_
        refine G.miast (n := 401) 15 A.length dX6_splits_282 rfl (by omega) ?_
        refine G.aload_n0 dX6_splits_283 ?_
        refine G.mgeta 16 fl_X6_53 dX6_splits_284 ?_
        refine G.aload_n0 dX6_splits_287 ?_
        refine G.mgeti 18 fl_X6_147 dX6_splits_288 ?_
        rw [ma_1, ma_1, h18]
        refine G.iconst (v := nI 0) dX6_splits_291 (by decide) ?_
        refine G.miast (n := 401) 16 A.length dX6_splits_292 rfl (by omega) ?_
        refine G.return_ dX6_splits_293 ?_
        have hT2 : zToks tp size 401 0 = A := by rw [hT, zToks, if_neg (by omega), List.append_nil]
        rw [hT2]
        have g := ((hI.put (k := 17) (v := nI size) (by omega)).put (k := 15) (v := nI 0) (by omega)).put (k := 16) (v := nI 0) (by omega)
        refine ⟨_, rfl, rfl, g.1, g.2.1, fun i hi => ?_⟩
        rcases Nat.lt_or_ge i A.length with y | y
        · obtain ⟨a, b, c⟩ := g.2.2 i y
          refine ⟨a.trans ?_, b, c⟩
          unfold zPl
          rw [getD_of y, getD_of y]
        · obtain rfl : i = A.length := by omega
          unfold zPl tkOf
          dsimp only
          rw [getD_no (Nat.le_refl _), getD_no (Nat.le_refl _)]
          simp only [ma_at]
          exact ⟨rfl, rfl, rfl⟩
      · have n_9 : k < size := Nat.lt_of_not_le (fun z => c_9 ((nI_leI (a := size) (b := k) (by omega) (by omega)).mpr z))
        refine G.aload_n0 dX6_splits_12 ?_
        refine G.mgeta 11 fl_X6_41 dX6_splits_13 ?_
        refine G.iload_n2 dX6_splits_16 ?_
        refine G.mbald (n := 400) 11 k dX6_splits_17 rfl (by omega) ?_
        rw [e11]
        refine G.istore_n3 dX6_splits_18 ?_
        refine G.iload_n3 dX6_splits_19 ?_
        refine G.bipush (v := nI 32) dX6_splits_20 (by decide) ?_
        refine G.icmp_ne (tgt := 31) dX6_splits_22 (by decide) (fun c_22 => ?_) (fun c_22 => ?_)
        · refine G.iload_n2 dX6_splits_31 ?_
          refine G.iconst (v := nI 1) dX6_splits_32 (by decide) ?_
          first | with_reducible refine G.iaddn dX6_splits_33 ?_ | refine G.iadd dX6_splits_33 ?_
          refine G.istore4 dX6_splits_34 ?_
          refine G.iload_n3 dX6_splits_36 ?_
          refine G.scall (f' := fX6_isSmall) q2014 ck_X6_isSmall (c_isSmall _) dX6_splits_37 (sI.k fun r_37 h_37 => ?_)
          replace h_37 := h_37.symm; subst h_37
          refine G.ifb_eq (tgt := 68) dX6_splits_40 (by decide) (fun c_40 => ?_) (fun c_40 => ?_)
          · exact k68 (k + 1) (fun z => by rw [c_40] at z; cases z) (fun _ => rfl) c_22 (by omega)
          · refine k43 401 (k + 1) (by omega) (by omega) c_40 c_22 (by omega) ?_
            unfold zTo
            rw [if_pos c_40]
        · refine G.iinc2 dX6_splits_25 ?_
          try rw [show ∀ a : Nat, nI a + Int32.ofInt 1 = nI (a + 1) from fun a => nI_add a 1]
          refine G.goto (tgt := 7) dX6_splits_28 (by decide) ?_
          have q : tp k = nI 32 := by first | exact c_22 | exact Classical.not_not.mp c_22
          refine ih (k + 1) A M2 _ _ _ (by omega) (by omega) (by omega) ?_ hI
          rw [hT, zToks, if_pos (by omega), if_pos q]
  refine G.aload_n0 dX6_splits_0 ?_
  refine G.iconst (v := nI 0) dX6_splits_1 (by decide) ?_
  refine G.mputi 18 fp_X6_147 dX6_splits_2 ?_
  refine G.iconst (v := nI 0) dX6_splits_5 (by decide) ?_
  refine G.istore_n2 dX6_splits_6 ?_
  exact loop 401 0 [] _ none none none (by omega) (by omega) (Nat.le_refl _) rfl ⟨mX.rf.ms (by decide), rfl, fun i hi => absurd hi (Nat.not_lt_zero _)⟩
end Split
