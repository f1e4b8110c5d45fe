/-! THE MODEL: a law is laid -/
/-- the tokens of a text lie in the block t, the first k of them -/
def kLay (K : KR) (tk : Tk) (N t k : Nat) : KR := fun i => if i = 259 + t then nI N else if 266 + 400 * t ≤ i ∧ i < 266 + 400 * t + k then tk.1 (i - (266 + 400 * t)) else if 3066 + 400 * t ≤ i ∧ i < 3066 + 400 * t + k then tk.2 (i - (3066 + 400 * t)) else K i
/-- scratch: what no later call asks for -/
abbrev mS (M M' : MM) : Prop := mX [8, 9, 10, 18, 19, 20, 21, 22, 23, 24, 34, 35, 42, 43, 44, 45, 46, 47, 48, 51] [5, 12, 15, 16, 17, 25, 27, 29, 30, 31, 32, 33, 36, 37, 38, 39, 40] M M'
theorem mar_mar' {M : MM} {k : Nat} {f g : Nat → Int32} : mar (mar M k f) k g = mar M k g := by
  refine Prod.ext rfl (Prod.ext rfl (Prod.ext (funext fun j => ?_) rfl))
  show va_up (va_up M.2.2.1 k f) k g j = va_up M.2.2.1 k g j
  unfold va_up
  split <;> rfl
section Law
variable {E : JE} {L : ML} {ph : HP}
theorem c_X6_lays {M : MM} {tk : Tk} {N t : Nat} (ht : t < 7) (hN : N ≤ 400) (h18 : M.1 18 = nI N) (hT : ∀ i, i < N → M.2.2.1 15 i = tk.1 i ∧ M.2.2.1 16 i = tk.2 i) : MC E fX6_lays L M ph [.int (nI t)] (rV fun M' => M' = mar M 2 (kLay (M.2.2.1 2) tk N t N)) := by
  refine Ct.of [some (.ref (L.1 52)), some (.int (nI t)), none] rfl (Nat.le_of_ble_eq_true rfl) (show plainName RX6 = true by decide +kernel) rfl ?_
  have loop : ∀ d k, k + d = N → G E fX6_lays (mFin E fX6_lays L ph (rV fun M' => M' = mar M 2 (kLay (M.2.2.1 2) tk N t N))) 16 [some (.ref (L.1 52)), some (.int (nI t)), some (.int (nI k))] [] (movl L (mar M 2 (kLay (M.2.2.1 2) tk N t k)) ph) 0 0 := by
    intro d
    induction d with
    | zero =>
      intro k hk
      obtain rfl : k = N := by omega
      refine G.iload_n2 dX6_lays_16 ?_
      refine G.aload_n0 dX6_lays_17 ?_
      refine G.mgeti 18 fl_X6_147 dX6_lays_18 ?_
      rw [show (mar M 2 (kLay (M.2.2.1 2) tk k t k)).1 18 = nI k from h18]
      refine G.icmp_ge (tgt := 74) dX6_lays_21 (by decide) (fun c_21 => ?_) (fun c_21 => ?_)
      · refine G.return_ dX6_lays_74 ?_
        exact ⟨_, rfl, rfl, rfl⟩
      · exact absurd (nI_leI (by omega) (by omega) |>.mpr (by omega)) c_21
    | succ d ih =>
      intro k hk
      have hgo := ih (k + 1) (by omega)
      clear ih
      obtain ⟨t1, t2⟩ := hT k (by omega)
      refine G.iload_n2 dX6_lays_16 ?_
      refine G.aload_n0 dX6_lays_17 ?_
      refine G.mgeti 18 fl_X6_147 dX6_lays_18 ?_
      rw [show (mar M 2 (kLay (M.2.2.1 2) tk N t k)).1 18 = nI N from h18]
      refine G.icmp_ge (tgt := 74) dX6_lays_21 (by decide) (fun c_21 => ?_) (fun c_21 => ?_)
      · exact absurd ((nI_leI (by omega) (by omega)).mp c_21) (by omega)
      · refine G.aload_n0 dX6_lays_24 ?_
        refine G.mgeta 2 fl_X6_24 dX6_lays_25 ?_
        refine G.sipush (v := nI 266) dX6_lays_28 (by decide) ?_
        refine G.sipush (v := nI 400) dX6_lays_31 (by decide) ?_
        refine G.iload_n1 dX6_lays_34 ?_
        first | with_reducible refine G.imuln dX6_lays_35 ?_ | refine G.imul dX6_lays_35 ?_
        first | with_reducible refine G.iaddn dX6_lays_36 ?_ | refine G.iadd dX6_lays_36 ?_
        refine G.iload_n2 dX6_lays_37 ?_
        first | with_reducible refine G.iaddn dX6_lays_38 ?_ | refine G.iadd dX6_lays_38 ?_
        refine G.aload_n0 dX6_lays_39 ?_
        refine G.mgeta 15 fl_X6_50 dX6_lays_40 ?_
        refine G.iload_n2 dX6_lays_43 ?_
        refine G.miald (n := 401) 15 k dX6_lays_44 rfl (by omega) ?_
        rw [show (mar M 2 (kLay (M.2.2.1 2) tk N t k)).2.2.1 15 k = tk.1 k from t1]
        refine G.miast (n := 5866) 2 (266 + 400 * t + k) dX6_lays_45 rfl (by omega) ?_
        refine G.aload_n0 dX6_lays_46 ?_
        refine G.mgeta 2 fl_X6_24 dX6_lays_47 ?_
        refine G.sipush (v := nI 3066) dX6_lays_50 (by decide) ?_
        refine G.sipush (v := nI 400) dX6_lays_53 (by decide) ?_
        refine G.iload_n1 dX6_lays_56 ?_
        first | with_reducible refine G.imuln dX6_lays_57 ?_ | refine G.imul dX6_lays_57 ?_
        first | with_reducible refine G.iaddn dX6_lays_58 ?_ | refine G.iadd dX6_lays_58 ?_
        refine G.iload_n2 dX6_lays_59 ?_
        first | with_reducible refine G.iaddn dX6_lays_60 ?_ | refine G.iadd dX6_lays_60 ?_
        refine G.aload_n0 dX6_lays_61 ?_
        refine G.mgeta 16 fl_X6_53 dX6_lays_62 ?_
        refine G.iload_n2 dX6_lays_65 ?_
        refine G.miald (n := 401) 16 k dX6_lays_66 rfl (by omega) ?_
        rw [show (ma (mar M 2 (kLay (M.2.2.1 2) tk N t k)) 2 (266 + 400 * t + k) (tk.1 k)).2.2.1 16 k = tk.2 k from t2]
        refine G.miast (n := 5866) 2 (3066 + 400 * t + k) dX6_lays_67 rfl (by omega) ?_
        rw [ma_mar, ma_mar]
        rw [show upd (upd (kLay (M.2.2.1 2) tk N t k) (266 + 400 * t + k) (tk.1 k)) (3066 + 400 * t + k) (tk.2 k) = kLay (M.2.2.1 2) tk N t (k + 1) from by
          funext i
          unfold upd kLay
          by_cases q1 : i = 3066 + 400 * t + k
          · rw [if_pos q1, if_neg (by omega), if_neg (by omega), if_pos (by omega), show i - (3066 + 400 * t) = k from by omega]
          · rw [if_neg q1]
            by_cases q2 : i = 266 + 400 * t + k
            · rw [if_pos q2, if_neg (by omega), if_pos (by omega), show i - (266 + 400 * t) = k from by omega]
            · rw [if_neg q2]
              by_cases q3 : i = 259 + t
              · rw [if_pos q3, if_pos q3]
              · rw [if_neg q3, if_neg q3]
                by_cases q4 : 266 + 400 * t ≤ i ∧ i < 266 + 400 * t + k
                · rw [if_pos q4, if_pos (show 266 + 400 * t ≤ i ∧ i < 266 + 400 * t + (k + 1) by omega)]
                · rw [if_neg q4, if_neg (show ¬ (266 + 400 * t ≤ i ∧ i < 266 + 400 * t + (k + 1)) by omega)]
                  by_cases q5 : 3066 + 400 * t ≤ i ∧ i < 3066 + 400 * t + k
                  · rw [if_pos q5, if_pos (show 3066 + 400 * t ≤ i ∧ i < 3066 + 400 * t + (k + 1) by omega)]
                  · rw [if_neg q5, if_neg (show ¬ (3066 + 400 * t ≤ i ∧ i < 3066 + 400 * t + (k + 1)) by omega)]]
        refine G.iinc2 dX6_lays_68 ?_
        try rw [show ∀ a : Nat, nI a + Int32.ofInt 1 = nI (a + 1) from fun a => nI_add a 1]
        refine G.goto (tgt := 16) dX6_lays_71 (by decide) ?_
        exact hgo
  refine G.aload_n0 dX6_lays_0 ?_
  refine G.mgeta 2 fl_X6_24 dX6_lays_1 ?_
  refine G.sipush (v := nI 259) dX6_lays_4 (by decide) ?_
  refine G.iload_n1 dX6_lays_7 ?_
  first | with_reducible refine G.iaddn dX6_lays_8 ?_ | refine G.iadd dX6_lays_8 ?_
  refine G.aload_n0 dX6_lays_9 ?_
  refine G.mgeti 18 fl_X6_147 dX6_lays_10 ?_
  rw [h18]
  refine G.miast (n := 5866) 2 (259 + t) dX6_lays_13 rfl (by omega) ?_
  refine G.iconst (v := nI 0) dX6_lays_14 (by decide) ?_
  refine G.istore_n2 dX6_lays_15 ?_
  have := loop N 0 (by omega)
  rw [show kLay (M.2.2.1 2) tk N t 0 = upd (M.2.2.1 2) (259 + t) (nI N) from by
    funext i
    unfold upd kLay
    by_cases q : i = 259 + t
    · rw [if_pos q, if_pos q]
    · rw [if_neg q, if_neg q, if_neg (by omega), if_neg (by omega)]] at this
  exact this
/-- a law: what is told, what is kept -/
def oLaw (M : MM) (size t : Nat) : Int32 × MM := if t = 6 then sNo (ms M 13 (nI 0)) 5 else match pText false (tkOf (zToks (M.2.2.1 11) size 401 0)) (zToks (M.2.2.1 11) size 401 0).length with
  | .inl e => sNo (ms (ms M 13 (nI 0)) 14 (nI (zPl (zToks (M.2.2.1 11) size 401 0) size e))) 6
  | .inr _ => (nI t, sGood (mar (ms (ms M 13 (nI 0)) 14 (-1)) 2 (upd (kLay (M.2.2.1 2) (tkOf (zToks (M.2.2.1 11) size 401 0)) (zToks (M.2.2.1 11) size 401 0).length t (zToks (M.2.2.1 11) size 401 0).length) 257 (nI (t + 1)))))
theorem mX_ms2 {fs as : List Nat} {M M' : MM} {k : Nat} {v : Int32} (h : mX fs as M M') : mX fs as (ms M k v) (ms M' k v) := ⟨fun j hj => by rw [ms_1, ms_1, h.1 j hj], h.2.1, h.2.2.1, h.2.2.2⟩
theorem mX_mar2 {fs as : List Nat} {M M' : MM} {k : Nat} {f : Nat → Int32} (h : mX fs as M M') : mX fs as (mar M k f) (mar M' k f) := by
  refine ⟨h.1, h.2.1, fun j hj => ?_, h.2.2.2⟩
  show va_up M'.2.2.1 k f j = va_up M.2.2.1 k f j
  unfold va_up
  split
  · rfl
  · exact h.2.2.1 j hj
theorem mX_ma2 {fs as : List Nat} {M M' : MM} {k j : Nat} {v : Int32} (h : mX fs as M M') (hk : k ∉ as) : mX fs as (ma M k j v) (ma M' k j v) := by
  rw [ma_eq, ma_eq, h.2.2.1 k hk]
  exact mX_mar2 h
theorem mX_ref2 {fs as : List Nat} {M M' : MM} {k : Nat} (h : mX fs as M M') (hk : 1 ∉ as) : mX fs as (sRef M k) (sRef M' k) := by
  unfold sRef
  have h2 := mX_ms2 h (k := 0) (v := -nI k)
  rw [h.2.2.1 1 hk]
  exact mX_ma2 h2 hk
theorem mS_rd {M M1 : MM} {a x : Int32} (h : mX [8, 9, 10, 13, 14, 18, 19, 20, 21] [15, 16, 17] M M1) (h13 : M1.1 13 = a) (h14 : M1.1 14 = x) : mS (ms (ms M 13 a) 14 x) M1 := by
  refine ⟨fun k hk => ?_, h.2.1 ∘ (fun z y => z (by simp at y ⊢)), fun k hk => h.2.2.1 k (fun z => hk (by simp at z ⊢; omega)), fun _ => h.2.2.2 (by decide)⟩
  rw [ms_1, ms_1]
  by_cases q : k = 14
  · rw [if_pos q, q, h14]
  · rw [if_neg q]
    by_cases q2 : k = 13
    · rw [if_pos q2, q2, h13]
    · rw [if_neg q2]
      exact h.1 k (fun z => hk (by simp at z ⊢; omega))
theorem c_X6_law {M : MM} (hw : ∀ i, i < 153 → M.2.2.1 7 i = nI (zW i)) {size : Nat} (hs : size ≤ 400) (h13 : M.1 13 = nI size) {t : Nat} (ht : t ≤ 6) (h257 : M.2.2.1 2 257 = nI t) : MC E fX6_law L M ph [] (rI fun r M' => r = (oLaw M size t).1 ∧ mS (oLaw M size t).2 M') := by
  refine Ct.of [some (.ref (L.1 52))] rfl (Nat.le_of_ble_eq_true rfl) (show plainName RX6 = true by decide +kernel) rfl ?_
  refine G.aload_n0 dX6_law_0 ?_
  refine G.mgeta 2 fl_X6_24 dX6_law_1 ?_
  refine G.sipush (v := nI 257) dX6_law_4 (by decide) ?_
  refine G.miald (n := 5866) 2 _ dX6_law_7 rfl (by omega) ?_
  rw [h257]
  refine G.bipush (v := nI 6) dX6_law_8 (by decide) ?_
  refine G.icmp_ne (tgt := 25) dX6_law_10 (by decide) (fun c_10 => ?_) (fun c_10 => ?_)
  · have n_10 : ¬ t = 6 := fun z => c_10 (congrArg nI z)
    rw [show oLaw M size t = _ from if_neg n_10]
    refine G.aload_n0 dX6_law_25 ?_
    refine G.iconst (v := nI 0) dX6_law_26 (by decide) ?_
    refine G.mcall (f' := fX6_readsAs) q2002 ck_X6_readsAs (c_X6_readsAs hw hs h13 false) dX6_law_27 (rI.k fun r_27 M_27 h_27 => ?_)
    obtain ⟨⟨a1, a2, a3, a4⟩, hx⟩ := h_27
    have hlen := (zToks_b (tp := M.2.2.1 11) (size := size) 401 0 (by omega)).1
    generalize hT : zToks (M.2.2.1 11) size 401 0 = T at *
    cases hP : pText false (tkOf T) T.length with
    | inl e =>
      rw [hP] at a1
      obtain ⟨rfl, a14⟩ := a1
      dsimp only
      refine G.ifb_ne (tgt := 40) dX6_law_30 (by decide) (fun c_30 => ?_) (fun c_30 => ?_)
      · exact absurd c_30 Bool.false_ne_true
      · refine G.aload_n0 dX6_law_33 ?_
        refine G.bipush (v := -6) dX6_law_34 (by decide) ?_
        refine G.mcall (f' := fX6_refuses) q1915 ck_X6_refuses (c_X6_refuses E L _ ph (k := 6) (by decide)) dX6_law_36 (rI.k fun r_36 M_36 h_36 => ?_)
        obtain ⟨e_36, h_36⟩ := h_36; replace e_36 := e_36.symm; replace h_36 := h_36.symm; subst e_36; subst h_36
        refine G.ireturn dX6_law_39 ?_
        exact ⟨_, rfl, _, rfl, rfl, mX_ref2 (mS_rd hx a2 a14) (by decide)⟩
    | inr cs =>
      rw [hP] at a1
      obtain ⟨rfl, a14⟩ := a1
      dsimp only
      have e2 : M_27.2.2.1 2 = M.2.2.1 2 := hx.2.2.1 2 (by decide)
      have hk : ∀ t N, kLay (M.2.2.1 2) (tkOf T) N t N 257 = nI t → True := fun _ _ _ => trivial
      have h257' : kLay (M.2.2.1 2) (tkOf T) T.length t T.length 257 = nI t := by
        unfold kLay
        rw [if_neg (by omega), if_neg (by omega), if_neg (by omega)]
        exact h257
      refine G.ifb_ne (tgt := 40) dX6_law_30 (by decide) (fun c_30 => ?_) (fun c_30 => ?_)
      · refine G.aload_n0 dX6_law_40 ?_
        refine G.aload_n0 dX6_law_41 ?_
        refine G.mgeta 2 fl_X6_24 dX6_law_42 ?_
        refine G.sipush (v := nI 257) dX6_law_45 (by decide) ?_
        refine G.miald (n := 5866) 2 _ dX6_law_48 rfl (by omega) ?_
        rw [e2, h257]
        refine G.mcall (f' := fX6_lays) q2088 ck_X6_lays (c_X6_lays (M := M_27) (tk := tkOf T) (N := T.length) (t := t) (by omega) (by omega) a3 a4) dX6_law_49 (rV.k fun M_49 h_49 => ?_)
        replace h_49 := h_49.symm
        subst h_49
        rw [e2]
        refine G.aload_n0 dX6_law_52 ?_
        refine G.mgeta 2 fl_X6_24 dX6_law_53 ?_
        refine G.sipush (v := nI 257) dX6_law_56 (by decide) ?_
        refine G.dup2_11 dX6_law_59 rfl rfl ?_
        refine G.miald (n := 5866) 2 _ dX6_law_60 rfl (by omega) ?_
        rw [show (mar M_27 2 (kLay (M.2.2.1 2) (tkOf T) T.length t T.length)).2.2.1 2 257 = nI t from h257']
        refine G.iconst (v := nI 1) dX6_law_61 (by decide) ?_
        first | with_reducible refine G.iaddn dX6_law_62 ?_ | refine G.iadd dX6_law_62 ?_
        refine G.miast (n := 5866) 2 _ dX6_law_63 rfl (by omega) ?_
        rw [ma_mar]
        refine G.aload_n0 dX6_law_64 ?_
        refine G.aload_n0 dX6_law_65 ?_
        refine G.mgeta 2 fl_X6_24 dX6_law_66 ?_
        refine G.sipush (v := nI 257) dX6_law_69 (by decide) ?_
        refine G.miald (n := 5866) 2 _ dX6_law_72 rfl (by omega) ?_
        rw [show (mar M_27 2 (upd (kLay (M.2.2.1 2) (tkOf T) T.length t T.length) 257 (nI (t + 1)))).2.2.1 2 257 = nI (t + 1) from rfl]
        refine G.iconst (v := nI 1) dX6_law_73 (by decide) ?_
        refine G.isub dX6_law_74 ?_
        rw [pk_sub (show 1 ≤ t + 1 from by omega), Nat.add_sub_cancel]
        refine G.mcall (f' := fX6_good) q1919 ck_X6_good (c_X6_good E L _ ph _) dX6_law_75 (rI.k fun r_75 M_75 h_75 => ?_)
        obtain ⟨e_75, h_75⟩ := h_75; replace e_75 := e_75.symm; replace h_75 := h_75.symm; subst e_75; subst h_75
        refine G.ireturn dX6_law_78 ?_
        exact ⟨_, rfl, _, rfl, rfl, mX_ms2 (mX_mar2 (mS_rd hx a2 a14))⟩
      · exact absurd c_30 (fun z => Bool.false_ne_true z.symm)
  · have n_10 : t = 6 := (nI_inj (a := t) (b := 6) (by omega) (by omega)).mp c_10
    rw [show oLaw M size t = sNo (ms M 13 (nI 0)) 5 from if_pos n_10]
    refine G.aload_n0 dX6_law_13 ?_
    refine G.iconst (v := nI 0) dX6_law_14 (by decide) ?_
    refine G.mputi 13 fp_X6_141 dX6_law_15 ?_
    refine G.aload_n0 dX6_law_18 ?_
    refine G.bipush (v := -5) dX6_law_19 (by decide) ?_
    refine G.mcall (f' := fX6_refuses) q1915 ck_X6_refuses (c_X6_refuses E L _ ph (k := 5) (by decide)) dX6_law_21 (rI.k fun r_21 M_21 h_21 => ?_)
    obtain ⟨e_21, h_21⟩ := h_21; replace e_21 := e_21.symm; replace h_21 := h_21.symm; subst e_21; subst h_21
    refine G.ireturn dX6_law_24 ?_
    exact ⟨_, rfl, _, rfl, rfl, mX.rf⟩
end Law
