/-! LITSTRANGERS: what its objects say of the row kept -/
def xPeople (L : XL) (D : XD) (ph : HP) (K : KR) (n : Nat) : Prop := xls D L 4 n ∧ ∀ p, p < n → ∃ a, D.2.2.2.1 5 p = some a ∧ ph a = some (.inr (7, [.int (K (34 + 2 * p)), .int (K (34 + 2 * p + 1))]))
def xLaws (L : XL) (D : XD) (ph : HP) (K : KR) : Prop := ∃ t, t ≤ 6 ∧ K 257 = nI t ∧ xls D L 2 t ∧ ∀ i, i < t → ∃ a, D.2.2.2.1 3 i = some a ∧ rText (L.1 0) ph a (bCls false K i)
def xBooks (D : XD) (K : KR) (n : Nat) : Prop := (∀ p, p < n → D.2.1 7 p = K p ∧ D.2.1 9 p = K (20 + p) ∧ (K p = nI 1 → D.2.1 8 p = K (10 + p))) ∧ D.1 6 3 = K 33 ∧ D.1 6 4 = K 30 ∧ D.1 6 5 = K 31 ∧ D.1 6 6 = K 32
def xTalks (D : XD) (K : KR) : Prop := ∀ p, p < 10 → ∃ v, v < 1024 ∧ D.2.1 10 p = nI v ∧ ∀ q, q < 10 → K (54 + 10 * p + q) = bI (v.testBit q)
/-- the coast says what the row K says, of n persons -/
def xCoast (L : XL) (D : XD) (ph : HP) (K : KR) (n : Nat) : Prop := xPeople L D ph K n ∧ xLaws L D ph K ∧ xBooks D K n ∧ xTalks D K ∧ (∀ d, d < 100 → D.2.1 11 d = K (154 + d)) ∧ D.1 1 5 = K 254 ∧ D.1 1 6 = K 255 ∧ D.1 1 7 = K 258 ∧ ∃ a, D.2.2.2.1 0 5 = some a ∧ rText (L.1 0) ph a []
/-- slots of the coast, and what is frozen: untouched -/
def pCo (k : Nat) : Bool := Nat.ble 1 k && Nat.ble k 11 || k == 0
theorem xls_X {L : XL} {D D' : XD} {k n : Nat} (h : xls D L k n) (h1 : D'.1 k = D.1 k) (h2 : D'.2.2.2.1 k = D.2.2.2.1 k) (h3 : D'.2.2.2.2.1 = D.2.2.2.2.1) : xls D' L k n := by
  unfold xls at *
  rw [h1, h2, h3]
  exact h
theorem xCoast_X {p : Nat → Bool} {L : XL} {D D' : XD} {ph : HP} {K : KR} {n : Nat} (h : xCoast L D ph K n) (hx : xX p D D') (hp : ∀ k, k ≤ 11 → p k = false) : xCoast L D' ph K n := by
  obtain ⟨⟨a1, a2⟩, ⟨t, b1, b2, b3, b4⟩, ⟨c1, c2⟩, d1, e1, f1, g1, i1, j1⟩ := h
  have q : ∀ k, k ≤ 11 → D'.1 k = D.1 k ∧ D'.2.1 k = D.2.1 k ∧ D'.2.2.1 k = D.2.2.1 k ∧ D'.2.2.2.1 k = D.2.2.2.1 k := fun k hk => hx.1 k (hp k hk)
  refine ⟨⟨xls_X a1 (q 4 (by omega)).1 (q 4 (by omega)).2.2.2 hx.2, ?_⟩, ⟨t, b1, b2, xls_X b3 (q 2 (by omega)).1 (q 2 (by omega)).2.2.2 hx.2, ?_⟩, ⟨?_, ?_⟩, ?_, ?_, ?_, ?_, ?_, ?_⟩
  · rw [(q 5 (by omega)).2.2.2]; exact a2
  · rw [(q 3 (by omega)).2.2.2]; exact b4
  · rw [(q 7 (by omega)).2.1, (q 8 (by omega)).2.1, (q 9 (by omega)).2.1]; exact c1
  · rw [(q 6 (by omega)).1]; exact c2
  · unfold xTalks at *
    rw [(q 10 (by omega)).2.1]; exact d1
  · rw [(q 11 (by omega)).2.1]; exact e1
  · rw [(q 1 (by omega)).1]; exact f1
  · rw [(q 1 (by omega)).1]; exact g1
  · rw [(q 1 (by omega)).1]; exact i1
  · rw [(q 0 (by omega)).2.2.2]; exact j1
def pAsk (k : Nat) : Bool := k == 15 || k == 16
section Ask
variable {E : JE} {L : XL} {ph : HP} {K : KR} {b n : Nat}
theorem rText_cs {x0 a : Nat} {cs cs' : List Cl} (h : rText x0 ph a cs) (e : cs = cs') : rText x0 ph a cs' := by rw [← e]; exact h
/-- the law in force -/
def lawCs (K : KR) : List Cl := if K 258 = -1 then [] else bCls false K (tNat (K 258))
theorem c_X0_law1 {D : XD} (hB : xdis L D ph) (hC : xCoast L D ph K n) (hK : KOk K b n) : XC E fX0_law1 0 L D ph [] (wA fun r D' => rText (L.1 0) ph r (lawCs K) ∧ D' = D) := by
  obtain ⟨-, ⟨t, t1, t2, t3, t4⟩, -, -, -, -, -, hf, a0, ha0, hn0⟩ := hC
  obtain ⟨t', k1, k2, k3, -⟩ := hK.2.2.2.2.2.2.2
  refine Ct.of [some (.ref (L.1 0))] rfl (Nat.le_of_ble_eq_true rfl) (show plainName RX0 = true by decide +kernel) rfl ?_
  refine G.aload_n0 dX0_law1_0 ?_
  refine G.xgetf 0 0 1 fl_X0_10 dX0_law1_1 ?_
  refine G.xgeti 1 7 fl_X0_230 dX0_law1_4 ?_
  refine G.iconst (v := -1) dX0_law1_7 (by decide) ?_
  rw [hf]
  refine G.icmp_ne (tgt := 18) dX0_law1_8 (by decide) (fun c_8 => ?_) (fun c_8 => ?_)
  · obtain ⟨f, hf1, hf2⟩ := k3.resolve_left c_8
    have hft : f < t := by rw [t2] at k2; have := (nI_inj (a := t) (b := t') (by omega) (by omega)).mp k2; omega
    obtain ⟨a, ha, hT⟩ := t4 f hft
    refine G.aload_n0 dX0_law1_18 ?_
    refine G.xgetf 0 0 1 fl_X0_10 dX0_law1_19 ?_
    refine G.xgetf 1 0 2 fl_X0_215 dX0_law1_22 ?_
    refine G.aload_n0 dX0_law1_25 ?_
    refine G.xgetf 0 0 1 fl_X0_10 dX0_law1_26 ?_
    refine G.xgeti 1 7 fl_X0_230 dX0_law1_29 ?_
    rw [hf, hf2]
    refine G.xcall (f' := fJ2_get) 2 q590 ck_J2_get (c_get 2 (Or.inl rfl) t3 hft ha) dX0_law1_32 (wA.k fun r_32 D_32 h_32 => ?_)
    obtain ⟨e_32, h_32⟩ := h_32; replace e_32 := e_32.symm; replace h_32 := h_32.symm; subst e_32; subst h_32
    obtain ⟨tb, tn, tg, tas, hT1, -⟩ := id hT
    refine G.checkcastS (xbase hB hT1 rfl) dX0_law1_35 q312 ?_
    refine G.areturn dX0_law1_38 ?_
    first
    | exact ⟨_, rfl, _, rfl, rText_cs hn0 (if_pos c_8).symm, rfl⟩
    | exact ⟨_, rfl, _, rfl, rText_cs hn0 (if_pos (Classical.not_not.mp c_8)).symm, rfl⟩
    | exact ⟨_, rfl, _, rfl, rText_cs hT (by unfold lawCs; rw [if_neg c_8, hf2, tNat_nI (by omega)]), rfl⟩
  · refine G.aload_n0 dX0_law1_11 ?_
    refine G.xgetr 0 5 fl_X0_44 dX0_law1_12 ?_
    rw [ha0]
    refine G.goto (tgt := 38) dX0_law1_15 (by decide) ?_
    refine G.areturn dX0_law1_38 ?_
    first
    | exact ⟨_, rfl, _, rfl, rText_cs hn0 (if_pos c_8).symm, rfl⟩
    | exact ⟨_, rfl, _, rfl, rText_cs hn0 (if_pos (Classical.not_not.mp c_8)).symm, rfl⟩
    | exact ⟨_, rfl, _, rfl, rText_cs hT (by unfold lawCs; rw [if_neg c_8, hf2, tNat_nI (by omega)]), rfl⟩
theorem c_X0_ask {D : XD} (hB : xdis L D ph) (hC : xCoast L D ph K n) (h10 : n ≤ 10) {p : Nat} (hp : p < n) (heard day fog : Int32) (o : Option Nat) (ho : ∀ q, o = some q → q < n) : XC E fX0_ask 0 L D ph [.int (nI p), .int heard, .int (oI o), .int day, .int fog] (wV fun D' => xX pAsk D D' ∧ ∀ i, i < 10 → D'.2.2.1 16 i = (aSets K p heard o day fog (wPm false i)).toInt64) := by
  obtain ⟨⟨a1, a2⟩, -, -, -, -, -, hm, -, -⟩ := hC
  obtain ⟨ap, hap, hpp⟩ := a2 p hp
  cases o with
  | none =>
    refine Ct.of [some (.ref (L.1 0)), some (.int (nI p)), some (.int heard), some (.int (-1)), some (.int day), some (.int fog)] rfl (Nat.le_of_ble_eq_true rfl) (show plainName RX0 = true by decide +kernel) rfl ?_
    refine G.aload_n0 dX0_ask_0 ?_
    refine G.xgetf 0 3 15 fl_X0_30 dX0_ask_1 ?_
    refine G.xgetf 15 0 16 fl_X0_233 dX0_ask_4 ?_
    refine G.iconst (v := nI 0) dX0_ask_7 (by decide) ?_
    refine G.iload_n1 dX0_ask_8 ?_
    refine G.i2l dX0_ask_9 rfl ?_
    refine G.xlast (n := 10) 16 _ dX0_ask_10 rfl (by omega) ?_
    refine G.aload_n0 dX0_ask_11 ?_
    refine G.xgetf 0 3 15 fl_X0_30 dX0_ask_12 ?_
    refine G.xgetf 15 0 16 fl_X0_233 dX0_ask_15 ?_
    refine G.iconst (v := nI 1) dX0_ask_18 (by decide) ?_
    refine G.aload_n0 dX0_ask_19 ?_
    refine G.xgetf 0 0 1 fl_X0_10 dX0_ask_20 ?_
    refine G.xgetf 1 1 4 fl_X0_92 dX0_ask_23 ?_
    refine G.iload_n1 dX0_ask_26 ?_
    refine G.xcall (f' := fJ2_get) 4 q590 ck_J2_get (c_get 4 (Or.inr (Or.inl rfl)) a1 hp hap) dX0_ask_27 (wA.k fun r_27 D_27 h_27 => ?_)
    obtain ⟨e_27, h_27⟩ := h_27; replace e_27 := e_27.symm; replace h_27 := h_27.symm; subst e_27; subst h_27
    refine G.checkcastS (xbase hB hpp rfl) dX0_ask_30 q468 ?_
    refine G.getfield (k := 0) fl_X0_164 (xbase hB hpp rfl) rfl dX0_ask_33 ?_
    refine G.i2l dX0_ask_36 rfl ?_
    refine G.xlast (n := 10) 16 _ dX0_ask_37 rfl (by omega) ?_
    refine G.aload_n0 dX0_ask_38 ?_
    refine G.xgetf 0 3 15 fl_X0_30 dX0_ask_39 ?_
    refine G.xgetf 15 0 16 fl_X0_233 dX0_ask_42 ?_
    refine G.iconst (v := nI 2) dX0_ask_45 (by decide) ?_
    refine G.aload_n0 dX0_ask_46 ?_
    refine G.xgetf 0 0 1 fl_X0_10 dX0_ask_47 ?_
    refine G.xgetf 1 1 4 fl_X0_92 dX0_ask_50 ?_
    refine G.iload_n1 dX0_ask_53 ?_
    refine G.xcall (f' := fJ2_get) 4 q590 ck_J2_get (c_get 4 (Or.inr (Or.inl rfl)) a1 hp hap) dX0_ask_54 (wA.k fun r_54 D_54 h_54 => ?_)
    obtain ⟨e_54, h_54⟩ := h_54; replace e_54 := e_54.symm; replace h_54 := h_54.symm; subst e_54; subst h_54
    refine G.checkcastS (xbase hB hpp rfl) dX0_ask_57 q468 ?_
    refine G.getfield (k := 1) fl_X0_167 (xbase hB hpp rfl) rfl dX0_ask_60 ?_
    refine G.i2l dX0_ask_63 rfl ?_
    refine G.xlast (n := 10) 16 _ dX0_ask_64 rfl (by omega) ?_
    refine G.aload_n0 dX0_ask_65 ?_
    refine G.xgetf 0 3 15 fl_X0_30 dX0_ask_66 ?_
    refine G.xgetf 15 0 16 fl_X0_233 dX0_ask_69 ?_
    refine G.iconst (v := nI 3) dX0_ask_72 (by decide) ?_
    refine G.iload_n2 dX0_ask_73 ?_
    refine G.i2l dX0_ask_74 rfl ?_
    refine G.xlast (n := 10) 16 _ dX0_ask_75 rfl (by omega) ?_
    refine G.aload_n0 dX0_ask_76 ?_
    refine G.xgetf 0 3 15 fl_X0_30 dX0_ask_77 ?_
    refine G.xgetf 15 0 16 fl_X0_233 dX0_ask_80 ?_
    refine G.iconst (v := nI 4) dX0_ask_83 (by decide) ?_
    refine G.iload_n3 dX0_ask_84 ?_
    refine G.i2l dX0_ask_85 rfl ?_
    refine G.xlast (n := 10) 16 _ dX0_ask_86 rfl (by omega) ?_
    refine G.aload_n0 dX0_ask_87 ?_
    refine G.xgetf 0 3 15 fl_X0_30 dX0_ask_88 ?_
    refine G.xgetf 15 0 16 fl_X0_233 dX0_ask_91 ?_
    refine G.iconst (v := nI 5) dX0_ask_94 (by decide) ?_
    refine G.iload_n3 dX0_ask_95 ?_
    refine G.iconst (v := -1) dX0_ask_96 (by decide) ?_
    refine G.icmp_ne (tgt := 106) dX0_ask_97 (by decide) (fun c_97 => ?_) (fun c_97 => ?_)
    · exact absurd rfl c_97
    · refine G.ldc2 q1257 dX0_ask_100 ?_
      refine G.goto (tgt := 124) dX0_ask_103 (by decide) ?_
      refine G.xlast (n := 10) 16 _ dX0_ask_124 rfl (by omega) ?_
      refine G.aload_n0 dX0_ask_125 ?_
      refine G.xgetf 0 3 15 fl_X0_30 dX0_ask_126 ?_
      refine G.xgetf 15 0 16 fl_X0_233 dX0_ask_129 ?_
      refine G.bipush (v := nI 6) dX0_ask_132 (by decide) ?_
      refine G.iload_n3 dX0_ask_134 ?_
      refine G.iconst (v := -1) dX0_ask_135 (by decide) ?_
      refine G.icmp_ne (tgt := 145) dX0_ask_136 (by decide) (fun c_136 => ?_) (fun c_136 => ?_)
      · exact absurd rfl c_136
      · refine G.ldc2 q1257 dX0_ask_139 ?_
        refine G.goto (tgt := 163) dX0_ask_142 (by decide) ?_
        refine G.xlast (n := 10) 16 _ dX0_ask_163 rfl (by omega) ?_
        refine G.aload_n0 dX0_ask_164 ?_
        refine G.xgetf 0 3 15 fl_X0_30 dX0_ask_165 ?_
        refine G.xgetf 15 0 16 fl_X0_233 dX0_ask_168 ?_
        refine G.bipush (v := nI 7) dX0_ask_171 (by decide) ?_
        refine G.iload4 dX0_ask_173 ?_
        refine G.i2l dX0_ask_175 rfl ?_
        refine G.xlast (n := 10) 16 _ dX0_ask_176 rfl (by omega) ?_
        refine G.aload_n0 dX0_ask_177 ?_
        refine G.xgetf 0 3 15 fl_X0_30 dX0_ask_178 ?_
        refine G.xgetf 15 0 16 fl_X0_233 dX0_ask_181 ?_
        refine G.bipush (v := nI 8) dX0_ask_184 (by decide) ?_
        refine G.iload5 dX0_ask_186 ?_
        refine G.i2l dX0_ask_188 rfl ?_
        refine G.xlast (n := 10) 16 _ dX0_ask_189 rfl (by omega) ?_
        refine G.aload_n0 dX0_ask_190 ?_
        refine G.xgetf 0 3 15 fl_X0_30 dX0_ask_191 ?_
        refine G.xgetf 15 0 16 fl_X0_233 dX0_ask_194 ?_
        refine G.bipush (v := nI 9) dX0_ask_197 (by decide) ?_
        refine G.aload_n0 dX0_ask_199 ?_
        refine G.xgetf 0 0 1 fl_X0_10 dX0_ask_200 ?_
        refine G.xgeti 1 6 fl_X0_184 dX0_ask_203 ?_
        refine G.i2l dX0_ask_206 rfl ?_
        refine G.xlast (n := 10) 16 _ dX0_ask_207 rfl (by omega) ?_
        refine G.return_ dX0_ask_208 ?_
        refine ⟨_, rfl, rfl, xX_l (xX_l (xX_l (xX_l (xX_l (xX_l (xX_l (xX_l (xX_l (xX_l xX.rf rfl) rfl) rfl) rfl) rfl) rfl) rfl) rfl) rfl) rfl, fun i hi => ?_⟩
        rcases (show i = 0 ∨ i = 1 ∨ i = 2 ∨ i = 3 ∨ i = 4 ∨ i = 5 ∨ i = 6 ∨ i = 7 ∨ i = 8 ∨ i = 9 by omega) with rfl | rfl | rfl | rfl | rfl | rfl | rfl | rfl | rfl | rfl
        all_goals first
          | rfl
          | exact congrArg Int32.toInt64 hm
  | some q =>
    have hq := ho q rfl
    obtain ⟨aq, haq, hqq⟩ := a2 q hq
    have hne : ¬ nI q = -1 := fun z => by rw [i_eq, t_nI (by omega), t_m1] at z; omega
    refine Ct.of [some (.ref (L.1 0)), some (.int (nI p)), some (.int heard), some (.int (nI q)), some (.int day), some (.int fog)] rfl (Nat.le_of_ble_eq_true rfl) (show plainName RX0 = true by decide +kernel) rfl ?_
    refine G.aload_n0 dX0_ask_0 ?_
    refine G.xgetf 0 3 15 fl_X0_30 dX0_ask_1 ?_
    refine G.xgetf 15 0 16 fl_X0_233 dX0_ask_4 ?_
    refine G.iconst (v := nI 0) dX0_ask_7 (by decide) ?_
    refine G.iload_n1 dX0_ask_8 ?_
    refine G.i2l dX0_ask_9 rfl ?_
    refine G.xlast (n := 10) 16 _ dX0_ask_10 rfl (by omega) ?_
    refine G.aload_n0 dX0_ask_11 ?_
    refine G.xgetf 0 3 15 fl_X0_30 dX0_ask_12 ?_
    refine G.xgetf 15 0 16 fl_X0_233 dX0_ask_15 ?_
    refine G.iconst (v := nI 1) dX0_ask_18 (by decide) ?_
    refine G.aload_n0 dX0_ask_19 ?_
    refine G.xgetf 0 0 1 fl_X0_10 dX0_ask_20 ?_
    refine G.xgetf 1 1 4 fl_X0_92 dX0_ask_23 ?_
    refine G.iload_n1 dX0_ask_26 ?_
    refine G.xcall (f' := fJ2_get) 4 q590 ck_J2_get (c_get 4 (Or.inr (Or.inl rfl)) a1 hp hap) dX0_ask_27 (wA.k fun r_27 D_27 h_27 => ?_)
    obtain ⟨e_27, h_27⟩ := h_27; replace e_27 := e_27.symm; replace h_27 := h_27.symm; subst e_27; subst h_27
    refine G.checkcastS (xbase hB hpp rfl) dX0_ask_30 q468 ?_
    refine G.getfield (k := 0) fl_X0_164 (xbase hB hpp rfl) rfl dX0_ask_33 ?_
    refine G.i2l dX0_ask_36 rfl ?_
    refine G.xlast (n := 10) 16 _ dX0_ask_37 rfl (by omega) ?_
    refine G.aload_n0 dX0_ask_38 ?_
    refine G.xgetf 0 3 15 fl_X0_30 dX0_ask_39 ?_
    refine G.xgetf 15 0 16 fl_X0_233 dX0_ask_42 ?_
    refine G.iconst (v := nI 2) dX0_ask_45 (by decide) ?_
    refine G.aload_n0 dX0_ask_46 ?_
    refine G.xgetf 0 0 1 fl_X0_10 dX0_ask_47 ?_
    refine G.xgetf 1 1 4 fl_X0_92 dX0_ask_50 ?_
    refine G.iload_n1 dX0_ask_53 ?_
    refine G.xcall (f' := fJ2_get) 4 q590 ck_J2_get (c_get 4 (Or.inr (Or.inl rfl)) a1 hp hap) dX0_ask_54 (wA.k fun r_54 D_54 h_54 => ?_)
    obtain ⟨e_54, h_54⟩ := h_54; replace e_54 := e_54.symm; replace h_54 := h_54.symm; subst e_54; subst h_54
    refine G.checkcastS (xbase hB hpp rfl) dX0_ask_57 q468 ?_
    refine G.getfield (k := 1) fl_X0_167 (xbase hB hpp rfl) rfl dX0_ask_60 ?_
    refine G.i2l dX0_ask_63 rfl ?_
    refine G.xlast (n := 10) 16 _ dX0_ask_64 rfl (by omega) ?_
    refine G.aload_n0 dX0_ask_65 ?_
    refine G.xgetf 0 3 15 fl_X0_30 dX0_ask_66 ?_
    refine G.xgetf 15 0 16 fl_X0_233 dX0_ask_69 ?_
    refine G.iconst (v := nI 3) dX0_ask_72 (by decide) ?_
    refine G.iload_n2 dX0_ask_73 ?_
    refine G.i2l dX0_ask_74 rfl ?_
    refine G.xlast (n := 10) 16 _ dX0_ask_75 rfl (by omega) ?_
    refine G.aload_n0 dX0_ask_76 ?_
    refine G.xgetf 0 3 15 fl_X0_30 dX0_ask_77 ?_
    refine G.xgetf 15 0 16 fl_X0_233 dX0_ask_80 ?_
    refine G.iconst (v := nI 4) dX0_ask_83 (by decide) ?_
    refine G.iload_n3 dX0_ask_84 ?_
    refine G.i2l dX0_ask_85 rfl ?_
    refine G.xlast (n := 10) 16 _ dX0_ask_86 rfl (by omega) ?_
    refine G.aload_n0 dX0_ask_87 ?_
    refine G.xgetf 0 3 15 fl_X0_30 dX0_ask_88 ?_
    refine G.xgetf 15 0 16 fl_X0_233 dX0_ask_91 ?_
    refine G.iconst (v := nI 5) dX0_ask_94 (by decide) ?_
    refine G.iload_n3 dX0_ask_95 ?_
    refine G.iconst (v := -1) dX0_ask_96 (by decide) ?_
    refine G.icmp_ne (tgt := 106) dX0_ask_97 (by decide) (fun c_97 => ?_) (fun c_97 => ?_)
    · refine G.aload_n0 dX0_ask_106 ?_
      refine G.xgetf 0 0 1 fl_X0_10 dX0_ask_107 ?_
      refine G.xgetf 1 1 4 fl_X0_92 dX0_ask_110 ?_
      refine G.iload_n3 dX0_ask_113 ?_
      refine G.xcall (f' := fJ2_get) 4 q590 ck_J2_get (c_get 4 (Or.inr (Or.inl rfl)) a1 hq haq) dX0_ask_114 (wA.k fun r_114 D_114 h_114 => ?_)
      obtain ⟨e_114, h_114⟩ := h_114; replace e_114 := e_114.symm; replace h_114 := h_114.symm; subst e_114; subst h_114
      refine G.checkcastS (xbase hB hqq rfl) dX0_ask_117 q468 ?_
      refine G.getfield (k := 1) fl_X0_167 (xbase hB hqq rfl) rfl dX0_ask_120 ?_
      refine G.i2l dX0_ask_123 rfl ?_
      refine G.xlast (n := 10) 16 _ dX0_ask_124 rfl (by omega) ?_
      refine G.aload_n0 dX0_ask_125 ?_
      refine G.xgetf 0 3 15 fl_X0_30 dX0_ask_126 ?_
      refine G.xgetf 15 0 16 fl_X0_233 dX0_ask_129 ?_
      refine G.bipush (v := nI 6) dX0_ask_132 (by decide) ?_
      refine G.iload_n3 dX0_ask_134 ?_
      refine G.iconst (v := -1) dX0_ask_135 (by decide) ?_
      refine G.icmp_ne (tgt := 145) dX0_ask_136 (by decide) (fun c_136 => ?_) (fun c_136 => ?_)
      · refine G.aload_n0 dX0_ask_145 ?_
        refine G.xgetf 0 0 1 fl_X0_10 dX0_ask_146 ?_
        refine G.xgetf 1 1 4 fl_X0_92 dX0_ask_149 ?_
        refine G.iload_n3 dX0_ask_152 ?_
        refine G.xcall (f' := fJ2_get) 4 q590 ck_J2_get (c_get 4 (Or.inr (Or.inl rfl)) a1 hq haq) dX0_ask_153 (wA.k fun r_153 D_153 h_153 => ?_)
        obtain ⟨e_153, h_153⟩ := h_153; replace e_153 := e_153.symm; replace h_153 := h_153.symm; subst e_153; subst h_153
        refine G.checkcastS (xbase hB hqq rfl) dX0_ask_156 q468 ?_
        refine G.getfield (k := 0) fl_X0_164 (xbase hB hqq rfl) rfl dX0_ask_159 ?_
        refine G.i2l dX0_ask_162 rfl ?_
        refine G.xlast (n := 10) 16 _ dX0_ask_163 rfl (by omega) ?_
        refine G.aload_n0 dX0_ask_164 ?_
        refine G.xgetf 0 3 15 fl_X0_30 dX0_ask_165 ?_
        refine G.xgetf 15 0 16 fl_X0_233 dX0_ask_168 ?_
        refine G.bipush (v := nI 7) dX0_ask_171 (by decide) ?_
        refine G.iload4 dX0_ask_173 ?_
        refine G.i2l dX0_ask_175 rfl ?_
        refine G.xlast (n := 10) 16 _ dX0_ask_176 rfl (by omega) ?_
        refine G.aload_n0 dX0_ask_177 ?_
        refine G.xgetf 0 3 15 fl_X0_30 dX0_ask_178 ?_
        refine G.xgetf 15 0 16 fl_X0_233 dX0_ask_181 ?_
        refine G.bipush (v := nI 8) dX0_ask_184 (by decide) ?_
        refine G.iload5 dX0_ask_186 ?_
        refine G.i2l dX0_ask_188 rfl ?_
        refine G.xlast (n := 10) 16 _ dX0_ask_189 rfl (by omega) ?_
        refine G.aload_n0 dX0_ask_190 ?_
        refine G.xgetf 0 3 15 fl_X0_30 dX0_ask_191 ?_
        refine G.xgetf 15 0 16 fl_X0_233 dX0_ask_194 ?_
        refine G.bipush (v := nI 9) dX0_ask_197 (by decide) ?_
        refine G.aload_n0 dX0_ask_199 ?_
        refine G.xgetf 0 0 1 fl_X0_10 dX0_ask_200 ?_
        refine G.xgeti 1 6 fl_X0_184 dX0_ask_203 ?_
        refine G.i2l dX0_ask_206 rfl ?_
        refine G.xlast (n := 10) 16 _ dX0_ask_207 rfl (by omega) ?_
        refine G.return_ dX0_ask_208 ?_
        refine ⟨_, rfl, rfl, xX_l (xX_l (xX_l (xX_l (xX_l (xX_l (xX_l (xX_l (xX_l (xX_l xX.rf rfl) rfl) rfl) rfl) rfl) rfl) rfl) rfl) rfl) rfl, fun i hi => ?_⟩
        rcases (show i = 0 ∨ i = 1 ∨ i = 2 ∨ i = 3 ∨ i = 4 ∨ i = 5 ∨ i = 6 ∨ i = 7 ∨ i = 8 ∨ i = 9 by omega) with rfl | rfl | rfl | rfl | rfl | rfl | rfl | rfl | rfl | rfl
        all_goals first
          | rfl
          | exact congrArg Int32.toInt64 hm
      · exact absurd (by first | exact c_136 | exact Classical.not_not.mp c_136) hne
    · exact absurd (by first | exact c_97 | exact Classical.not_not.mp c_97) hne
end Ask
