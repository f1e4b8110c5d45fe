/-! THE MODEL: the first of the cheapest rows -/
def kPr (K : KR) (n p : Nat) : Nat := if p < n ∧ K p = nI 0 then tNat (kCosts K p) else 0
theorem kPr_le {K : KR} {b n : Nat} (hK : KOk K b n) : ∀ p, kPr K n p ≤ 999 := by
  intro p
  unfold kPr
  split
  · rename_i q
    have := hK.road q.1
    exact (tellsOf_r (K := K) (head := 2) (a := aNow K p) (high := 999) (without := kRoad K p) (by omega) (by omega)).2
  · omega
theorem zF_min {ok : Nat → Bool} {val : Nat → Nat} {a : Nat} : ∀ j, zF ok (fun x c => min x (val c)) a j = a ∨ ∃ c, c < j ∧ ok c = true ∧ zF ok (fun x c => min x (val c)) a j = val c
  | 0 => Or.inl rfl
  | j + 1 => by
    have h := zF_min (ok := ok) (val := val) (a := a) j
    rw [zF]
    by_cases q : ok j = true
    · rw [if_pos q]
      rcases Nat.lt_or_ge (val j) (zF ok (fun x c => min x (val c)) a j) with y | y
      · rw [Nat.min_eq_right (by omega)]
        exact Or.inr ⟨j, by omega, q, rfl⟩
      · rw [Nat.min_eq_left y]
        rcases h with z | ⟨c, z1, z2, z3⟩
        · exact Or.inl z
        · exact Or.inr ⟨c, by omega, z2, z3⟩
    · rw [if_neg q]
      rcases h with z | ⟨c, z1, z2, z3⟩
      · exact Or.inl z
      · exact Or.inr ⟨c, by omega, z2, z3⟩
theorem chN_get {ok : Nat → Nat → Nat → Bool} {pr : Nat → Nat} {f k u : Nat} (h : chN ok pr (f + 1) k u < 1000000) : ∃ c, c < 1024 ∧ ok k u c = true ∧ chN ok pr f (k + 1) (u ||| c) + zSumW pr c 10 = chN ok pr (f + 1) k u := by
  have hm := zF_min (ok := ok k u) (val := fun c => chN ok pr f (k + 1) (u ||| c) + zSumW pr c 10) (a := 1000000) 1024
  rw [chN] at h ⊢
  rcases hm with z | ⟨c, z1, z2, z3⟩
  · omega
  · exact ⟨c, z1, z2, z3.symm⟩
def goodC (K : KR) (n m k u c : Nat) : Bool := decide (chN (zOk K n 0 0) (kPr K n) (m - k - 1) (k + 1) (u ||| c) + zSumW (kPr K n) c 10 = chN (zOk K n 0 0) (kPr K n) (m - k) k u)
def oCheap (K : KR) (n : Nat) (x i : Int32) : Int32 := if zIn x 1 10 ∧ ((-1 : Int32).toInt ≤ i.toInt ∧ i.toInt < x.toInt) then (if 1000000 ≤ chN (zOk K n 0 0) (kPr K n) (tNat x) 0 0 then -1 else if i = -1 then nI (chN (zOk K n 0 0) (kPr K n) (tNat x) 0 0) else nI (pickG (zOk K n 0 0) (goodC K n (tNat x)) (tNat i) (usedG (zOk K n 0 0) (goodC K n (tNat x)) (tNat i)))) else -1
abbrev mC (M M' : MM) : Prop := mX [8, 22, 23, 24, 34, 35] [25, 29, 30, 31, 32, 33, 36, 38] M M'
theorem nOk_38 {K : KR} {n a h k : Nat} {v : Int32} {M : MM} (hn : nOk K n a h M) : nOk K n a h (ma M 38 k v) := ⟨hn.1, hn.2.1, hn.2.2.1, hn.2.2.2.1, hn.2.2.2.2⟩
section CheapCall
variable {E : JE} {L : ML} {ph : HP}
theorem c_X6_cheap {M : MM} {K : KR} (e : M.2.2.1 2 = K) {b n : Nat} (hK : KOk K b n) (x i : Int32) : MC E fX6_cheap L M ph [.int x, .int i] (rI fun r M' => r = oCheap K n x i ∧ mC M M') := by
  have h10 := hK.1.1
  have hpr := kPr_le hK
  refine Ct.of [some (.ref (L.1 52)), some (.int x), some (.int i), none, none, none, none, none] rfl (Nat.le_of_ble_eq_true rfl) (show plainName RX6 = true by decide +kernel) rfl ?_
  refine G.iload_n1 dX6_cheap_0 ?_
  refine G.iconst (v := nI 1) dX6_cheap_1 (by decide) ?_
  refine G.bipush (v := nI 10) dX6_cheap_2 (by decide) ?_
  refine G.scall (f' := fX6_lies) q1912 ck_X6_lies (c_X6_lies E _ _ _) dX6_cheap_4 (sI.k fun r_4 h_4 => ?_)
  replace h_4 := h_4.symm; subst h_4
  refine G.ifb_eq (tgt := 21) dX6_cheap_7 (by decide) (fun c_7 => ?_) (fun c_7 => ?_)
  · refine G.iconst (v := -1) dX6_cheap_21 (by decide) ?_
    refine G.ireturn dX6_cheap_22 ?_
    first
    | exact ⟨_, rfl, _, rfl, (if_neg (fun z => qb ⟨z.2.1, by have := z.2.2; rw [t_nI (by omega)] at this; omega⟩)).symm, mX.rf⟩
    | exact ⟨_, rfl, _, rfl, (if_neg (fun z => of_decide_eq_false c_7 z.1)).symm, mX.rf⟩
  · have qa := of_decide_eq_true c_7
    obtain ⟨m, hm, rfl⟩ := zIn_of (k := x) (b := 10) ⟨by have := qa.1; rw [t_nI (by omega)] at this ⊢; omega, qa.2⟩ (by decide)
    have hm1 : 1 ≤ m := by
      have := qa.1
      rw [t_nI (by omega), t_nI (by omega)] at this
      omega
    refine G.iload_n2 dX6_cheap_10 ?_
    refine G.iconst (v := -1) dX6_cheap_11 (by decide) ?_
    refine G.iload_n1 dX6_cheap_12 ?_
    refine G.iconst (v := nI 1) dX6_cheap_13 (by decide) ?_
    refine G.isub dX6_cheap_14 ?_
    refine G.scall (f' := fX6_lies) q1912 ck_X6_lies (c_X6_lies E _ _ _) dX6_cheap_15 (sI.k fun r_15 h_15 => ?_)
    replace h_15 := h_15.symm; subst h_15
    refine G.ifb_ne (tgt := 23) dX6_cheap_18 (by decide) (fun c_18 => ?_) (fun c_18 => ?_)
    · have qb := of_decide_eq_true c_18
      rw [t_sub (by omega) (by omega)] at qb
      refine G.aload_n0 dX6_cheap_23 ?_
      refine G.mcall (f' := fX6_looks) q2244 ck_X6_looks (c_looksK e hK) dX6_cheap_24 (rV.k fun M_24 h_24 => ?_)
      have g1 := h_24.1
      have g3 := h_24.2.2.1
      have g4 := h_24.2.2.2
      clear h_24
      have ho : oCheap K n (nI m) i = if 1000000 ≤ chN (zOk K n 0 0) (kPr K n) m 0 0 then -1 else if i = -1 then nI (chN (zOk K n 0 0) (kPr K n) m 0 0) else nI (pickG (zOk K n 0 0) (goodC K n m) (tNat i) (usedG (zOk K n 0 0) (goodC K n m) (tNat i))) := by
        unfold oCheap
        rw [if_pos ⟨qa, qb.1, by rw [t_nI (by omega)]; omega⟩, tNat_nI (by omega)]
      rw [ho]
      refine G.iconst (v := nI 0) dX6_cheap_27 (by decide) ?_
      refine G.istore_n3 dX6_cheap_28 ?_
      have k97 : ∀ (M1 : MM) (a3 : Option Value), M1.2.2.1 2 = K → nOk K n 0 0 M1 → cOk (zOk K n 0 0) (kPr K n) m (M1.2.2.1 36) → (∀ p, p < 10 → M1.2.2.1 38 p = nI (kPr K n p)) → mC M M1 → G E fX6_cheap (mFin E fX6_cheap L ph (rI fun r M' => r = (if 1000000 ≤ chN (zOk K n 0 0) (kPr K n) m 0 0 then -1 else if i = -1 then nI (chN (zOk K n 0 0) (kPr K n) m 0 0) else nI (pickG (zOk K n 0 0) (goodC K n m) (tNat i) (usedG (zOk K n 0 0) (goodC K n m) (tNat i)))) ∧ mC M M')) 97 [some (.ref (L.1 52)), some (.int (nI m)), some (.int i), a3, none, none, none, none] [] (movl L M1 ph) 0 0 := by
        intro M1 a3 e1 n1 c1 p1 x1
        refine G.aload_n0 dX6_cheap_97 ?_
        refine G.iconst (v := nI 0) dX6_cheap_98 (by decide) ?_
        refine G.iconst (v := nI 0) dX6_cheap_99 (by decide) ?_
        refine G.iload_n1 dX6_cheap_100 ?_
        refine G.mcall (f' := fX6_cheapestFrom (900 + m)) q2284 (ck_X6_cheapestFrom _) (c_X6_cheapestFrom (m := m) hK hpr hm m 0 (by omega) M1 0 e1 n1 c1 p1 (by decide)) dX6_cheap_101 (rI.k fun r_101 M_101 h_101 => ?_) (hroom := jroom_of rfl rfl (by omega) (Nat.le_of_ble_eq_true rfl))
        have er := h_101.1
        have q1 := h_101.2.1
        have q2 := h_101.2.2.1
        have q3 := h_101.2.2.2
        clear h_101
        rw [er]
        have hle := chN_le (ok := zOk K n 0 0) (pr := kPr K n) m 0 0
        generalize hV : chN (zOk K n 0 0) (kPr K n) m 0 0 = V at *
        have e7 : M_101.2.2.1 2 = K := (q3.2.2.1 2 (by decide)).trans e1
        have p7 : ∀ p, p < 10 → M_101.2.2.1 38 p = nI (kPr K n p) := fun p hp => by rw [q3.2.2.1 38 (by decide)]; exact p1 p hp
        have hx7 : mC M M_101 := x1.tr q3 (by simp) (by simp)
        refine G.istore_n3 dX6_cheap_104 ?_
        refine G.iload_n3 dX6_cheap_105 ?_
        refine G.ldc q2024 dX6_cheap_106 ?_
        refine G.topi (nI 1000000) (by decide) ?_
        refine G.icmp_lt (tgt := 113) dX6_cheap_108 (by decide) (fun c_108 => ?_) (fun c_108 => ?_)
        · have n_108 : V < 1000000 := (nI_ltI (a := V) (b := 1000000) (by omega) (by omega)).mp c_108
          refine G.iload_n2 dX6_cheap_113 ?_
          refine G.iconst (v := -1) dX6_cheap_114 (by decide) ?_
          refine G.icmp_ne (tgt := 120) dX6_cheap_115 (by decide) (fun c_115 => ?_) (fun c_115 => ?_)
          · refine G.iconst (v := nI 0) dX6_cheap_120 (by decide) ?_
            refine G.istore4 dX6_cheap_121 ?_
            refine G.iconst (v := nI 0) dX6_cheap_123 (by decide) ?_
            refine G.istore5 dX6_cheap_124 ?_
            rw [if_neg (Nat.not_le.mpr n_108), if_neg c_115]
            obtain ⟨w, hw, rfl⟩ : ∃ w, w < m ∧ i = nI w := t_of (by
              have h1 := qb.1
              rw [t_m1] at h1
              rcases Int.lt_or_le i.toInt 0 with z | z
              · exact absurd (by rw [i_eq, t_m1]; omega) c_115
              · exact z) (by omega)
            rw [tNat_nI (by omega)]
            have outer : ∀ d k M2 a6 a7, k + d = w → M2.2.2.1 2 = K → nOk K n 0 0 M2 → cOk (zOk K n 0 0) (kPr K n) m (M2.2.2.1 36) → (∀ p, p < 10 → M2.2.2.1 38 p = nI (kPr K n p)) → mC M M2 → usedG (zOk K n 0 0) (goodC K n m) k < 1024 → chN (zOk K n 0 0) (kPr K n) (m - k) k (usedG (zOk K n 0 0) (goodC K n m) k) < 1000000 → G E fX6_cheap (mFin E fX6_cheap L ph (rI fun r M' => r = nI (pickG (zOk K n 0 0) (goodC K n m) w (usedG (zOk K n 0 0) (goodC K n m) w)) ∧ mC M M')) 126 [some (.ref (L.1 52)), some (.int (nI m)), some (.int (nI w)), some (.int (nI V)), some (.int (nI (usedG (zOk K n 0 0) (goodC K n m) k))), some (.int (nI k)), a6, a7] [] (movl L M2 ph) 0 0 := by
              intro d
              induction d with
              | zero =>
                intro k M2 a6 a7 hk e2 n2 c2 p2 x2 hU hlt
                have hUn : usedG (zOk K n 0 0) (goodC K n m) (k + 1) = usedG (zOk K n 0 0) (goodC K n m) k ||| pickG (zOk K n 0 0) (goodC K n m) k (usedG (zOk K n 0 0) (goodC K n m) k) := rfl
                obtain rfl : k = w := by omega
                generalize usedG (zOk K n 0 0) (goodC K n m) k = U at *
                obtain ⟨g, hg1, hg2, hg3⟩ := chN_get (ok := zOk K n 0 0) (pr := kPr K n) (f := m - k - 1) (k := k) (u := U) (by rw [show m - k - 1 + 1 = m - k from by omega]; exact hlt)
                rw [show m - k - 1 + 1 = m - k from by omega] at hg3
                have hgg : goodC K n m k U g = true := decide_eq_true hg3
                have inner : ∀ d2 c M3, c + d2 = 1023 → (∀ i, 0 < i → i ≤ c → (zOk K n 0 0 k U i && goodC K n m k U i) = false) → M3.2.2.1 2 = K → nOk K n 0 0 M3 → cOk (zOk K n 0 0) (kPr K n) m (M3.2.2.1 36) → (∀ p, p < 10 → M3.2.2.1 38 p = nI (kPr K n p)) → mC M M3 → G E fX6_cheap (mFin E fX6_cheap L ph (rI fun r M' => r = nI (pickG (zOk K n 0 0) (goodC K n m) k U) ∧ mC M M')) 148 [some (.ref (L.1 52)), some (.int (nI m)), some (.int (nI k)), some (.int (nI V)), some (.int (nI U)), some (.int (nI k)), some (.int (nI (chN (zOk K n 0 0) (kPr K n) (m - k) k U))), some (.int (oI (zNext (zOk K n 0 0 k U) c)))] [] (movl L M3 ph) 0 0 := by
                  intro d2
                  induction d2 using Nat.strongRecOn with
                  | ind d2 ihd =>
                    intro c M3 hcd hno e3 n3 c3 p3 x3
                    obtain ⟨j, hz⟩ := zNext_ex (ok := zOk K n 0 0 k U) (good := goodC K n m k U) zOk_0 hg1 hg2 hgg hno
                    obtain ⟨hj1, hj2, hj3, -⟩ := zNext_some hz
                    obtain ⟨hA, hB⟩ := zNext_good hz hno
                    rw [hz, show oI (some j) = nI j from rfl]
                    have hUj := or_lt hU hj2
                    have hc1 := chN_le (ok := zOk K n 0 0) (pr := kPr K n) (m - k - 1) (k + 1) (U ||| j)
                    have hc2 := zSumW_le9 (c := j) hpr 10
                    refine G.aload_n0 dX6_cheap_148 ?_
                    refine G.iload5 dX6_cheap_149 ?_
                    refine G.iconst (v := nI 1) dX6_cheap_151 (by decide) ?_
                    first | with_reducible refine G.iaddn dX6_cheap_152 ?_ | refine G.iadd dX6_cheap_152 ?_
                    refine G.iload4 dX6_cheap_153 ?_
                    refine G.iload7 dX6_cheap_155 ?_
                    refine G.ior dX6_cheap_157 ?_
                    rw [b_or (by omega) (by omega)]
                    refine G.iload_n1 dX6_cheap_158 ?_
                    refine G.mcall (f' := fX6_cheapestFrom (900 + (m - k - 1))) q2284 (ck_X6_cheapestFrom _) (c_X6_cheapestFrom (m := m) hK hpr hm (m - k - 1) (k + 1) (by omega) M3 (U ||| j) e3 n3 c3 p3 hUj) dX6_cheap_159 (rI.k fun r_159 M_159 h_159 => ?_) (hroom := jroom_of rfl rfl (by omega) (Nat.le_of_ble_eq_true rfl))
                    have er := h_159.1
                    have s1 := h_159.2.1
                    have s2 := h_159.2.2.1
                    have s3 := h_159.2.2.2
                    clear h_159
                    rw [er]
                    have e5 : M_159.2.2.1 2 = K := (s3.2.2.1 2 (by decide)).trans e3
                    have p5 : ∀ p, p < 10 → M_159.2.2.1 38 p = nI (kPr K n p) := fun p hp => by rw [s3.2.2.1 38 (by decide)]; exact p3 p hp
                    have x5 : mC M M_159 := x3.tr s3 (by simp) (by simp)
                    refine G.aload_n0 dX6_cheap_162 ?_
                    refine G.iload7 dX6_cheap_163 ?_
                    refine G.mcall (f' := fX6_priceOf) q2288 ck_X6_priceOf (c_X6_priceOf (M := M_159) (pr := kPr K n) p5 j (by omega)) dX6_cheap_165 (rI.k fun r_165 M_165 h_165 => ?_)
                    obtain ⟨e_165, h_165⟩ := h_165; replace e_165 := e_165.symm; replace h_165 := h_165.symm; subst e_165; subst h_165
                    first | with_reducible refine G.iaddn dX6_cheap_168 ?_ | refine G.iadd dX6_cheap_168 ?_
                    refine G.iload6 dX6_cheap_169 ?_
                    refine G.icmp_eq (tgt := 189) dX6_cheap_171 (by decide) (fun c_171 => ?_) (fun c_171 => ?_)
                    · have n_171 : chN (zOk K n 0 0) (kPr K n) (m - k - 1) (k + 1) (U ||| j) + zSumW (kPr K n) j 10 = chN (zOk K n 0 0) (kPr K n) (m - k) k U := (nI_inj (a := chN (zOk K n 0 0) (kPr K n) (m - k - 1) (k + 1) (U ||| j) + zSumW (kPr K n) j 10) (b := chN (zOk K n 0 0) (kPr K n) (m - k) k U) (by omega) (by omega)).mp c_171
                      have hgj : goodC K n m k U j = true := decide_eq_true n_171
                      have hpk : pickG (zOk K n 0 0) (goodC K n m) k U = j := pickG_of (hA hgj)
                      refine G.iload5 dX6_cheap_189 ?_
                      refine G.iload_n2 dX6_cheap_191 ?_
                      refine G.icmp_ne (tgt := 198) dX6_cheap_192 (by decide) (fun c_192 => ?_) (fun c_192 => ?_)
                      · exact absurd rfl c_192
                      · refine G.iload7 dX6_cheap_195 ?_
                        refine G.ireturn dX6_cheap_197 ?_
                        exact ⟨_, rfl, _, rfl, congrArg nI hpk.symm, x5⟩
                    · have n_171 : ¬ chN (zOk K n 0 0) (kPr K n) (m - k - 1) (k + 1) (U ||| j) + zSumW (kPr K n) j 10 = chN (zOk K n 0 0) (kPr K n) (m - k) k U := fun z => c_171 (congrArg nI z)
                      have hgj : goodC K n m k U j = false := decide_eq_false n_171
                      refine G.aload_n0 dX6_cheap_174 ?_
                      refine G.iload5 dX6_cheap_175 ?_
                      refine G.iload4 dX6_cheap_177 ?_
                      refine G.iload7 dX6_cheap_179 ?_
                      refine G.mcall (f' := fX6_crewIn) q2256 ck_X6_crewIn (c_crewInK e5 hK s1 (by decide) (by decide) (night := k) (c := j) (by omega) hU hj2) dX6_cheap_181 (rI.k fun r_181 M_181 h_181 => ?_)
                      have er2 := h_181.1
                      have v1 := h_181.2.1
                      have v2 := h_181.2.2
                      clear h_181
                      rw [er2]
                      refine G.istore7 dX6_cheap_184 ?_
                      refine G.goto (tgt := 148) dX6_cheap_186 (by decide) ?_
                      exact ihd (1023 - j) (by omega) j M_181 (by omega) (hB hgj) ((v2.2.2.1 2 (by decide)).trans e5) v1 (by rw [v2.2.2.1 36 (by decide)]; exact s2) (fun p hp => by rw [v2.2.2.1 38 (by decide)]; exact p5 p hp) (x5.tr v2 (by simp) (by simp))
                refine G.aload_n0 dX6_cheap_126 ?_
                refine G.iload5 dX6_cheap_127 ?_
                refine G.iload4 dX6_cheap_129 ?_
                refine G.iload_n1 dX6_cheap_131 ?_
                refine G.mcall (f' := fX6_cheapestFrom (900 + (m - k))) q2284 (ck_X6_cheapestFrom _) (c_X6_cheapestFrom (m := m) hK hpr hm (m - k) k (by omega) M2 U e2 n2 c2 p2 hU) dX6_cheap_132 (rI.k fun r_132 M_132 h_132 => ?_) (hroom := jroom_of rfl rfl (by omega) (Nat.le_of_ble_eq_true rfl))
                have er := h_132.1
                have s1 := h_132.2.1
                have s2 := h_132.2.2.1
                have s3 := h_132.2.2.2
                clear h_132
                rw [er]
                have e5 : M_132.2.2.1 2 = K := (s3.2.2.1 2 (by decide)).trans e2
                have p5 : ∀ p, p < 10 → M_132.2.2.1 38 p = nI (kPr K n p) := fun p hp => by rw [s3.2.2.1 38 (by decide)]; exact p2 p hp
                have x5 : mC M M_132 := x2.tr s3 (by simp) (by simp)
                refine G.istore6 dX6_cheap_135 ?_
                refine G.aload_n0 dX6_cheap_137 ?_
                refine G.iload5 dX6_cheap_138 ?_
                refine G.iload4 dX6_cheap_140 ?_
                refine G.iconst (v := nI 0) dX6_cheap_142 (by decide) ?_
                refine G.mcall (f' := fX6_crewIn) q2256 ck_X6_crewIn (c_crewInK e5 hK s1 (by decide) (by decide) (night := k) (c := 0) (by omega) hU (by omega)) dX6_cheap_143 (rI.k fun r_143 M_143 h_143 => ?_)
                have er2 := h_143.1
                have v1 := h_143.2.1
                have v2 := h_143.2.2
                clear h_143
                rw [er2]
                refine G.istore7 dX6_cheap_146 ?_
                exact inner 1023 0 M_143 (by omega) (fun i h1 h2 => absurd h1 (by omega)) ((v2.2.2.1 2 (by decide)).trans e5) v1 (by rw [v2.2.2.1 36 (by decide)]; exact s2) (fun p hp => by rw [v2.2.2.1 38 (by decide)]; exact p5 p hp) (x5.tr v2 (by simp) (by simp))
              | succ d ih =>
                intro k M2 a6 a7 hk e2 n2 c2 p2 x2 hU hlt
                have hUn : usedG (zOk K n 0 0) (goodC K n m) (k + 1) = usedG (zOk K n 0 0) (goodC K n m) k ||| pickG (zOk K n 0 0) (goodC K n m) k (usedG (zOk K n 0 0) (goodC K n m) k) := rfl
                have hgo := fun M2 a6 a7 => ih (k + 1) M2 a6 a7 (by omega)
                rw [hUn] at hgo
                generalize hRES : pickG (zOk K n 0 0) (goodC K n m) w (usedG (zOk K n 0 0) (goodC K n m) w) = RR at *
                clear ih hUn
                generalize usedG (zOk K n 0 0) (goodC K n m) k = U at *
                obtain ⟨g, hg1, hg2, hg3⟩ := chN_get (ok := zOk K n 0 0) (pr := kPr K n) (f := m - k - 1) (k := k) (u := U) (by rw [show m - k - 1 + 1 = m - k from by omega]; exact hlt)
                rw [show m - k - 1 + 1 = m - k from by omega] at hg3
                have hgg : goodC K n m k U g = true := decide_eq_true hg3
                have inner : ∀ d2 c M3, c + d2 = 1023 → (∀ i, 0 < i → i ≤ c → (zOk K n 0 0 k U i && goodC K n m k U i) = false) → M3.2.2.1 2 = K → nOk K n 0 0 M3 → cOk (zOk K n 0 0) (kPr K n) m (M3.2.2.1 36) → (∀ p, p < 10 → M3.2.2.1 38 p = nI (kPr K n p)) → mC M M3 → G E fX6_cheap (mFin E fX6_cheap L ph (rI fun r M' => r = nI RR ∧ mC M M')) 148 [some (.ref (L.1 52)), some (.int (nI m)), some (.int (nI w)), some (.int (nI V)), some (.int (nI U)), some (.int (nI k)), some (.int (nI (chN (zOk K n 0 0) (kPr K n) (m - k) k U))), some (.int (oI (zNext (zOk K n 0 0 k U) c)))] [] (movl L M3 ph) 0 0 := by
                  intro d2
                  induction d2 using Nat.strongRecOn with
                  | ind d2 ihd =>
                    intro c M3 hcd hno e3 n3 c3 p3 x3
                    obtain ⟨j, hz⟩ := zNext_ex (ok := zOk K n 0 0 k U) (good := goodC K n m k U) zOk_0 hg1 hg2 hgg hno
                    obtain ⟨hj1, hj2, hj3, -⟩ := zNext_some hz
                    obtain ⟨hA, hB⟩ := zNext_good hz hno
                    rw [hz, show oI (some j) = nI j from rfl]
                    have hUj := or_lt hU hj2
                    have hc1 := chN_le (ok := zOk K n 0 0) (pr := kPr K n) (m - k - 1) (k + 1) (U ||| j)
                    have hc2 := zSumW_le9 (c := j) hpr 10
                    refine G.aload_n0 dX6_cheap_148 ?_
                    refine G.iload5 dX6_cheap_149 ?_
                    refine G.iconst (v := nI 1) dX6_cheap_151 (by decide) ?_
                    first | with_reducible refine G.iaddn dX6_cheap_152 ?_ | refine G.iadd dX6_cheap_152 ?_
                    refine G.iload4 dX6_cheap_153 ?_
                    refine G.iload7 dX6_cheap_155 ?_
                    refine G.ior dX6_cheap_157 ?_
                    rw [b_or (by omega) (by omega)]
                    refine G.iload_n1 dX6_cheap_158 ?_
                    refine G.mcall (f' := fX6_cheapestFrom (900 + (m - k - 1))) q2284 (ck_X6_cheapestFrom _) (c_X6_cheapestFrom (m := m) hK hpr hm (m - k - 1) (k + 1) (by omega) M3 (U ||| j) e3 n3 c3 p3 hUj) dX6_cheap_159 (rI.k fun r_159 M_159 h_159 => ?_) (hroom := jroom_of rfl rfl (by omega) (Nat.le_of_ble_eq_true rfl))
                    have er := h_159.1
                    have s1 := h_159.2.1
                    have s2 := h_159.2.2.1
                    have s3 := h_159.2.2.2
                    clear h_159
                    rw [er]
                    have e5 : M_159.2.2.1 2 = K := (s3.2.2.1 2 (by decide)).trans e3
                    have p5 : ∀ p, p < 10 → M_159.2.2.1 38 p = nI (kPr K n p) := fun p hp => by rw [s3.2.2.1 38 (by decide)]; exact p3 p hp
                    have x5 : mC M M_159 := x3.tr s3 (by simp) (by simp)
                    refine G.aload_n0 dX6_cheap_162 ?_
                    refine G.iload7 dX6_cheap_163 ?_
                    refine G.mcall (f' := fX6_priceOf) q2288 ck_X6_priceOf (c_X6_priceOf (M := M_159) (pr := kPr K n) p5 j (by omega)) dX6_cheap_165 (rI.k fun r_165 M_165 h_165 => ?_)
                    obtain ⟨e_165, h_165⟩ := h_165; replace e_165 := e_165.symm; replace h_165 := h_165.symm; subst e_165; subst h_165
                    first | with_reducible refine G.iaddn dX6_cheap_168 ?_ | refine G.iadd dX6_cheap_168 ?_
                    refine G.iload6 dX6_cheap_169 ?_
                    refine G.icmp_eq (tgt := 189) dX6_cheap_171 (by decide) (fun c_171 => ?_) (fun c_171 => ?_)
                    · have n_171 : chN (zOk K n 0 0) (kPr K n) (m - k - 1) (k + 1) (U ||| j) + zSumW (kPr K n) j 10 = chN (zOk K n 0 0) (kPr K n) (m - k) k U := (nI_inj (a := chN (zOk K n 0 0) (kPr K n) (m - k - 1) (k + 1) (U ||| j) + zSumW (kPr K n) j 10) (b := chN (zOk K n 0 0) (kPr K n) (m - k) k U) (by omega) (by omega)).mp c_171
                      have hgj : goodC K n m k U j = true := decide_eq_true n_171
                      have hpk : pickG (zOk K n 0 0) (goodC K n m) k U = j := pickG_of (hA hgj)
                      refine G.iload5 dX6_cheap_189 ?_
                      refine G.iload_n2 dX6_cheap_191 ?_
                      refine G.icmp_ne (tgt := 198) dX6_cheap_192 (by decide) (fun c_192 => ?_) (fun c_192 => ?_)
                      · refine G.iload4 dX6_cheap_198 ?_
                        refine G.iload7 dX6_cheap_200 ?_
                        refine G.ior dX6_cheap_202 ?_
                        try rw [b_or (a := U) (b := j) (by omega) (by omega)]
                        refine G.istore4 dX6_cheap_203 ?_
                        refine G.iinc5 dX6_cheap_205 ?_
                        try rw [show ∀ a : Nat, nI a + Int32.ofInt 1 = nI (a + 1) from fun a => nI_add a 1]
                        refine G.goto (tgt := 126) dX6_cheap_208 (by decide) ?_
                        rw [hpk] at hgo
                        exact hgo M_159 _ _ e5 s1 s2 p5 x5 hUj (by rw [show m - (k + 1) = m - k - 1 from by omega]; omega)
                      · exact absurd ((nI_inj (a := k) (b := w) (by omega) (by omega)).mp c_192) (by omega)
                    · have n_171 : ¬ chN (zOk K n 0 0) (kPr K n) (m - k - 1) (k + 1) (U ||| j) + zSumW (kPr K n) j 10 = chN (zOk K n 0 0) (kPr K n) (m - k) k U := fun z => c_171 (congrArg nI z)
                      have hgj : goodC K n m k U j = false := decide_eq_false n_171
                      refine G.aload_n0 dX6_cheap_174 ?_
                      refine G.iload5 dX6_cheap_175 ?_
                      refine G.iload4 dX6_cheap_177 ?_
                      refine G.iload7 dX6_cheap_179 ?_
                      refine G.mcall (f' := fX6_crewIn) q2256 ck_X6_crewIn (c_crewInK e5 hK s1 (by decide) (by decide) (night := k) (c := j) (by omega) hU hj2) dX6_cheap_181 (rI.k fun r_181 M_181 h_181 => ?_)
                      have er2 := h_181.1
                      have v1 := h_181.2.1
                      have v2 := h_181.2.2
                      clear h_181
                      rw [er2]
                      refine G.istore7 dX6_cheap_184 ?_
                      refine G.goto (tgt := 148) dX6_cheap_186 (by decide) ?_
                      exact ihd (1023 - j) (by omega) j M_181 (by omega) (hB hgj) ((v2.2.2.1 2 (by decide)).trans e5) v1 (by rw [v2.2.2.1 36 (by decide)]; exact s2) (fun p hp => by rw [v2.2.2.1 38 (by decide)]; exact p5 p hp) (x5.tr v2 (by simp) (by simp))
                refine G.aload_n0 dX6_cheap_126 ?_
                refine G.iload5 dX6_cheap_127 ?_
                refine G.iload4 dX6_cheap_129 ?_
                refine G.iload_n1 dX6_cheap_131 ?_
                refine G.mcall (f' := fX6_cheapestFrom (900 + (m - k))) q2284 (ck_X6_cheapestFrom _) (c_X6_cheapestFrom (m := m) hK hpr hm (m - k) k (by omega) M2 U e2 n2 c2 p2 hU) dX6_cheap_132 (rI.k fun r_132 M_132 h_132 => ?_) (hroom := jroom_of rfl rfl (by omega) (Nat.le_of_ble_eq_true rfl))
                have er := h_132.1
                have s1 := h_132.2.1
                have s2 := h_132.2.2.1
                have s3 := h_132.2.2.2
                clear h_132
                rw [er]
                have e5 : M_132.2.2.1 2 = K := (s3.2.2.1 2 (by decide)).trans e2
                have p5 : ∀ p, p < 10 → M_132.2.2.1 38 p = nI (kPr K n p) := fun p hp => by rw [s3.2.2.1 38 (by decide)]; exact p2 p hp
                have x5 : mC M M_132 := x2.tr s3 (by simp) (by simp)
                refine G.istore6 dX6_cheap_135 ?_
                refine G.aload_n0 dX6_cheap_137 ?_
                refine G.iload5 dX6_cheap_138 ?_
                refine G.iload4 dX6_cheap_140 ?_
                refine G.iconst (v := nI 0) dX6_cheap_142 (by decide) ?_
                refine G.mcall (f' := fX6_crewIn) q2256 ck_X6_crewIn (c_crewInK e5 hK s1 (by decide) (by decide) (night := k) (c := 0) (by omega) hU (by omega)) dX6_cheap_143 (rI.k fun r_143 M_143 h_143 => ?_)
                have er2 := h_143.1
                have v1 := h_143.2.1
                have v2 := h_143.2.2
                clear h_143
                rw [er2]
                refine G.istore7 dX6_cheap_146 ?_
                exact inner 1023 0 M_143 (by omega) (fun i h1 h2 => absurd h1 (by omega)) ((v2.2.2.1 2 (by decide)).trans e5) v1 (by rw [v2.2.2.1 36 (by decide)]; exact s2) (fun p hp => by rw [v2.2.2.1 38 (by decide)]; exact p5 p hp) (x5.tr v2 (by simp) (by simp))
            exact outer w 0 M_101 none none (by omega) e7 q1 q2 p7 hx7 (show 0 < 1024 from by decide) (by show chN (zOk K n 0 0) (kPr K n) m 0 0 < 1000000; omega)
          · refine G.iload_n3 dX6_cheap_118 ?_
            refine G.ireturn dX6_cheap_119 ?_
            exact ⟨_, rfl, _, rfl, ((if_neg (Nat.not_le.mpr n_108)).trans (if_pos c_115)).symm, hx7⟩
        · have n_108 : 1000000 ≤ V := Nat.le_of_not_lt (fun z => c_108 ((nI_ltI (a := V) (b := 1000000) (by omega) (by omega)).mpr z))
          refine G.iconst (v := -1) dX6_cheap_111 (by decide) ?_
          refine G.ireturn dX6_cheap_112 ?_
          exact ⟨_, rfl, _, rfl, (if_pos n_108).symm, hx7⟩
      have loop2 : ∀ d j M2, j + d = 10 → M2.2.2.1 2 = K → nOk K n 0 0 M2 → cOk (zOk K n 0 0) (kPr K n) m (M2.2.2.1 36) → (∀ p, p < j → M2.2.2.1 38 p = nI (kPr K n p)) → mC M M2 → G E fX6_cheap (mFin E fX6_cheap L ph (rI fun r M' => r = (if 1000000 ≤ chN (zOk K n 0 0) (kPr K n) m 0 0 then -1 else if i = -1 then nI (chN (zOk K n 0 0) (kPr K n) m 0 0) else nI (pickG (zOk K n 0 0) (goodC K n m) (tNat i) (usedG (zOk K n 0 0) (goodC K n m) (tNat i)))) ∧ mC M M')) 51 [some (.ref (L.1 52)), some (.int (nI m)), some (.int i), some (.int (nI j)), none, none, none, none] [] (movl L M2 ph) 0 0 := by
        intro d
        induction d with
        | zero =>
          intro j M2 hj e2 n2 c2 p2 x2
          refine G.iload_n3 dX6_cheap_51 ?_
          refine G.bipush (v := nI 10) dX6_cheap_52 (by decide) ?_
          refine G.icmp_ge (tgt := 97) dX6_cheap_54 (by decide) (fun c_54 => ?_) (fun c_54 => ?_)
          · exact k97 M2 _ e2 n2 c2 (fun p hp => p2 p (by omega)) x2
          · exact absurd (nI_leI (by omega) (by omega) |>.mpr (by omega)) c_54
        | succ d ih =>
          intro j M2 hj e2 n2 c2 p2 x2
          have hgo := fun M2 => ih (j + 1) M2 (by omega)
          clear ih
          have k90 : ∀ (v : Int32) (M4 : MM), v = nI (kPr K n j) → mX [8, 22, 23, 24] [25] M2 M4 → G E fX6_cheap (mFin E fX6_cheap L ph (rI fun r M' => r = (if 1000000 ≤ chN (zOk K n 0 0) (kPr K n) m 0 0 then -1 else if i = -1 then nI (chN (zOk K n 0 0) (kPr K n) m 0 0) else nI (pickG (zOk K n 0 0) (goodC K n m) (tNat i) (usedG (zOk K n 0 0) (goodC K n m) (tNat i)))) ∧ mC M M')) 90 [some (.ref (L.1 52)), some (.int (nI m)), some (.int i), some (.int (nI j)), none, none, none, none] [.int v, .int (nI j), .ref (L.1 38)] (movl L M4 ph) 0 0 := by
            intro v M4 hv hx4
            refine G.miast (n := 10) 38 j dX6_cheap_90 rfl (by omega) ?_
            refine G.iinc3 dX6_cheap_91 ?_
            try rw [show ∀ a : Nat, nI a + Int32.ofInt 1 = nI (a + 1) from fun a => nI_add a 1]
            refine G.goto (tgt := 51) dX6_cheap_94 (by decide) ?_
            refine hgo _ ((hx4.2.2.1 2 (by decide)).trans e2) (nOk_38 (n2.mv (hx4.mono (by simp) (by simp)))) (by rw [show (ma M4 38 j v).2.2.1 36 = M2.2.2.1 36 from hx4.2.2.1 36 (by decide)]; exact c2) (fun p hp => ?_) ((x2.tr hx4 (by simp) (by simp)).ma (by decide))
            rw [ma_at, if_pos rfl]
            split
            · rename_i q; rw [q, hv]
            · rw [hx4.2.2.1 38 (by decide)]; exact p2 p (by omega)
          refine G.iload_n3 dX6_cheap_51 ?_
          refine G.bipush (v := nI 10) dX6_cheap_52 (by decide) ?_
          refine G.icmp_ge (tgt := 97) dX6_cheap_54 (by decide) (fun c_54 => ?_) (fun c_54 => ?_)
          · exact absurd ((nI_leI (by omega) (by omega)).mp c_54) (by omega)
          · refine G.aload_n0 dX6_cheap_57 ?_
            refine G.mgeta 38 fl_X6_90 dX6_cheap_58 ?_
            refine G.iload_n3 dX6_cheap_61 ?_
            refine G.aload_n0 dX6_cheap_62 ?_
            refine G.iload_n3 dX6_cheap_63 ?_
            refine G.mcall (f' := fX6_isPerson) q1950 ck_X6_isPerson (c_X6_isPerson E L _ ph (nI j) h10 (by rw [e2]; exact hK.1.2)) dX6_cheap_64 (rI.k fun r_64 M_64 h_64 => ?_)
            obtain ⟨e_64, h_64⟩ := h_64; replace e_64 := e_64.symm; replace h_64 := h_64.symm; subst e_64; subst h_64
            refine G.ifb_eq (tgt := 89) dX6_cheap_67 (by decide) (fun c_67 => ?_) (fun c_67 => ?_)
            · have hout : ¬ j < n := fun z => of_decide_eq_false c_67 (by rw [t_nI (by omega)]; omega)
              refine G.iconst (v := nI 0) dX6_cheap_89 (by decide) ?_
              first
              | (refine k90 _ _ ?_ m83
                 have hrd := hK.road hin
                 unfold kPr
                 rw [if_pos ⟨hin, c_78⟩]
                 exact (tellsOf_r (K := K) (head := 2) (a := aNow K j) (high := 999) (without := kRoad K j) (by omega) (by omega)).1)
              | exact k90 _ _ (congrArg nI (if_neg (fun z => c_78 z.2)).symm) mX.rf
              | exact k90 _ _ (congrArg nI (if_neg (fun z => hout z.1)).symm) mX.rf
            · have hin : j < n := by
                have := (of_decide_eq_true c_67).2
                rw [t_nI (by omega)] at this
                omega
              refine G.aload_n0 dX6_cheap_70 ?_
              refine G.mgeta 2 fl_X6_24 dX6_cheap_71 ?_
              refine G.iconst (v := nI 0) dX6_cheap_74 (by decide) ?_
              refine G.iload_n3 dX6_cheap_75 ?_
              first | with_reducible refine G.iaddn dX6_cheap_76 ?_ | refine G.iadd dX6_cheap_76 ?_
              refine G.miald (n := 5866) 2 j dX6_cheap_77 (congrArg nI (Nat.zero_add j)) (by omega) ?_
              rw [e2]
              refine G.if_ne (tgt := 89) dX6_cheap_78 (by decide) (fun c_78 => ?_) (fun c_78 => ?_)
              · refine G.iconst (v := nI 0) dX6_cheap_89 (by decide) ?_
                first
                | (refine k90 _ _ ?_ m83
                   have hrd := hK.road hin
                   unfold kPr
                   rw [if_pos ⟨hin, c_78⟩]
                   exact (tellsOf_r (K := K) (head := 2) (a := aNow K j) (high := 999) (without := kRoad K j) (by omega) (by omega)).1)
                | exact k90 _ _ (congrArg nI (if_neg (fun z => c_78 z.2)).symm) mX.rf
                | exact k90 _ _ (congrArg nI (if_neg (fun z => hout z.1)).symm) mX.rf
              · refine G.aload_n0 dX6_cheap_81 ?_
                refine G.iload_n3 dX6_cheap_82 ?_
                refine G.mcall (f' := fX6_costsNow) q2167 ck_X6_costsNow (c_X6_costsNow (M := M2) (b := b) (n := n) (p := j) (by rw [e2]; exact hK) hin) dX6_cheap_83 (rI.k fun r_83 M_83 h_83 => ?_)
                have r83 := h_83.1
                have m83 := h_83.2
                clear h_83
                rw [e2] at r83
                rw [r83]
                refine G.goto (tgt := 90) dX6_cheap_86 (by decide) ?_
                first
                | (refine k90 _ _ ?_ m83
                   have hrd := hK.road hin
                   unfold kPr
                   rw [if_pos ⟨hin, c_78⟩]
                   exact (tellsOf_r (K := K) (head := 2) (a := aNow K j) (high := 999) (without := kRoad K j) (by omega) (by omega)).1)
                | exact k90 _ _ (congrArg nI (if_neg (fun z => c_78 z.2)).symm) mX.rf
                | exact k90 _ _ (congrArg nI (if_neg (fun z => hout z.1)).symm) mX.rf
      have loop1 : ∀ d j M2, j + d = 11264 → M2.2.2.1 2 = K → nOk K n 0 0 M2 → (∀ p, p < j → M2.2.2.1 36 p = -1) → mC M M2 → G E fX6_cheap (mFin E fX6_cheap L ph (rI fun r M' => r = (if 1000000 ≤ chN (zOk K n 0 0) (kPr K n) m 0 0 then -1 else if i = -1 then nI (chN (zOk K n 0 0) (kPr K n) m 0 0) else nI (pickG (zOk K n 0 0) (goodC K n m) (tNat i) (usedG (zOk K n 0 0) (goodC K n m) (tNat i)))) ∧ mC M M')) 29 [some (.ref (L.1 52)), some (.int (nI m)), some (.int i), some (.int (nI j)), none, none, none, none] [] (movl L M2 ph) 0 0 := by
        intro d
        induction d with
        | zero =>
          intro j M2 hj e2 n2 f2 x2
          refine G.iload_n3 dX6_cheap_29 ?_
          refine G.sipush (v := nI 11264) dX6_cheap_30 (by decide) ?_
          refine G.icmp_ge (tgt := 49) dX6_cheap_33 (by decide) (fun c_33 => ?_) (fun c_33 => ?_)
          · refine G.iconst (v := nI 0) dX6_cheap_49 (by decide) ?_
            refine G.istore_n3 dX6_cheap_50 ?_
            exact loop2 10 0 M2 rfl e2 n2 (fun k u h1 h2 => Or.inl (f2 _ (by omega))) (fun p hp => absurd hp (by omega)) x2
          · exact absurd (nI_leI (by omega) (by omega) |>.mpr (by omega)) c_33
        | succ d ih =>
          intro j M2 hj e2 n2 f2 x2
          refine G.iload_n3 dX6_cheap_29 ?_
          refine G.sipush (v := nI 11264) dX6_cheap_30 (by decide) ?_
          refine G.icmp_ge (tgt := 49) dX6_cheap_33 (by decide) (fun c_33 => ?_) (fun c_33 => ?_)
          · exact absurd ((nI_leI (by omega) (by omega)).mp c_33) (by omega)
          · refine G.aload_n0 dX6_cheap_36 ?_
            refine G.mgeta 36 fl_X6_83 dX6_cheap_37 ?_
            refine G.iload_n3 dX6_cheap_40 ?_
            refine G.iconst (v := -1) dX6_cheap_41 (by decide) ?_
            refine G.miast (n := 11264) 36 j dX6_cheap_42 rfl (by omega) ?_
            refine G.iinc3 dX6_cheap_43 ?_
            try rw [show ∀ a : Nat, nI a + Int32.ofInt 1 = nI (a + 1) from fun a => nI_add a 1]
            refine G.goto (tgt := 29) dX6_cheap_46 (by decide) ?_
            refine ih (j + 1) _ (by omega) e2 (n2.mv (mX.rf.ma (by decide))) (fun p hp => ?_) (x2.ma (by decide))
            rw [ma_at, if_pos rfl]
            split
            · rfl
            · exact f2 p (by omega)
      exact loop1 11264 0 M_24 rfl g3 g1 (fun p hp => absurd hp (by omega)) (g4.mono (by simp) (by simp))
    · have qb := of_decide_eq_false c_18
      rw [t_sub (by omega) (by omega)] at qb
      refine G.iconst (v := -1) dX6_cheap_21 (by decide) ?_
      refine G.ireturn dX6_cheap_22 ?_
      first
      | exact ⟨_, rfl, _, rfl, (if_neg (fun z => qb ⟨z.2.1, by have := z.2.2; rw [t_nI (by omega)] at this; omega⟩)).symm, mX.rf⟩
      | exact ⟨_, rfl, _, rfl, (if_neg (fun z => of_decide_eq_false c_7 z.1)).symm, mX.rf⟩
end CheapCall
