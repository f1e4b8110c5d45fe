/-! THE MODEL: the first row of most nights -/
theorem zF_max {ok : Nat → Bool} {val : Nat → Nat} : ∀ j, (∀ c, c < j → ok c = true → val c ≤ zF ok (fun best c => max best (val c)) 0 j) ∧ (zF ok (fun best c => max best (val c)) 0 j = 0 ∨ ∃ c, c < j ∧ ok c = true ∧ zF ok (fun best c => max best (val c)) 0 j = val c)
  | 0 => ⟨fun c hc => absurd hc (by omega), Or.inl rfl⟩
  | j + 1 => by
    obtain ⟨h1, h2⟩ := zF_max (ok := ok) (val := val) j
    rw [zF]
    by_cases q : ok j = true
    · rw [if_pos q]
      refine ⟨fun c hc ho => ?_, ?_⟩
      · rcases Nat.lt_or_ge c j with y | y
        · have := h1 c y ho; omega
        · rw [show c = j from by omega]; omega
      · rcases Nat.lt_or_ge (val j) (zF ok (fun best c => max best (val c)) 0 j) with y | y
        · rw [Nat.max_eq_left (by omega)]
          rcases h2 with z | ⟨c, z1, z2, z3⟩
          · exact Or.inl z
          · exact Or.inr ⟨c, by omega, z2, z3⟩
        · rw [Nat.max_eq_right y]
          exact Or.inr ⟨j, by omega, q, rfl⟩
    · rw [if_neg q]
      refine ⟨fun c hc ho => ?_, ?_⟩
      · rcases Nat.lt_or_ge c j with y | y
        · exact h1 c y ho
        · rw [show c = j from by omega] at ho; exact absurd ho q
      · rcases h2 with z | ⟨c, z1, z2, z3⟩
        · exact Or.inl z
        · exact Or.inr ⟨c, by omega, z2, z3⟩
theorem lgN_get {ok : Nat → Nat → Nat → Bool} {f k u m : Nat} (h : lgN ok (f + 1) k u = m + 1) : (∃ c, c < 1024 ∧ ok k u c = true ∧ lgN ok f (k + 1) (u ||| c) = m) ∧ ∀ c, c < 1024 → ok k u c = true → lgN ok f (k + 1) (u ||| c) ≤ m := by
  have hm := zF_max (ok := ok k u) (val := fun c => 1 + lgN ok f (k + 1) (u ||| c)) 1024
  rw [lgN] at h
  rw [h] at hm
  refine ⟨?_, fun c hc ho => ?_⟩
  · rcases hm.2 with z | ⟨c, z1, z2, z3⟩
    · omega
    · exact ⟨c, z1, z2, by omega⟩
  · have := hm.1 c hc ho
    omega
/-- the first crew of a night that some nights can follow -/
def pickG (ok : Nat → Nat → Nat → Bool) (good : Nat → Nat → Nat → Bool) (k u : Nat) : Nat := match zNext (fun c => ok k u c && good k u c) 0 with
  | none => 0
  | some c => c
def goodL (ok : Nat → Nat → Nat → Bool) (n k u c : Nat) : Bool := decide (n ≤ lgN ok (10 - k) (k + 1) (u ||| c) + k + 1)
def usedG (ok good : Nat → Nat → Nat → Bool) : Nat → Nat
  | 0 => 0
  | k + 1 => usedG ok good k ||| pickG ok good k (usedG ok good k)
theorem pickG_of {ok good : Nat → Nat → Nat → Bool} {k u c : Nat} (h1 : zNext (fun c => ok k u c && good k u c) 0 = some c) : pickG ok good k u = c := by
  unfold pickG
  rw [h1]
section Last
variable {E : JE} {L : ML} {ph : HP}
theorem zNext_good {ok good : Nat → Bool} {c j : Nat} (h : zNext ok c = some j) (hno : ∀ i, 0 < i → i ≤ c → (ok i && good i) = false) : (good j = true → zNext (fun i => ok i && good i) 0 = some j) ∧ (good j = false → ∀ i, 0 < i → i ≤ j → (ok i && good i) = false) := by
  obtain ⟨h1, h2, h3, h4⟩ := zNext_some h
  have key : ∀ i, 0 < i → i < j → (ok i && good i) = false := by
    intro i q1 q2
    rcases Nat.lt_or_ge c i with y | y
    · rw [h4 i y q2, Bool.false_and]
    · exact hno i q1 y
  refine ⟨fun hg => zNext_of (by omega) h2 (by rw [h3, hg]; rfl) key, fun hg i q1 q2 => ?_⟩
  rcases Nat.lt_or_ge i j with y | y
  · exact key i q1 y
  · rw [show i = j from by omega, hg, Bool.and_false]
theorem zNext_ex {ok good : Nat → Bool} {c g : Nat} (h0 : ok 0 = false) (hg : g < 1024) (h1 : ok g = true) (h2 : good g = true) (hno : ∀ i, 0 < i → i ≤ c → (ok i && good i) = false) : ∃ j, zNext ok c = some j := by
  cases h : zNext ok c with
  | some j => exact ⟨j, rfl⟩
  | none =>
    exfalso
    have h3 := zNext_none h
    rcases Nat.lt_or_ge c g with y | y
    · rw [h3 g y hg] at h1; cases h1
    · rcases Nat.eq_zero_or_pos g with z | z
      · rw [z, h0] at h1; cases h1
      · have := hno g z y
        rw [h1, h2] at this
        cases this
def oLast (ok : Nat → Nat → Nat → Bool) (i : Int32) : Int32 := if (-1 : Int32).toInt ≤ i.toInt ∧ i.toInt < lgN ok 11 0 0 then (if i = -1 then nI (lgN ok 11 0 0) else nI (pickG ok (goodL ok (lgN ok 11 0 0)) (tNat i) (usedG ok (goodL ok (lgN ok 11 0 0)) (tNat i)))) else -1
theorem c_X6_last {M : MM} {b n : Nat} (hK : KOk (M.2.2.1 2) b n) (i : Int32) : MC E fX6_last L M ph [.int i] (rI fun r M' => r = oLast (zOk (M.2.2.1 2) n 0 0) i ∧ mX [8, 22, 23, 24, 34, 35] [25, 29, 30, 31, 32, 33] M M') := by
  generalize hKe : M.2.2.1 2 = K at hK ⊢
  refine Ct.of [some (.ref (L.1 52)), some (.int i), none, none, none, none] rfl (Nat.le_of_ble_eq_true rfl) (show plainName RX6 = true by decide +kernel) rfl ?_
  have h0l : lOk (zOk K n 0 0) (fun _ => -1) := fun _ _ _ _ => Or.inl rfl
  refine G.aload_n0 dX6_last_0 ?_
  refine G.mcall (f' := fX6_looks) q2244 ck_X6_looks (c_X6_looks (M := M) (b := b) (n := n) (by rw [hKe]; exact hK)) dX6_last_1 (rV.k fun M_1 h_1 => ?_)
  rw [hKe] at h_1
  have g1 := h_1.1
  have g2 := h_1.2.1
  have g3 := h_1.2.2
  clear h_1
  have e1 : M_1.2.2.1 2 = K := (g3.2.2.1 2 (by decide)).trans hKe
  refine G.aload_n0 dX6_last_4 ?_
  refine G.iconst (v := nI 0) dX6_last_5 (by decide) ?_
  refine G.iconst (v := nI 0) dX6_last_6 (by decide) ?_
  refine G.mcall (f' := fX6_longestFrom (900 + 11)) q2252 (ck_X6_longestFrom _) (c_X6_longestFrom hK (by decide) (by decide) 11 0 rfl M_1 0 e1 g1 (fun k u h1 h2 => Or.inl (g2 _ (by omega))) (by decide)) dX6_last_7 (rI.k fun r_7 M_7 h_7 => ?_)
  have er := h_7.1
  have q1 := h_7.2.1
  have q2 := h_7.2.2.1
  have q3 := h_7.2.2.2
  clear h_7
  rw [er]
  have hle := lgN_le (ok := zOk K n 0 0) 11 0 0
  unfold oLast
  generalize hN : lgN (zOk K n 0 0) 11 0 0 = N at *
  have e7 : M_7.2.2.1 2 = K := (q3.2.2.1 2 (by decide)).trans e1
  have hx7 : mX [8, 22, 23, 24, 34, 35] [25, 29, 30, 31, 32, 33] M M_7 := (g3.mono (by simp) (by simp)).tr q3 (by simp) (by simp)
  refine G.istore_n2 dX6_last_10 ?_
  refine G.iload_n1 dX6_last_11 ?_
  refine G.iconst (v := -1) dX6_last_12 (by decide) ?_
  refine G.iload_n2 dX6_last_13 ?_
  refine G.iconst (v := nI 1) dX6_last_14 (by decide) ?_
  refine G.isub dX6_last_15 ?_
  refine G.scall (f' := fX6_lies) q1912 ck_X6_lies (c_X6_lies E _ _ _) dX6_last_16 (sI.k fun r_16 h_16 => ?_)
  replace h_16 := h_16.symm; subst h_16
  refine G.ifb_ne (tgt := 24) dX6_last_19 (by decide) (fun c_19 => ?_) (fun c_19 => ?_)
  · have q := of_decide_eq_true c_19
    rw [t_sub (by omega) (by omega)] at q
    refine G.iload_n1 dX6_last_24 ?_
    refine G.iconst (v := -1) dX6_last_25 (by decide) ?_
    refine G.icmp_ne (tgt := 31) dX6_last_26 (by decide) (fun c_26 => ?_) (fun c_26 => ?_)
    · refine G.iconst (v := nI 0) dX6_last_31 (by decide) ?_
      refine G.istore_n3 dX6_last_32 ?_
      refine G.iconst (v := nI 0) dX6_last_33 (by decide) ?_
      refine G.istore4 dX6_last_34 ?_
      rw [if_pos (show (-1 : Int32).toInt ≤ i.toInt ∧ i.toInt < N from by omega), if_neg c_26]
      obtain ⟨w, hw, rfl⟩ : ∃ w, w < N ∧ i = nI w := t_of (by
        have h1 := q.1
        rw [t_m1] at h1
        rcases Int.lt_or_le i.toInt 0 with z | z
        · exact absurd (by rw [i_eq, t_m1]; omega) c_26
        · exact z) (by omega)
      rw [tNat_nI (by omega)]
      have outer : ∀ d k M2 a5, k + d = w → M2.2.2.1 2 = K → nOk K n 0 0 M2 → lOk (zOk K n 0 0) (M2.2.2.1 33) → mX [8, 22, 23, 24, 34, 35] [25, 29, 30, 31, 32, 33] M M2 → usedG (zOk K n 0 0) (goodL (zOk K n 0 0) N) k < 1024 → lgN (zOk K n 0 0) (11 - k) k (usedG (zOk K n 0 0) (goodL (zOk K n 0 0) N) k) = N - k → G E fX6_last (mFin E fX6_last L ph (rI fun r M' => r = nI (pickG (zOk K n 0 0) (goodL (zOk K n 0 0) N) w (usedG (zOk K n 0 0) (goodL (zOk K n 0 0) N) w)) ∧ mX [8, 22, 23, 24, 34, 35] [25, 29, 30, 31, 32, 33] M M')) 36 [some (.ref (L.1 52)), some (.int (nI w)), some (.int (nI N)), some (.int (nI (usedG (zOk K n 0 0) (goodL (zOk K n 0 0) N) k))), some (.int (nI k)), a5] [] (movl L M2 ph) 0 0 := by
        intro d
        induction d with
        | zero =>
          intro k M2 a5 hk e2 hn2 hl2 hx2 hU hlg
          have hUn : usedG (zOk K n 0 0) (goodL (zOk K n 0 0) N) (k + 1) = usedG (zOk K n 0 0) (goodL (zOk K n 0 0) N) k ||| pickG (zOk K n 0 0) (goodL (zOk K n 0 0) N) k (usedG (zOk K n 0 0) (goodL (zOk K n 0 0) N) k) := rfl
          obtain rfl : k = w := by omega
          generalize usedG (zOk K n 0 0) (goodL (zOk K n 0 0) N) k = U at *
          obtain ⟨⟨g, hg1, hg2, hg3⟩, hmax⟩ := lgN_get (ok := zOk K n 0 0) (f := 10 - k) (k := k) (u := U) (m := N - k - 1) (by rw [show 10 - k + 1 = 11 - k from by omega, hlg]; omega)
          have hgg : goodL (zOk K n 0 0) N k U g = true := decide_eq_true (by omega)
          have inner : ∀ d2 c M3, c + d2 = 1023 → (∀ i, 0 < i → i ≤ c → (zOk K n 0 0 k U i && goodL (zOk K n 0 0) N k U i) = false) → M3.2.2.1 2 = K → nOk K n 0 0 M3 → lOk (zOk K n 0 0) (M3.2.2.1 33) → mX [8, 22, 23, 24, 34, 35] [25, 29, 30, 31, 32, 33] M M3 → G E fX6_last (mFin E fX6_last L ph (rI fun r M' => r = nI (pickG (zOk K n 0 0) (goodL (zOk K n 0 0) N) k U) ∧ mX [8, 22, 23, 24, 34, 35] [25, 29, 30, 31, 32, 33] M M')) 46 [some (.ref (L.1 52)), some (.int (nI k)), some (.int (nI N)), some (.int (nI U)), some (.int (nI k)), some (.int (oI (zNext (zOk K n 0 0 k U) c)))] [] (movl L M3 ph) 0 0 := by
            intro d2
            induction d2 using Nat.strongRecOn with
            | ind d2 ihd =>
              intro c M3 hcd hno e3 hn3 hl3 hx3
              obtain ⟨j, hz⟩ := zNext_ex (ok := zOk K n 0 0 k U) (good := goodL (zOk K n 0 0) N k U) zOk_0 hg1 hg2 hgg hno
              obtain ⟨hj1, hj2, hj3, -⟩ := zNext_some hz
              obtain ⟨hA, hB⟩ := zNext_good hz hno
              rw [hz, show oI (some j) = nI j from rfl]
              have hUj := or_lt hU hj2
              have hm := hmax j hj2 hj3
              have hlg2 := lgN_le (ok := zOk K n 0 0) (10 - k) (k + 1) (U ||| j)
              refine G.aload_n0 dX6_last_46 ?_
              refine G.iload4 dX6_last_47 ?_
              refine G.iconst (v := nI 1) dX6_last_49 (by decide) ?_
              first | with_reducible refine G.iaddn dX6_last_50 ?_ | refine G.iadd dX6_last_50 ?_
              refine G.iload_n3 dX6_last_51 ?_
              refine G.iload5 dX6_last_52 ?_
              refine G.ior dX6_last_54 ?_
              rw [b_or (by omega) (by omega)]
              refine G.mcall (f' := fX6_longestFrom (900 + (10 - k))) q2252 (ck_X6_longestFrom _) (c_X6_longestFrom hK (by decide) (by decide) (10 - k) (k + 1) (by omega) M3 (U ||| j) e3 hn3 hl3 hUj) dX6_last_55 (rI.k fun r_55 M_55 h_55 => ?_) (hroom := jroom_of rfl rfl (by omega) (Nat.le_of_ble_eq_true rfl))
              have er := h_55.1
              have p1 := h_55.2.1
              have p2 := h_55.2.2.1
              have p3 := h_55.2.2.2
              clear h_55
              rw [er]
              have e5 : M_55.2.2.1 2 = K := (p3.2.2.1 2 (by decide)).trans e3
              have hx5 : mX [8, 22, 23, 24, 34, 35] [25, 29, 30, 31, 32, 33] M M_55 := hx3.tr p3 (by simp) (by simp)
              refine G.iload_n2 dX6_last_58 ?_
              refine G.iload4 dX6_last_59 ?_
              refine G.isub dX6_last_61 ?_
              rw [pk_sub (show k ≤ N from by omega)]
              refine G.iconst (v := nI 1) dX6_last_62 (by decide) ?_
              refine G.isub dX6_last_63 ?_
              rw [pk_sub (show 1 ≤ N - k from by omega)]
              refine G.icmp_ge (tgt := 81) dX6_last_64 (by decide) (fun c_64 => ?_) (fun c_64 => ?_)
              · have n_64 : N - k - 1 ≤ lgN (zOk K n 0 0) (10 - k) (k + 1) (U ||| j) := (nI_leI (a := N - k - 1) (b := lgN (zOk K n 0 0) (10 - k) (k + 1) (U ||| j)) (by omega) (by omega)).mp c_64
                have hgj : goodL (zOk K n 0 0) N k U j = true := decide_eq_true (by omega)
                have hpk : pickG (zOk K n 0 0) (goodL (zOk K n 0 0) N) k U = j := pickG_of (hA hgj)
                refine G.iload4 dX6_last_81 ?_
                refine G.iload_n1 dX6_last_83 ?_
                refine G.icmp_ne (tgt := 90) dX6_last_84 (by decide) (fun c_84 => ?_) (fun c_84 => ?_)
                · exact absurd rfl c_84
                · refine G.iload5 dX6_last_87 ?_
                  refine G.ireturn dX6_last_89 ?_
                  exact ⟨_, rfl, _, rfl, congrArg nI hpk.symm, hx5⟩
              · have n_64 : lgN (zOk K n 0 0) (10 - k) (k + 1) (U ||| j) < N - k - 1 := Nat.lt_of_not_le (fun z => c_64 ((nI_leI (a := N - k - 1) (b := lgN (zOk K n 0 0) (10 - k) (k + 1) (U ||| j)) (by omega) (by omega)).mpr z))
                have hgj : goodL (zOk K n 0 0) N k U j = false := decide_eq_false (by omega)
                refine G.aload_n0 dX6_last_67 ?_
                refine G.iload4 dX6_last_68 ?_
                refine G.iload_n3 dX6_last_70 ?_
                refine G.iload5 dX6_last_71 ?_
                refine G.mcall (f' := fX6_crewIn) q2256 ck_X6_crewIn (c_crewInK e5 hK p1 (by decide) (by decide) (night := k) (c := j) (by omega) hU hj2) dX6_last_73 (rI.k fun r_73 M_73 h_73 => ?_)
                have er2 := h_73.1
                have s1 := h_73.2.1
                have s2 := h_73.2.2
                clear h_73
                rw [er2]
                refine G.istore5 dX6_last_76 ?_
                refine G.goto (tgt := 46) dX6_last_78 (by decide) ?_
                exact ihd (1023 - j) (by omega) j M_73 (by omega) (hB hgj) ((s2.2.2.1 2 (by decide)).trans e5) s1 (by rw [s2.2.2.1 33 (by decide)]; exact p2) (hx5.tr s2 (by simp) (by simp))
          refine G.aload_n0 dX6_last_36 ?_
          refine G.iload4 dX6_last_37 ?_
          refine G.iload_n3 dX6_last_39 ?_
          refine G.iconst (v := nI 0) dX6_last_40 (by decide) ?_
          refine G.mcall (f' := fX6_crewIn) q2256 ck_X6_crewIn (c_crewInK e2 hK hn2 (by decide) (by decide) (night := k) (c := 0) (by omega) hU (by omega)) dX6_last_41 (rI.k fun r_41 M_41 h_41 => ?_)
          have er2 := h_41.1
          have s1 := h_41.2.1
          have s2 := h_41.2.2
          clear h_41
          rw [er2]
          refine G.istore5 dX6_last_44 ?_
          exact inner 1023 0 M_41 (by omega) (fun i h1 h2 => absurd h1 (by omega)) ((s2.2.2.1 2 (by decide)).trans e2) s1 (by rw [s2.2.2.1 33 (by decide)]; exact hl2) (hx2.tr s2 (by simp) (by simp))
        | succ d ih =>
          intro k M2 a5 hk e2 hn2 hl2 hx2 hU hlg
          have hUn : usedG (zOk K n 0 0) (goodL (zOk K n 0 0) N) (k + 1) = usedG (zOk K n 0 0) (goodL (zOk K n 0 0) N) k ||| pickG (zOk K n 0 0) (goodL (zOk K n 0 0) N) k (usedG (zOk K n 0 0) (goodL (zOk K n 0 0) N) k) := rfl
          have hgo := fun M2 a5 => ih (k + 1) M2 a5 (by omega)
          rw [hUn] at hgo
          generalize hRES : pickG (zOk K n 0 0) (goodL (zOk K n 0 0) N) w (usedG (zOk K n 0 0) (goodL (zOk K n 0 0) N) w) = RR at *
          clear ih hUn
          generalize usedG (zOk K n 0 0) (goodL (zOk K n 0 0) N) k = U at *
          obtain ⟨⟨g, hg1, hg2, hg3⟩, hmax⟩ := lgN_get (ok := zOk K n 0 0) (f := 10 - k) (k := k) (u := U) (m := N - k - 1) (by rw [show 10 - k + 1 = 11 - k from by omega, hlg]; omega)
          have hgg : goodL (zOk K n 0 0) N k U g = true := decide_eq_true (by omega)
          have inner : ∀ d2 c M3, c + d2 = 1023 → (∀ i, 0 < i → i ≤ c → (zOk K n 0 0 k U i && goodL (zOk K n 0 0) N k U i) = false) → M3.2.2.1 2 = K → nOk K n 0 0 M3 → lOk (zOk K n 0 0) (M3.2.2.1 33) → mX [8, 22, 23, 24, 34, 35] [25, 29, 30, 31, 32, 33] M M3 → G E fX6_last (mFin E fX6_last L ph (rI fun r M' => r = nI RR ∧ mX [8, 22, 23, 24, 34, 35] [25, 29, 30, 31, 32, 33] M M')) 46 [some (.ref (L.1 52)), some (.int (nI w)), some (.int (nI N)), some (.int (nI U)), some (.int (nI k)), some (.int (oI (zNext (zOk K n 0 0 k U) c)))] [] (movl L M3 ph) 0 0 := by
            intro d2
            induction d2 using Nat.strongRecOn with
            | ind d2 ihd =>
              intro c M3 hcd hno e3 hn3 hl3 hx3
              obtain ⟨j, hz⟩ := zNext_ex (ok := zOk K n 0 0 k U) (good := goodL (zOk K n 0 0) N k U) zOk_0 hg1 hg2 hgg hno
              obtain ⟨hj1, hj2, hj3, -⟩ := zNext_some hz
              obtain ⟨hA, hB⟩ := zNext_good hz hno
              rw [hz, show oI (some j) = nI j from rfl]
              have hUj := or_lt hU hj2
              have hm := hmax j hj2 hj3
              have hlg2 := lgN_le (ok := zOk K n 0 0) (10 - k) (k + 1) (U ||| j)
              refine G.aload_n0 dX6_last_46 ?_
              refine G.iload4 dX6_last_47 ?_
              refine G.iconst (v := nI 1) dX6_last_49 (by decide) ?_
              first | with_reducible refine G.iaddn dX6_last_50 ?_ | refine G.iadd dX6_last_50 ?_
              refine G.iload_n3 dX6_last_51 ?_
              refine G.iload5 dX6_last_52 ?_
              refine G.ior dX6_last_54 ?_
              rw [b_or (by omega) (by omega)]
              refine G.mcall (f' := fX6_longestFrom (900 + (10 - k))) q2252 (ck_X6_longestFrom _) (c_X6_longestFrom hK (by decide) (by decide) (10 - k) (k + 1) (by omega) M3 (U ||| j) e3 hn3 hl3 hUj) dX6_last_55 (rI.k fun r_55 M_55 h_55 => ?_) (hroom := jroom_of rfl rfl (by omega) (Nat.le_of_ble_eq_true rfl))
              have er := h_55.1
              have p1 := h_55.2.1
              have p2 := h_55.2.2.1
              have p3 := h_55.2.2.2
              clear h_55
              rw [er]
              have e5 : M_55.2.2.1 2 = K := (p3.2.2.1 2 (by decide)).trans e3
              have hx5 : mX [8, 22, 23, 24, 34, 35] [25, 29, 30, 31, 32, 33] M M_55 := hx3.tr p3 (by simp) (by simp)
              refine G.iload_n2 dX6_last_58 ?_
              refine G.iload4 dX6_last_59 ?_
              refine G.isub dX6_last_61 ?_
              rw [pk_sub (show k ≤ N from by omega)]
              refine G.iconst (v := nI 1) dX6_last_62 (by decide) ?_
              refine G.isub dX6_last_63 ?_
              rw [pk_sub (show 1 ≤ N - k from by omega)]
              refine G.icmp_ge (tgt := 81) dX6_last_64 (by decide) (fun c_64 => ?_) (fun c_64 => ?_)
              · have n_64 : N - k - 1 ≤ lgN (zOk K n 0 0) (10 - k) (k + 1) (U ||| j) := (nI_leI (a := N - k - 1) (b := lgN (zOk K n 0 0) (10 - k) (k + 1) (U ||| j)) (by omega) (by omega)).mp c_64
                have hgj : goodL (zOk K n 0 0) N k U j = true := decide_eq_true (by omega)
                have hpk : pickG (zOk K n 0 0) (goodL (zOk K n 0 0) N) k U = j := pickG_of (hA hgj)
                refine G.iload4 dX6_last_81 ?_
                refine G.iload_n1 dX6_last_83 ?_
                refine G.icmp_ne (tgt := 90) dX6_last_84 (by decide) (fun c_84 => ?_) (fun c_84 => ?_)
                · have n_84 : ¬ k = w := fun z => c_84 (congrArg nI z)
                  refine G.iload_n3 dX6_last_90 ?_
                  refine G.iload5 dX6_last_91 ?_
                  refine G.ior dX6_last_93 ?_
                  rw [b_or (by omega) (by omega)]
                  refine G.istore_n3 dX6_last_94 ?_
                  refine G.iinc4 dX6_last_95 ?_
                  try rw [show ∀ a : Nat, nI a + Int32.ofInt 1 = nI (a + 1) from fun a => nI_add a 1]
                  refine G.goto (tgt := 36) dX6_last_98 (by decide) ?_
                  rw [hpk] at hgo
                  exact hgo M_55 _ e5 p1 p2 hx5 hUj (by rw [show 11 - (k + 1) = 10 - k from by omega]; omega)
                · exact absurd ((nI_inj (by omega) (by omega)).mp c_84) (by omega)
              · have n_64 : lgN (zOk K n 0 0) (10 - k) (k + 1) (U ||| j) < N - k - 1 := Nat.lt_of_not_le (fun z => c_64 ((nI_leI (a := N - k - 1) (b := lgN (zOk K n 0 0) (10 - k) (k + 1) (U ||| j)) (by omega) (by omega)).mpr z))
                have hgj : goodL (zOk K n 0 0) N k U j = false := decide_eq_false (by omega)
                refine G.aload_n0 dX6_last_67 ?_
                refine G.iload4 dX6_last_68 ?_
                refine G.iload_n3 dX6_last_70 ?_
                refine G.iload5 dX6_last_71 ?_
                refine G.mcall (f' := fX6_crewIn) q2256 ck_X6_crewIn (c_crewInK e5 hK p1 (by decide) (by decide) (night := k) (c := j) (by omega) hU hj2) dX6_last_73 (rI.k fun r_73 M_73 h_73 => ?_)
                have er2 := h_73.1
                have s1 := h_73.2.1
                have s2 := h_73.2.2
                clear h_73
                rw [er2]
                refine G.istore5 dX6_last_76 ?_
                refine G.goto (tgt := 46) dX6_last_78 (by decide) ?_
                exact ihd (1023 - j) (by omega) j M_73 (by omega) (hB hgj) ((s2.2.2.1 2 (by decide)).trans e5) s1 (by rw [s2.2.2.1 33 (by decide)]; exact p2) (hx5.tr s2 (by simp) (by simp))
          refine G.aload_n0 dX6_last_36 ?_
          refine G.iload4 dX6_last_37 ?_
          refine G.iload_n3 dX6_last_39 ?_
          refine G.iconst (v := nI 0) dX6_last_40 (by decide) ?_
          refine G.mcall (f' := fX6_crewIn) q2256 ck_X6_crewIn (c_crewInK e2 hK hn2 (by decide) (by decide) (night := k) (c := 0) (by omega) hU (by omega)) dX6_last_41 (rI.k fun r_41 M_41 h_41 => ?_)
          have er2 := h_41.1
          have s1 := h_41.2.1
          have s2 := h_41.2.2
          clear h_41
          rw [er2]
          refine G.istore5 dX6_last_44 ?_
          exact inner 1023 0 M_41 (by omega) (fun i h1 h2 => absurd h1 (by omega)) ((s2.2.2.1 2 (by decide)).trans e2) s1 (by rw [s2.2.2.1 33 (by decide)]; exact hl2) (hx2.tr s2 (by simp) (by simp))
      exact outer w 0 M_7 none (by omega) e7 q1 q2 hx7 (show 0 < 1024 from by decide) hN
    · refine G.iload_n2 dX6_last_29 ?_
      refine G.ireturn dX6_last_30 ?_
      exact ⟨_, rfl, _, rfl, ((if_pos (by omega)).trans (if_pos c_26)).symm, hx7⟩
  · have q := of_decide_eq_false c_19
    rw [t_sub (by omega) (by omega)] at q
    refine G.iconst (v := -1) dX6_last_22 (by decide) ?_
    refine G.ireturn dX6_last_23 ?_
    exact ⟨_, rfl, _, rfl, (if_neg (by omega)).symm, hx7⟩
end Last
