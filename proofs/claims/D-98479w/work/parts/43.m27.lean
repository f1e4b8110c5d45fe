/-! THE MODEL: the first row by turns -/
theorem tnN_get {K : KR} {n f k u la m : Nat} (h : tnN K n (f + 1) k u la = m + 1) : (∃ c, c < 1024 ∧ zTk K n k u la c = true ∧ tnN K n f (k + 1) (u ||| c) (kLandsOf K c n) = m) ∧ ∀ c, c < 1024 → zTk K n k u la c = true → tnN K n f (k + 1) (u ||| c) (kLandsOf K c n) ≤ m := by
  have hm := zF_max (ok := zTk K n k u la) (val := fun c => 1 + tnN K n f (k + 1) (u ||| c) (kLandsOf K c n)) 1024
  rw [tnN] at h
  rw [h] at hm
  refine ⟨?_, fun c hc ho => ?_⟩
  · rcases hm.2 with z | ⟨c, z1, z2, z3⟩
    · omega
    · exact ⟨c, z1, z2, by omega⟩
  · have := hm.1 c hc ho
    omega
def goodT (K : KR) (n N k u c : Nat) : Bool := decide (N ≤ tnN K n (10 - k) (k + 1) (u ||| c) (kLandsOf K c n) + k + 1)
def pickT (K : KR) (n N k u la : Nat) : Nat := oNat (zNext (fun c => zTk K n k u la c && goodT K n N k u c) 0)
def stT (K : KR) (n N : Nat) : Nat → Nat × Nat
  | 0 => (0, 0)
  | k + 1 => ((stT K n N k).1 ||| pickT K n N k (stT K n N k).1 (stT K n N k).2, kLandsOf K (pickT K n N k (stT K n N k).1 (stT K n N k).2) n)
theorem pickT_of {K : KR} {n N k u la c : Nat} (h1 : zNext (fun c => zTk K n k u la c && goodT K n N k u c) 0 = some c) : pickT K n N k u la = c := by
  unfold pickT
  rw [h1]
  rfl
def oSwaps (K : KR) (n : Nat) (i : Int32) : Int32 := if (-1 : Int32).toInt ≤ i.toInt ∧ i.toInt < tnN K n 11 0 0 0 then (if i = -1 then nI (tnN K n 11 0 0 0) else nI (pickT K n (tnN K n 11 0 0 0) (tNat i) (stT K n (tnN K n 11 0 0 0) (tNat i)).1 (stT K n (tnN K n 11 0 0 0) (tNat i)).2)) else -1
abbrev mT (M M' : MM) : Prop := mX [8, 22, 23, 24, 34, 35] [25, 29, 30, 31, 32, 33, 40] M M'
section Swaps
variable {E : JE} {L : ML} {ph : HP}
theorem c_X6_swaps {M : MM} {K : KR} (e : M.2.2.1 2 = K) {b n : Nat} (hK : KOk K b n) (i : Int32) : MC E fX6_swaps L M ph [.int i] (rI fun r M' => r = oSwaps K n i ∧ mT M M') := by
  refine Ct.of [some (.ref (L.1 52)), some (.int i), none, none, none, none, none] rfl (Nat.le_of_ble_eq_true rfl) (show plainName RX6 = true by decide +kernel) rfl ?_
  have k25 : ∀ (M1 : MM) (a2 : Option Value), M1.2.2.1 2 = K → nOk K n 0 0 M1 → (∀ j, j < 180224 → M1.2.2.1 40 j = -1) → mT M M1 → G E fX6_swaps (mFin E fX6_swaps L ph (rI fun r M' => r = oSwaps K n i ∧ mT M M')) 25 [some (.ref (L.1 52)), some (.int i), a2, none, none, none, none] [] (movl L M1 ph) 0 0 := by
    intro M1 a2 e1 g1 g2 g3
    refine G.aload_n0 dX6_swaps_25 ?_
    refine G.iconst (v := nI 0) dX6_swaps_26 (by decide) ?_
    refine G.iconst (v := nI 0) dX6_swaps_27 (by decide) ?_
    refine G.iconst (v := nI 0) dX6_swaps_28 (by decide) ?_
    refine G.mcall (f' := fX6_turnsFrom (900 + 11)) q2308 (ck_X6_turnsFrom _) (c_X6_turnsFrom hK 11 0 rfl M1 0 0 e1 g1 (fun k u la h1 h2 h3 => Or.inl (g2 _ (by omega))) (by decide) (by decide)) dX6_swaps_29 (rI.k fun r_29 M_29 h_29 => ?_)
    have er := h_29.1
    have q1 := h_29.2.1
    have q2 := h_29.2.2.1
    have q3 := h_29.2.2.2
    clear h_29
    rw [er]
    have hle := tnN_le (K := K) (n := n) 11 0 0 0
    unfold oSwaps
    generalize hN : tnN K n 11 0 0 0 = N at *
    have e7 : M_29.2.2.1 2 = K := (q3.2.2.1 2 (by decide)).trans e1
    have hx7 : mT M M_29 := g3.tr q3 (by simp) (by simp)
    refine G.istore_n2 dX6_swaps_32 ?_
    refine G.iload_n1 dX6_swaps_33 ?_
    refine G.iconst (v := -1) dX6_swaps_34 (by decide) ?_
    refine G.iload_n2 dX6_swaps_35 ?_
    refine G.iconst (v := nI 1) dX6_swaps_36 (by decide) ?_
    refine G.isub dX6_swaps_37 ?_
    refine G.scall (f' := fX6_lies) q1912 ck_X6_lies (c_X6_lies E _ _ _) dX6_swaps_38 (sI.k fun r_38 h_38 => ?_)
    replace h_38 := h_38.symm; subst h_38
    refine G.ifb_ne (tgt := 46) dX6_swaps_41 (by decide) (fun c_41 => ?_) (fun c_41 => ?_)
    · have q := of_decide_eq_true c_41
      rw [t_sub (by omega) (by omega)] at q
      refine G.iload_n1 dX6_swaps_46 ?_
      refine G.iconst (v := -1) dX6_swaps_47 (by decide) ?_
      refine G.icmp_ne (tgt := 53) dX6_swaps_48 (by decide) (fun c_48 => ?_) (fun c_48 => ?_)
      · refine G.iconst (v := nI 0) dX6_swaps_53 (by decide) ?_
        refine G.istore_n3 dX6_swaps_54 ?_
        refine G.iconst (v := nI 0) dX6_swaps_55 (by decide) ?_
        refine G.istore4 dX6_swaps_56 ?_
        refine G.iconst (v := nI 0) dX6_swaps_58 (by decide) ?_
        refine G.istore5 dX6_swaps_59 ?_
        rw [if_pos (show (-1 : Int32).toInt ≤ i.toInt ∧ i.toInt < N from by omega), if_neg c_48]
        obtain ⟨w, hw, rfl⟩ : ∃ w, w < N ∧ i = nI w := t_of (by
          have h1 := q.1
          rw [t_m1] at h1
          rcases Int.lt_or_le i.toInt 0 with z | z
          · exact absurd (by rw [i_eq, t_m1]; omega) c_48
          · exact z) (by omega)
        rw [tNat_nI (by omega)]
        have outer : ∀ d k M2 a6, k + d = w → M2.2.2.1 2 = K → nOk K n 0 0 M2 → tOk K n (M2.2.2.1 40) → mT M M2 → (stT K n N k).1 < 1024 → (stT K n N k).2 < 16 → tnN K n (11 - k) k (stT K n N k).1 (stT K n N k).2 = N - k → G E fX6_swaps (mFin E fX6_swaps L ph (rI fun r M' => r = nI (pickT K n N w (stT K n N w).1 (stT K n N w).2) ∧ mT M M')) 61 [some (.ref (L.1 52)), some (.int (nI w)), some (.int (nI N)), some (.int (nI (stT K n N k).1)), some (.int (nI (stT K n N k).2)), some (.int (nI k)), a6] [] (movl L M2 ph) 0 0 := by
          intro d
          induction d with
          | zero =>
            intro k M2 a6 hk e2 hn2 hl2 hx2 hU hA2 hlg
            have hUn : stT K n N (k + 1) = ((stT K n N k).1 ||| pickT K n N k (stT K n N k).1 (stT K n N k).2, kLandsOf K (pickT K n N k (stT K n N k).1 (stT K n N k).2) n) := rfl
            obtain rfl : k = w := by omega
            generalize (stT K n N k).1 = U at *
            generalize (stT K n N k).2 = A at *
            obtain ⟨⟨g, hg1, hg2, hg3⟩, hmax⟩ := tnN_get (K := K) (n := n) (f := 10 - k) (k := k) (u := U) (la := A) (m := N - k - 1) (by rw [show 10 - k + 1 = 11 - k from by omega, hlg]; omega)
            have hgg : goodT K n N k U g = true := decide_eq_true (by omega)
            have inner : ∀ d2 c M3, c + d2 = 1023 → (∀ i, 0 < i → i ≤ c → (zTk K n k U A i && goodT K n N k U i) = false) → M3.2.2.1 2 = K → nOk K n 0 0 M3 → tOk K n (M3.2.2.1 40) → mT M M3 → G E fX6_swaps (mFin E fX6_swaps L ph (rI fun r M' => r = nI (pickT K n N k U A) ∧ mT M M')) 73 [some (.ref (L.1 52)), some (.int (nI k)), some (.int (nI N)), some (.int (nI U)), some (.int (nI A)), some (.int (nI k)), some (.int (oI (zNext (zTk K n k U A) c)))] [] (movl L M3 ph) 0 0 := by
              intro d2
              induction d2 using Nat.strongRecOn with
              | ind d2 ihd =>
                intro c M3 hcd hno e3 hn3 hl3 hx3
                obtain ⟨j, hz⟩ := zNext_ex (ok := zTk K n k U A) (good := goodT K n N k U) zTk_0 hg1 hg2 hgg hno
                obtain ⟨hj1, hj2, hj3, -⟩ := zNext_some hz
                obtain ⟨hA, hB⟩ := zNext_good hz hno
                rw [hz, show oI (some j) = nI j from rfl]
                have hUj := or_lt hU hj2
                have hlt := kLandsOf_lt (c := j) hK n (Nat.le_refl n)
                have hm := hmax j hj2 hj3
                have hlg2 := tnN_le (K := K) (n := n) (10 - k) (k + 1) (U ||| j) (kLandsOf K j n)
                refine G.aload_n0 dX6_swaps_73 ?_
                refine G.iload5 dX6_swaps_74 ?_
                refine G.iconst (v := nI 1) dX6_swaps_76 (by decide) ?_
                first | with_reducible refine G.iaddn dX6_swaps_77 ?_ | refine G.iadd dX6_swaps_77 ?_
                refine G.iload_n3 dX6_swaps_78 ?_
                refine G.iload6 dX6_swaps_79 ?_
                refine G.ior dX6_swaps_81 ?_
                rw [b_or (by omega) (by omega)]
                refine G.aload_n0 dX6_swaps_82 ?_
                refine G.iload6 dX6_swaps_83 ?_
                refine G.mcall (f' := fX6_landsOf) q2316 ck_X6_landsOf (c_X6_landsOf e3 hK hj2) dX6_swaps_85 (rI.k fun r_85 M_85 h_85 => ?_)
                obtain ⟨e_85, h_85⟩ := h_85; replace e_85 := e_85.symm; replace h_85 := h_85.symm; subst e_85; subst h_85
                refine G.mcall (f' := fX6_turnsFrom (900 + (10 - k))) q2308 (ck_X6_turnsFrom _) (c_X6_turnsFrom hK (10 - k) (k + 1) (by omega) M3 (U ||| j) (kLandsOf K j n) e3 hn3 hl3 hUj hlt) dX6_swaps_88 (rI.k fun r_88 M_88 h_88 => ?_) (hroom := jroom_of rfl rfl (by omega) (Nat.le_of_ble_eq_true rfl))
                have er := h_88.1
                have p1 := h_88.2.1
                have p2 := h_88.2.2.1
                have p3 := h_88.2.2.2
                clear h_88
                rw [er]
                have e5 : M_88.2.2.1 2 = K := (p3.2.2.1 2 (by decide)).trans e3
                have hx5 : mT M M_88 := hx3.tr p3 (by simp) (by simp)
                refine G.iload_n2 dX6_swaps_91 ?_
                refine G.iload5 dX6_swaps_92 ?_
                refine G.isub dX6_swaps_94 ?_
                rw [pk_sub (show k ≤ N from by omega)]
                refine G.iconst (v := nI 1) dX6_swaps_95 (by decide) ?_
                refine G.isub dX6_swaps_96 ?_
                rw [pk_sub (show 1 ≤ N - k from by omega)]
                refine G.icmp_ge (tgt := 116) dX6_swaps_97 (by decide) (fun c_97 => ?_) (fun c_97 => ?_)
                · have n_97 : N - k - 1 ≤ tnN K n (10 - k) (k + 1) (U ||| j) (kLandsOf K j n) := (nI_leI (a := N - k - 1) (b := tnN K n (10 - k) (k + 1) (U ||| j) (kLandsOf K j n)) (by omega) (by omega)).mp c_97
                  have hgj : goodT K n N k U j = true := decide_eq_true (by omega)
                  have hpk : pickT K n N k U A = j := pickT_of (hA hgj)
                  refine G.iload5 dX6_swaps_116 ?_
                  refine G.iload_n1 dX6_swaps_118 ?_
                  refine G.icmp_ne (tgt := 125) dX6_swaps_119 (by decide) (fun c_119 => ?_) (fun c_119 => ?_)
                  · exact absurd rfl c_119
                  · refine G.iload6 dX6_swaps_122 ?_
                    refine G.ireturn dX6_swaps_124 ?_
                    exact ⟨_, rfl, _, rfl, congrArg nI hpk.symm, hx5⟩
                · have n_97 : tnN K n (10 - k) (k + 1) (U ||| j) (kLandsOf K j n) < N - k - 1 := Nat.lt_of_not_le (fun z => c_97 ((nI_leI (a := N - k - 1) (b := tnN K n (10 - k) (k + 1) (U ||| j) (kLandsOf K j n)) (by omega) (by omega)).mpr z))
                  have hgj : goodT K n N k U j = false := decide_eq_false (by omega)
                  refine G.aload_n0 dX6_swaps_100 ?_
                  refine G.iload5 dX6_swaps_101 ?_
                  refine G.iload_n3 dX6_swaps_103 ?_
                  refine G.iload4 dX6_swaps_104 ?_
                  refine G.iload6 dX6_swaps_106 ?_
                  refine G.mcall (f' := fX6_turnBehind) q2312 ck_X6_turnBehind (c_X6_turnBehind e5 hK p1 (k := k) (c := j) (by omega) hU hA2 hj2) dX6_swaps_108 (rI.k fun r_108 M_108 h_108 => ?_)
                  have er2 := h_108.1
                  have s1 := h_108.2.1
                  have s3 := h_108.2.2.1
                  have s2 := h_108.2.2.2
                  clear h_108
                  rw [er2]
                  refine G.istore6 dX6_swaps_111 ?_
                  refine G.goto (tgt := 73) dX6_swaps_113 (by decide) ?_
                  exact ihd (1023 - j) (by omega) j M_108 (by omega) (hB hgj) s3 s1 (by rw [s2.2.2.1 40 (by decide)]; exact p2) (hx5.tr s2 (by simp) (by simp))
            refine G.aload_n0 dX6_swaps_61 ?_
            refine G.iload5 dX6_swaps_62 ?_
            refine G.iload_n3 dX6_swaps_64 ?_
            refine G.iload4 dX6_swaps_65 ?_
            refine G.iconst (v := nI 0) dX6_swaps_67 (by decide) ?_
            refine G.mcall (f' := fX6_turnBehind) q2312 ck_X6_turnBehind (c_X6_turnBehind e2 hK hn2 (k := k) (c := 0) (by omega) hU hA2 (by omega)) dX6_swaps_68 (rI.k fun r_68 M_68 h_68 => ?_)
            have er2 := h_68.1
            have s1 := h_68.2.1
            have s3 := h_68.2.2.1
            have s2 := h_68.2.2.2
            clear h_68
            rw [er2]
            refine G.istore6 dX6_swaps_71 ?_
            exact inner 1023 0 M_68 (by omega) (fun i h1 h2 => absurd h1 (by omega)) s3 s1 (by rw [s2.2.2.1 40 (by decide)]; exact hl2) (hx2.tr s2 (by simp) (by simp))
          | succ d ih =>
            intro k M2 a6 hk e2 hn2 hl2 hx2 hU hA2 hlg
            have hUn : stT K n N (k + 1) = ((stT K n N k).1 ||| pickT K n N k (stT K n N k).1 (stT K n N k).2, kLandsOf K (pickT K n N k (stT K n N k).1 (stT K n N k).2) n) := rfl
            have hgo := fun M2 a6 => ih (k + 1) M2 a6 (by omega)
            rw [hUn] at hgo
            generalize hRES : pickT K n N w (stT K n N w).1 (stT K n N w).2 = RR at *
            clear ih hUn
            generalize (stT K n N k).1 = U at *
            generalize (stT K n N k).2 = A at *
            obtain ⟨⟨g, hg1, hg2, hg3⟩, hmax⟩ := tnN_get (K := K) (n := n) (f := 10 - k) (k := k) (u := U) (la := A) (m := N - k - 1) (by rw [show 10 - k + 1 = 11 - k from by omega, hlg]; omega)
            have hgg : goodT K n N k U g = true := decide_eq_true (by omega)
            have inner : ∀ d2 c M3, c + d2 = 1023 → (∀ i, 0 < i → i ≤ c → (zTk K n k U A i && goodT K n N k U i) = false) → M3.2.2.1 2 = K → nOk K n 0 0 M3 → tOk K n (M3.2.2.1 40) → mT M M3 → G E fX6_swaps (mFin E fX6_swaps L ph (rI fun r M' => r = nI RR ∧ mT M M')) 73 [some (.ref (L.1 52)), some (.int (nI w)), some (.int (nI N)), some (.int (nI U)), some (.int (nI A)), some (.int (nI k)), some (.int (oI (zNext (zTk K n k U A) c)))] [] (movl L M3 ph) 0 0 := by
              intro d2
              induction d2 using Nat.strongRecOn with
              | ind d2 ihd =>
                intro c M3 hcd hno e3 hn3 hl3 hx3
                obtain ⟨j, hz⟩ := zNext_ex (ok := zTk K n k U A) (good := goodT K n N k U) zTk_0 hg1 hg2 hgg hno
                obtain ⟨hj1, hj2, hj3, -⟩ := zNext_some hz
                obtain ⟨hA, hB⟩ := zNext_good hz hno
                rw [hz, show oI (some j) = nI j from rfl]
                have hUj := or_lt hU hj2
                have hlt := kLandsOf_lt (c := j) hK n (Nat.le_refl n)
                have hm := hmax j hj2 hj3
                have hlg2 := tnN_le (K := K) (n := n) (10 - k) (k + 1) (U ||| j) (kLandsOf K j n)
                refine G.aload_n0 dX6_swaps_73 ?_
                refine G.iload5 dX6_swaps_74 ?_
                refine G.iconst (v := nI 1) dX6_swaps_76 (by decide) ?_
                first | with_reducible refine G.iaddn dX6_swaps_77 ?_ | refine G.iadd dX6_swaps_77 ?_
                refine G.iload_n3 dX6_swaps_78 ?_
                refine G.iload6 dX6_swaps_79 ?_
                refine G.ior dX6_swaps_81 ?_
                rw [b_or (by omega) (by omega)]
                refine G.aload_n0 dX6_swaps_82 ?_
                refine G.iload6 dX6_swaps_83 ?_
                refine G.mcall (f' := fX6_landsOf) q2316 ck_X6_landsOf (c_X6_landsOf e3 hK hj2) dX6_swaps_85 (rI.k fun r_85 M_85 h_85 => ?_)
                obtain ⟨e_85, h_85⟩ := h_85; replace e_85 := e_85.symm; replace h_85 := h_85.symm; subst e_85; subst h_85
                refine G.mcall (f' := fX6_turnsFrom (900 + (10 - k))) q2308 (ck_X6_turnsFrom _) (c_X6_turnsFrom hK (10 - k) (k + 1) (by omega) M3 (U ||| j) (kLandsOf K j n) e3 hn3 hl3 hUj hlt) dX6_swaps_88 (rI.k fun r_88 M_88 h_88 => ?_) (hroom := jroom_of rfl rfl (by omega) (Nat.le_of_ble_eq_true rfl))
                have er := h_88.1
                have p1 := h_88.2.1
                have p2 := h_88.2.2.1
                have p3 := h_88.2.2.2
                clear h_88
                rw [er]
                have e5 : M_88.2.2.1 2 = K := (p3.2.2.1 2 (by decide)).trans e3
                have hx5 : mT M M_88 := hx3.tr p3 (by simp) (by simp)
                refine G.iload_n2 dX6_swaps_91 ?_
                refine G.iload5 dX6_swaps_92 ?_
                refine G.isub dX6_swaps_94 ?_
                rw [pk_sub (show k ≤ N from by omega)]
                refine G.iconst (v := nI 1) dX6_swaps_95 (by decide) ?_
                refine G.isub dX6_swaps_96 ?_
                rw [pk_sub (show 1 ≤ N - k from by omega)]
                refine G.icmp_ge (tgt := 116) dX6_swaps_97 (by decide) (fun c_97 => ?_) (fun c_97 => ?_)
                · have n_97 : N - k - 1 ≤ tnN K n (10 - k) (k + 1) (U ||| j) (kLandsOf K j n) := (nI_leI (a := N - k - 1) (b := tnN K n (10 - k) (k + 1) (U ||| j) (kLandsOf K j n)) (by omega) (by omega)).mp c_97
                  have hgj : goodT K n N k U j = true := decide_eq_true (by omega)
                  have hpk : pickT K n N k U A = j := pickT_of (hA hgj)
                  refine G.iload5 dX6_swaps_116 ?_
                  refine G.iload_n1 dX6_swaps_118 ?_
                  refine G.icmp_ne (tgt := 125) dX6_swaps_119 (by decide) (fun c_119 => ?_) (fun c_119 => ?_)
                  · have n_119 : ¬ k = w := fun z => c_119 (congrArg nI z)
                    refine G.iload_n3 dX6_swaps_125 ?_
                    refine G.iload6 dX6_swaps_126 ?_
                    refine G.ior dX6_swaps_128 ?_
                    rw [b_or (by omega) (by omega)]
                    refine G.istore_n3 dX6_swaps_129 ?_
                    refine G.aload_n0 dX6_swaps_130 ?_
                    refine G.iload6 dX6_swaps_131 ?_
                    refine G.mcall (f' := fX6_landsOf) q2316 ck_X6_landsOf (c_X6_landsOf e5 hK hj2) dX6_swaps_133 (rI.k fun r_133 M_133 h_133 => ?_)
                    obtain ⟨e_133, h_133⟩ := h_133; replace e_133 := e_133.symm; replace h_133 := h_133.symm; subst e_133; subst h_133
                    refine G.istore4 dX6_swaps_136 ?_
                    refine G.iinc5 dX6_swaps_138 ?_
                    try rw [show ∀ a : Nat, nI a + Int32.ofInt 1 = nI (a + 1) from fun a => nI_add a 1]
                    refine G.goto (tgt := 61) dX6_swaps_141 (by decide) ?_
                    rw [hpk] at hgo
                    exact hgo M_88 _ e5 p1 p2 hx5 hUj hlt (by rw [show 11 - (k + 1) = 10 - k from by omega]; show tnN K n (10 - k) (k + 1) (U ||| j) (kLandsOf K j n) = _; omega)
                  · exact absurd ((nI_inj (a := k) (b := w) (by omega) (by omega)).mp c_119) (by omega)
                · have n_97 : tnN K n (10 - k) (k + 1) (U ||| j) (kLandsOf K j n) < N - k - 1 := Nat.lt_of_not_le (fun z => c_97 ((nI_leI (a := N - k - 1) (b := tnN K n (10 - k) (k + 1) (U ||| j) (kLandsOf K j n)) (by omega) (by omega)).mpr z))
                  have hgj : goodT K n N k U j = false := decide_eq_false (by omega)
                  refine G.aload_n0 dX6_swaps_100 ?_
                  refine G.iload5 dX6_swaps_101 ?_
                  refine G.iload_n3 dX6_swaps_103 ?_
                  refine G.iload4 dX6_swaps_104 ?_
                  refine G.iload6 dX6_swaps_106 ?_
                  refine G.mcall (f' := fX6_turnBehind) q2312 ck_X6_turnBehind (c_X6_turnBehind e5 hK p1 (k := k) (c := j) (by omega) hU hA2 hj2) dX6_swaps_108 (rI.k fun r_108 M_108 h_108 => ?_)
                  have er2 := h_108.1
                  have s1 := h_108.2.1
                  have s3 := h_108.2.2.1
                  have s2 := h_108.2.2.2
                  clear h_108
                  rw [er2]
                  refine G.istore6 dX6_swaps_111 ?_
                  refine G.goto (tgt := 73) dX6_swaps_113 (by decide) ?_
                  exact ihd (1023 - j) (by omega) j M_108 (by omega) (hB hgj) s3 s1 (by rw [s2.2.2.1 40 (by decide)]; exact p2) (hx5.tr s2 (by simp) (by simp))
            refine G.aload_n0 dX6_swaps_61 ?_
            refine G.iload5 dX6_swaps_62 ?_
            refine G.iload_n3 dX6_swaps_64 ?_
            refine G.iload4 dX6_swaps_65 ?_
            refine G.iconst (v := nI 0) dX6_swaps_67 (by decide) ?_
            refine G.mcall (f' := fX6_turnBehind) q2312 ck_X6_turnBehind (c_X6_turnBehind e2 hK hn2 (k := k) (c := 0) (by omega) hU hA2 (by omega)) dX6_swaps_68 (rI.k fun r_68 M_68 h_68 => ?_)
            have er2 := h_68.1
            have s1 := h_68.2.1
            have s3 := h_68.2.2.1
            have s2 := h_68.2.2.2
            clear h_68
            rw [er2]
            refine G.istore6 dX6_swaps_71 ?_
            exact inner 1023 0 M_68 (by omega) (fun i h1 h2 => absurd h1 (by omega)) s3 s1 (by rw [s2.2.2.1 40 (by decide)]; exact hl2) (hx2.tr s2 (by simp) (by simp))
        exact outer w 0 M_29 none (by omega) e7 q1 q2 hx7 (show 0 < 1024 from by decide) (show 0 < 16 from by decide) hN
      · refine G.iload_n2 dX6_swaps_51 ?_
        refine G.ireturn dX6_swaps_52 ?_
        exact ⟨_, rfl, _, rfl, ((if_pos (by omega)).trans (if_pos c_48)).symm, hx7⟩
    · have q := of_decide_eq_false c_41
      rw [t_sub (by omega) (by omega)] at q
      refine G.iconst (v := -1) dX6_swaps_44 (by decide) ?_
      refine G.ireturn dX6_swaps_45 ?_
      exact ⟨_, rfl, _, rfl, (if_neg (by omega)).symm, hx7⟩
  refine G.aload_n0 dX6_swaps_0 ?_
  refine G.mcall (f' := fX6_looks) q2244 ck_X6_looks (c_looksK e hK) dX6_swaps_1 (rV.k fun M_1 h_1 => ?_)
  have g1 := h_1.1
  have g3 := h_1.2.2.1
  have g4 := h_1.2.2.2
  clear h_1
  refine G.iconst (v := nI 0) dX6_swaps_4 (by decide) ?_
  refine G.istore_n2 dX6_swaps_5 ?_
  have loop : ∀ d i2 M2, i2 + d = 180224 → M2.2.2.1 2 = K → nOk K n 0 0 M2 → (∀ j, j < i2 → M2.2.2.1 40 j = -1) → mT M M2 → G E fX6_swaps (mFin E fX6_swaps L ph (rI fun r M' => r = oSwaps K n i ∧ mT M M')) 6 [some (.ref (L.1 52)), some (.int i), some (.int (nI i2)), none, none, none, none] [] (movl L M2 ph) 0 0 := by
    intro d
    induction d with
    | zero =>
      intro i2 M2 hi e2 hn2 hf hx2
      refine G.iload_n2 dX6_swaps_6 ?_
      refine G.ldc q1750 dX6_swaps_7 ?_
      refine G.topi (nI 180224) (by decide) ?_
      refine G.icmp_ge (tgt := 25) dX6_swaps_9 (by decide) (fun c_9 => ?_) (fun c_9 => ?_)
      · exact k25 M2 _ e2 hn2 (fun j hj => hf j (by omega)) hx2
      · exact absurd (nI_leI (by omega) (by omega) |>.mpr (by omega)) c_9
    | succ d ih =>
      intro i2 M2 hi e2 hn2 hf hx2
      refine G.iload_n2 dX6_swaps_6 ?_
      refine G.ldc q1750 dX6_swaps_7 ?_
      refine G.topi (nI 180224) (by decide) ?_
      refine G.icmp_ge (tgt := 25) dX6_swaps_9 (by decide) (fun c_9 => ?_) (fun c_9 => ?_)
      · exact absurd ((nI_leI (by omega) (by omega)).mp c_9) (by omega)
      · refine G.aload_n0 dX6_swaps_12 ?_
        refine G.mgeta 40 fl_X6_97 dX6_swaps_13 ?_
        refine G.iload_n2 dX6_swaps_16 ?_
        refine G.iconst (v := -1) dX6_swaps_17 (by decide) ?_
        refine G.mbast (n := 180224) 40 i2 dX6_swaps_18 rfl (by omega) ?_
        refine G.iinc2 dX6_swaps_19 ?_
        try rw [show ∀ a : Nat, nI a + Int32.ofInt 1 = nI (a + 1) from fun a => nI_add a 1]
        refine G.goto (tgt := 6) dX6_swaps_22 (by decide) ?_
        refine ih (i2 + 1) _ (by omega) e2 (hn2.mv (mX.rf.ma (by decide))) (fun j hj => ?_) (hx2.ma (by decide))
        rw [ma_at, if_pos rfl]
        split
        · decide
        · exact hf j (by omega)
  exact loop 180224 0 M_1 rfl g3 g1 (fun j hj => absurd hj (by omega)) (g4.mono (by simp) (by simp))
end Swaps
