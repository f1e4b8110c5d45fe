/-! THE MODEL: lands left out, who must have been there -/
def kLandBits (K : KR) (l : Nat) : Nat → Nat
  | 0 => 0
  | p + 1 => kLandBits K l p ||| if kLand K p = l then 1 <<< p else 0
theorem shl_lt {p : Nat} (hp : p < 10) : 1 <<< p < 1024 := by
  rw [Nat.one_shiftLeft]
  exact Nat.pow_lt_pow_right (by omega) (show p < 10 from hp)
theorem kLandBits_lt {K : KR} {l : Nat} : ∀ p, p ≤ 10 → kLandBits K l p < 1024
  | 0, _ => by rw [kLandBits]; omega
  | p + 1, hp => by
    rw [kLandBits]
    refine or_lt (kLandBits_lt p (by omega)) ?_
    split
    · exact shl_lt (by omega)
    · omega
def oShare (K : KR) (n : Nat) (l : Int32) : Int32 := if zIn l 0 3 then nI (lgN (zOk K n 0 0) 11 0 0) - nI (lgN (zOk K n (kLandBits K (tNat l) n) 0) 11 0 0) else -1
theorem nOk_away {K : KR} {n a h a' : Nat} {M : MM} (hn : nOk K n a h M) : nOk K n a' h (ms M 34 (nI a')) := ⟨hn.1, hn.2.1, rfl, hn.2.2.2.1, hn.2.2.2.2⟩
theorem nOk_hush {K : KR} {n a h h' : Nat} {M : MM} (hn : nOk K n a h M) : nOk K n a h' (ms M 35 (nI h')) := ⟨hn.1, hn.2.1, hn.2.2.1, rfl, hn.2.2.2.2⟩
abbrev mN (M M' : MM) : Prop := mX [8, 22, 23, 24, 34, 35] [25, 29, 30, 31, 32, 33] M M'
section Who
variable {E : JE} {L : ML} {ph : HP}
theorem c_looksK {M : MM} {K : KR} (e : M.2.2.1 2 = K) {b n : Nat} (hK : KOk K b n) : MC E fX6_looks L M ph [] (rV fun M' => nOk K n 0 0 M' ∧ (∀ i, i < 11264 → M'.2.2.1 33 i = -1) ∧ M'.2.2.1 2 = K ∧ mN M M') := by
  subst e
  refine MC.mono ?_ (c_X6_looks hK)
  rintro _ M' ⟨rfl, h1, h2, h3⟩
  exact ⟨rfl, h1, h2, h3.2.2.1 2 (by decide), h3.mono (by simp) (by simp)⟩
theorem c_lg0 {M : MM} {K : KR} {b n away hushed : Nat} (hK : KOk K b n) (ha : away < 1024) (hh : hushed < 1024) (e : M.2.2.1 2 = K) (hN : nOk K n away hushed M) (hf : ∀ i, i < 11264 → M.2.2.1 33 i = -1) : MC E (fX6_longestFrom 911) L M ph [.int (nI 0), .int (nI 0)] (rI fun r M' => r = nI (lgN (zOk K n away hushed) 11 0 0) ∧ nOk K n away hushed M' ∧ M'.2.2.1 2 = K ∧ mN M M') := by
  refine MC.mono (rI.imp ?_) (c_X6_longestFrom hK ha hh 11 0 rfl M 0 e hN (fun k u h1 h2 => Or.inl (hf _ (by omega))) (by decide))
  rintro r M' ⟨h1, h2, -, h4⟩
  exact ⟨h1, h2, (h4.2.2.1 2 (by decide)).trans e, h4.mono (by simp) (by simp)⟩
theorem c_X6_share {M : MM} {K : KR} (e : M.2.2.1 2 = K) {b n : Nat} (hK : KOk K b n) (l : Int32) : MC E fX6_share L M ph [.int l] (rI fun r M' => r = oShare K n l ∧ mN M M') := by
  have h10 := hK.1.1
  refine Ct.of [some (.ref (L.1 52)), some (.int l), none, none] rfl (Nat.le_of_ble_eq_true rfl) (show plainName RX6 = true by decide +kernel) rfl ?_
  refine G.iload_n1 dX6_share_0 ?_
  refine G.iconst (v := nI 0) dX6_share_1 (by decide) ?_
  refine G.iconst (v := nI 3) dX6_share_2 (by decide) ?_
  refine G.scall (f' := fX6_lies) q1912 ck_X6_lies (c_X6_lies E _ _ _) dX6_share_3 (sI.k fun r_3 h_3 => ?_)
  replace h_3 := h_3.symm; subst h_3
  refine G.ifb_ne (tgt := 11) dX6_share_6 (by decide) (fun c_6 => ?_) (fun c_6 => ?_)
  · have q := of_decide_eq_true c_6
    obtain ⟨w, hw, rfl⟩ := zIn_of q (by decide)
    rw [show oShare K n (nI w) = nI (lgN (zOk K n 0 0) 11 0 0) - nI (lgN (zOk K n (kLandBits K w n) 0) 11 0 0) from (if_pos q).trans (by rw [tNat_nI (by omega)])]
    refine G.aload_n0 dX6_share_11 ?_
    refine G.mcall (f' := fX6_looks) q2244 ck_X6_looks (c_looksK e hK) dX6_share_12 (rV.k fun M_12 h_12 => ?_)
    have g1 := h_12.1
    have g2 := h_12.2.1
    have g3 := h_12.2.2.1
    have g4 := h_12.2.2.2
    clear h_12
    refine G.aload_n0 dX6_share_15 ?_
    refine G.iconst (v := nI 0) dX6_share_16 (by decide) ?_
    refine G.iconst (v := nI 0) dX6_share_17 (by decide) ?_
    refine G.mcall (f' := fX6_longestFrom (911)) q2252 (ck_X6_longestFrom _) (c_lg0 hK (by decide) (by decide) g3 g1 g2) dX6_share_18 (rI.k fun r_18 M_18 h_18 => ?_)
    have er := h_18.1
    have p1 := h_18.2.1
    have p2 := h_18.2.2.1
    have p3 := g4.tr h_18.2.2.2 (by simp) (by simp)
    clear h_18
    rw [er]
    refine G.istore_n2 dX6_share_21 ?_
    refine G.iconst (v := nI 0) dX6_share_22 (by decide) ?_
    refine G.istore_n3 dX6_share_23 ?_
    have loop : ∀ d i M2, i + d = n → M2.2.2.1 2 = K → nOk K n (kLandBits K w i) 0 M2 → mN M M2 → G E fX6_share (mFin E fX6_share L ph (rI fun r M' => r = nI (lgN (zOk K n 0 0) 11 0 0) - nI (lgN (zOk K n (kLandBits K w n) 0) 11 0 0) ∧ mN M M')) 24 [some (.ref (L.1 52)), some (.int (nI w)), some (.int (nI (lgN (zOk K n 0 0) 11 0 0))), some (.int (nI i))] [] (movl L M2 ph) 0 0 := by
      intro d
      induction d with
      | zero =>
        intro i M2 hi e2 hn2 hx2
        rw [show i = n from by omega] at hn2
        refine G.iload_n3 dX6_share_24 ?_
        refine G.aload_n0 dX6_share_25 ?_
        refine G.mcall (f' := fX6_people) q1938 ck_X6_people (c_X6_people E L _ ph) dX6_share_26 (rI.k fun r_26 M_26 h_26 => ?_)
        obtain ⟨e_26, h_26⟩ := h_26; replace e_26 := e_26.symm; replace h_26 := h_26.symm; subst e_26; subst h_26
        rw [e2, hK.1.2]
        refine G.icmp_ge (tgt := 63) dX6_share_29 (by decide) (fun c_29 => ?_) (fun c_29 => ?_)
        · refine G.aload_n0 dX6_share_63 ?_
          refine G.mcall (f' := fX6_forgets) q2248 ck_X6_forgets (c_X6_forgets) dX6_share_64 (rV.k fun M_64 h_64 => ?_)
          obtain ⟨f1, f2⟩ := h_64
          refine G.iload_n2 dX6_share_67 ?_
          refine G.aload_n0 dX6_share_68 ?_
          refine G.iconst (v := nI 0) dX6_share_69 (by decide) ?_
          refine G.iconst (v := nI 0) dX6_share_70 (by decide) ?_
          refine G.mcall (f' := fX6_longestFrom (911)) q2252 (ck_X6_longestFrom _) (c_lg0 (M := M_64) (away := kLandBits K w n) hK (kLandBits_lt n h10) (by decide) ((f2.2.2.1 2 (by decide)).trans e2) (hn2.mv (f2.mono (by simp) (by simp))) f1) dX6_share_71 (rI.k fun r_71 M_71 h_71 => ?_)
          have er2 := h_71.1
          have p5 := (hx2.tr f2 (by simp) (by simp)).tr h_71.2.2.2 (by simp) (by simp)
          clear h_71
          rw [er2]
          refine G.isub dX6_share_74 ?_
          refine G.ireturn dX6_share_75 ?_
          exact ⟨_, rfl, _, rfl, rfl, p5⟩
        · exact absurd (nI_leI (by omega) (by omega) |>.mpr (by omega)) c_29
      | succ d ih =>
        intro i M2 hi e2 hn2 hx2
        have hgo := fun M2 => ih (i + 1) M2 (by omega)
        clear ih
        have hlt := kLandBits_lt (K := K) (l := w) i (by omega)
        have hsl := shl_lt (p := i) (by omega)
        have hld := hK.land (show i < n from by omega)
        have k53 : ∀ v, v < 1024 → kLandBits K w (i + 1) = kLandBits K w i ||| v → G E fX6_share (mFin E fX6_share L ph (rI fun r M' => r = nI (lgN (zOk K n 0 0) 11 0 0) - nI (lgN (zOk K n (kLandBits K w n) 0) 11 0 0) ∧ mN M M')) 53 [some (.ref (L.1 52)), some (.int (nI w)), some (.int (nI (lgN (zOk K n 0 0) 11 0 0))), some (.int (nI i))] [.int (nI v), .int (nI (kLandBits K w i)), .ref (L.1 52)] (movl L M2 ph) 0 0 := by
          intro v hv hb
          rw [hb] at hgo
          refine G.ior dX6_share_53 ?_
          rw [b_or (by omega) (by omega)]
          refine G.mputi 34 fp_X6_355 dX6_share_54 ?_
          refine G.iinc3 dX6_share_57 ?_
          try rw [show ∀ a : Nat, nI a + Int32.ofInt 1 = nI (a + 1) from fun a => nI_add a 1]
          refine G.goto (tgt := 24) dX6_share_60 (by decide) ?_
          exact hgo _ e2 (nOk_away hn2) (hx2.ms (by decide))
        refine G.iload_n3 dX6_share_24 ?_
        refine G.aload_n0 dX6_share_25 ?_
        refine G.mcall (f' := fX6_people) q1938 ck_X6_people (c_X6_people E L _ ph) dX6_share_26 (rI.k fun r_26 M_26 h_26 => ?_)
        obtain ⟨e_26, h_26⟩ := h_26; replace e_26 := e_26.symm; replace h_26 := h_26.symm; subst e_26; subst h_26
        rw [e2, hK.1.2]
        refine G.icmp_ge (tgt := 63) dX6_share_29 (by decide) (fun c_29 => ?_) (fun c_29 => ?_)
        · exact absurd ((nI_leI (by omega) (by omega)).mp c_29) (by omega)
        · refine G.aload_n0 dX6_share_32 ?_
          refine G.dup dX6_share_33 rfl ?_
          refine G.mgeti 34 fl_X6_355 dX6_share_34 ?_
          rw [hn2.2.2.1]
          refine G.aload_n0 dX6_share_37 ?_
          refine G.iload_n3 dX6_share_38 ?_
          refine G.mcall (f' := fX6_landOf) q1962 ck_X6_landOf (c_X6_landOf E L _ ph (k := i) (by omega)) dX6_share_39 (rI.k fun r_39 M_39 h_39 => ?_)
          obtain ⟨e_39, h_39⟩ := h_39; replace e_39 := e_39.symm; replace h_39 := h_39.symm; subst e_39; subst h_39
          refine G.iload_n1 dX6_share_42 ?_
          rw [e2, hld.1]
          refine G.icmp_ne (tgt := 52) dX6_share_43 (by decide) (fun c_43 => ?_) (fun c_43 => ?_)
          · have n_43 : ¬ kLand K i = w := fun z => c_43 (congrArg nI z)
            refine G.iconst (v := nI 0) dX6_share_52 (by decide) ?_
            first
            | exact k53 (1 <<< i) hsl (by rw [kLandBits, if_pos n_43])
            | exact k53 0 (by omega) (by rw [kLandBits, if_neg n_43])
          · have n_43 : kLand K i = w := (nI_inj (a := kLand K i) (b := w) (by omega) (by omega)).mp c_43
            refine G.iconst (v := nI 1) dX6_share_46 (by decide) ?_
            refine G.iload_n3 dX6_share_47 ?_
            refine G.ishl dX6_share_48 ?_
            rw [b_shl (by omega)]
            refine G.goto (tgt := 53) dX6_share_49 (by decide) ?_
            first
            | exact k53 (1 <<< i) hsl (by rw [kLandBits, if_pos n_43])
            | exact k53 0 (by omega) (by rw [kLandBits, if_neg n_43])
    exact loop n 0 M_18 (by omega) p2 p1 p3
  · refine G.iconst (v := -1) dX6_share_9 (by decide) ?_
    refine G.ireturn dX6_share_10 ?_
    exact ⟨_, rfl, _, rfl, (if_neg (of_decide_eq_false c_6)).symm, mX.rf⟩
def kWhoN (K : KR) (n x : Nat) : Nat → Nat
  | 0 => 0
  | p + 1 => kWhoN K n x p ||| if ¬ K p = nI 3 ∧ lgN (zOk K n (1 <<< p) 0) 11 0 0 = x then 1 <<< p else 0
theorem kWhoN_lt {K : KR} {n x : Nat} : ∀ p, p ≤ 10 → kWhoN K n x p < 1024
  | 0, _ => by rw [kWhoN]; omega
  | p + 1, hp => by
    rw [kWhoN]
    refine or_lt (kWhoN_lt p (by omega)) ?_
    split
    · exact shl_lt (by omega)
    · omega
def oWho (K : KR) (n : Nat) (x : Int32) : Int32 := if zIn x 0 10 then nI (kWhoN K n (tNat x) n) else -1
theorem c_X6_who {M : MM} {K : KR} (e : M.2.2.1 2 = K) {b n : Nat} (hK : KOk K b n) (x : Int32) : MC E fX6_who L M ph [.int x] (rI fun r M' => r = oWho K n x ∧ mN M M') := by
  have h10 := hK.1.1
  refine Ct.of [some (.ref (L.1 52)), some (.int x), none, none] rfl (Nat.le_of_ble_eq_true rfl) (show plainName RX6 = true by decide +kernel) rfl ?_
  refine G.iload_n1 dX6_who_0 ?_
  refine G.iconst (v := nI 0) dX6_who_1 (by decide) ?_
  refine G.bipush (v := nI 10) dX6_who_2 (by decide) ?_
  refine G.scall (f' := fX6_lies) q1912 ck_X6_lies (c_X6_lies E _ _ _) dX6_who_4 (sI.k fun r_4 h_4 => ?_)
  replace h_4 := h_4.symm; subst h_4
  refine G.ifb_ne (tgt := 12) dX6_who_7 (by decide) (fun c_7 => ?_) (fun c_7 => ?_)
  · have q := of_decide_eq_true c_7
    obtain ⟨w, hw, rfl⟩ := zIn_of q (by decide)
    rw [show oWho K n (nI w) = nI (kWhoN K n w n) from (if_pos q).trans (by rw [tNat_nI (by omega)])]
    refine G.aload_n0 dX6_who_12 ?_
    refine G.mcall (f' := fX6_looks) q2244 ck_X6_looks (c_looksK e hK) dX6_who_13 (rV.k fun M_13 h_13 => ?_)
    have g1 := h_13.1
    have g3 := h_13.2.2.1
    have g4 := h_13.2.2.2
    clear h_13
    refine G.iconst (v := nI 0) dX6_who_16 (by decide) ?_
    refine G.istore_n2 dX6_who_17 ?_
    refine G.iconst (v := nI 0) dX6_who_18 (by decide) ?_
    refine G.istore_n3 dX6_who_19 ?_
    have loop : ∀ d i M2 aw, i + d = n → M2.2.2.1 2 = K → nOk K n aw 0 M2 → mN M M2 → G E fX6_who (mFin E fX6_who L ph (rI fun r M' => r = nI (kWhoN K n w n) ∧ mN M M')) 20 [some (.ref (L.1 52)), some (.int (nI w)), some (.int (nI (kWhoN K n w i))), some (.int (nI i))] [] (movl L M2 ph) 0 0 := by
      intro d
      induction d with
      | zero =>
        intro i M2 aw hi e2 hn2 hx2
        refine G.iload_n3 dX6_who_20 ?_
        refine G.aload_n0 dX6_who_21 ?_
        refine G.mcall (f' := fX6_people) q1938 ck_X6_people (c_X6_people E L _ ph) dX6_who_22 (rI.k fun r_22 M_22 h_22 => ?_)
        obtain ⟨e_22, h_22⟩ := h_22; replace e_22 := e_22.symm; replace h_22 := h_22.symm; subst e_22; subst h_22
        rw [e2, hK.1.2]
        refine G.icmp_ge (tgt := 80) dX6_who_25 (by decide) (fun c_25 => ?_) (fun c_25 => ?_)
        · refine G.iload_n2 dX6_who_80 ?_
          refine G.ireturn dX6_who_81 ?_
          exact ⟨_, rfl, _, rfl, by rw [show i = n from by omega], hx2⟩
        · exact absurd (nI_leI (by omega) (by omega) |>.mpr (by omega)) c_25
      | succ d ih =>
        intro i M2 aw hi e2 hn2 hx2
        have hgo := fun M2 aw => ih (i + 1) M2 aw (by omega)
        clear ih
        have hlt := kWhoN_lt (K := K) (n := n) (x := w) i (by omega)
        have hsl := shl_lt (p := i) (by omega)
        have hw2 := hK.wher (show i < n from by omega)
        have k72 : ∀ v M5, v < 1024 → kWhoN K n w (i + 1) = kWhoN K n w i ||| v → M5.2.2.1 2 = K → nOk K n (1 <<< i) 0 M5 → mN M M5 → G E fX6_who (mFin E fX6_who L ph (rI fun r M' => r = nI (kWhoN K n w n) ∧ mN M M')) 72 [some (.ref (L.1 52)), some (.int (nI w)), some (.int (nI (kWhoN K n w i))), some (.int (nI i))] [.int (nI v), .int (nI (kWhoN K n w i))] (movl L M5 ph) 0 0 := by
          intro v M5 hv hb e5 hn5 hx5
          rw [hb] at hgo
          refine G.ior dX6_who_72 ?_
          rw [b_or (by omega) (by omega)]
          refine G.istore_n2 dX6_who_73 ?_
          refine G.iinc3 dX6_who_74 ?_
          try rw [show ∀ a : Nat, nI a + Int32.ofInt 1 = nI (a + 1) from fun a => nI_add a 1]
          refine G.goto (tgt := 20) dX6_who_77 (by decide) ?_
          exact hgo _ _ e5 hn5 hx5
        refine G.iload_n3 dX6_who_20 ?_
        refine G.aload_n0 dX6_who_21 ?_
        refine G.mcall (f' := fX6_people) q1938 ck_X6_people (c_X6_people E L _ ph) dX6_who_22 (rI.k fun r_22 M_22 h_22 => ?_)
        obtain ⟨e_22, h_22⟩ := h_22; replace e_22 := e_22.symm; replace h_22 := h_22.symm; subst e_22; subst h_22
        rw [e2, hK.1.2]
        refine G.icmp_ge (tgt := 80) dX6_who_25 (by decide) (fun c_25 => ?_) (fun c_25 => ?_)
        · exact absurd ((nI_leI (by omega) (by omega)).mp c_25) (by omega)
        · refine G.aload_n0 dX6_who_28 ?_
          refine G.mgeta 2 fl_X6_24 dX6_who_29 ?_
          refine G.iconst (v := nI 0) dX6_who_32 (by decide) ?_
          refine G.iload_n3 dX6_who_33 ?_
          first | with_reducible refine G.iaddn dX6_who_34 ?_ | refine G.iadd dX6_who_34 ?_
          refine G.miald (n := 5866) 2 i dX6_who_35 (congrArg nI (Nat.zero_add i)) (by omega) ?_
          refine G.iconst (v := nI 3) dX6_who_36 (by decide) ?_
          rw [e2]
          refine G.icmp_ne (tgt := 43) dX6_who_37 (by decide) (fun c_37 => ?_) (fun c_37 => ?_)
          · refine G.aload_n0 dX6_who_43 ?_
            refine G.iconst (v := nI 1) dX6_who_44 (by decide) ?_
            refine G.iload_n3 dX6_who_45 ?_
            refine G.ishl dX6_who_46 ?_
            rw [b_shl (by omega)]
            refine G.mputi 34 fp_X6_355 dX6_who_47 ?_
            refine G.aload_n0 dX6_who_50 ?_
            refine G.mcall (f' := fX6_forgets) q2248 ck_X6_forgets (c_X6_forgets) dX6_who_51 (rV.k fun M_51 h_51 => ?_)
            obtain ⟨f1, f2⟩ := h_51
            refine G.iload_n2 dX6_who_54 ?_
            refine G.aload_n0 dX6_who_55 ?_
            refine G.iconst (v := nI 0) dX6_who_56 (by decide) ?_
            refine G.iconst (v := nI 0) dX6_who_57 (by decide) ?_
            refine G.mcall (f' := fX6_longestFrom (911)) q2252 (ck_X6_longestFrom _) (c_lg0 (M := M_51) (away := 1 <<< i) hK hsl (by decide) ((f2.2.2.1 2 (by decide)).trans e2) ((nOk_away hn2).mv (f2.mono (by simp) (by simp))) f1) dX6_who_58 (rI.k fun r_58 M_58 h_58 => ?_)
            have er2 := h_58.1
            have p1 := h_58.2.1
            have p2 := h_58.2.2.1
            have p5 : mN M M_58 := ((hx2.ms (by decide)).tr f2 (by simp) (by simp)).tr h_58.2.2.2 (by simp) (by simp)
            clear h_58
            have hll := lgN_le (ok := zOk K n (1 <<< i) 0) 11 0 0
            rw [er2]
            refine G.iload_n1 dX6_who_61 ?_
            refine G.icmp_ne (tgt := 71) dX6_who_62 (by decide) (fun c_62 => ?_) (fun c_62 => ?_)
            · have n_62 : ¬ lgN (zOk K n (1 <<< i) 0) 11 0 0 = w := fun z => c_62 (congrArg nI z)
              refine G.iconst (v := nI 0) dX6_who_71 (by decide) ?_
              first
              | exact k72 (1 <<< i) _ hsl (by rw [kWhoN, if_pos ⟨c_37, n_62⟩]) p2 p1 p5
              | exact k72 0 _ (by omega) (by rw [kWhoN, if_neg (fun z => n_62 z.2)]) p2 p1 p5
            · have n_62 : lgN (zOk K n (1 <<< i) 0) 11 0 0 = w := (nI_inj (a := lgN (zOk K n (1 <<< i) 0) 11 0 0) (b := w) (by omega) (by omega)).mp c_62
              refine G.iconst (v := nI 1) dX6_who_65 (by decide) ?_
              refine G.iload_n3 dX6_who_66 ?_
              refine G.ishl dX6_who_67 ?_
              rw [b_shl (by omega)]
              refine G.goto (tgt := 72) dX6_who_68 (by decide) ?_
              first
              | exact k72 (1 <<< i) _ hsl (by rw [kWhoN, if_pos ⟨c_37, n_62⟩]) p2 p1 p5
              | exact k72 0 _ (by omega) (by rw [kWhoN, if_neg (fun z => n_62 z.2)]) p2 p1 p5
          · refine G.goto (tgt := 74) dX6_who_40 (by decide) ?_
            refine G.iinc3 dX6_who_74 ?_
            try rw [show ∀ a : Nat, nI a + Int32.ofInt 1 = nI (a + 1) from fun a => nI_add a 1]
            refine G.goto (tgt := 20) dX6_who_77 (by decide) ?_
            have := hgo M2 aw e2 hn2 hx2
            rw [kWhoN, if_neg (fun z => z.1 c_37), Nat.or_zero] at this
            exact this
    exact loop n 0 M_13 0 (by omega) g3 g1 g4
  · refine G.iconst (v := -1) dX6_who_10 (by decide) ?_
    refine G.ireturn dX6_who_11 ?_
    exact ⟨_, rfl, _, rfl, (if_neg (of_decide_eq_false c_7)).symm, mX.rf⟩
end Who
