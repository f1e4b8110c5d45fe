/-! THE MODEL: crews of a day, winters -/
def zDraw (s : Nat) : Nat := (1103 * s + 12345) % 1000003
def cntC (ok : Nat → Bool) : Nat → Nat
  | 0 => 0
  | c + 1 => cntC ok c + if ok c then 1 else 0
theorem cntC_le {ok : Nat → Bool} : ∀ c, cntC ok c ≤ c
  | 0 => Nat.le_refl _
  | c + 1 => by
    have := cntC_le (ok := ok) c
    rw [cntC]
    split <;> omega
theorem cntC_zF {ok : Nat → Bool} : ∀ c, cntC ok c = zF ok (fun a _ => a + 1) 0 c
  | 0 => rfl
  | c + 1 => by
    rw [cntC, zF, cntC_zF c]
    split <;> rfl
def zNth (ok : Nat → Bool) (k : Nat) : Option Nat := (List.range 1024).find? (fun c => ok c && decide (cntC ok c = k))
theorem zNth_of {ok : Nat → Bool} {k c : Nat} (hc : c < 1024) (h : ok c = true) (hk : cntC ok c = k) (hno : ∀ i, i < c → ok i = true → ¬ cntC ok i = k) : zNth ok k = some c := by
  unfold zNth
  rw [List.find?_range_eq_some]
  refine ⟨by rw [h, decide_eq_true hk]; rfl, List.mem_range.mpr hc, fun i hi => ?_⟩
  cases e : ok i with
  | false => rfl
  | true => rw [decide_eq_false (hno i hi e)]; rfl
theorem zNth_no {ok : Nat → Bool} {k : Nat} (hno : ∀ i, i < 1024 → ok i = true → ¬ cntC ok i = k) : zNth ok k = none := by
  unfold zNth
  rw [List.find?_eq_none]
  intro i hi
  cases e : ok i with
  | false => exact Bool.false_ne_true
  | true => rw [decide_eq_false (hno i (List.mem_range.mp hi) e)]; exact Bool.false_ne_true
/-- worth of each of those who may light it now -/
def kNowW (K : KR) (n p : Nat) : Nat := if p < n ∧ kMay K p = true then tNat (wOf K p) else 0
def okNow (K : KR) (n : Nat) : Nat → Bool := zCrew (kNowW K n) (kNeed K)
def oCrews (K : KR) (n : Nat) (i : Int32) : Int32 := if i < -1 then -1 else if i = -1 then nI (cntC (okNow K n) 1024) else oI (zNth (okNow K n) (tNat i))
section Winter
variable {E : JE} {L : ML} {ph : HP}
theorem c_X6_draws {M : MM} {s k : Nat} (hs : s ≤ 1000003) (hM : M.1 51 = nI s) (hk : 0 < k) (hk2 : k < 100) : MC E fX6_draws L M ph [.int (nI k)] (rI fun r M' => r = nI (zDraw s % k) ∧ M' = ms M 51 (nI (zDraw s))) := by
  have hne : ¬ nI k = 0 := fun z => by rw [i_eq, t_nI (by omega), t_0] at z; omega
  have hz : zDraw s < 1000003 := Nat.mod_lt _ (by omega)
  refine Ct.of [some (.ref (L.1 52)), some (.int (nI k))] rfl (Nat.le_of_ble_eq_true rfl) (show plainName RX6 = true by decide +kernel) rfl ?_
  refine G.aload_n0 dX6_draws_0 ?_
  refine G.ldc2 q2371 dX6_draws_1 ?_
  refine G.aload_n0 dX6_draws_4 ?_
  refine G.mgeti 51 fl_X6_448 dX6_draws_5 ?_
  rw [hM]
  refine G.i2l dX6_draws_8 rfl ?_
  rw [nI_l (by omega), show (1103 : Int64) = lN 1103 from rfl]
  refine G.lmul dX6_draws_9 ?_
  rw [lN_mul]
  refine G.ldc2 q2372 dX6_draws_10 ?_
  rw [show (12345 : Int64) = lN 12345 from rfl]
  refine G.ladd dX6_draws_13 ?_
  rw [lN_add]
  refine G.ldc2 q2373 dX6_draws_14 ?_
  rw [show (1000003 : Int64) = lN 1000003 from rfl]
  refine G.lrem dX6_draws_17 (by decide) ?_
  rw [pk_lRem (by omega) (by decide) (by decide)]
  refine G.l2i dX6_draws_18 rfl ?_
  rw [lN_i]
  refine G.mputi 51 fp_X6_448 dX6_draws_19 ?_
  refine G.aload_n0 dX6_draws_22 ?_
  refine G.mgeti 51 fl_X6_448 dX6_draws_23 ?_
  rw [show (ms M 51 (nI ((1103 * s + 12345) % 1000003))).1 51 = nI (zDraw s) from rfl]
  refine G.iload_n1 dX6_draws_26 ?_
  refine G.irem dX6_draws_27 hne ?_
  rw [pk_rem (by omega) hk (by omega)]
  refine G.ireturn dX6_draws_28 ?_
  exact ⟨_, rfl, _, rfl, rfl, rfl⟩
theorem kNowW_le {K : KR} {b n : Nat} (hK : KOk K b n) : ∀ p, kNowW K n p ≤ 2 := by
  intro p
  unfold kNowW
  split
  · rename_i q
    have := hK.w q.1
    unfold tNat
    omega
  · omega
theorem c_X6_crews {M : MM} {K : KR} (e : M.2.2.1 2 = K) {b n : Nat} (hK : KOk K b n) (i : Int32) : MC E fX6_crews L M ph [.int i] (rI fun r M' => r = oCrews K n i ∧ mN M M') := by
  have h10 := hK.1.1
  have hday := hK.day
  refine Ct.of [some (.ref (L.1 52)), some (.int i), none, none, none] rfl (Nat.le_of_ble_eq_true rfl) (show plainName RX6 = true by decide +kernel) rfl ?_
  refine G.iload_n1 dX6_crews_0 ?_
  refine G.iconst (v := -1) dX6_crews_1 (by decide) ?_
  refine G.icmp_ge (tgt := 7) dX6_crews_2 (by decide) (fun c_2 => ?_) (fun c_2 => ?_)
  · have hge : ¬ i < -1 := Int32.not_lt.mpr c_2
    refine G.aload_n0 dX6_crews_7 ?_
    refine G.aload_n0 dX6_crews_8 ?_
    refine G.mgeta 2 fl_X6_24 dX6_crews_9 ?_
    refine G.bipush (v := nI 33) dX6_crews_12 (by decide) ?_
    refine G.miald (n := 5866) 2 _ dX6_crews_14 rfl (by omega) ?_
    rw [e, hday.1]
    refine G.mcall (f' := fX6_fogOn) q2112 ck_X6_fogOn (c_X6_fogOn (M := M) (b := b) (n := n) (by rw [e]; exact hK) (kDay K) (by omega)) dX6_crews_15 (rI.k fun r_15 M_15 h_15 => ?_)
    obtain ⟨e15, h15⟩ := h_15; replace h15 := h15.symm; subst h15
    rw [e] at e15
    rw [e15]
    refine G.scall (f' := fX6_needOn) q2218 ck_X6_needOn (c_X6_needOn E (fogOf K (kDay K))) dX6_crews_18 (sI.k fun r_18 h_18 => ?_)
    replace h_18 := h_18.symm; subst h_18
    refine G.istore_n2 dX6_crews_21 ?_
    refine G.iconst (v := nI 0) dX6_crews_22 (by decide) ?_
    refine G.istore_n3 dX6_crews_23 ?_
    have hwl := kNowW_le hK
    have ho : oCrews K n i = if i = -1 then nI (cntC (okNow K n) 1024) else oI (zNth (okNow K n) (tNat i)) := if_neg hge
    rw [ho]
    have loop2 : ∀ d c M2, c + d = 1023 → (∀ p, p < 10 → M2.2.2.1 32 p = nI (kNowW K n p)) → mN M M2 → (∀ j, j ≤ c → okNow K n j = true → ¬ nI (cntC (okNow K n) j) = i) → G E fX6_crews (mFin E fX6_crews L ph (rI fun r M' => r = (if i = -1 then nI (cntC (okNow K n) 1024) else oI (zNth (okNow K n) (tNat i))) ∧ mN M M')) 77 [some (.ref (L.1 52)), some (.int i), some (.int (nI (kNeed K))), some (.int (nI (cntC (okNow K n) (c + 1)))), some (.int (oI (zNext (okNow K n) c)))] [] (movl L M2 ph) 0 0 := by
      intro d
      induction d using Nat.strongRecOn with
      | ind d ihd =>
        intro c M2 hcd hw2 hx2 hno
        have hsm : ∀ j, zNext (okNow K n) c = some j → j < 1024 := fun j z => (zNext_some z).2.1
        have hc1 := cntC_le (ok := okNow K n) (c + 1)
        refine G.iload4 dX6_crews_77 ?_
        refine G.iconst (v := -1) dX6_crews_79 (by decide) ?_
        refine G.icmp_eq (tgt := 106) dX6_crews_80 (by decide) (fun c_80 => ?_) (fun c_80 => ?_)
        · have hz := (oI_m1 hsm).mp c_80
          have hend := zF_end (step := fun a _ => a + 1) (a := 0) hz (by omega)
          rw [← cntC_zF, ← cntC_zF] at hend
          refine G.iload_n1 dX6_crews_106 ?_
          refine G.iconst (v := -1) dX6_crews_107 (by decide) ?_
          refine G.icmp_ne (tgt := 115) dX6_crews_108 (by decide) (fun c_108 => ?_) (fun c_108 => ?_)
          · refine G.iconst (v := -1) dX6_crews_115 (by decide) ?_
            refine G.ireturn dX6_crews_116 ?_
            first
            | exact ⟨_, rfl, _, rfl, by rw [if_pos c_108, hend], hx2⟩
            | (refine ⟨_, rfl, _, rfl, ?_, hx2⟩
               rw [if_neg c_108, zNth_no (fun k hk1 hk2 hk3 => ?_)]
               · rfl
               · have hi0 : 0 ≤ i.toInt := by
                   have h1 := hge
                   rw [i_lt, t_m1] at h1
                   have h2 := c_108
                   rw [i_eq, t_m1] at h2
                   omega
                 have hi1 := Int32.toInt_lt i
                 have hkk : nI (cntC (okNow K n) k) = i := by
                   rw [hk3, i_eq]
                   unfold tNat
                   rw [t_nI (by omega)]
                   omega
                 rcases Nat.lt_or_ge c k with y | y
                 · rw [zNext_none hz k y hk1] at hk2; cases hk2
                 · exact hno k y hk2 hkk)
          · refine G.iload_n3 dX6_crews_111 ?_
            refine G.goto (tgt := 116) dX6_crews_112 (by decide) ?_
            refine G.ireturn dX6_crews_116 ?_
            first
            | exact ⟨_, rfl, _, rfl, by rw [if_pos c_108, hend], hx2⟩
            | (refine ⟨_, rfl, _, rfl, ?_, hx2⟩
               rw [if_neg c_108, zNth_no (fun k hk1 hk2 hk3 => ?_)]
               · rfl
               · have hi0 : 0 ≤ i.toInt := by
                   have h1 := hge
                   rw [i_lt, t_m1] at h1
                   have h2 := c_108
                   rw [i_eq, t_m1] at h2
                   omega
                 have hi1 := Int32.toInt_lt i
                 have hkk : nI (cntC (okNow K n) k) = i := by
                   rw [hk3, i_eq]
                   unfold tNat
                   rw [t_nI (by omega)]
                   omega
                 rcases Nat.lt_or_ge c k with y | y
                 · rw [zNext_none hz k y hk1] at hk2; cases hk2
                 · exact hno k y hk2 hkk)
        · obtain ⟨j, hz⟩ : ∃ j, zNext (okNow K n) c = some j := by
            cases h9 : zNext (okNow K n) c with
            | none => rw [h9] at c_80; exact absurd rfl c_80
            | some j => exact ⟨j, rfl⟩
          obtain ⟨hj1, hj2, hj3, hj4⟩ := zNext_some hz
          rw [hz, show oI (some j) = nI j from rfl]
          have hnx := zF_next (step := fun a _ => a + 1) (a := 0) hz
          rw [← cntC_zF, ← cntC_zF] at hnx
          have hcj : cntC (okNow K n) j = cntC (okNow K n) (c + 1) := by
            have := hnx
            rw [cntC, if_pos hj3] at this
            omega
          have hgoe : (∀ k, k ≤ j → okNow K n k = true → k ≠ j → ¬ nI (cntC (okNow K n) k) = i) := by
            intro k hk1 hk2 hk3
            rcases Nat.lt_or_ge c k with y | y
            · rw [hj4 k y (by omega)] at hk2; cases hk2
            · exact hno k y hk2
          refine G.iload_n3 dX6_crews_83 ?_
          refine G.iload_n1 dX6_crews_84 ?_
          refine G.icmp_ne (tgt := 91) dX6_crews_85 (by decide) (fun c_85 => ?_) (fun c_85 => ?_)
          · refine G.iinc3 dX6_crews_91 ?_
            try rw [show ∀ a : Nat, nI a + Int32.ofInt 1 = nI (a + 1) from fun a => nI_add a 1]
            refine G.aload_n0 dX6_crews_94 ?_
            refine G.iload4 dX6_crews_95 ?_
            refine G.iload_n2 dX6_crews_97 ?_
            refine G.mcall (f' := fX6_crewBehind) q2272 ck_X6_crewBehind (c_X6_crewBehind (M := M2) hwl hw2 hj2 (need := kNeed K) (by unfold kNeed; split <;> omega)) dX6_crews_98 (rI.k fun r_98 M_98 h_98 => ?_)
            obtain ⟨e98, h98⟩ := h_98; replace h98 := h98.symm; subst h98
            rw [e98]
            refine G.istore4 dX6_crews_101 ?_
            refine G.goto (tgt := 77) dX6_crews_103 (by decide) ?_
            have hgo := ihd (1023 - j) (by omega) j M2 (by omega) hw2 hx2 (fun k hk1 hk2 hk3 => by
              rcases Nat.lt_or_ge k j with y | y
              · exact hgoe k (by omega) hk2 (by omega) hk3
              · rw [show k = j from by omega, hcj] at hk3; exact c_85 hk3)
            rw [hnx] at hgo
            exact hgo
          · refine G.iload4 dX6_crews_88 ?_
            refine G.ireturn dX6_crews_90 ?_
            have hi : i = nI (cntC (okNow K n) (c + 1)) := (by first | exact c_85.symm | exact (Classical.not_not.mp c_85).symm)
            refine ⟨_, rfl, _, rfl, ?_, hx2⟩
            have hne : ¬ i = -1 := fun z => by rw [hi, i_eq, t_nI (by omega), t_m1] at z; omega
            rw [if_neg hne, hi, tNat_nI (by omega), zNth_of hj2 hj3 hcj (fun k hk1 hk2 hk3 => hgoe k (by omega) hk2 (by omega) (by rw [hi, hk3]))]
            rfl
    have loop1 : ∀ d j M2 a4, j + d = 10 → M2.2.2.1 2 = K → (∀ p, p < j → M2.2.2.1 32 p = nI (kNowW K n p)) → mN M M2 → G E fX6_crews (mFin E fX6_crews L ph (rI fun r M' => r = (if i = -1 then nI (cntC (okNow K n) 1024) else oI (zNth (okNow K n) (tNat i))) ∧ mN M M')) 24 [some (.ref (L.1 52)), some (.int i), some (.int (nI (kNeed K))), some (.int (nI j)), a4] [] (movl L M2 ph) 0 0 := by
      intro d
      induction d with
      | zero =>
        intro j M2 a4 hj e2 hw2 hx2
        refine G.iload_n3 dX6_crews_24 ?_
        refine G.bipush (v := nI 10) dX6_crews_25 (by decide) ?_
        refine G.icmp_ge (tgt := 67) dX6_crews_27 (by decide) (fun c_27 => ?_) (fun c_27 => ?_)
        · refine G.iconst (v := nI 0) dX6_crews_67 (by decide) ?_
          refine G.istore_n3 dX6_crews_68 ?_
          refine G.aload_n0 dX6_crews_69 ?_
          refine G.iconst (v := nI 0) dX6_crews_70 (by decide) ?_
          refine G.iload_n2 dX6_crews_71 ?_
          refine G.mcall (f' := fX6_crewBehind) q2272 ck_X6_crewBehind (c_X6_crewBehind (M := M2) hwl (fun p hp => hw2 p (by omega)) (c := 0) (by omega) (need := kNeed K) (by unfold kNeed; split <;> omega)) dX6_crews_72 (rI.k fun r_72 M_72 h_72 => ?_)
          obtain ⟨e72, h72⟩ := h_72; replace h72 := h72.symm; subst h72
          rw [e72]
          refine G.istore4 dX6_crews_75 ?_
          have h0 : okNow K n 0 = false := zCrew_0 (by unfold kNeed; split <;> omega)
          have := loop2 1023 0 M2 (by omega) (fun p hp => hw2 p (by omega)) hx2 (fun k hk1 hk2 => by rw [show k = 0 from by omega, h0] at hk2; cases hk2)
          rw [show cntC (okNow K n) (0 + 1) = 0 from by rw [cntC, h0]; rfl] at this
          exact this
        · exact absurd (nI_leI (by omega) (by omega) |>.mpr (by omega)) c_27
      | succ d ih =>
        intro j M2 a4 hj e2 hw2 hx2
        have hgo := fun M2 => ih (j + 1) M2 a4 (by omega)
        clear ih
        have k60 : ∀ (v : Int32) (M4 : MM), v = nI (kNowW K n j) → mX [8, 22, 23, 24] [25] M2 M4 → G E fX6_crews (mFin E fX6_crews L ph (rI fun r M' => r = (if i = -1 then nI (cntC (okNow K n) 1024) else oI (zNth (okNow K n) (tNat i))) ∧ mN M M')) 60 [some (.ref (L.1 52)), some (.int i), some (.int (nI (kNeed K))), some (.int (nI j)), a4] [.int v, .int (nI j), .ref (L.1 32)] (movl L M4 ph) 0 0 := by
          intro v M4 hv hx4
          refine G.miast (n := 10) 32 j dX6_crews_60 rfl (by omega) ?_
          refine G.iinc3 dX6_crews_61 ?_
          try rw [show ∀ a : Nat, nI a + Int32.ofInt 1 = nI (a + 1) from fun a => nI_add a 1]
          refine G.goto (tgt := 24) dX6_crews_64 (by decide) ?_
          refine hgo _ ((hx4.2.2.1 2 (by decide)).trans e2) (fun p hp => ?_) ((hx2.tr hx4 (by simp) (by simp)).ma (by decide))
          rw [ma_at, if_pos rfl]
          split
          · rename_i q; rw [q, hv]
          · rw [hx4.2.2.1 32 (by decide)]; exact hw2 p (by omega)
        refine G.iload_n3 dX6_crews_24 ?_
        refine G.bipush (v := nI 10) dX6_crews_25 (by decide) ?_
        refine G.icmp_ge (tgt := 67) dX6_crews_27 (by decide) (fun c_27 => ?_) (fun c_27 => ?_)
        · exact absurd ((nI_leI (by omega) (by omega)).mp c_27) (by omega)
        · refine G.aload_n0 dX6_crews_30 ?_
          refine G.mgeta 32 fl_X6_77 dX6_crews_31 ?_
          refine G.iload_n3 dX6_crews_34 ?_
          refine G.aload_n0 dX6_crews_35 ?_
          refine G.iload_n3 dX6_crews_36 ?_
          refine G.mcall (f' := fX6_isPerson) q1950 ck_X6_isPerson (c_X6_isPerson E L _ ph (nI j) h10 (by rw [e2]; exact hK.1.2)) dX6_crews_37 (rI.k fun r_37 M_37 h_37 => ?_)
          obtain ⟨e_37, h_37⟩ := h_37; replace e_37 := e_37.symm; replace h_37 := h_37.symm; subst e_37; subst h_37
          refine G.ifb_eq (tgt := 59) dX6_crews_40 (by decide) (fun c_40 => ?_) (fun c_40 => ?_)
          · have hout : ¬ j < n := fun z => of_decide_eq_false c_40 (by rw [t_nI (by omega)]; omega)
            refine G.iconst (v := nI 0) dX6_crews_59 (by decide) ?_
            first
            | (refine k60 _ _ ?_ m45
               have hw1 := hK.w hin
               rw [show sWorth M_45 j = wOf K j from by rw [← (m45.2.2.1 2 (by decide)).trans e2]; rfl]
               unfold kNowW
               rw [if_pos ⟨hin, c_48⟩, i_eq]
               unfold tNat
               rw [t_nI (by omega)]
               omega)
            | exact k60 _ _ (congrArg nI (if_neg (fun z => Bool.false_ne_true (c_48.symm.trans z.2))).symm) m45
            | exact k60 _ _ (congrArg nI (if_neg (fun z => hout z.1)).symm) mX.rf
          · have hin : j < n := by
              have := (of_decide_eq_true c_40).2
              rw [t_nI (by omega)] at this
              omega
            refine G.aload_n0 dX6_crews_43 ?_
            refine G.iload_n3 dX6_crews_44 ?_
            refine G.mcall (f' := fX6_mayLight) q2214 ck_X6_mayLight (c_X6_mayLight (M := M2) (b := b) (n := n) (p := j) (by rw [e2]; exact hK) hin) dX6_crews_45 (rI.k fun r_45 M_45 h_45 => ?_)
            have r45 := h_45.1
            have m45 := h_45.2
            clear h_45
            rw [e2] at r45
            rw [r45]
            refine G.ifb_eq (tgt := 59) dX6_crews_48 (by decide) (fun c_48 => ?_) (fun c_48 => ?_)
            · refine G.iconst (v := nI 0) dX6_crews_59 (by decide) ?_
              first
              | (refine k60 _ _ ?_ m45
                 have hw1 := hK.w hin
                 rw [show sWorth M_45 j = wOf K j from by rw [← (m45.2.2.1 2 (by decide)).trans e2]; rfl]
                 unfold kNowW
                 rw [if_pos ⟨hin, c_48⟩, i_eq]
                 unfold tNat
                 rw [t_nI (by omega)]
                 omega)
              | exact k60 _ _ (congrArg nI (if_neg (fun z => Bool.false_ne_true (c_48.symm.trans z.2))).symm) m45
              | exact k60 _ _ (congrArg nI (if_neg (fun z => hout z.1)).symm) mX.rf
            · refine G.aload_n0 dX6_crews_51 ?_
              refine G.iload_n3 dX6_crews_52 ?_
              refine G.mcall (f' := fX6_worthOf) q1966 ck_X6_worthOf (c_X6_worthOf E L _ ph (k := j) (by omega)) dX6_crews_53 (rI.k fun r_53 M_53 h_53 => ?_)
              obtain ⟨e_53, h_53⟩ := h_53; replace e_53 := e_53.symm; replace h_53 := h_53.symm; subst e_53; subst h_53
              refine G.goto (tgt := 60) dX6_crews_56 (by decide) ?_
              first
              | (refine k60 _ _ ?_ m45
                 have hw1 := hK.w hin
                 rw [show sWorth M_45 j = wOf K j from by rw [← (m45.2.2.1 2 (by decide)).trans e2]; rfl]
                 unfold kNowW
                 rw [if_pos ⟨hin, c_48⟩, i_eq]
                 unfold tNat
                 rw [t_nI (by omega)]
                 omega)
              | exact k60 _ _ (congrArg nI (if_neg (fun z => Bool.false_ne_true (c_48.symm.trans z.2))).symm) m45
              | exact k60 _ _ (congrArg nI (if_neg (fun z => hout z.1)).symm) mX.rf
    exact loop1 10 0 M none (by omega) e (fun p hp => absurd hp (by omega)) mX.rf
  · refine G.iconst (v := -1) dX6_crews_5 (by decide) ?_
    refine G.ireturn dX6_crews_6 ?_
    exact ⟨_, rfl, _, rfl, (if_pos (Int32.not_le.mp c_2)).symm, mX.rf⟩
end Winter
