/-! THE MODEL ACTS -/
abbrev mA (S M : MM) : Prop := mX [8, 22, 23, 24] [25] S M
theorem cms {fs as : List Nat} {S M : MM} {k : Nat} {v : Int32} (h : mX fs as S M) : mX fs as (ms S k v) (ms M k v) := by
  refine ⟨fun j hj => ?_, h.2.1, h.2.2.1, h.2.2.2⟩
  rw [ms_1, ms_1]
  split
  · rfl
  · exact h.1 j hj
theorem cma {fs as : List Nat} {S M : MM} {k j : Nat} {v : Int32} (h : mX fs as S M) : mX fs as (ma S k j v) (ma M k j v) := ⟨h.1, h.2.1, fun i hi => by
  show (if i = k then upd (M.2.2.1 k) j v else M.2.2.1 i) = (if i = k then upd (S.2.2.1 k) j v else S.2.2.1 i)
  split
  · rename_i e; subst e; rw [h.2.2.1 i hi]
  · exact h.2.2.1 i hi, h.2.2.2⟩
theorem cmar {fs as : List Nat} {S M : MM} {k : Nat} {f : Nat → Int32} (h : mX fs as S M) : mX fs as (mar S k f) (mar M k f) := ⟨h.1, h.2.1, fun i hi => by
  show (if i = k then f else M.2.2.1 i) = (if i = k then f else S.2.2.1 i)
  split
  · rfl
  · exact h.2.2.1 i hi, h.2.2.2⟩
theorem mar_mar {M : MM} {k : Nat} {f g : Nat → Int32} : mar (mar M k f) k g = mar M k g := by
  unfold mar
  refine Prod.ext rfl (Prod.ext rfl (Prod.ext (funext fun i => ?_) rfl))
  show (if i = k then g else if i = k then f else M.2.2.1 i) = (if i = k then g else M.2.2.1 i)
  split
  · rfl
  · rfl
def kLeft (Lf : Nat → Int32) (u : Nat) : Nat → Int32 := if u = 16 then cpA Lf (fun i => Lf (i + 35)) 0 525 else Lf
def kU (u : Nat) : Nat := if u = 16 then 15 else u
def sKeep (M : MM) (u : Nat) (what : Int32) : MM := ms (mar M 26 (upd (cpA (kLeft (M.2.2.1 26) u) (M.2.2.1 2) (35 * kU u) 34) (35 * kU u + 34) what)) 28 (nI (kU u + 1))
section Acts
variable {E : JE} {L : ML} {ph : HP}
theorem c_X6_keeps {M : MM} {u : Nat} (hu : u ≤ 16) (hM : M.1 28 = nI u) (what : Int32) : MC E fX6_keeps L M ph [.int what] (rV fun M' => M' = sKeep M u what) := by
  refine Ct.of [some (.ref (L.1 52)), some (.int what), none, none] rfl (Nat.le_of_ble_eq_true rfl) (show plainName RX6 = true by decide +kernel) rfl ?_
  have k52 : ∀ (M1 : MM) (v : Nat) (a3 : Option Value), v ≤ 15 → M1.1 28 = nI v → G E fX6_keeps (mFin E fX6_keeps L ph (rV fun M' => M' = ms (mar M1 26 (upd (cpA (M1.2.2.1 26) (M1.2.2.1 2) (35 * v) 34) (35 * v + 34) what)) 28 (nI (v + 1)))) 52 [some (.ref (L.1 52)), some (.int what), some (.int (nI 35)), a3] [] (movl L M1 ph) 0 0 := by
    intro M1 v a3 hv h28
    have loop : ∀ d i, i + d = 34 → G E fX6_keeps (mFin E fX6_keeps L ph (rV fun M' => M' = ms (mar M1 26 (upd (cpA (M1.2.2.1 26) (M1.2.2.1 2) (35 * v) 34) (35 * v + 34) what)) 28 (nI (v + 1)))) 54 [some (.ref (L.1 52)), some (.int what), some (.int (nI 35)), some (.int (nI i))] [] (movl L (mar M1 26 (cpA (M1.2.2.1 26) (M1.2.2.1 2) (35 * v) i)) ph) 0 0 := by
      intro d
      induction d with
      | zero =>
        intro i hi
        refine G.iload_n3 dX6_keeps_54 ?_
        refine G.bipush (v := nI 34) dX6_keeps_55 (by decide) ?_
        refine G.icmp_ge (tgt := 85) dX6_keeps_57 (by decide) (fun c_57 => ?_) (fun c_57 => ?_)
        · refine G.aload_n0 dX6_keeps_85 ?_
          refine G.mgeta 26 fl_X6_62 dX6_keeps_86 ?_
          refine G.iload_n2 dX6_keeps_89 ?_
          refine G.aload_n0 dX6_keeps_90 ?_
          refine G.mgeti 28 fl_X6_11 dX6_keeps_91 ?_
          rw [show (mar M1 26 (cpA (M1.2.2.1 26) (M1.2.2.1 2) (35 * v) i)).1 28 = nI v from h28]
          first | with_reducible refine G.imuln dX6_keeps_94 ?_ | refine G.imul dX6_keeps_94 ?_
          refine G.bipush (v := nI 34) dX6_keeps_95 (by decide) ?_
          first | with_reducible refine G.iaddn dX6_keeps_97 ?_ | refine G.iadd dX6_keeps_97 ?_
          refine G.iload_n1 dX6_keeps_98 ?_
          refine G.miast (n := 560) 26 (35 * v + 34) dX6_keeps_99 rfl (by omega) ?_
          refine G.aload_n0 dX6_keeps_100 ?_
          refine G.dup dX6_keeps_101 rfl ?_
          refine G.mgeti 28 fl_X6_11 dX6_keeps_102 ?_
          refine G.iconst (v := nI 1) dX6_keeps_105 (by decide) ?_
          rw [show (ma (mar M1 26 (cpA (M1.2.2.1 26) (M1.2.2.1 2) (35 * v) i)) 26 (35 * v + 34) what).1 28 = nI v from h28]
          first | with_reducible refine G.iaddn dX6_keeps_106 ?_ | refine G.iadd dX6_keeps_106 ?_
          refine G.mputi 28 fp_X6_11 dX6_keeps_107 ?_
          refine G.return_ dX6_keeps_110 ?_
          exact ⟨_, rfl, rfl, by rw [ma_mar, show i = 34 from by omega]⟩
        · exact absurd (nI_leI (by omega) (by omega) |>.mpr (by omega)) c_57
      | succ d ih =>
        intro i hi
        refine G.iload_n3 dX6_keeps_54 ?_
        refine G.bipush (v := nI 34) dX6_keeps_55 (by decide) ?_
        refine G.icmp_ge (tgt := 85) dX6_keeps_57 (by decide) (fun c_57 => ?_) (fun c_57 => ?_)
        · exact absurd ((nI_leI (by omega) (by omega)).mp c_57) (by omega)
        · refine G.aload_n0 dX6_keeps_60 ?_
          refine G.mgeta 26 fl_X6_62 dX6_keeps_61 ?_
          refine G.iload_n2 dX6_keeps_64 ?_
          refine G.aload_n0 dX6_keeps_65 ?_
          refine G.mgeti 28 fl_X6_11 dX6_keeps_66 ?_
          rw [show (mar M1 26 (cpA (M1.2.2.1 26) (M1.2.2.1 2) (35 * v) i)).1 28 = nI v from h28]
          first | with_reducible refine G.imuln dX6_keeps_69 ?_ | refine G.imul dX6_keeps_69 ?_
          refine G.iload_n3 dX6_keeps_70 ?_
          first | with_reducible refine G.iaddn dX6_keeps_71 ?_ | refine G.iadd dX6_keeps_71 ?_
          refine G.aload_n0 dX6_keeps_72 ?_
          refine G.mgeta 2 fl_X6_24 dX6_keeps_73 ?_
          refine G.iload_n3 dX6_keeps_76 ?_
          refine G.miald (n := 5866) 2 _ dX6_keeps_77 rfl (by omega) ?_
          refine G.miast (n := 560) 26 (35 * v + i) dX6_keeps_78 rfl (by omega) ?_
          refine G.iinc3 dX6_keeps_79 ?_
          try rw [show ∀ a : Nat, nI a + Int32.ofInt 1 = nI (a + 1) from fun a => nI_add a 1]
          refine G.goto (tgt := 54) dX6_keeps_82 (by decide) ?_
          rw [ma_mar, mar_n (by decide), cpA_s]
          exact ih (i + 1) (by omega)
    have := loop 34 0 rfl
    rw [cpA_0, mar_id] at this
    refine G.iconst (v := nI 0) dX6_keeps_52 (by decide) ?_
    refine G.istore_n3 dX6_keeps_53 ?_
    exact this
  refine G.bipush (v := nI 35) dX6_keeps_0 (by decide) ?_
  refine G.istore_n2 dX6_keeps_2 ?_
  refine G.aload_n0 dX6_keeps_3 ?_
  refine G.mgeti 28 fl_X6_11 dX6_keeps_4 ?_
  refine G.bipush (v := nI 16) dX6_keeps_7 (by decide) ?_
  rw [hM]
  refine G.icmp_ne (tgt := 52) dX6_keeps_9 (by decide) (fun c_9 => ?_) (fun c_9 => ?_)
  · have n_9 : ¬ u = 16 := fun z => c_9 (congrArg nI z)
    have := k52 M u none (by omega) hM
    have e : sKeep M u what = ms (mar M 26 (upd (cpA (M.2.2.1 26) (M.2.2.1 2) (35 * u) 34) (35 * u + 34) what)) 28 (nI (u + 1)) := by
      unfold sKeep kLeft kU
      rw [if_neg n_9, if_neg n_9]
    rw [e]
    exact this
  · have n_9 : u = 16 := (nI_inj (by omega) (by omega)).mp c_9
    refine G.iconst (v := nI 0) dX6_keeps_12 (by decide) ?_
    refine G.istore_n3 dX6_keeps_13 ?_
    have loop : ∀ d i, i + d = 525 → G E fX6_keeps (mFin E fX6_keeps L ph (rV fun M' => M' = sKeep M u what)) 14 [some (.ref (L.1 52)), some (.int what), some (.int (nI 35)), some (.int (nI i))] [] (movl L (mar M 26 (cpA (M.2.2.1 26) (fun i => M.2.2.1 26 (i + 35)) 0 i)) ph) 0 0 := by
      intro d
      induction d with
      | zero =>
        intro i hi
        refine G.iload_n3 dX6_keeps_14 ?_
        refine G.bipush (v := nI 15) dX6_keeps_15 (by decide) ?_
        refine G.iload_n2 dX6_keeps_17 ?_
        first | with_reducible refine G.imuln dX6_keeps_18 ?_ | refine G.imul dX6_keeps_18 ?_
        refine G.icmp_ge (tgt := 42) dX6_keeps_19 (by decide) (fun c_19 => ?_) (fun c_19 => ?_)
        · refine G.aload_n0 dX6_keeps_42 ?_
          refine G.dup dX6_keeps_43 rfl ?_
          refine G.mgeti 28 fl_X6_11 dX6_keeps_44 ?_
          refine G.iconst (v := nI 1) dX6_keeps_47 (by decide) ?_
          rw [show (mar M 26 (cpA (M.2.2.1 26) (fun i => M.2.2.1 26 (i + 35)) 0 i)).1 28 = nI 16 from hM.trans (congrArg nI n_9)]
          refine G.isub dX6_keeps_48 ?_
          rw [pk_sub (show 1 ≤ 16 from by decide)]
          refine G.mputi 28 fp_X6_11 dX6_keeps_49 ?_
          have := k52 (ms (mar M 26 (cpA (M.2.2.1 26) (fun i => M.2.2.1 26 (i + 35)) 0 i)) 28 (nI 15)) 15 (some (.int (nI i))) (by omega) rfl
          have e : sKeep M u what = ms (mar (ms (mar M 26 (cpA (M.2.2.1 26) (fun i => M.2.2.1 26 (i + 35)) 0 i)) 28 (nI 15)) 26 (upd (cpA (cpA (M.2.2.1 26) (fun i => M.2.2.1 26 (i + 35)) 0 i) (M.2.2.1 2) (35 * 15) 34) (35 * 15 + 34) what)) 28 (nI (15 + 1)) := by
            unfold sKeep kLeft kU
            rw [if_pos n_9, if_pos n_9, show i = 525 from by omega]
            rw [show ∀ (X : MM) f, mar (ms X 28 (nI 15)) 26 f = ms (mar X 26 f) 28 (nI 15) from fun _ _ => rfl, ms_ms, mar_mar]
          rw [e]
          exact this
        · exact absurd (nI_leI (by omega) (by omega) |>.mpr (by omega)) c_19
      | succ d ih =>
        intro i hi
        refine G.iload_n3 dX6_keeps_14 ?_
        refine G.bipush (v := nI 15) dX6_keeps_15 (by decide) ?_
        refine G.iload_n2 dX6_keeps_17 ?_
        first | with_reducible refine G.imuln dX6_keeps_18 ?_ | refine G.imul dX6_keeps_18 ?_
        refine G.icmp_ge (tgt := 42) dX6_keeps_19 (by decide) (fun c_19 => ?_) (fun c_19 => ?_)
        · exact absurd ((nI_leI (by omega) (by omega)).mp c_19) (by omega)
        · refine G.aload_n0 dX6_keeps_22 ?_
          refine G.mgeta 26 fl_X6_62 dX6_keeps_23 ?_
          refine G.iload_n3 dX6_keeps_26 ?_
          refine G.aload_n0 dX6_keeps_27 ?_
          refine G.mgeta 26 fl_X6_62 dX6_keeps_28 ?_
          refine G.iload_n3 dX6_keeps_31 ?_
          refine G.iload_n2 dX6_keeps_32 ?_
          first | with_reducible refine G.iaddn dX6_keeps_33 ?_ | refine G.iadd dX6_keeps_33 ?_
          refine G.miald (n := 560) 26 (i + 35) dX6_keeps_34 rfl (by omega) ?_
          refine G.miast (n := 560) 26 i dX6_keeps_35 rfl (by omega) ?_
          refine G.iinc3 dX6_keeps_36 ?_
          try rw [show ∀ a : Nat, nI a + Int32.ofInt 1 = nI (a + 1) from fun a => nI_add a 1]
          refine G.goto (tgt := 14) dX6_keeps_39 (by decide) ?_
          rw [ma_mar, mar_s, cpA_out (by omega)]
          have hs := cpA_s (h := M.2.2.1 26) (g := fun i => M.2.2.1 26 (i + 35)) (a := 0) (j := i)
          rw [Nat.zero_add] at hs
          rw [hs]
          exact ih (i + 1) (by omega)
    have := loop 525 0 rfl
    rw [cpA_0, mar_id] at this
    exact this
theorem sKeep_K {M : MM} {u : Nat} {w : Int32} : (sKeep M u w).2.2.1 2 = M.2.2.1 2 := rfl
def kSend (K : KR) (p : Nat) : KR := upd (upd (upd K 32 (K 32 + kCosts K p)) p (if kTakes K p = nI 0 then nI 2 else nI 1)) (10 + p) (if kTakes K p = nI 0 then -1 else K 33 + kTakes K p)
def oSendK (M : MM) (n u : Nat) (p : Int32) : Int32 × MM := if 0 ≤ p.toInt ∧ p.toInt < n then (if M.2.2.1 2 (tNat p) = nI 0 then (kCosts (M.2.2.1 2) (tNat p), mar (sKeep M u (nI 0)) 2 (kSend (M.2.2.1 2) (tNat p))) else (-3, M)) else (-2, M)
theorem c_X6_sendsKept {M : MM} {b n u : Nat} (hK : KOk (M.2.2.1 2) b n) (hu : u ≤ 16) (hM : M.1 28 = nI u) (p : Int32) : MC E fX6_sendsKept L M ph [.int p] (rI fun r M' => r = (oSendK M n u p).1 ∧ mA (oSendK M n u p).2 M') := by
  have h10 := hK.1.1
  refine Ct.of [some (.ref (L.1 52)), some (.int p), none, none] rfl (Nat.le_of_ble_eq_true rfl) (show plainName RX6 = true by decide +kernel) rfl ?_
  refine G.aload_n0 dX6_sendsKept_0 ?_
  refine G.iload_n1 dX6_sendsKept_1 ?_
  refine G.mcall (f' := fX6_isPerson) q1950 ck_X6_isPerson (c_X6_isPerson E L M ph p h10 hK.1.2) dX6_sendsKept_2 (rI.k fun r_2 M_2 h_2 => ?_)
  obtain ⟨e_2, h_2⟩ := h_2; replace e_2 := e_2.symm; replace h_2 := h_2.symm; subst e_2; subst h_2
  refine G.ifb_ne (tgt := 11) dX6_sendsKept_5 (by decide) (fun c_5 => ?_) (fun c_5 => ?_)
  · have q := of_decide_eq_true c_5
    obtain ⟨k, hk, rfl⟩ := oP q h10
    have e0 : oSendK M n u (nI k) = if M.2.2.1 2 k = nI 0 then (kCosts (M.2.2.1 2) k, mar (sKeep M u (nI 0)) 2 (kSend (M.2.2.1 2) k)) else (-3, M) := by
      unfold oSendK
      rw [if_pos q, tNat_nI (by omega)]
    refine G.aload_n0 dX6_sendsKept_11 ?_
    refine G.mgeta 2 fl_X6_24 dX6_sendsKept_12 ?_
    refine G.iconst (v := nI 0) dX6_sendsKept_15 (by decide) ?_
    refine G.iload_n1 dX6_sendsKept_16 ?_
    first | with_reducible refine G.iaddn dX6_sendsKept_17 ?_ | refine G.iadd dX6_sendsKept_17 ?_
    refine G.miald (n := 5866) 2 k dX6_sendsKept_18 (congrArg nI (Nat.zero_add k)) (by omega) ?_
    refine G.if_eq (tgt := 25) dX6_sendsKept_19 (by decide) (fun c_19 => ?_) (fun c_19 => ?_)
    · refine G.aload_n0 dX6_sendsKept_25 ?_
      refine G.iconst (v := nI 0) dX6_sendsKept_26 (by decide) ?_
      refine G.mcall (f' := fX6_keeps) q2195 ck_X6_keeps (c_X6_keeps hu hM _) dX6_sendsKept_27 (rV.k fun M_27 h_27 => ?_)
      replace h_27 := h_27.symm; subst h_27
      refine G.aload_n0 dX6_sendsKept_30 ?_
      refine G.iload_n1 dX6_sendsKept_31 ?_
      refine G.mcall (f' := fX6_costsNow) q2167 ck_X6_costsNow (c_X6_costsNow (M := sKeep M u (nI 0)) (b := b) (n := n) hK hk) dX6_sendsKept_32 (rI.k fun r_32 M_32 h_32 => ?_)
      obtain ⟨rfl, g1⟩ := h_32
      have e1 : M_32.2.2.1 2 = M.2.2.1 2 := g1.2.2.1 2 (by decide)
      refine G.istore_n2 dX6_sendsKept_35 ?_
      refine G.aload_n0 dX6_sendsKept_36 ?_
      refine G.iload_n1 dX6_sendsKept_37 ?_
      refine G.mcall (f' := fX6_takesNow) q2104 ck_X6_takesNow (c_X6_takesNow (M := M_32) (b := b) (n := n) (by rw [e1]; exact hK) hk) dX6_sendsKept_38 (rI.k fun r_38 M_38 h_38 => ?_)
      obtain ⟨rfl, g2⟩ := h_38
      have g3 : mA (sKeep M u (nI 0)) M_38 := g1.tr g2 (by simp) (by simp)
      have e2 : M_38.2.2.1 2 = M.2.2.1 2 := g3.2.2.1 2 (by decide)
      have e3 : oSendK M n u (nI k) = (kCosts (M.2.2.1 2) k, mar (sKeep M u (nI 0)) 2 (kSend (M.2.2.1 2) k)) := e0.trans (if_pos (by first | exact c_19 | exact Classical.not_not.mp c_19))
      rw [e1, e3]
      refine G.istore_n3 dX6_sendsKept_41 ?_
      refine G.aload_n0 dX6_sendsKept_42 ?_
      refine G.mgeta 2 fl_X6_24 dX6_sendsKept_43 ?_
      refine G.bipush (v := nI 32) dX6_sendsKept_46 (by decide) ?_
      refine G.dup2_11 dX6_sendsKept_48 rfl rfl ?_
      refine G.miald (n := 5866) 2 _ dX6_sendsKept_49 rfl (by omega) ?_
      rw [e2]
      refine G.iload_n2 dX6_sendsKept_50 ?_
      first | with_reducible refine G.iaddn dX6_sendsKept_51 ?_ | refine G.iadd dX6_sendsKept_51 ?_
      refine G.miast (n := 5866) 2 _ dX6_sendsKept_52 rfl (by omega) ?_
      refine G.aload_n0 dX6_sendsKept_53 ?_
      refine G.mgeta 2 fl_X6_24 dX6_sendsKept_54 ?_
      refine G.iconst (v := nI 0) dX6_sendsKept_57 (by decide) ?_
      refine G.iload_n1 dX6_sendsKept_58 ?_
      first | with_reducible refine G.iaddn dX6_sendsKept_59 ?_ | refine G.iadd dX6_sendsKept_59 ?_
      refine G.iload_n3 dX6_sendsKept_60 ?_
      refine G.if_ne (tgt := 68) dX6_sendsKept_61 (by decide) (fun c_61 => ?_) (fun c_61 => ?_)
      · refine G.iconst (v := nI 1) dX6_sendsKept_68 (by decide) ?_
        refine G.miast (n := 5866) 2 k dX6_sendsKept_69 (congrArg nI (Nat.zero_add k)) (by omega) ?_
        refine G.aload_n0 dX6_sendsKept_70 ?_
        refine G.mgeta 2 fl_X6_24 dX6_sendsKept_71 ?_
        refine G.bipush (v := nI 10) dX6_sendsKept_74 (by decide) ?_
        refine G.iload_n1 dX6_sendsKept_76 ?_
        first | with_reducible refine G.iaddn dX6_sendsKept_77 ?_ | refine G.iadd dX6_sendsKept_77 ?_
        refine G.iload_n3 dX6_sendsKept_78 ?_
        refine G.if_ne (tgt := 86) dX6_sendsKept_79 (by decide) (fun c_79 => ?_) (fun c_79 => ?_)
        · refine G.aload_n0 dX6_sendsKept_86 ?_
          refine G.mgeta 2 fl_X6_24 dX6_sendsKept_87 ?_
          refine G.bipush (v := nI 33) dX6_sendsKept_90 (by decide) ?_
          refine G.miald (n := 5866) 2 _ dX6_sendsKept_92 rfl (by omega) ?_
          rw [ma_at, if_pos rfl, if_neg (by omega), ma_at, if_pos rfl, if_neg (by omega), e2]
          refine G.iload_n3 dX6_sendsKept_93 ?_
          first | with_reducible refine G.iaddn dX6_sendsKept_94 ?_ | refine G.iadd dX6_sendsKept_94 ?_
          refine G.miast (n := 5866) 2 _ dX6_sendsKept_95 rfl (by omega) ?_
          refine G.iload_n2 dX6_sendsKept_96 ?_
          refine G.ireturn dX6_sendsKept_97 ?_
          first
          | exact absurd c_61 c_79
          | exact absurd c_79 c_61
          | (refine ⟨_, rfl, _, rfl, rfl, ?_⟩
             have g4 := cma (k := 2) (j := 10 + k) (v := if kTakes (M.2.2.1 2) k = nI 0 then -1 else M.2.2.1 2 33 + kTakes (M.2.2.1 2) k) (cma (k := 2) (j := k) (v := if kTakes (M.2.2.1 2) k = nI 0 then nI 2 else nI 1) (cma (k := 2) (j := 32) (v := M.2.2.1 2 32 + kCosts (M.2.2.1 2) k) g3))
             rw [ma_eq (M := sKeep M u (nI 0)), ma_mar, ma_mar, sKeep_K] at g4
             first
               | (rw [if_pos (show kTakes (M.2.2.1 2) k = nI 0 from c_61), if_pos (show kTakes (M.2.2.1 2) k = nI 0 from c_61)] at g4
                  unfold kSend
                  rw [if_pos (show kTakes (M.2.2.1 2) k = nI 0 from c_61), if_pos (show kTakes (M.2.2.1 2) k = nI 0 from c_61)]
                  exact g4)
               | (rw [if_neg (show ¬ kTakes (M.2.2.1 2) k = nI 0 from c_61), if_neg (show ¬ kTakes (M.2.2.1 2) k = nI 0 from c_61)] at g4
                  unfold kSend
                  rw [if_neg (show ¬ kTakes (M.2.2.1 2) k = nI 0 from c_61), if_neg (show ¬ kTakes (M.2.2.1 2) k = nI 0 from c_61)]
                  exact g4))
        · refine G.iconst (v := -1) dX6_sendsKept_82 (by decide) ?_
          refine G.goto (tgt := 95) dX6_sendsKept_83 (by decide) ?_
          refine G.miast (n := 5866) 2 _ dX6_sendsKept_95 rfl (by omega) ?_
          refine G.iload_n2 dX6_sendsKept_96 ?_
          refine G.ireturn dX6_sendsKept_97 ?_
          first
          | exact absurd c_61 c_79
          | exact absurd c_79 c_61
          | (refine ⟨_, rfl, _, rfl, rfl, ?_⟩
             have g4 := cma (k := 2) (j := 10 + k) (v := if kTakes (M.2.2.1 2) k = nI 0 then -1 else M.2.2.1 2 33 + kTakes (M.2.2.1 2) k) (cma (k := 2) (j := k) (v := if kTakes (M.2.2.1 2) k = nI 0 then nI 2 else nI 1) (cma (k := 2) (j := 32) (v := M.2.2.1 2 32 + kCosts (M.2.2.1 2) k) g3))
             rw [ma_eq (M := sKeep M u (nI 0)), ma_mar, ma_mar, sKeep_K] at g4
             first
               | (rw [if_pos (show kTakes (M.2.2.1 2) k = nI 0 from c_61), if_pos (show kTakes (M.2.2.1 2) k = nI 0 from c_61)] at g4
                  unfold kSend
                  rw [if_pos (show kTakes (M.2.2.1 2) k = nI 0 from c_61), if_pos (show kTakes (M.2.2.1 2) k = nI 0 from c_61)]
                  exact g4)
               | (rw [if_neg (show ¬ kTakes (M.2.2.1 2) k = nI 0 from c_61), if_neg (show ¬ kTakes (M.2.2.1 2) k = nI 0 from c_61)] at g4
                  unfold kSend
                  rw [if_neg (show ¬ kTakes (M.2.2.1 2) k = nI 0 from c_61), if_neg (show ¬ kTakes (M.2.2.1 2) k = nI 0 from c_61)]
                  exact g4))
      · refine G.iconst (v := nI 2) dX6_sendsKept_64 (by decide) ?_
        refine G.goto (tgt := 69) dX6_sendsKept_65 (by decide) ?_
        refine G.miast (n := 5866) 2 k dX6_sendsKept_69 (congrArg nI (Nat.zero_add k)) (by omega) ?_
        refine G.aload_n0 dX6_sendsKept_70 ?_
        refine G.mgeta 2 fl_X6_24 dX6_sendsKept_71 ?_
        refine G.bipush (v := nI 10) dX6_sendsKept_74 (by decide) ?_
        refine G.iload_n1 dX6_sendsKept_76 ?_
        first | with_reducible refine G.iaddn dX6_sendsKept_77 ?_ | refine G.iadd dX6_sendsKept_77 ?_
        refine G.iload_n3 dX6_sendsKept_78 ?_
        refine G.if_ne (tgt := 86) dX6_sendsKept_79 (by decide) (fun c_79 => ?_) (fun c_79 => ?_)
        · refine G.aload_n0 dX6_sendsKept_86 ?_
          refine G.mgeta 2 fl_X6_24 dX6_sendsKept_87 ?_
          refine G.bipush (v := nI 33) dX6_sendsKept_90 (by decide) ?_
          refine G.miald (n := 5866) 2 _ dX6_sendsKept_92 rfl (by omega) ?_
          rw [ma_at, if_pos rfl, if_neg (by omega), ma_at, if_pos rfl, if_neg (by omega), e2]
          refine G.iload_n3 dX6_sendsKept_93 ?_
          first | with_reducible refine G.iaddn dX6_sendsKept_94 ?_ | refine G.iadd dX6_sendsKept_94 ?_
          refine G.miast (n := 5866) 2 _ dX6_sendsKept_95 rfl (by omega) ?_
          refine G.iload_n2 dX6_sendsKept_96 ?_
          refine G.ireturn dX6_sendsKept_97 ?_
          first
          | exact absurd c_61 c_79
          | exact absurd c_79 c_61
          | (refine ⟨_, rfl, _, rfl, rfl, ?_⟩
             have g4 := cma (k := 2) (j := 10 + k) (v := if kTakes (M.2.2.1 2) k = nI 0 then -1 else M.2.2.1 2 33 + kTakes (M.2.2.1 2) k) (cma (k := 2) (j := k) (v := if kTakes (M.2.2.1 2) k = nI 0 then nI 2 else nI 1) (cma (k := 2) (j := 32) (v := M.2.2.1 2 32 + kCosts (M.2.2.1 2) k) g3))
             rw [ma_eq (M := sKeep M u (nI 0)), ma_mar, ma_mar, sKeep_K] at g4
             first
               | (rw [if_pos (show kTakes (M.2.2.1 2) k = nI 0 from c_61), if_pos (show kTakes (M.2.2.1 2) k = nI 0 from c_61)] at g4
                  unfold kSend
                  rw [if_pos (show kTakes (M.2.2.1 2) k = nI 0 from c_61), if_pos (show kTakes (M.2.2.1 2) k = nI 0 from c_61)]
                  exact g4)
               | (rw [if_neg (show ¬ kTakes (M.2.2.1 2) k = nI 0 from c_61), if_neg (show ¬ kTakes (M.2.2.1 2) k = nI 0 from c_61)] at g4
                  unfold kSend
                  rw [if_neg (show ¬ kTakes (M.2.2.1 2) k = nI 0 from c_61), if_neg (show ¬ kTakes (M.2.2.1 2) k = nI 0 from c_61)]
                  exact g4))
        · refine G.iconst (v := -1) dX6_sendsKept_82 (by decide) ?_
          refine G.goto (tgt := 95) dX6_sendsKept_83 (by decide) ?_
          refine G.miast (n := 5866) 2 _ dX6_sendsKept_95 rfl (by omega) ?_
          refine G.iload_n2 dX6_sendsKept_96 ?_
          refine G.ireturn dX6_sendsKept_97 ?_
          first
          | exact absurd c_61 c_79
          | exact absurd c_79 c_61
          | (refine ⟨_, rfl, _, rfl, rfl, ?_⟩
             have g4 := cma (k := 2) (j := 10 + k) (v := if kTakes (M.2.2.1 2) k = nI 0 then -1 else M.2.2.1 2 33 + kTakes (M.2.2.1 2) k) (cma (k := 2) (j := k) (v := if kTakes (M.2.2.1 2) k = nI 0 then nI 2 else nI 1) (cma (k := 2) (j := 32) (v := M.2.2.1 2 32 + kCosts (M.2.2.1 2) k) g3))
             rw [ma_eq (M := sKeep M u (nI 0)), ma_mar, ma_mar, sKeep_K] at g4
             first
               | (rw [if_pos (show kTakes (M.2.2.1 2) k = nI 0 from c_61), if_pos (show kTakes (M.2.2.1 2) k = nI 0 from c_61)] at g4
                  unfold kSend
                  rw [if_pos (show kTakes (M.2.2.1 2) k = nI 0 from c_61), if_pos (show kTakes (M.2.2.1 2) k = nI 0 from c_61)]
                  exact g4)
               | (rw [if_neg (show ¬ kTakes (M.2.2.1 2) k = nI 0 from c_61), if_neg (show ¬ kTakes (M.2.2.1 2) k = nI 0 from c_61)] at g4
                  unfold kSend
                  rw [if_neg (show ¬ kTakes (M.2.2.1 2) k = nI 0 from c_61), if_neg (show ¬ kTakes (M.2.2.1 2) k = nI 0 from c_61)]
                  exact g4))
    · refine G.bipush (v := -3) dX6_sendsKept_22 (by decide) ?_
      refine G.ireturn dX6_sendsKept_24 ?_
      have e : oSendK M n u (nI k) = (-3, M) := e0.trans (if_neg c_19)
      rw [e]
      exact ⟨_, rfl, _, rfl, rfl, mX.rf⟩
  · refine G.bipush (v := -2) dX6_sendsKept_8 (by decide) ?_
    refine G.ireturn dX6_sendsKept_10 ?_
    have e : oSendK M n u p = (-2, M) := if_neg (of_decide_eq_false c_5)
    rw [e]
    exact ⟨_, rfl, _, rfl, rfl, mX.rf⟩
theorem c_X6_passesNight {M : MM} {b n : Nat} (hK : KOk (M.2.2.1 2) b n) (hd : kDay (M.2.2.1 2) < 999) : MC E fX6_passesNight L M ph [] (rV fun M' => mA (mar M 2 (kNight (M.2.2.1 2) n)) M') := by
  have h10 := hK.1.1
  refine Ct.of [some (.ref (L.1 52)), none] rfl (Nat.le_of_ble_eq_true rfl) (show plainName RX6 = true by decide +kernel) rfl ?_
  have loop2 : ∀ d i M2, i + d = n → mA (mar M 2 (kArrN (kNightA (M.2.2.1 2) n) i)) M2 → G E fX6_passesNight (mFin E fX6_passesNight L ph (rV fun M' => mA (mar M 2 (kNight (M.2.2.1 2) n)) M')) 60 [some (.ref (L.1 52)), some (.int (nI i))] [] (movl L M2 ph) 0 0 := by
    intro d
    induction d with
    | zero =>
      intro i M2 hi hx
      have hk2 := (hK.nightA hd).arrN i (by omega)
      have e2 : M2.2.2.1 2 = kArrN (kNightA (M.2.2.1 2) n) i := (hx.2.2.1 2 (by decide)).trans mar_s
      refine G.iload_n1 dX6_passesNight_60 ?_
      refine G.aload_n0 dX6_passesNight_61 ?_
      refine G.mcall (f' := fX6_people) q1938 ck_X6_people (c_X6_people E L _ ph) dX6_passesNight_62 (rI.k fun r_62 M_62 h_62 => ?_)
      obtain ⟨e_62, h_62⟩ := h_62; replace e_62 := e_62.symm; replace h_62 := h_62.symm; subst e_62; subst h_62
      rw [e2, hk2.1.2]
      refine G.icmp_ge (tgt := 127) dX6_passesNight_65 (by decide) (fun c_65 => ?_) (fun c_65 => ?_)
      · refine G.return_ dX6_passesNight_127 ?_
        exact ⟨_, rfl, rfl, by rw [show i = n from by omega] at hx; exact hx⟩
      · exact absurd (nI_leI (by omega) (by omega) |>.mpr (by omega)) c_65
    | succ d ih =>
      intro i M2 hi hx
      have hk2 := (hK.nightA hd).arrN i (by omega)
      have e2 : M2.2.2.1 2 = kArrN (kNightA (M.2.2.1 2) n) i := (hx.2.2.1 2 (by decide)).trans mar_s
      have hnext : kArrN (kNightA (M.2.2.1 2) n) (i + 1) = kArr (kArrN (kNightA (M.2.2.1 2) n) i) i := rfl
      have hgo := fun M2 => ih (i + 1) M2 (by omega)
      rw [hnext] at hgo
      generalize kArrN (kNightA (M.2.2.1 2) n) i = K2 at *
      have hno : ¬ (K2 i = nI 1 ∧ K2 (10 + i) ≤ K2 33) → kArr K2 i = K2 := fun z => if_neg z
      have hyes : (K2 i = nI 1 ∧ K2 (10 + i) ≤ K2 33) → kArr K2 i = upd (upd K2 i (nI 2)) (10 + i) (-1) := fun z => if_pos z
      refine G.iload_n1 dX6_passesNight_60 ?_
      refine G.aload_n0 dX6_passesNight_61 ?_
      refine G.mcall (f' := fX6_people) q1938 ck_X6_people (c_X6_people E L _ ph) dX6_passesNight_62 (rI.k fun r_62 M_62 h_62 => ?_)
      obtain ⟨e_62, h_62⟩ := h_62; replace e_62 := e_62.symm; replace h_62 := h_62.symm; subst e_62; subst h_62
      rw [e2, hk2.1.2]
      refine G.icmp_ge (tgt := 127) dX6_passesNight_65 (by decide) (fun c_65 => ?_) (fun c_65 => ?_)
      · exact absurd ((nI_leI (by omega) (by omega)).mp c_65) (by omega)
      · refine G.aload_n0 dX6_passesNight_68 ?_
        refine G.mgeta 2 fl_X6_24 dX6_passesNight_69 ?_
        refine G.iconst (v := nI 0) dX6_passesNight_72 (by decide) ?_
        refine G.iload_n1 dX6_passesNight_73 ?_
        first | with_reducible refine G.iaddn dX6_passesNight_74 ?_ | refine G.iadd dX6_passesNight_74 ?_
        refine G.miald (n := 5866) 2 i dX6_passesNight_75 (congrArg nI (Nat.zero_add i)) (by omega) ?_
        refine G.iconst (v := nI 1) dX6_passesNight_76 (by decide) ?_
        rw [e2]
        refine G.icmp_ne (tgt := 121) dX6_passesNight_77 (by decide) (fun c_77 => ?_) (fun c_77 => ?_)
        · refine G.iinc1 dX6_passesNight_121 ?_
          try rw [show ∀ a : Nat, nI a + Int32.ofInt 1 = nI (a + 1) from fun a => nI_add a 1]
          refine G.goto (tgt := 60) dX6_passesNight_124 (by decide) ?_
          first
            | exact hgo _ (by rw [hno (fun z => c_77 z.1)]; exact hx)
            | exact hgo _ (by rw [hno (fun z => c_96 z.2)]; exact hx)
            | (refine hgo _ ?_
               rw [hyes ⟨by first | exact c_77 | exact Classical.not_not.mp c_77, c_96⟩]
               have g4 := cma (k := 2) (j := 10 + i) (v := -1) (cma (k := 2) (j := i) (v := nI 2) hx)
               rw [ma_mar, ma_mar] at g4
               exact g4)
        · refine G.aload_n0 dX6_passesNight_80 ?_
          refine G.mgeta 2 fl_X6_24 dX6_passesNight_81 ?_
          refine G.bipush (v := nI 10) dX6_passesNight_84 (by decide) ?_
          refine G.iload_n1 dX6_passesNight_86 ?_
          first | with_reducible refine G.iaddn dX6_passesNight_87 ?_ | refine G.iadd dX6_passesNight_87 ?_
          refine G.miald (n := 5866) 2 _ dX6_passesNight_88 rfl (by omega) ?_
          refine G.aload_n0 dX6_passesNight_89 ?_
          refine G.mgeta 2 fl_X6_24 dX6_passesNight_90 ?_
          refine G.bipush (v := nI 33) dX6_passesNight_93 (by decide) ?_
          refine G.miald (n := 5866) 2 _ dX6_passesNight_95 rfl (by omega) ?_
          rw [e2]
          refine G.icmp_le (tgt := 102) dX6_passesNight_96 (by decide) (fun c_96 => ?_) (fun c_96 => ?_)
          · refine G.aload_n0 dX6_passesNight_102 ?_
            refine G.mgeta 2 fl_X6_24 dX6_passesNight_103 ?_
            refine G.iconst (v := nI 0) dX6_passesNight_106 (by decide) ?_
            refine G.iload_n1 dX6_passesNight_107 ?_
            first | with_reducible refine G.iaddn dX6_passesNight_108 ?_ | refine G.iadd dX6_passesNight_108 ?_
            refine G.iconst (v := nI 2) dX6_passesNight_109 (by decide) ?_
            refine G.miast (n := 5866) 2 i dX6_passesNight_110 (congrArg nI (Nat.zero_add i)) (by omega) ?_
            refine G.aload_n0 dX6_passesNight_111 ?_
            refine G.mgeta 2 fl_X6_24 dX6_passesNight_112 ?_
            refine G.bipush (v := nI 10) dX6_passesNight_115 (by decide) ?_
            refine G.iload_n1 dX6_passesNight_117 ?_
            first | with_reducible refine G.iaddn dX6_passesNight_118 ?_ | refine G.iadd dX6_passesNight_118 ?_
            refine G.iconst (v := -1) dX6_passesNight_119 (by decide) ?_
            refine G.miast (n := 5866) 2 _ dX6_passesNight_120 rfl (by omega) ?_
            refine G.iinc1 dX6_passesNight_121 ?_
            try rw [show ∀ a : Nat, nI a + Int32.ofInt 1 = nI (a + 1) from fun a => nI_add a 1]
            refine G.goto (tgt := 60) dX6_passesNight_124 (by decide) ?_
            first
              | exact hgo _ (by rw [hno (fun z => c_77 z.1)]; exact hx)
              | exact hgo _ (by rw [hno (fun z => c_96 z.2)]; exact hx)
              | (refine hgo _ ?_
                 rw [hyes ⟨by first | exact c_77 | exact Classical.not_not.mp c_77, c_96⟩]
                 have g4 := cma (k := 2) (j := 10 + i) (v := -1) (cma (k := 2) (j := i) (v := nI 2) hx)
                 rw [ma_mar, ma_mar] at g4
                 exact g4)
          · refine G.goto (tgt := 121) dX6_passesNight_99 (by decide) ?_
            refine G.iinc1 dX6_passesNight_121 ?_
            try rw [show ∀ a : Nat, nI a + Int32.ofInt 1 = nI (a + 1) from fun a => nI_add a 1]
            refine G.goto (tgt := 60) dX6_passesNight_124 (by decide) ?_
            first
              | exact hgo _ (by rw [hno (fun z => c_77 z.1)]; exact hx)
              | exact hgo _ (by rw [hno (fun z => c_96 z.2)]; exact hx)
              | (refine hgo _ ?_
                 rw [hyes ⟨by first | exact c_77 | exact Classical.not_not.mp c_77, c_96⟩]
                 have g4 := cma (k := 2) (j := 10 + i) (v := -1) (cma (k := 2) (j := i) (v := nI 2) hx)
                 rw [ma_mar, ma_mar] at g4
                 exact g4)
  have loop1 : ∀ d i M2, i + d = n → mA (mar M 2 (kSpendN (M.2.2.1 2) i)) M2 → G E fX6_passesNight (mFin E fX6_passesNight L ph (rV fun M' => mA (mar M 2 (kNight (M.2.2.1 2) n)) M')) 2 [some (.ref (L.1 52)), some (.int (nI i))] [] (movl L M2 ph) 0 0 := by
    intro d
    induction d with
    | zero =>
      intro i M2 hi hx
      have hk2 := hK.spent (p := i) (by omega)
      have e2 : M2.2.2.1 2 = kSpendN (M.2.2.1 2) i := (hx.2.2.1 2 (by decide)).trans mar_s
      refine G.iload_n1 dX6_passesNight_2 ?_
      refine G.aload_n0 dX6_passesNight_3 ?_
      refine G.mcall (f' := fX6_people) q1938 ck_X6_people (c_X6_people E L _ ph) dX6_passesNight_4 (rI.k fun r_4 M_4 h_4 => ?_)
      obtain ⟨e_4, h_4⟩ := h_4; replace e_4 := e_4.symm; replace h_4 := h_4.symm; subst e_4; subst h_4
      rw [e2, hk2.1.2]
      refine G.icmp_ge (tgt := 47) dX6_passesNight_7 (by decide) (fun c_7 => ?_) (fun c_7 => ?_)
      · refine G.aload_n0 dX6_passesNight_47 ?_
        refine G.mgeta 2 fl_X6_24 dX6_passesNight_48 ?_
        refine G.bipush (v := nI 33) dX6_passesNight_51 (by decide) ?_
        refine G.dup2_11 dX6_passesNight_53 rfl rfl ?_
        refine G.miald (n := 5866) 2 _ dX6_passesNight_54 rfl (by omega) ?_
        rw [e2]
        refine G.iconst (v := nI 1) dX6_passesNight_55 (by decide) ?_
        refine G.iadd dX6_passesNight_56 ?_
        refine G.miast (n := 5866) 2 _ dX6_passesNight_57 rfl (by omega) ?_
        refine G.iconst (v := nI 0) dX6_passesNight_58 (by decide) ?_
        refine G.istore_n1 dX6_passesNight_59 ?_
        refine loop2 n 0 _ (by omega) ?_
        have g4 := cma (k := 2) (j := 33) (v := kSpendN (M.2.2.1 2) i 33 + nI 1) hx
        rw [ma_mar, show i = n from by omega] at g4
        rw [show i = n from by omega]
        exact g4
      · exact absurd (nI_leI (by omega) (by omega) |>.mpr (by omega)) c_7
    | succ d ih =>
      intro i M2 hi hx
      have hk2 := hK.spent (p := i) (by omega)
      have e2 : M2.2.2.1 2 = kSpendN (M.2.2.1 2) i := (hx.2.2.1 2 (by decide)).trans mar_s
      have hgo := fun M2 => ih (i + 1) M2 (by omega)
      rw [show kSpendN (M.2.2.1 2) (i + 1) = kSpend (kSpendN (M.2.2.1 2) i) i from rfl] at hgo
      generalize kSpendN (M.2.2.1 2) i = K2 at *
      refine G.iload_n1 dX6_passesNight_2 ?_
      refine G.aload_n0 dX6_passesNight_3 ?_
      refine G.mcall (f' := fX6_people) q1938 ck_X6_people (c_X6_people E L _ ph) dX6_passesNight_4 (rI.k fun r_4 M_4 h_4 => ?_)
      obtain ⟨e_4, h_4⟩ := h_4; replace e_4 := e_4.symm; replace h_4 := h_4.symm; subst e_4; subst h_4
      rw [e2, hk2.1.2]
      refine G.icmp_ge (tgt := 47) dX6_passesNight_7 (by decide) (fun c_7 => ?_) (fun c_7 => ?_)
      · exact absurd ((nI_leI (by omega) (by omega)).mp c_7) (by omega)
      · refine G.aload_n0 dX6_passesNight_10 ?_
        refine G.mgeta 2 fl_X6_24 dX6_passesNight_11 ?_
        refine G.bipush (v := nI 32) dX6_passesNight_14 (by decide) ?_
        refine G.dup2_11 dX6_passesNight_16 rfl rfl ?_
        refine G.miald (n := 5866) 2 _ dX6_passesNight_17 rfl (by omega) ?_
        refine G.aload_n0 dX6_passesNight_18 ?_
        refine G.mgeta 2 fl_X6_24 dX6_passesNight_19 ?_
        refine G.iconst (v := nI 0) dX6_passesNight_22 (by decide) ?_
        refine G.iload_n1 dX6_passesNight_23 ?_
        first | with_reducible refine G.iaddn dX6_passesNight_24 ?_ | refine G.iadd dX6_passesNight_24 ?_
        refine G.miald (n := 5866) 2 i dX6_passesNight_25 (congrArg nI (Nat.zero_add i)) (by omega) ?_
        refine G.iconst (v := nI 2) dX6_passesNight_26 (by decide) ?_
        rw [e2]
        refine G.icmp_ne (tgt := 38) dX6_passesNight_27 (by decide) (fun c_27 => ?_) (fun c_27 => ?_)
        · refine G.iconst (v := nI 0) dX6_passesNight_38 (by decide) ?_
          refine G.iadd dX6_passesNight_39 ?_
          refine G.miast (n := 5866) 2 _ dX6_passesNight_40 rfl (by omega) ?_
          refine G.iinc1 dX6_passesNight_41 ?_
          try rw [show ∀ a : Nat, nI a + Int32.ofInt 1 = nI (a + 1) from fun a => nI_add a 1]
          refine G.goto (tgt := 2) dX6_passesNight_44 (by decide) ?_
          refine hgo _ ?_
          unfold kSpend
          first
            | rw [if_pos (show K2 i = nI 2 from by first | exact c_27 | exact Classical.not_not.mp c_27)]
            | rw [if_neg c_27]
          first
            | (have g4 := cma (k := 2) (j := 32) (v := K2 32 + kLodges K2 i) (hx.tr g1 (by simp) (by simp))
               rw [ma_mar] at g4
               exact g4)
            | (have g4 := cma (k := 2) (j := 32) (v := K2 32 + nI 0) hx
               rw [ma_mar] at g4
               exact g4)
        · refine G.aload_n0 dX6_passesNight_30 ?_
          refine G.iload_n1 dX6_passesNight_31 ?_
          refine G.mcall (f' := fX6_lodgesNow) q2171 ck_X6_lodgesNow (c_X6_lodgesNow (M := M2) (b := b + 1) (n := n) (p := i) (by rw [e2]; exact hk2) (by omega)) dX6_passesNight_32 (rI.k fun r_32 M_32 h_32 => ?_)
          obtain ⟨rfl, g1⟩ := h_32
          rw [e2]
          refine G.goto (tgt := 39) dX6_passesNight_35 (by decide) ?_
          refine G.iadd dX6_passesNight_39 ?_
          refine G.miast (n := 5866) 2 _ dX6_passesNight_40 rfl (by omega) ?_
          refine G.iinc1 dX6_passesNight_41 ?_
          try rw [show ∀ a : Nat, nI a + Int32.ofInt 1 = nI (a + 1) from fun a => nI_add a 1]
          refine G.goto (tgt := 2) dX6_passesNight_44 (by decide) ?_
          refine hgo _ ?_
          unfold kSpend
          first
            | rw [if_pos (show K2 i = nI 2 from by first | exact c_27 | exact Classical.not_not.mp c_27)]
            | rw [if_neg c_27]
          first
            | (have g4 := cma (k := 2) (j := 32) (v := K2 32 + kLodges K2 i) (hx.tr g1 (by simp) (by simp))
               rw [ma_mar] at g4
               exact g4)
            | (have g4 := cma (k := 2) (j := 32) (v := K2 32 + nI 0) hx
               rw [ma_mar] at g4
               exact g4)
  refine G.iconst (v := nI 0) dX6_passesNight_0 (by decide) ?_
  refine G.istore_n1 dX6_passesNight_1 ?_
  exact loop1 n 0 M (by omega) (by rw [show kSpendN (M.2.2.1 2) 0 = M.2.2.1 2 from rfl, mar_id]; exact mX.rf)
end Acts
