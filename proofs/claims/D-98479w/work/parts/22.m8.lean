/-! THE MODEL ASKS: numbers set, then told -/
section Asks
variable {E : JE} {L : ML} {ph : HP}
theorem ma_at {M : MM} {k j k2 j2 : Nat} {v : Int32} : (ma M k j v).2.2.1 k2 j2 = if k2 = k then (if j2 = j then v else M.2.2.1 k j2) else M.2.2.1 k2 j2 := by
  show (if k2 = k then upd (M.2.2.1 k) j v else M.2.2.1 k2) j2 = _
  split
  · rfl
  · rfl
theorem c_X6_fogOn {M : MM} {b n : Nat} (hK : KOk (M.2.2.1 2) b n) (d : Nat) (hd : d < 100000) : MC E fX6_fogOn L M ph [.int (nI d)] (rI fun r M' => r = bI (fogOf (M.2.2.1 2) d) ∧ M' = M) := by
  refine Ct.of [some (.ref (L.1 52)), some (.int (nI d))] rfl (Nat.le_of_ble_eq_true rfl) (show plainName RX6 = true by decide +kernel) rfl ?_
  refine G.iload_n1 dX6_fogOn_0 ?_
  refine G.bipush (v := nI 100) dX6_fogOn_1 (by decide) ?_
  refine G.icmp_ge (tgt := 19) dX6_fogOn_3 (by decide) (fun c_3 => ?_) (fun c_3 => ?_)
  · have q : ¬ d < 100 := fun z => absurd ((nI_leI (by omega) (by omega)).mp c_3) (by omega)
    refine G.iconst (v := nI 0) dX6_fogOn_19 (by decide) ?_
    refine G.ireturn dX6_fogOn_20 ?_
    first
    | exact ⟨_, rfl, _, rfl, by unfold fogOf; rw [if_neg q]; rfl, rfl⟩
    | exact ⟨_, rfl, _, rfl, hK.fog q, rfl⟩
  · have q : d < 100 := by
      rcases Nat.lt_or_ge d 100 with z | z
      · exact z
      · exact absurd ((nI_leI (by omega) (by omega)).mpr z) c_3
    refine G.aload_n0 dX6_fogOn_6 ?_
    refine G.mgeta 2 fl_X6_24 dX6_fogOn_7 ?_
    refine G.sipush (v := nI 154) dX6_fogOn_10 (by decide) ?_
    refine G.iload_n1 dX6_fogOn_13 ?_
    first | with_reducible refine G.iaddn dX6_fogOn_14 ?_ | refine G.iadd dX6_fogOn_14 ?_
    refine G.miald (n := 5866) 2 _ dX6_fogOn_15 rfl (by omega) ?_
    refine G.goto (tgt := 20) dX6_fogOn_16 (by decide) ?_
    refine G.ireturn dX6_fogOn_20 ?_
    first
    | exact ⟨_, rfl, _, rfl, by unfold fogOf; rw [if_neg q]; rfl, rfl⟩
    | exact ⟨_, rfl, _, rfl, hK.fog q, rfl⟩
theorem c_X6_sets {M : MM} {b n : Nat} (hK : KOk (M.2.2.1 2) b n) {p : Nat} (hp : p < n) (heard : Int32) (other : Option Nat) (ho : ∀ q, other = some q → q < n) (day fog : Int32) : MC E fX6_sets L M ph [.int (nI p), .int heard, .int (oI other), .int day, .int fog] (rV fun M' => mX [] [25] M M' ∧ ∀ i, i < 10 → M'.2.2.1 25 i = aSets (M.2.2.1 2) p heard other day fog i) := by
  refine Ct.of [some (.ref (L.1 52)), some (.int (nI p)), some (.int heard), some (.int (oI other)), some (.int day), some (.int fog)] rfl (Nat.le_of_ble_eq_true rfl) (show plainName RX6 = true by decide +kernel) rfl ?_
  have h10 : n ≤ 10 := hK.1.1
  cases other with
  | none =>
    refine G.aload_n0 dX6_sets_0 ?_
    refine G.mgeta 25 fl_X6_59 dX6_sets_1 ?_
    refine G.iconst (v := nI 0) dX6_sets_4 (by decide) ?_
    refine G.iload_n1 dX6_sets_5 ?_
    refine G.miast (n := 10) 25 _ dX6_sets_6 rfl (by omega) ?_
    refine G.aload_n0 dX6_sets_7 ?_
    refine G.mgeta 25 fl_X6_59 dX6_sets_8 ?_
    refine G.iconst (v := nI 1) dX6_sets_11 (by decide) ?_
    refine G.aload_n0 dX6_sets_12 ?_
    refine G.iload_n1 dX6_sets_13 ?_
    refine G.mcall (f' := fX6_roadOf) q1958 ck_X6_roadOf (c_X6_roadOf E L _ ph (k := p) (by omega)) dX6_sets_14 (rI.k fun r_14 M_14 h_14 => ?_)
    obtain ⟨e_14, h_14⟩ := h_14; replace e_14 := e_14.symm; replace h_14 := h_14.symm; subst e_14; subst h_14
    refine G.miast (n := 10) 25 _ dX6_sets_17 rfl (by omega) ?_
    refine G.aload_n0 dX6_sets_18 ?_
    refine G.mgeta 25 fl_X6_59 dX6_sets_19 ?_
    refine G.iconst (v := nI 2) dX6_sets_22 (by decide) ?_
    refine G.aload_n0 dX6_sets_23 ?_
    refine G.iload_n1 dX6_sets_24 ?_
    refine G.mcall (f' := fX6_landOf) q1962 ck_X6_landOf (c_X6_landOf E L _ ph (k := p) (by omega)) dX6_sets_25 (rI.k fun r_25 M_25 h_25 => ?_)
    obtain ⟨e_25, h_25⟩ := h_25; replace e_25 := e_25.symm; replace h_25 := h_25.symm; subst e_25; subst h_25
    refine G.miast (n := 10) 25 _ dX6_sets_28 rfl (by omega) ?_
    refine G.aload_n0 dX6_sets_29 ?_
    refine G.mgeta 25 fl_X6_59 dX6_sets_30 ?_
    refine G.iconst (v := nI 3) dX6_sets_33 (by decide) ?_
    refine G.iload_n2 dX6_sets_34 ?_
    refine G.miast (n := 10) 25 _ dX6_sets_35 rfl (by omega) ?_
    refine G.aload_n0 dX6_sets_36 ?_
    refine G.mgeta 25 fl_X6_59 dX6_sets_37 ?_
    refine G.iconst (v := nI 4) dX6_sets_40 (by decide) ?_
    refine G.iload_n3 dX6_sets_41 ?_
    refine G.miast (n := 10) 25 _ dX6_sets_42 rfl (by omega) ?_
    refine G.aload_n0 dX6_sets_43 ?_
    refine G.mgeta 25 fl_X6_59 dX6_sets_44 ?_
    refine G.iconst (v := nI 5) dX6_sets_47 (by decide) ?_
    refine G.iload_n3 dX6_sets_48 ?_
    refine G.iconst (v := -1) dX6_sets_49 (by decide) ?_
    refine G.icmp_ne (tgt := 57) dX6_sets_50 (by decide) (fun c_50 => absurd c_50 (by exact fun z => z rfl)) (fun c_50 => ?_)
    refine G.iconst (v := -1) dX6_sets_53 (by decide) ?_
    refine G.goto (tgt := 62) dX6_sets_54 (by decide) ?_
    refine G.miast (n := 10) 25 _ dX6_sets_62 rfl (by omega) ?_
    refine G.aload_n0 dX6_sets_63 ?_
    refine G.mgeta 25 fl_X6_59 dX6_sets_64 ?_
    refine G.bipush (v := nI 6) dX6_sets_67 (by decide) ?_
    refine G.iload_n3 dX6_sets_69 ?_
    refine G.iconst (v := -1) dX6_sets_70 (by decide) ?_
    refine G.icmp_ne (tgt := 78) dX6_sets_71 (by decide) (fun c_71 => absurd c_71 (by exact fun z => z rfl)) (fun c_71 => ?_)
    refine G.iconst (v := -1) dX6_sets_74 (by decide) ?_
    refine G.goto (tgt := 83) dX6_sets_75 (by decide) ?_
    refine G.miast (n := 10) 25 _ dX6_sets_83 rfl (by omega) ?_
    refine G.aload_n0 dX6_sets_84 ?_
    refine G.mgeta 25 fl_X6_59 dX6_sets_85 ?_
    refine G.bipush (v := nI 7) dX6_sets_88 (by decide) ?_
    refine G.iload5 dX6_sets_90 ?_
    refine G.miast (n := 10) 25 _ dX6_sets_92 rfl (by omega) ?_
    refine G.aload_n0 dX6_sets_93 ?_
    refine G.mgeta 25 fl_X6_59 dX6_sets_94 ?_
    refine G.bipush (v := nI 8) dX6_sets_97 (by decide) ?_
    refine G.aload_n0 dX6_sets_99 ?_
    refine G.mgeta 2 fl_X6_24 dX6_sets_100 ?_
    refine G.sipush (v := nI 255) dX6_sets_103 (by decide) ?_
    refine G.miald (n := 5866) 2 _ dX6_sets_106 rfl (by omega) ?_
    refine G.miast (n := 10) 25 _ dX6_sets_107 rfl (by omega) ?_
    refine G.aload_n0 dX6_sets_108 ?_
    refine G.mgeta 25 fl_X6_59 dX6_sets_109 ?_
    refine G.bipush (v := nI 9) dX6_sets_112 (by decide) ?_
    refine G.iload4 dX6_sets_114 ?_
    refine G.miast (n := 10) 25 _ dX6_sets_116 rfl (by omega) ?_
    refine G.return_ dX6_sets_117 ?_
    refine ⟨_, rfl, rfl, ?_, ?_⟩
    · exact (((((((((mX.rf.ma (by decide)).ma (by decide)).ma (by decide)).ma (by decide)).ma (by decide)).ma (by decide)).ma (by decide)).ma (by decide)).ma (by decide)).ma (by decide)
    · intro i hi
      rcases (show i = 0 ∨ i = 1 ∨ i = 2 ∨ i = 3 ∨ i = 4 ∨ i = 5 ∨ i = 6 ∨ i = 7 ∨ i = 8 ∨ i = 9 from by omega) with rfl | rfl | rfl | rfl | rfl | rfl | rfl | rfl | rfl | rfl <;> rfl
  | some q =>
    have hq := ho q rfl
    have hne : ¬ nI q = -1 := fun z => by rw [i_eq, t_nI (by omega), t_m1] at z; omega
    refine G.aload_n0 dX6_sets_0 ?_
    refine G.mgeta 25 fl_X6_59 dX6_sets_1 ?_
    refine G.iconst (v := nI 0) dX6_sets_4 (by decide) ?_
    refine G.iload_n1 dX6_sets_5 ?_
    refine G.miast (n := 10) 25 _ dX6_sets_6 rfl (by omega) ?_
    refine G.aload_n0 dX6_sets_7 ?_
    refine G.mgeta 25 fl_X6_59 dX6_sets_8 ?_
    refine G.iconst (v := nI 1) dX6_sets_11 (by decide) ?_
    refine G.aload_n0 dX6_sets_12 ?_
    refine G.iload_n1 dX6_sets_13 ?_
    refine G.mcall (f' := fX6_roadOf) q1958 ck_X6_roadOf (c_X6_roadOf E L _ ph (k := p) (by omega)) dX6_sets_14 (rI.k fun r_14 M_14 h_14 => ?_)
    obtain ⟨e_14, h_14⟩ := h_14; replace e_14 := e_14.symm; replace h_14 := h_14.symm; subst e_14; subst h_14
    refine G.miast (n := 10) 25 _ dX6_sets_17 rfl (by omega) ?_
    refine G.aload_n0 dX6_sets_18 ?_
    refine G.mgeta 25 fl_X6_59 dX6_sets_19 ?_
    refine G.iconst (v := nI 2) dX6_sets_22 (by decide) ?_
    refine G.aload_n0 dX6_sets_23 ?_
    refine G.iload_n1 dX6_sets_24 ?_
    refine G.mcall (f' := fX6_landOf) q1962 ck_X6_landOf (c_X6_landOf E L _ ph (k := p) (by omega)) dX6_sets_25 (rI.k fun r_25 M_25 h_25 => ?_)
    obtain ⟨e_25, h_25⟩ := h_25; replace e_25 := e_25.symm; replace h_25 := h_25.symm; subst e_25; subst h_25
    refine G.miast (n := 10) 25 _ dX6_sets_28 rfl (by omega) ?_
    refine G.aload_n0 dX6_sets_29 ?_
    refine G.mgeta 25 fl_X6_59 dX6_sets_30 ?_
    refine G.iconst (v := nI 3) dX6_sets_33 (by decide) ?_
    refine G.iload_n2 dX6_sets_34 ?_
    refine G.miast (n := 10) 25 _ dX6_sets_35 rfl (by omega) ?_
    refine G.aload_n0 dX6_sets_36 ?_
    refine G.mgeta 25 fl_X6_59 dX6_sets_37 ?_
    refine G.iconst (v := nI 4) dX6_sets_40 (by decide) ?_
    refine G.iload_n3 dX6_sets_41 ?_
    refine G.miast (n := 10) 25 _ dX6_sets_42 rfl (by omega) ?_
    refine G.aload_n0 dX6_sets_43 ?_
    refine G.mgeta 25 fl_X6_59 dX6_sets_44 ?_
    refine G.iconst (v := nI 5) dX6_sets_47 (by decide) ?_
    refine G.iload_n3 dX6_sets_48 ?_
    refine G.iconst (v := -1) dX6_sets_49 (by decide) ?_
    refine G.icmp_ne (tgt := 57) dX6_sets_50 (by decide) (fun c_50 => ?_) (fun c_50 => absurd c_50 (by exact hne))
    refine G.aload_n0 dX6_sets_57 ?_
    refine G.iload_n3 dX6_sets_58 ?_
    refine G.mcall (f' := fX6_landOf) q1962 ck_X6_landOf (c_X6_landOf E L _ ph (k := q) (by omega)) dX6_sets_59 (rI.k fun r_59 M_59 h_59 => ?_)
    obtain ⟨e_59, h_59⟩ := h_59; replace e_59 := e_59.symm; replace h_59 := h_59.symm; subst e_59; subst h_59
    refine G.miast (n := 10) 25 _ dX6_sets_62 rfl (by omega) ?_
    refine G.aload_n0 dX6_sets_63 ?_
    refine G.mgeta 25 fl_X6_59 dX6_sets_64 ?_
    refine G.bipush (v := nI 6) dX6_sets_67 (by decide) ?_
    refine G.iload_n3 dX6_sets_69 ?_
    refine G.iconst (v := -1) dX6_sets_70 (by decide) ?_
    refine G.icmp_ne (tgt := 78) dX6_sets_71 (by decide) (fun c_71 => ?_) (fun c_71 => absurd c_71 (by exact hne))
    refine G.aload_n0 dX6_sets_78 ?_
    refine G.iload_n3 dX6_sets_79 ?_
    refine G.mcall (f' := fX6_roadOf) q1958 ck_X6_roadOf (c_X6_roadOf E L _ ph (k := q) (by omega)) dX6_sets_80 (rI.k fun r_80 M_80 h_80 => ?_)
    obtain ⟨e_80, h_80⟩ := h_80; replace e_80 := e_80.symm; replace h_80 := h_80.symm; subst e_80; subst h_80
    refine G.miast (n := 10) 25 _ dX6_sets_83 rfl (by omega) ?_
    refine G.aload_n0 dX6_sets_84 ?_
    refine G.mgeta 25 fl_X6_59 dX6_sets_85 ?_
    refine G.bipush (v := nI 7) dX6_sets_88 (by decide) ?_
    refine G.iload5 dX6_sets_90 ?_
    refine G.miast (n := 10) 25 _ dX6_sets_92 rfl (by omega) ?_
    refine G.aload_n0 dX6_sets_93 ?_
    refine G.mgeta 25 fl_X6_59 dX6_sets_94 ?_
    refine G.bipush (v := nI 8) dX6_sets_97 (by decide) ?_
    refine G.aload_n0 dX6_sets_99 ?_
    refine G.mgeta 2 fl_X6_24 dX6_sets_100 ?_
    refine G.sipush (v := nI 255) dX6_sets_103 (by decide) ?_
    refine G.miald (n := 5866) 2 _ dX6_sets_106 rfl (by omega) ?_
    refine G.miast (n := 10) 25 _ dX6_sets_107 rfl (by omega) ?_
    refine G.aload_n0 dX6_sets_108 ?_
    refine G.mgeta 25 fl_X6_59 dX6_sets_109 ?_
    refine G.bipush (v := nI 9) dX6_sets_112 (by decide) ?_
    refine G.iload4 dX6_sets_114 ?_
    refine G.miast (n := 10) 25 _ dX6_sets_116 rfl (by omega) ?_
    refine G.return_ dX6_sets_117 ?_
    refine ⟨_, rfl, rfl, ?_, ?_⟩
    · exact (((((((((mX.rf.ma (by decide)).ma (by decide)).ma (by decide)).ma (by decide)).ma (by decide)).ma (by decide)).ma (by decide)).ma (by decide)).ma (by decide)).ma (by decide)
    · intro i hi
      rcases (show i = 0 ∨ i = 1 ∨ i = 2 ∨ i = 3 ∨ i = 4 ∨ i = 5 ∨ i = 6 ∨ i = 7 ∨ i = 8 ∨ i = 9 from by omega) with rfl | rfl | rfl | rfl | rfl | rfl | rfl | rfl | rfl | rfl <;> rfl
theorem MC.mono {f : FS} {M : MM} {As : List Value} {P P' : Option Value → MM → Prop} (h : ∀ v M', P v M' → P' v M') (k : MC E f L M ph As P) : MC E f L M ph As P' := Ct.mono (fun v ph' q => by obtain ⟨M', e, h1⟩ := q; exact ⟨M', e, h v M' h1⟩) (fun _ _ _ h => h) k
theorem rI.imp {P P' : Int32 → MM → Prop} (h : ∀ r M', P r M' → P' r M') : ∀ v M', rI P v M' → rI P' v M' := by
  rintro _ M' ⟨r, rfl, q⟩
  exact ⟨r, rfl, h r M' q⟩
def aBd (a : Nat → Int32) : Prop := ∀ i, i < 10 → -1000000000 ≤ (a i).toInt ∧ (a i).toInt ≤ 1000000000
theorem aSets_bd {K : KR} {b n p : Nat} {heard day fog : Int32} {other : Option Nat} (hK : KOk K b n) (hp : p < n) (ho : ∀ q, other = some q → q < n) (hh : -1000000000 ≤ heard.toInt ∧ heard.toInt ≤ 1000000000) (hd : -1000000000 ≤ day.toInt ∧ day.toInt ≤ 1000000000) (hf : -1000000000 ≤ fog.toInt ∧ fog.toInt ≤ 1000000000) : aBd (aSets K p heard other day fog) := by
  intro i hi
  have h10 := hK.1.1
  obtain ⟨m, hm, em⟩ := hK.2.2.2.2.2.2.1
  rcases (show i = 0 ∨ i = 1 ∨ i = 2 ∨ i = 3 ∨ i = 4 ∨ i = 5 ∨ i = 6 ∨ i = 7 ∨ i = 8 ∨ i = 9 from by omega) with rfl | rfl | rfl | rfl | rfl | rfl | rfl | rfl | rfl | rfl
  · show -1000000000 ≤ (nI p).toInt ∧ (nI p).toInt ≤ 1000000000
    rw [t_nI (by omega)]; omega
  · show -1000000000 ≤ (K (34 + 2 * p)).toInt ∧ (K (34 + 2 * p)).toInt ≤ 1000000000
    have := hK.road hp
    rw [this.1, t_nI (by omega)]; omega
  · show -1000000000 ≤ (K (34 + 2 * p + 1)).toInt ∧ (K (34 + 2 * p + 1)).toInt ≤ 1000000000
    have := hK.land hp
    rw [this.1, t_nI (by omega)]; omega
  · exact hh
  · show -1000000000 ≤ (oI other).toInt ∧ (oI other).toInt ≤ 1000000000
    cases other with
    | none => exact ⟨by decide, by decide⟩
    | some q =>
      have := ho q rfl
      show -1000000000 ≤ (nI q).toInt ∧ (nI q).toInt ≤ 1000000000
      rw [t_nI (by omega)]; omega
  · cases other with
    | none =>
      show -1000000000 ≤ (-1 : Int32).toInt ∧ (-1 : Int32).toInt ≤ 1000000000
      exact ⟨by decide, by decide⟩
    | some q =>
      have := hK.land (ho q rfl)
      show -1000000000 ≤ (K (34 + 2 * q + 1)).toInt ∧ (K (34 + 2 * q + 1)).toInt ≤ 1000000000
      rw [this.1, t_nI (by omega)]; omega
  · cases other with
    | none =>
      show -1000000000 ≤ (-1 : Int32).toInt ∧ (-1 : Int32).toInt ≤ 1000000000
      exact ⟨by decide, by decide⟩
    | some q =>
      have := hK.road (ho q rfl)
      show -1000000000 ≤ (K (34 + 2 * q)).toInt ∧ (K (34 + 2 * q)).toInt ≤ 1000000000
      rw [this.1, t_nI (by omega)]; omega
  · exact hf
  · show -1000000000 ≤ (K 255).toInt ∧ (K 255).toInt ≤ 1000000000
    rw [em, t_nI (by omega)]; omega
  · exact hd
theorem tellsOf_congr {K : KR} {a a' : Nat → Int32} (h : ∀ i, i < 10 → a i = a' i) (head high without : Nat) : tellsOf K head a high without = tellsOf K head a' high without := by
  have e : aEn K a = aEn K a' := by
    unfold aEn
    refine Prod.ext (funext fun i => ?_) rfl
    show (if i < 10 then (a i).toInt64 else 0) = (if i < 10 then (a' i).toInt64 else 0)
    split
    · rename_i q; rw [h i q]
    · rfl
  unfold tellsOf
  rw [e]
/-- told, when the numbers have been set -/
theorem c_told {M M2 : MM} {b n : Nat} (hK : KOk (M.2.2.1 2) b n) {a : Nat → Int32} (hx : mX [] [25] M M2) (h25 : ∀ i, i < 10 → M2.2.2.1 25 i = a i) (hb : aBd a) (head high without : Nat) (hh : head < 100) : MC E fX6_tells L M2 ph [.int (nI head), .int (nI high), .int (nI without)] (rI fun r M' => r = tellsOf (M.2.2.1 2) head a high without ∧ mX [8, 22, 23, 24] [25] M M') := by
  have e2 : M2.2.2.1 2 = M.2.2.1 2 := hx.2.2.1 2 (by decide)
  refine MC.mono (rI.imp ?_) (c_X6_tells (M := M2) (b := b) (n := n) (by rw [e2]; exact hK) (fun i hi => by rw [h25 i hi]; exact hb i hi) head high without hh)
  rintro r M' ⟨rfl, h2⟩
  refine ⟨by rw [e2]; exact tellsOf_congr h25 _ _ _, ?_⟩
  exact (hx.mono (by simp) (by simp)).tr h2 (by simp) (by simp)
theorem c_X6_setsNow {M : MM} {b n : Nat} (hK : KOk (M.2.2.1 2) b n) {p : Nat} (hp : p < n) : MC E fX6_setsNow L M ph [.int (nI p)] (rV fun M' => mX [] [25] M M' ∧ ∀ i, i < 10 → M'.2.2.1 25 i = aNow (M.2.2.1 2) p i) := by
  have h10 := hK.1.1
  have hday := hK.day
  refine Ct.of [some (.ref (L.1 52)), some (.int (nI p))] rfl (Nat.le_of_ble_eq_true rfl) (show plainName RX6 = true by decide +kernel) rfl ?_
  refine G.aload_n0 dX6_setsNow_0 ?_
  refine G.iload_n1 dX6_setsNow_1 ?_
  refine G.aload_n0 dX6_setsNow_2 ?_
  refine G.mgeta 2 fl_X6_24 dX6_setsNow_3 ?_
  refine G.bipush (v := nI 20) dX6_setsNow_6 (by decide) ?_
  refine G.iload_n1 dX6_setsNow_8 ?_
  first | with_reducible refine G.iaddn dX6_setsNow_9 ?_ | refine G.iadd dX6_setsNow_9 ?_
  refine G.miald (n := 5866) 2 _ dX6_setsNow_10 rfl (by omega) ?_
  refine G.iconst (v := -1) dX6_setsNow_11 (by decide) ?_
  refine G.aload_n0 dX6_setsNow_12 ?_
  refine G.mgeta 2 fl_X6_24 dX6_setsNow_13 ?_
  refine G.bipush (v := nI 33) dX6_setsNow_16 (by decide) ?_
  refine G.miald (n := 5866) 2 _ dX6_setsNow_18 rfl (by omega) ?_
  refine G.aload_n0 dX6_setsNow_19 ?_
  refine G.aload_n0 dX6_setsNow_20 ?_
  refine G.mgeta 2 fl_X6_24 dX6_setsNow_21 ?_
  refine G.bipush (v := nI 33) dX6_setsNow_24 (by decide) ?_
  refine G.miald (n := 5866) 2 _ dX6_setsNow_26 rfl (by omega) ?_
  rw [hday.1]
  refine G.mcall (f' := fX6_fogOn) q2112 ck_X6_fogOn (c_X6_fogOn hK (kDay (M.2.2.1 2)) (by omega)) dX6_setsNow_27 (rI.k fun r_27 M_27 h_27 => ?_)
  obtain ⟨e_27, h_27⟩ := h_27; replace e_27 := e_27.symm; replace h_27 := h_27.symm; subst e_27; subst h_27
  refine G.mcall (f' := fX6_sets) q2116 ck_X6_sets (c_X6_sets hK hp _ none (fun q z => by cases z) _ _) dX6_setsNow_30 (rV.k fun M_30 h_30 => ?_)
  obtain ⟨g1, g2⟩ := h_30
  refine G.return_ dX6_setsNow_33 ?_
  refine ⟨_, rfl, rfl, g1, ?_⟩
  unfold aNow
  rw [hday.1]
  exact g2
theorem aNow_bd {K : KR} {b n p : Nat} (hK : KOk K b n) (hp : p < n) : aBd (aNow K p) := by
  have h1 := hK.heard hp
  have h2 := hK.day
  refine aSets_bd hK hp (fun q z => by cases z) ?_ ?_ ?_
  · rw [h1.1, t_nI (by omega)]; omega
  · rw [h2.1, t_nI (by omega)]; omega
  · cases fogOf K (kDay K) <;> exact ⟨by decide, by decide⟩
theorem c_X6_takesNow {M : MM} {b n : Nat} (hK : KOk (M.2.2.1 2) b n) {p : Nat} (hp : p < n) : MC E fX6_takesNow L M ph [.int (nI p)] (rI fun r M' => r = kTakes (M.2.2.1 2) p ∧ mX [8, 22, 23, 24] [25] M M') := by
  have h10 := hK.1.1
  have hr := hK.road hp
  refine Ct.of [some (.ref (L.1 52)), some (.int (nI p))] rfl (Nat.le_of_ble_eq_true rfl) (show plainName RX6 = true by decide +kernel) rfl ?_
  refine G.aload_n0 dX6_takesNow_0 ?_
  refine G.iload_n1 dX6_takesNow_1 ?_
  refine G.mcall (f' := fX6_setsNow) q2108 ck_X6_setsNow (c_X6_setsNow hK hp) dX6_takesNow_2 (rV.k fun M_2 h_2 => ?_)
  obtain ⟨g1, g2⟩ := h_2
  have e2 : M_2.2.2.1 2 = M.2.2.1 2 := g1.2.2.1 2 (by decide)
  refine G.aload_n0 dX6_takesNow_5 ?_
  refine G.iconst (v := nI 1) dX6_takesNow_6 (by decide) ?_
  refine G.bipush (v := nI 60) dX6_takesNow_7 (by decide) ?_
  refine G.aload_n0 dX6_takesNow_9 ?_
  refine G.iload_n1 dX6_takesNow_10 ?_
  refine G.mcall (f' := fX6_roadOf) q1958 ck_X6_roadOf (c_X6_roadOf E L _ ph (k := p) (by omega)) dX6_takesNow_11 (rI.k fun r_11 M_11 h_11 => ?_)
  obtain ⟨e_11, h_11⟩ := h_11; replace e_11 := e_11.symm; replace h_11 := h_11.symm; subst e_11; subst h_11
  rw [e2, hr.1]
  refine G.mcall (f' := fX6_tells) q2120 ck_X6_tells (c_told hK g1 g2 (aNow_bd hK hp) 1 60 _ (by decide)) dX6_takesNow_14 (rI.k fun r_14 M_14 h_14 => ?_)
  obtain ⟨rfl, g3⟩ := h_14
  refine G.ireturn dX6_takesNow_17 ?_
  exact ⟨_, rfl, _, rfl, rfl, g3⟩
theorem c_X6_costsNow {M : MM} {b n : Nat} (hK : KOk (M.2.2.1 2) b n) {p : Nat} (hp : p < n) : MC E fX6_costsNow L M ph [.int (nI p)] (rI fun r M' => r = kCosts (M.2.2.1 2) p ∧ mX [8, 22, 23, 24] [25] M M') := by
  have h10 := hK.1.1
  have hr := hK.road hp
  refine Ct.of [some (.ref (L.1 52)), some (.int (nI p))] rfl (Nat.le_of_ble_eq_true rfl) (show plainName RX6 = true by decide +kernel) rfl ?_
  refine G.aload_n0 dX6_costsNow_0 ?_
  refine G.iload_n1 dX6_costsNow_1 ?_
  refine G.mcall (f' := fX6_setsNow) q2108 ck_X6_setsNow (c_X6_setsNow hK hp) dX6_costsNow_2 (rV.k fun M_2 h_2 => ?_)
  obtain ⟨g1, g2⟩ := h_2
  have e2 : M_2.2.2.1 2 = M.2.2.1 2 := g1.2.2.1 2 (by decide)
  refine G.aload_n0 dX6_costsNow_5 ?_
  refine G.iconst (v := nI 2) dX6_costsNow_6 (by decide) ?_
  refine G.sipush (v := nI 999) dX6_costsNow_7 (by decide) ?_
  refine G.aload_n0 dX6_costsNow_10 ?_
  refine G.iload_n1 dX6_costsNow_11 ?_
  refine G.mcall (f' := fX6_roadOf) q1958 ck_X6_roadOf (c_X6_roadOf E L _ ph (k := p) (by omega)) dX6_costsNow_12 (rI.k fun r_12 M_12 h_12 => ?_)
  obtain ⟨e_12, h_12⟩ := h_12; replace e_12 := e_12.symm; replace h_12 := h_12.symm; subst e_12; subst h_12
  rw [e2, hr.1]
  refine G.mcall (f' := fX6_tells) q2120 ck_X6_tells (c_told hK g1 g2 (aNow_bd hK hp) 2 999 _ (by decide)) dX6_costsNow_15 (rI.k fun r_15 M_15 h_15 => ?_)
  obtain ⟨rfl, g3⟩ := h_15
  refine G.ireturn dX6_costsNow_18 ?_
  exact ⟨_, rfl, _, rfl, rfl, g3⟩
theorem c_X6_lodgesNow {M : MM} {b n : Nat} (hK : KOk (M.2.2.1 2) b n) {p : Nat} (hp : p < n) : MC E fX6_lodgesNow L M ph [.int (nI p)] (rI fun r M' => r = kLodges (M.2.2.1 2) p ∧ mX [8, 22, 23, 24] [25] M M') := by
  have h10 := hK.1.1
  refine Ct.of [some (.ref (L.1 52)), some (.int (nI p))] rfl (Nat.le_of_ble_eq_true rfl) (show plainName RX6 = true by decide +kernel) rfl ?_
  refine G.aload_n0 dX6_lodgesNow_0 ?_
  refine G.iload_n1 dX6_lodgesNow_1 ?_
  refine G.mcall (f' := fX6_setsNow) q2108 ck_X6_setsNow (c_X6_setsNow hK hp) dX6_lodgesNow_2 (rV.k fun M_2 h_2 => ?_)
  obtain ⟨g1, g2⟩ := h_2
  refine G.aload_n0 dX6_lodgesNow_5 ?_
  refine G.iconst (v := nI 3) dX6_lodgesNow_6 (by decide) ?_
  refine G.bipush (v := nI 99) dX6_lodgesNow_7 (by decide) ?_
  refine G.iconst (v := nI 1) dX6_lodgesNow_9 (by decide) ?_
  refine G.mcall (f' := fX6_tells) q2120 ck_X6_tells (c_told hK g1 g2 (aNow_bd hK hp) 3 99 1 (by decide)) dX6_lodgesNow_10 (rI.k fun r_10 M_10 h_10 => ?_)
  obtain ⟨rfl, g3⟩ := h_10
  refine G.ireturn dX6_lodgesNow_13 ?_
  exact ⟨_, rfl, _, rfl, rfl, g3⟩
theorem c_X6_isBarred {M : MM} {b n : Nat} (hK : KOk (M.2.2.1 2) b n) {p : Nat} (hp : p < n) (heard day : Int32) (fog : Bool) (hh : -1000000000 ≤ heard.toInt ∧ heard.toInt ≤ 1000000000) (hd : -1000000000 ≤ day.toInt ∧ day.toInt ≤ 1000000000) : MC E fX6_isBarred L M ph [.int (nI p), .int heard, .int day, .int (bI fog)] (rI fun r M' => r = bI (kBarred (M.2.2.1 2) p heard day fog) ∧ mX [8, 22, 23, 24] [25] M M') := by
  have h10 := hK.1.1
  refine Ct.of [some (.ref (L.1 52)), some (.int (nI p)), some (.int heard), some (.int day), some (.int (bI fog))] rfl (Nat.le_of_ble_eq_true rfl) (show plainName RX6 = true by decide +kernel) rfl ?_
  refine G.aload_n0 dX6_isBarred_0 ?_
  refine G.iload_n1 dX6_isBarred_1 ?_
  refine G.iload_n2 dX6_isBarred_2 ?_
  refine G.iconst (v := -1) dX6_isBarred_3 (by decide) ?_
  refine G.iload_n3 dX6_isBarred_4 ?_
  refine G.iload4 dX6_isBarred_5 ?_
  refine G.mcall (f' := fX6_sets) q2116 ck_X6_sets (c_X6_sets hK hp heard none (fun q z => by cases z) day (bI fog)) dX6_isBarred_7 (rV.k fun M_7 h_7 => ?_)
  obtain ⟨g1, g2⟩ := h_7
  refine G.aload_n0 dX6_isBarred_10 ?_
  refine G.iconst (v := nI 5) dX6_isBarred_11 (by decide) ?_
  refine G.iconst (v := nI 1) dX6_isBarred_12 (by decide) ?_
  refine G.iconst (v := nI 0) dX6_isBarred_13 (by decide) ?_
  refine G.mcall (f' := fX6_tells) q2120 ck_X6_tells (c_told hK g1 g2 (aSets_bd hK hp (fun q z => by cases z) hh hd (by cases fog <;> exact ⟨by decide, by decide⟩)) 5 1 0 (by decide)) dX6_isBarred_14 (rI.k fun r_14 M_14 h_14 => ?_)
  obtain ⟨rfl, g3⟩ := h_14
  refine G.iconst (v := nI 1) dX6_isBarred_17 (by decide) ?_
  refine G.icmp_ne (tgt := 25) dX6_isBarred_18 (by decide) (fun c_18 => ?_) (fun c_18 => ?_)
  · refine G.iconst (v := nI 0) dX6_isBarred_25 (by decide) ?_
    refine G.ireturn dX6_isBarred_26 ?_ (hn := by first | rfl | exact bI_nar _)
    first
    | exact ⟨_, rfl, _, rfl, bI_t c_18, g3⟩
    | exact ⟨_, rfl, _, rfl, bI_t (Classical.not_not.mp c_18), g3⟩
    | exact ⟨_, rfl, _, rfl, bI_f c_18, g3⟩
  · refine G.iconst (v := nI 1) dX6_isBarred_21 (by decide) ?_
    refine G.goto (tgt := 26) dX6_isBarred_22 (by decide) ?_
    refine G.ireturn dX6_isBarred_26 ?_ (hn := by first | rfl | exact bI_nar _)
    first
    | exact ⟨_, rfl, _, rfl, bI_t c_18, g3⟩
    | exact ⟨_, rfl, _, rfl, bI_t (Classical.not_not.mp c_18), g3⟩
    | exact ⟨_, rfl, _, rfl, bI_f c_18, g3⟩
theorem c_X6_spoilsBy {M : MM} {b n : Nat} (hK : KOk (M.2.2.1 2) b n) {p q : Nat} (hp : p < n) (hq : q < n) : MC E fX6_spoilsBy L M ph [.int (nI p), .int (nI q)] (rI fun r M' => r = kSpoils (M.2.2.1 2) p q ∧ mX [8, 22, 23, 24] [25] M M') := by
  have h10 := hK.1.1
  refine Ct.of [some (.ref (L.1 52)), some (.int (nI p)), some (.int (nI q))] rfl (Nat.le_of_ble_eq_true rfl) (show plainName RX6 = true by decide +kernel) rfl ?_
  refine G.aload_n0 dX6_spoilsBy_0 ?_
  refine G.iload_n1 dX6_spoilsBy_1 ?_
  refine G.iconst (v := -1) dX6_spoilsBy_2 (by decide) ?_
  refine G.iload_n2 dX6_spoilsBy_3 ?_
  refine G.iconst (v := -1) dX6_spoilsBy_4 (by decide) ?_
  refine G.iconst (v := -1) dX6_spoilsBy_5 (by decide) ?_
  refine G.mcall (f' := fX6_sets) q2116 ck_X6_sets (c_X6_sets hK hp (-1) (some q) (fun z hz => by cases hz; exact hq) (-1) (-1)) dX6_spoilsBy_6 (rV.k fun M_6 h_6 => ?_)
  obtain ⟨g1, g2⟩ := h_6
  refine G.aload_n0 dX6_spoilsBy_9 ?_
  refine G.iconst (v := nI 4) dX6_spoilsBy_10 (by decide) ?_
  refine G.iconst (v := nI 2) dX6_spoilsBy_11 (by decide) ?_
  refine G.iconst (v := nI 1) dX6_spoilsBy_12 (by decide) ?_
  refine G.mcall (f' := fX6_tells) q2120 ck_X6_tells (c_told hK g1 g2 (aSets_bd hK hp (fun z hz => by cases hz; exact hq) (by decide) (by decide) (by decide)) 4 2 1 (by decide)) dX6_spoilsBy_13 (rI.k fun r_13 M_13 h_13 => ?_)
  obtain ⟨rfl, g3⟩ := h_13
  refine G.ireturn dX6_spoilsBy_16 ?_
  exact ⟨_, rfl, _, rfl, rfl, g3⟩
def kAsks (K : KR) (n : Nat) (p other what : Int32) : Int32 := if 0 ≤ p.toInt ∧ p.toInt < n then (if what = nI 0 then kTakes K (tNat p) else if what = nI 1 then kCosts K (tNat p) else if what = nI 2 then kLodges K (tNat p) else if what = nI 3 then bI (kBarred K (tNat p) (K (20 + tNat p)) (K 33) (fogOf K (kDay K))) else if what = nI 4 then (if (0 ≤ other.toInt ∧ other.toInt < n) ∧ ¬ other = p then kSpoils K (tNat p) (tNat other) else -1) else -1) else -1
theorem c_X6_asks {M : MM} {b n : Nat} (hK : KOk (M.2.2.1 2) b n) (p other what : Int32) : MC E fX6_asks L M ph [.int p, .int other, .int what] (rI fun r M' => r = kAsks (M.2.2.1 2) n p other what ∧ mX [8, 22, 23, 24] [25] M M') := by
  have h10 := hK.1.1
  refine Ct.of [some (.ref (L.1 52)), some (.int p), some (.int other), some (.int what)] rfl (Nat.le_of_ble_eq_true rfl) (show plainName RX6 = true by decide +kernel) rfl ?_
  have hday := hK.day
  refine G.aload_n0 dX6_asks_0 ?_
  refine G.iload_n1 dX6_asks_1 ?_
  refine G.mcall (f' := fX6_isPerson) q1950 ck_X6_isPerson (c_X6_isPerson E L M ph p h10 hK.1.2) dX6_asks_2 (rI.k fun r_2 M_2 h_2 => ?_)
  obtain ⟨e_2, h_2⟩ := h_2; replace e_2 := e_2.symm; replace h_2 := h_2.symm; subst e_2; subst h_2
  refine G.ifb_ne (tgt := 10) dX6_asks_5 (by decide) (fun c_5 => ?_) (fun c_5 => ?_)
  · have hp0 := of_decide_eq_true c_5
    obtain ⟨k, hk, rfl⟩ := t_of hp0.1 hp0.2
    rw [show kAsks (M.2.2.1 2) n (nI k) other what = _ from if_pos hp0, tNat_nI (by omega)]
    refine G.iload_n3 dX6_asks_10 ?_
    refine G.tab (hi := 4) dX6_asks_11 (tgt := 127) (by decide) (fun c_11 => ?_) (fun k_11 hk_11 c_11 => ?_)
    · refine G.iconst (v := -1) dX6_asks_127 (by decide) ?_
      refine G.ireturn dX6_asks_128 ?_
      have no : ∀ j, j ≤ 4 → ¬ what = nI j := fun j hj z => by rw [z, t_nI (by omega)] at c_11; omega
      exact ⟨_, rfl, _, rfl, by rw [if_neg (no 0 (by omega)), if_neg (no 1 (by omega)), if_neg (no 2 (by omega)), if_neg (no 3 (by omega)), if_neg (no 4 (by omega))], mX.rf⟩
    · rcases (show k_11 = 0 ∨ k_11 = 1 ∨ k_11 = 2 ∨ k_11 = 3 ∨ k_11 = 4 from by omega) with rfl | rfl | rfl | rfl | rfl
      · refine ⟨44, 33, rfl, by decide, ?_⟩
        refine G.aload_n0 dX6_asks_44 ?_
        refine G.iload_n1 dX6_asks_45 ?_
        refine G.mcall (f' := fX6_takesNow) q2104 ck_X6_takesNow (c_X6_takesNow hK hk) dX6_asks_46 (rI.k fun r_46 M_46 h_46 => ?_)
        obtain ⟨rfl, g3⟩ := h_46
        refine G.ireturn dX6_asks_49 ?_
        subst c_11
        exact ⟨_, rfl, _, rfl, rfl, g3⟩
      · refine ⟨50, 39, rfl, by decide, ?_⟩
        refine G.aload_n0 dX6_asks_50 ?_
        refine G.iload_n1 dX6_asks_51 ?_
        refine G.mcall (f' := fX6_costsNow) q2167 ck_X6_costsNow (c_X6_costsNow hK hk) dX6_asks_52 (rI.k fun r_52 M_52 h_52 => ?_)
        obtain ⟨rfl, g3⟩ := h_52
        refine G.ireturn dX6_asks_55 ?_
        subst c_11
        exact ⟨_, rfl, _, rfl, rfl, g3⟩
      · refine ⟨56, 45, rfl, by decide, ?_⟩
        refine G.aload_n0 dX6_asks_56 ?_
        refine G.iload_n1 dX6_asks_57 ?_
        refine G.mcall (f' := fX6_lodgesNow) q2171 ck_X6_lodgesNow (c_X6_lodgesNow hK hk) dX6_asks_58 (rI.k fun r_58 M_58 h_58 => ?_)
        obtain ⟨rfl, g3⟩ := h_58
        refine G.ireturn dX6_asks_61 ?_
        subst c_11
        exact ⟨_, rfl, _, rfl, rfl, g3⟩
      · refine ⟨62, 51, rfl, by decide, ?_⟩
        refine G.aload_n0 dX6_asks_62 ?_
        refine G.iload_n1 dX6_asks_63 ?_
        refine G.aload_n0 dX6_asks_64 ?_
        refine G.mgeta 2 fl_X6_24 dX6_asks_65 ?_
        refine G.bipush (v := nI 20) dX6_asks_68 (by decide) ?_
        refine G.iload_n1 dX6_asks_70 ?_
        first | with_reducible refine G.iaddn dX6_asks_71 ?_ | refine G.iadd dX6_asks_71 ?_
        refine G.miald (n := 5866) 2 _ dX6_asks_72 rfl (by omega) ?_
        refine G.aload_n0 dX6_asks_73 ?_
        refine G.mgeta 2 fl_X6_24 dX6_asks_74 ?_
        refine G.bipush (v := nI 33) dX6_asks_77 (by decide) ?_
        refine G.miald (n := 5866) 2 _ dX6_asks_79 rfl (by omega) ?_
        refine G.aload_n0 dX6_asks_80 ?_
        refine G.aload_n0 dX6_asks_81 ?_
        refine G.mgeta 2 fl_X6_24 dX6_asks_82 ?_
        refine G.bipush (v := nI 33) dX6_asks_85 (by decide) ?_
        refine G.miald (n := 5866) 2 _ dX6_asks_87 rfl (by omega) ?_
        rw [hday.1]
        refine G.mcall (f' := fX6_fogOn) q2112 ck_X6_fogOn (c_X6_fogOn hK (kDay (M.2.2.1 2)) (by omega)) dX6_asks_88 (rI.k fun r_88 M_88 h_88 => ?_)
        obtain ⟨e_88, h_88⟩ := h_88; replace e_88 := e_88.symm; replace h_88 := h_88.symm; subst e_88; subst h_88
        refine G.mcall (f' := fX6_isBarred) q2175 ck_X6_isBarred (c_X6_isBarred hK hk (M.2.2.1 2 (20 + k)) (nI (kDay (M.2.2.1 2))) _ (by have := hK.heard hk; rw [this.1, t_nI (by omega)]; omega) (by rw [t_nI (by omega)]; omega)) dX6_asks_91 (rI.k fun r_91 M_91 h_91 => ?_)
        obtain ⟨rfl, g3⟩ := h_91
        refine G.ifb_eq (tgt := 101) dX6_asks_94 (by decide) (fun c_94 => ?_) (fun c_94 => ?_)
        · refine G.iconst (v := nI 0) dX6_asks_101 (by decide) ?_
          try (refine G.topi (bI (kBarred (M.2.2.1 2) k (M.2.2.1 2 (20 + k)) (nI (kDay (M.2.2.1 2))) (fogOf (M.2.2.1 2) (kDay (M.2.2.1 2))))) (by first | exact bI_tt c_94 | exact bI_ff c_94) ?_)
          refine G.ireturn dX6_asks_102 ?_
          subst c_11
          exact ⟨_, rfl, _, rfl, rfl, g3⟩
        · refine G.iconst (v := nI 1) dX6_asks_97 (by decide) ?_
          refine G.goto (tgt := 102) dX6_asks_98 (by decide) ?_
          try (refine G.topi (bI (kBarred (M.2.2.1 2) k (M.2.2.1 2 (20 + k)) (nI (kDay (M.2.2.1 2))) (fogOf (M.2.2.1 2) (kDay (M.2.2.1 2))))) (by first | exact bI_tt c_94 | exact bI_ff c_94) ?_)
          refine G.ireturn dX6_asks_102 ?_
          subst c_11
          exact ⟨_, rfl, _, rfl, rfl, g3⟩
      · refine ⟨103, 92, rfl, by decide, ?_⟩
        refine G.aload_n0 dX6_asks_103 ?_
        refine G.iload_n2 dX6_asks_104 ?_
        refine G.mcall (f' := fX6_isPerson) q1950 ck_X6_isPerson (c_X6_isPerson E L M ph other h10 hK.1.2) dX6_asks_105 (rI.k fun r_105 M_105 h_105 => ?_)
        obtain ⟨e_105, h_105⟩ := h_105; replace e_105 := e_105.symm; replace h_105 := h_105.symm; subst e_105; subst h_105
        refine G.ifb_eq (tgt := 125) dX6_asks_108 (by decide) (fun c_108 => ?_) (fun c_108 => ?_)
        · have q4 := of_decide_eq_false c_108
          refine G.iconst (v := -1) dX6_asks_125 (by decide) ?_
          refine G.ireturn dX6_asks_126 ?_
          subst c_11
          first
            | exact ⟨_, rfl, _, rfl, (if_pos (show (0 ≤ (nI q).toInt ∧ (nI q).toInt < n) ∧ ¬ nI q = nI k from ⟨q4, c_113⟩)).symm.trans (by rw [tNat_nI (by omega)]; rfl), g3⟩
            | exact ⟨_, rfl, _, rfl, (if_neg (show ¬ ((0 ≤ (nI q).toInt ∧ (nI q).toInt < n) ∧ ¬ nI q = nI k) from fun z => z.2 c_113)).symm, mX.rf⟩
            | exact ⟨_, rfl, _, rfl, (if_neg (show ¬ ((0 ≤ other.toInt ∧ other.toInt < n) ∧ ¬ other = nI k) from fun z => q4 z.1)).symm, mX.rf⟩
        · have q4 := of_decide_eq_true c_108
          obtain ⟨q, hq, rfl⟩ := t_of q4.1 q4.2
          refine G.iload_n2 dX6_asks_111 ?_
          refine G.iload_n1 dX6_asks_112 ?_
          refine G.icmp_eq (tgt := 125) dX6_asks_113 (by decide) (fun c_113 => ?_) (fun c_113 => ?_)
          · refine G.iconst (v := -1) dX6_asks_125 (by decide) ?_
            refine G.ireturn dX6_asks_126 ?_
            subst c_11
            first
              | exact ⟨_, rfl, _, rfl, (if_pos (show (0 ≤ (nI q).toInt ∧ (nI q).toInt < n) ∧ ¬ nI q = nI k from ⟨q4, c_113⟩)).symm.trans (by rw [tNat_nI (by omega)]; rfl), g3⟩
              | exact ⟨_, rfl, _, rfl, (if_neg (show ¬ ((0 ≤ (nI q).toInt ∧ (nI q).toInt < n) ∧ ¬ nI q = nI k) from fun z => z.2 c_113)).symm, mX.rf⟩
              | exact ⟨_, rfl, _, rfl, (if_neg (show ¬ ((0 ≤ other.toInt ∧ other.toInt < n) ∧ ¬ other = nI k) from fun z => q4 z.1)).symm, mX.rf⟩
          · refine G.aload_n0 dX6_asks_116 ?_
            refine G.iload_n1 dX6_asks_117 ?_
            refine G.iload_n2 dX6_asks_118 ?_
            refine G.mcall (f' := fX6_spoilsBy) q2179 ck_X6_spoilsBy (c_X6_spoilsBy hK hk hq) dX6_asks_119 (rI.k fun r_119 M_119 h_119 => ?_)
            obtain ⟨rfl, g3⟩ := h_119
            refine G.goto (tgt := 126) dX6_asks_122 (by decide) ?_
            refine G.ireturn dX6_asks_126 ?_
            subst c_11
            first
              | exact ⟨_, rfl, _, rfl, (if_pos (show (0 ≤ (nI q).toInt ∧ (nI q).toInt < n) ∧ ¬ nI q = nI k from ⟨q4, c_113⟩)).symm.trans (by rw [tNat_nI (by omega)]; rfl), g3⟩
              | exact ⟨_, rfl, _, rfl, (if_neg (show ¬ ((0 ≤ (nI q).toInt ∧ (nI q).toInt < n) ∧ ¬ nI q = nI k) from fun z => z.2 c_113)).symm, mX.rf⟩
              | exact ⟨_, rfl, _, rfl, (if_neg (show ¬ ((0 ≤ other.toInt ∧ other.toInt < n) ∧ ¬ other = nI k) from fun z => q4 z.1)).symm, mX.rf⟩
  · refine G.iconst (v := -1) dX6_asks_8 (by decide) ?_
    refine G.ireturn dX6_asks_9 ?_
    exact ⟨_, rfl, _, rfl, (if_neg (of_decide_eq_false c_5)).symm, mX.rf⟩
end Asks
