/-! FRAME: a method's walk over an ABSTRACT heap. HP: addresses to what lies there (an array by its number in jTY, an object by its number in jCL). G: 'from this frame on the method comes to its end F'; Ct: a method's contract at given arguments and a given heap (it returns: Post; it throws: XPost). -/
set_option maxRecDepth 100000
abbrev jG : Type := (Nat → ClassId) × (Nat → Nat → Nat) × (Nat → ClassId)
/-- the run's constants: the launch, the types, the heap at the law's start, addresses of constants, values of statics -/
abbrev JE : Type := Launch × jG × Heap × (String → Nat → Nat) × (Nat → Value)
abbrev HE : Type := (Nat × vp_A) ⊕ (Nat × List Value)
abbrev HP : Type := Nat → Option HE
/-- a method: its name, code, locals, answer, room, handlers -/
abbrev FS : Type := MethodName × ByteArray × Nat × Option FieldType × Room × List (Nat × Nat × Nat × Nat)
abbrev JFin : Type := List Frame → Array Value → State → State → Prop
def jTY : Nat → Option FieldType
  | 0 => some .int | 1 => some .long | 2 => some .byte | 3 => some .boolean
  | 4 => some (.object "java/lang/Object") | 5 => some (.object "LitStrangers$Test") | 6 => some (.object "java/lang/String") | 7 => some (.object "LitStrangers$Clause")
  | 8 => some (.object "LitStrangers$Order") | 9 => some (.object "LitStrangers$Coast")
  | 10 => some (.array .int) | 11 => some (.array .long) | 12 => some (.array .boolean) | 13 => some (.array .byte)
  | 20 => some .int | 21 => some .byte | 22 => some (.object "java/lang/Object")
  | _ => none
def jCL : Nat → Option vw_C
  | 0 => some (RX0, TX0, 16) | 1 => some (RX1, TX1, 8) | 2 => some (RX2, TX2, 7) | 3 => some (RX3, TX3, 2) | 4 => some (RX4, TX4, 1) | 5 => some (RX5, TX5, 12)
  | 6 => some (RX6, TX6, 52) | 7 => some (RX7, TX7, 2) | 9 => some (RX9, TX9, 11) | 10 => some (RX10, TX10, 7) | 12 => some (RX12, TX12, 1) | 13 => some (RX13, TX13, 1)
  | 14 => some (RX14, TX14, 3) | 15 => some (RX15, TX15, 3) | 16 => some (RX16, TX16, 4) | 18 => some (RX18, TX18, 3) | 19 => some (RX19, TX19, 1) | 20 => some (RX20, TX20, 2)
  | 22 => some (RX22, TX22, 5) | 23 => some (RX23, TX23, 6) | 24 => some (RX24, TX24, 6) | 25 => some (RX25, TX25, 10) | 26 => some (RX26, TX26, 2) | 27 => some (RX27, TX27, 1)
  | 32 => some (RJ2, TJ2, 3) | 42 => some (RJ12, TJ12, 6) | 43 => some (RJ13, TJ13, 2)
  | _ => none
/-- cells of the run's constants: never written -/
def jfz : HE → Bool
  | .inl (t, _) => Nat.ble 20 t
  | .inr (c, _) => c == 43
def jST : List (String × String × String) := [("java/util/ArrayList", "DEFAULTCAPACITY_EMPTY_ELEMENTDATA", "[Ljava/lang/Object;"), ("java/util/ArrayList", "EMPTY_ELEMENTDATA", "[Ljava/lang/Object;"), ("java/lang/Throwable", "UNASSIGNED_STACK", "[Ljava/lang/StackTraceElement;"), ("java/lang/Throwable", "SUPPRESSED_SENTINEL", "Ljava/util/List;"), ("jdk/internal/util/Preconditions", "SIOOBE_FORMATTER", "Ljava/util/function/BiFunction;"), ("java/lang/String", "COMPACT_STRINGS", "Z")]
def jnw : Cond → Bool
  | .fieldLinkNest .. => true
  | .methodLinkNest .. => true
  | .castable .. => true
  | .declares .. => true
  | _ => false
def jb (E : JE) : Nat := E.2.2.1.size
def jto : MethodName := ⟨"java/util/ArrayList", "toArray", "()[Ljava/lang/Object;"⟩
def jtoX : MethodName := ⟨"java/util/Collection", "toArray", "()[Ljava/lang/Object;"⟩
/-- what the run's constants say of a state -/
def KK (E : JE) (s : State) : Prop :=
  (∀ ci q, jCL ci = some q → u_Kn s q.1 q.2.1 q.2.2 (E.2.1.1 ci) (E.2.1.2.1 ci)) ∧
  (∀ t ty, jTY t = some ty → ArrOfT s (E.2.1.2.2 t) ty ∧ va_RA s (E.2.1.2.2 t) ty) ∧
  (∀ w ∈ lw_tbl, jnw w = true → va_Nw w s) ∧
  ((∀ C, Cond.arrayOver (.object C) ∈ lw_tbl → va_AO C s) ∧ ∀ t, Cond.arrayOver (.array t) ∈ lw_tbl → (Cond.arrayOver (.array t)).before #[] s = true) ∧
  (∀ own k tx, Cond.stringRef own k tx ∈ lw_tbl → vk_R own k tx (E.2.2.2.1 own k) s) ∧
  (∀ i q, jST[i]? = some q → va_Z q.1 q.2.1 q.2.2 (E.2.2.2.2 i) (fun a => jb E ≤ a) s E.2.2.1) ∧
  va_Mi "java/util/ArrayList" (E.2.2.2.1 "mirror" 0) s ∧ va_Mi "[Ljava/lang/Object;" (E.2.2.2.1 "mirror" 1) s ∧
  va_Fw "java/util/ArrayList" jtoX jto s
theorem j_overS {args : Array Value} {first s : State} {o : Option Outcome} {idx : List Nat} {t : FieldType} (h : (Cond.arrayOver (.array t)).holds args first o s idx = true) :
    ∃ comp c k, s.vm.findClass (FieldType.array t).toString = some comp ∧ (s.vm.classes.findIdx? fun x => match x.kind with | .array component _ => component == comp | _ => false) = some c ∧ s.vm.classes[c]? = some k ∧ k.kind = .array comp (.array t) ∧ s.vm.findClass ("[" ++ (FieldType.array t).toString) = some c := by
  simp only [Cond.holds, Cond.value, beq_iff_eq] at h
  cases hc : s.vm.findClass (FieldType.array t).toString with
  | none => simp [hc] at h
  | some comp =>
    simp only [hc, Option.bind_some, Option.bind_eq_some_iff, Option.map_eq_some_iff] at h
    obtain ⟨c, hi, k, hk, hb⟩ := h
    obtain ⟨hlt, hp, -⟩ := Array.findIdx?_eq_some_iff_getElem.mp hi
    have hkk : s.vm.classes[c] = k := (Array.getElem?_eq_some_iff.mp hk).2
    rw [hkk] at hp
    cases hkind : k.kind with
    | array component ty =>
      rw [hkind] at hb hp
      simp at hb hp
      exact ⟨comp, c, k, rfl, hi, hk, by rw [hkind, hp, hb.1], hb.2⟩
    | _ => rw [hkind] at hb; simp at hb
theorem j_over {t : FieldType} {u U : State} (hvm : u.vm.Alike U.vm) (h : (Cond.arrayOver (.array t)).before #[] u = true) : (Cond.arrayOver (.array t)).before #[] U = true := by
  obtain ⟨comp, c, k, h1, h2, h3, h4, h5⟩ := j_overS h
  obtain ⟨k', hk', he⟩ := hvm.2.2 _ _ h3
  have hi : (U.vm.classes.findIdx? fun x => match x.kind with | .array component _ => component == comp | _ => false) = some c := by
    rw [hvm.findIdx?_eqK _ (fun _ => rfl)]; exact h2
  have hkind : k'.kind = .array comp (.array t) := by rw [he]; exact h4
  have f1 : U.vm.findClass (FieldType.array t).toString = some comp := by rw [hvm.findClass]; exact h1
  have f2 : U.vm.findClass ("[" ++ (FieldType.array t).toString) = some c := by rw [hvm.findClass]; exact h5
  show (Cond.arrayOver (.array t)).holds #[] U none U [] = true
  simp only [Cond.holds, Cond.value, f1, Option.bind_some, beq_iff_eq]
  rw [Option.bind_eq_some_iff]
  refine ⟨c, (hvm.findIdx?_eqK _ (fun _ => rfl)).trans h2, ?_⟩
  simp [hk', hkind, f2]
theorem KK.moved {E : JE} {u U : State} (hW : ∀ w, w ∈ lw_tbl → jnw w = true → va_Nw w u → va_Nw w U) (hS : ∀ own k tx, vk_R own k tx (E.2.2.2.1 own k) u → vk_R own k tx (E.2.2.2.1 own k) U) (hvm : u.vm.Alike U.vm) (h : KK E u) : KK E U := by
  obtain ⟨h1, h2, h3, h4, h5, h6, h7, h8, h9⟩ := h
  exact ⟨fun ci q e => u_Kn_moved hvm (h1 ci q e), fun t ty e => ⟨arrOfT_moved hvm (h2 t ty e).1, (h2 t ty e).2.moved hvm⟩, fun w hw hn => hW w hw hn (h3 w hw hn), ⟨fun C e => (h4.1 C e).moved hvm, fun t e => j_over hvm (h4.2 t e)⟩, fun own k tx e => hS own k tx (h5 own k tx e), fun i q e => (h6 i q e).moved hvm, h7.moved hvm, h8.moved hvm, h9.moved ⟨by decide, by decide⟩ hvm⟩
theorem KK.warm {E : JE} {u U : State} (hW : u.WarmedH U.vm) (h : KK E u) : KK E U := by
  refine h.moved (fun w _ hn hw => ?_) (fun own k tx q => q.warm hW) hW.alike
  cases w <;> first | (exact absurd hn (by decide)) | (exact hw.warmF hW) | (exact hw.warmM hW) | (exact hw.warmC hW) | (exact hw.warmD hW) | (cases hn)
theorem KK.same {E : JE} {u U : State} (hvm : u.vm = U.vm) (h : KK E u) : KK E U := by
  refine h.moved (fun w _ hn hw => ?_) (fun own k tx q => q.same hvm.symm) (by rw [hvm]; exact Vm.Alike.refl _)
  cases w <;> first | (exact absurd hn (by decide)) | (exact va_Nw.same rfl hvm hw) | (cases hn)
def jAt (E : JE) (a : Nat) (e : HE) (H : Heap) : Prop := match e with
  | .inl (t, x) => H[a]? = some (vp_cell (E.2.1.2.2 t) x)
  | .inr (ci, fs) => ∃ r : vw_C, jCL ci = some r ∧ t_OB a (E.2.1.1 ci) r.2.2 (E.2.1.2.1 ci) H (vp_V fs)
/-- the machine's heap H holds what the abstract heap says; what was there at the law's start is untouched -/
def jR (E : JE) (ph : HP) (H : Heap) : Prop := (∀ a e, ph a = some e → jAt E a e H) ∧ (∀ a e, ph a = some e → jfz e = true ∨ jb E ≤ a) ∧ jb E ≤ H.size ∧ ∀ q : Nat, q < jb E → H[q]? = E.2.2.1[q]?
def jup (ph : HP) (a : Nat) (e : HE) : HP := fun q => if q = a then some e else ph q
theorem jup_s {ph : HP} {a : Nat} {e : HE} : jup ph a e a = some e := if_pos rfl
theorem jup_n {ph : HP} {a q : Nat} {e : HE} (h : q ≠ a) : jup ph a e q = ph q := if_neg h
theorem jAt.kept {E : JE} {a : Nat} {e : HE} {H H1 : Heap} (h : jAt E a e H) (hq : H1[a]? = H[a]?) : jAt E a e H1 := by
  obtain ⟨t, x⟩ | ⟨ci, fs⟩ := e
  · exact hq.trans h
  · obtain ⟨r, h1, h2⟩ := h
    exact ⟨r, h1, h2.kept hq⟩
theorem jAt.lt {E : JE} {a : Nat} {e : HE} {H : Heap} (h : jAt E a e H) : a < H.size := by
  obtain ⟨t, x⟩ | ⟨ci, fs⟩ := e
  · exact (Array.getElem?_eq_some_iff.mp h).1
  · obtain ⟨r, h1, cell, h2, -⟩ := h
    exact (Array.getElem?_eq_some_iff.mp h2).1
theorem jR.put {E : JE} {ph : HP} {H H1 : Heap} {a : Nat} {e0 e : HE} (h : jR E ph H) (ha : ph a = some e0) (hz : jfz e0 = false) (h1 : jAt E a e H1) (h2 : H1.size = H.size) (h3 : ∀ q : Nat, q ≠ a → H1[q]? = H[q]?) : jR E (jup ph a e) H1 := by
  have hb : jb E ≤ a := by
    rcases h.2.1 a e0 ha with q | q
    · rw [hz] at q; cases q
    · exact q
  refine ⟨fun q e' hq => ?_, fun q e' hq => ?_, by rw [h2]; exact h.2.2.1, fun q hq => by rw [h3 q (by omega)]; exact h.2.2.2 q hq⟩
  · by_cases hqa : q = a
    · subst hqa
      rw [jup_s] at hq
      cases hq
      exact h1
    · rw [jup_n hqa] at hq
      exact (h.1 q e' hq).kept (h3 q hqa)
  · by_cases hqa : q = a
    · exact Or.inr (by rw [hqa]; exact hb)
    · rw [jup_n hqa] at hq
      exact h.2.1 q e' hq
theorem jR.fresh {E : JE} {ph : HP} {H : Heap} (h : jR E ph H) : ph H.size = none := by
  cases hq : ph H.size with
  | none => rfl
  | some e => exact absurd (h.1 _ e hq).lt (Nat.lt_irrefl _)
theorem jR.new {E : JE} {ph : HP} {H H1 : Heap} {e : HE} (h : jR E ph H) (h1 : jAt E H.size e H1) (h2 : H1.size = H.size + 1) (h3 : ∀ q : Nat, q < H.size → H1[q]? = H[q]?) : jR E (jup ph H.size e) H1 := by
  have hb := h.2.2.1
  refine ⟨fun q e' hq => ?_, fun q e' hq => ?_, by omega, fun q hq => by rw [h3 q (by omega)]; exact h.2.2.2 q hq⟩
  · by_cases hqa : q = H.size
    · subst hqa
      rw [jup_s] at hq
      cases hq
      exact h1
    · rw [jup_n hqa] at hq
      exact (h.1 q e' hq).kept (h3 q (h.1 q e' hq).lt)
  · by_cases hqa : q = H.size
    · exact Or.inr (by omega)
    · rw [jup_n hqa] at hq
      exact h.2.1 q e' hq
/-- locals by their places; none: not known -/
def jLs : Nat → List (Option Value) → List (Nat × Value)
  | _, [] => []
  | i, none :: r => jLs (i + 1) r
  | i, some v :: r => (i, v) :: jLs (i + 1) r
theorem jLs_mem : ∀ (ls : List (Option Value)) (i j : Nat) (v : Value), (j, v) ∈ jLs i ls ↔ ∃ k, j = i + k ∧ ls[k]? = some (some v)
  | [], i, j, v => by simp [jLs]
  | none :: r, i, j, v => by
    rw [jLs, jLs_mem r]
    constructor
    · rintro ⟨k, h1, h2⟩
      exact ⟨k + 1, by omega, by simpa using h2⟩
    · rintro ⟨k, h1, h2⟩
      cases k with
      | zero => simp at h2
      | succ k => exact ⟨k, by omega, by simpa using h2⟩
  | some w :: r, i, j, v => by
    rw [jLs, List.mem_cons, jLs_mem r]
    constructor
    · rintro (h | ⟨k, h1, h2⟩)
      · cases h
        exact ⟨0, by omega, by simp⟩
      · exact ⟨k + 1, by omega, by simpa using h2⟩
    · rintro ⟨k, h1, h2⟩
      cases k with
      | zero =>
        simp at h2
        exact Or.inl (by rw [h1, h2]; rfl)
      | succ k => exact Or.inr ⟨k, by omega, by simpa using h2⟩
theorem jLs_0 {ls : List (Option Value)} {j : Nat} {v : Value} : (j, v) ∈ jLs 0 ls ↔ ls[j]? = some (some v) := by
  rw [jLs_mem]
  constructor
  · rintro ⟨k, h1, h2⟩
    rw [h1, Nat.zero_add]; exact h2
  · intro h
    exact ⟨j, by omega, h⟩
def jL (n : Nat) (ls : List (Option Value)) (la : Array Slot) : Prop := lv_has la n (jLs 0 ls)
theorem jL.at {n : Nat} {ls : List (Option Value)} {la : Array Slot} (h : jL n ls la) {i : Nat} {v : Value} (hi : ls[i]? = some (some v)) : la[i]? = some (.val v) := h.2.2 (i, v) (jLs_0.mpr hi)
theorem jL.to {n : Nat} {ls : List (Option Value)} {la : Array Slot} {lv : List (Nat × Value)} (h : lv_has la n lv) (hm : ∀ j w, ls[j]? = some (some w) → (j, w) ∈ lv) : jL n ls la := ⟨h.1, h.2.1, fun q hq => h.2.2 q (hm q.1 q.2 (jLs_0.mp hq))⟩
def jc2 : Option Value → Bool
  | some (.long _) => true
  | some (.double _) => true
  | _ => false
/-- no wide local just ahead of the place i -/
def jn2 (ls : List (Option Value)) : Nat → Bool
  | 0 => true
  | i + 1 => match ls[i]? with | some o => !jc2 o | none => true
theorem jn2_use {ls : List (Option Value)} {i j : Nat} {w : Value} (h : jn2 ls i = true) (hj : ls[j]? = some (some w)) (hi : j + 1 = i) : ¬ w.category = 2 := by
  subst hi
  simp only [jn2, hj] at h
  cases w <;> simp [jc2, Value.category] at h ⊢
theorem jn2_of {ls : List (Option Value)} {i : Nat} {o : Option Value} (h : ls[i]? = some o) (hn : jc2 o = false) : jn2 ls (i + 1) = true := by
  simp only [jn2, h, hn]
  rfl
theorem jset_mem {ls : List (Option Value)} {i : Nat} {v : Value} (hn : jn2 ls i = true) (j : Nat) (w : Value) (h : (ls.set i (some v))[j]? = some (some w)) : (j, w) ∈ (i, v) :: (jLs 0 ls).filter (fun q => !(q.1 == i) && !(q.1 + 1 == i && q.2.category == 2)) := by
  rw [List.getElem?_set] at h
  by_cases hij : i = j
  · subst hij
    rw [if_pos rfl] at h
    split at h
    · cases h
      exact List.mem_cons_self
    · cases h
  · rw [if_neg hij] at h
    refine List.mem_cons_of_mem _ (List.mem_filter.mpr ⟨jLs_0.mpr h, ?_⟩)
    have h1 : ¬ j = i := fun e => hij e.symm
    by_cases h2 : j + 1 = i
    · have h3 := jn2_use hn h h2
      simp [h1, h3]
    · simp [h1, h2]
theorem jset2_mem {ls : List (Option Value)} {i : Nat} {v : Value} (hn : jn2 ls i = true) (j : Nat) (w : Value) (h : ((ls.set i (some v)).set (i + 1) none)[j]? = some (some w)) : (j, w) ∈ (i, v) :: (jLs 0 ls).filter (fun q => !(q.1 == i) && (!(q.1 == i + 1) && !(q.1 + 1 == i && q.2.category == 2))) := by
  rw [List.getElem?_set] at h
  by_cases hij : i + 1 = j
  · rw [if_pos hij] at h
    split at h <;> cases h
  · rw [if_neg hij] at h
    rcases List.mem_cons.mp (jset_mem hn j w h) with e | e
    · rw [e]; exact List.mem_cons_self
    · have e2 := List.mem_filter.mp e
      refine List.mem_cons_of_mem _ (List.mem_filter.mpr ⟨e2.1, ?_⟩)
      have h1 : ¬ j = i + 1 := fun e => hij e.symm
      have h3 := e2.2
      simp only [Bool.and_eq_true] at h3 ⊢
      exact ⟨h3.1, by simp [h1], h3.2⟩
/-- the frame stands -/
def jFx (E : JE) (f : FS) (p : Program) (s : State) (m : MethodId) (args : Array Value) (meth : Method) (c : Code) : Prop :=
  p.tables.exec = Jvm.exec ∧ c.code = f.2.1 ∧ c.maxLocals = f.2.2.1 ∧ s.vm.findClass f.1.cls = some m.cls ∧ (∀ w ∈ lw_all, w.before args s = true) ∧ meth.sig.returnType = f.2.2.2.1 ∧ meth.locks = false ∧ meth.name = f.1.name ∧ KK E s ∧ c.exceptionTable.toList = tableOf f.2.2.2.2.2
/-- from the frame at pc, with these locals, this stack and this heap, the method comes to F (kc cells and ks slots at most made so far) -/
def G (E : JE) (f : FS) (F : JFin) (pc : Nat) (ls : List (Option Value)) (st : List Value) (ph : HP) (kc ks : Nat) : Prop :=
  ∀ (p : Program) (e : Env) (s : State) (m : MethodId) (args : Array Value) (below : List Frame) (meth : Method) (c : Code), jFx E f p s m args meth c →
    ∀ (H : Heap) (locs : List Loc) (la : Array Slot), jR E ph H → (∀ z ∈ locs, jb E ≤ z.base) → jL f.2.2.1 ls la → W p E.1 e f.2.2.2.2.1 s m args below meth c H locs kc ks (F below args s) (F0 m pc la st)
/-- the same, with the cell q (a C) thrown at pc -/
def GX (E : JE) (f : FS) (F : JFin) (pc : Nat) (ls : List (Option Value)) (q : Addr) (C : String) (ph : HP) (kc ks : Nat) : Prop :=
  ∀ (p : Program) (e : Env) (s : State) (m : MethodId) (args : Array Value) (below : List Frame) (meth : Method) (c : Code), jFx E f p s m args meth c →
    ∀ (H : Heap) (locs : List Loc) (la : Array Slot) (rest : List Value) (ce : Cell), jR E ph H → (∀ z ∈ locs, jb E ≤ z.base) → jL f.2.2.1 ls la → H[q]? = some ce → ce.vm = .none → s.vm.findClass C = some ce.cls → vx_W p E.1 e f.2.2.2.2.1 s m args below meth c H locs kc ks (F below args s) (F0 m pc la rest) q
def jP (E : JE) (args : List Value) (ph : HP) : Array Value → State → Prop := fun a U => a = args.toArray ∧ jR E ph U.heap ∧ KK E U
def jQ (E : JE) (Post : Option Value → HP → Prop) : Array Value → State → Outcome → State → Prop := fun _ _ o t => ∃ v ph', o = .returned v ∧ jR E ph' t.heap ∧ Post v ph'
def jX (E : JE) (XPost : Addr → String → HP → Prop) : Addr → String → State → State → Prop := fun q C _ t => ∃ ph', jR E ph' t.heap ∧ XPost q C ph'
def jNo : Addr → String → HP → Prop := fun _ _ _ => False
def jfree (E : JE) : Addr → Prop := fun q => jb E ≤ q
/-- a method's contract, called with args on the heap ph -/
def Ct (E : JE) (f : FS) (args : List Value) (ph : HP) (Post : Option Value → HP → Prop) (XPost : Addr → String → HP → Prop) : Prop :=
  vx_Met E.1 f.1 (ws_ f.1 f.2.1 f.2.2.1 f.2.2.2.1) f.2.2.2.2.1 (jP E args ph) (jQ E Post) (jX E XPost) f.2.2.2.2.1.cells f.2.2.2.2.1.slots (jfree E)
def CtW (E : JE) (f : FS) (args : List Value) (ph : HP) (Post : Option Value → HP → Prop) (XPost : Addr → String → HP → Prop) : Prop :=
  vx_Met E.1 f.1 (wsW_ f.1 f.2.1 f.2.2.1 f.2.2.2.1 f.2.2.2.2.2) f.2.2.2.2.1 (jP E args ph) (jQ E Post) (jX E XPost) f.2.2.2.2.1.cells f.2.2.2.2.1.slots (jfree E)
/-- a method's end -/
def jFin (E : JE) (f : FS) (Post : Option Value → HP → Prop) (XPost : Addr → String → HP → Prop) : JFin := fun below args s => vx_MQ below (jQ E Post) (jX E XPost) args s f.2.2.2.2.1.cells f.2.2.2.2.1.slots (jfree E)
theorem jP.blind {E : JE} {args : List Value} {ph : HP} : FrameBlind (jP E args ph) := fun a U g mk h => ⟨h.1, h.2.1, h.2.2.same (u := U) (U := U.calling g mk a) rfl⟩
/-- the start: arguments as locals -/
def jent : List Value → Nat → List (Option Value)
  | [], n => List.replicate n none
  | v :: vs, n => if v.category = 2 then some v :: none :: jent vs (n - 2) else some v :: jent vs (n - 1)
theorem jent_mem : ∀ (vs : List Value) (n i j : Nat) (w : Value), (j, w) ∈ jLs i (jent vs n) → (j, w) ∈ lv_args i vs
  | [], n, i, j, w, h => by
    rw [jLs_mem] at h
    obtain ⟨k, -, h⟩ := h
    rw [jent, List.getElem?_replicate] at h
    split at h <;> cases h
  | v :: vs, n, i, j, w, h => by
    rw [jent] at h
    rw [lv_args]
    by_cases hc : v.category = 2
    · rw [if_pos hc] at h ⊢
      rw [jLs, jLs] at h
      rcases List.mem_cons.mp h with e | e
      · rw [e]; exact List.mem_cons_self
      · exact List.mem_cons_of_mem _ (jent_mem vs _ _ _ _ e)
    · rw [if_neg hc] at h ⊢
      rw [jLs] at h
      rcases List.mem_cons.mp h with e | e
      · rw [e]; exact List.mem_cons_self
      · exact List.mem_cons_of_mem _ (jent_mem vs _ _ _ _ e)
theorem jent_has {vs : List Value} {n : Nat} (h : (lg_sl vs).length ≤ n) : jL n (jent vs n) ((lg_sl vs ++ List.replicate (n - (lg_sl vs).length) Slot.unset).toArray) := jL.to (lv_entry vs h) fun j w hj => jent_mem vs n 0 j w (jLs_0.mpr hj)
/-- a body proved from its entry on is a contract -/
theorem Ct.of {E : JE} {f : FS} {args : List Value} {ph : HP} {Post : Option Value → HP → Prop} {XPost : Addr → String → HP → Prop} (ls : List (Option Value)) (hls : jent args f.2.2.1 = ls) (hn : (lg_sl args).length ≤ f.2.2.1) (hy : plainName f.1.cls = true) (hh : f.2.2.2.2.2 = []) (k : G E f (jFin E f Post XPost) 0 ls [] ph 0 0) : Ct E f args ph Post XPost := by
  subst hls
  refine vx_ofW hy rfl ?_
  intro p e s m a below meth c s₁ B hml ht hP
  obtain ⟨rfl, hR, hK⟩ := hP
  have hts := atoms_spec (ws := ws_ f.1 f.2.1 f.2.2.1 f.2.2.2.1) B.pre
  have htab : c.exceptionTable.toList = tableOf f.2.2.2.2.2 := by
    rw [hh]
    cases hx : c.exceptionTable.toList with
    | nil => rfl
    | cons x l => exact (ht x (by rw [hx]; exact List.mem_cons_self)).elim
  rw [lg_entry_eq]
  exact k p e s m _ below meth c ⟨B.exec, B.bytes, hml, findClass_of_methodNamed B.named, fun w h => hts w (List.mem_cons_of_mem _ h), B.returns, B.notSynchronized, (name_of_methodNamed B.named B.method).1, hK, htab⟩ s.heap [] _ hR (fun z hz => by cases hz) (jent_has hn)
theorem CtW.of {E : JE} {f : FS} {args : List Value} {ph : HP} {Post : Option Value → HP → Prop} {XPost : Addr → String → HP → Prop} (ls : List (Option Value)) (hls : jent args f.2.2.1 = ls) (hn : (lg_sl args).length ≤ f.2.2.1) (hy : plainName f.1.cls = true) (k : G E f (jFin E f Post XPost) 0 ls [] ph 0 0) : CtW E f args ph Post XPost := by
  subst hls
  refine vx_ofWH hy rfl ?_
  intro p e s m a below meth c s₁ B hml hP
  obtain ⟨rfl, hR, hK⟩ := hP
  have hts := atoms_spec (ws := wsW_ f.1 f.2.1 f.2.2.1 f.2.2.2.1 f.2.2.2.2.2) B.pre
  rw [lg_entry_eq]
  exact k p e s m _ below meth c ⟨B.exec, B.bytes, hml, findClass_of_methodNamed B.named, fun w h => hts w (List.mem_cons_of_mem _ h), B.returns, B.notSynchronized, (name_of_methodNamed B.named B.method).1, hK, vx_table (x := f.1) B (hts _ List.mem_cons_self)⟩ s.heap [] _ hR (fun z hz => by cases hz) (jent_has hn)
/-- a contract's end may be weakened -/
theorem jQ.mono {E : JE} {P P' : Option Value → HP → Prop} (h : ∀ v ph, P v ph → P' v ph) {a : Array Value} {s t : State} {o : Outcome} (q : jQ E P a s o t) : jQ E P' a s o t := by
  obtain ⟨v, ph', h1, h2, h3⟩ := q
  exact ⟨v, ph', h1, h2, h _ _ h3⟩
theorem Ct.mono {E : JE} {f : FS} {args : List Value} {ph : HP} {P P' : Option Value → HP → Prop} {X X' : Addr → String → HP → Prop} (h : ∀ v ph, P v ph → P' v ph) (hx : ∀ q C ph, X q C ph → X' q C ph) (k : Ct E f args ph P X) : Ct E f args ph P' X' := by
  intro p e ha hc hk s m args below hf happ hP hK
  obtain ⟨n, o, h1, h2, h3, hQ⟩ := k p e ha hc hk s m args below hf happ hP hK
  refine ⟨n, o, h1, h2, h3, ?_⟩
  rcases hQ with ⟨hq, hL⟩ | ⟨q, ho, C, ce, L, ⟨ph', e1, e2⟩, e3⟩
  · exact Or.inl ⟨hq.mono h, hL⟩
  · exact Or.inr ⟨q, ho, C, ce, L, ⟨ph', e1, hx _ _ _ e2⟩, e3⟩
theorem G.widen {E : JE} {f : FS} {F : JFin} {pc : Nat} {ls : List (Option Value)} {st : List Value} {ph : HP} {kc ks : Nat} (kc' ks' : Nat) (h1 : kc ≤ kc') (h2 : ks ≤ ks') (k : G E f F pc ls st ph kc' ks') : G E f F pc ls st ph kc ks := fun p e s m args below meth c hF H locs la hR hb hL => W.widen h1 h2 (k p e s m args below meth c hF H locs la hR hb hL)
theorem G.name {E : JE} {f : FS} {F : JFin} {pc : Nat} {ls : List (Option Value)} {st : List Value} {ph : HP} {kc ks : Nat} {pc' : Nat} {ls' : List (Option Value)} {st' : List Value} {ph' : HP} (k : G E f F pc' ls' st' ph' kc ks) (h1 : pc = pc' := by rfl) (h2 : ls = ls' := by rfl) (h3 : st = st' := by rfl) (h4 : ph = ph' := by rfl) : G E f F pc ls st ph kc ks := by
  subst h1; subst h2; subst h3; subst h4; exact k
theorem G.topi {E : JE} {f : FS} {F : JFin} {pc : Nat} {ls : List (Option Value)} {st : List Value} {ph : HP} {kc ks : Nat} {x : Int32} (y : Int32) (h : x = y) (k : G E f F pc ls (.int y :: st) ph kc ks) : G E f F pc ls (.int x :: st) ph kc ks := by subst h; exact k
theorem G.topl {E : JE} {f : FS} {F : JFin} {pc : Nat} {ls : List (Option Value)} {st : List Value} {ph : HP} {kc ks : Nat} {x : Int64} (y : Int64) (h : x = y) (k : G E f F pc ls (.long y :: st) ph kc ks) : G E f F pc ls (.long x :: st) ph kc ks := by subst h; exact k
-- ends
section Ends
variable {E : JE} {f : FS} {Post : Option Value → HP → Prop} {XPost : Addr → String → HP → Prop} {pc : Nat} {ls : List (Option Value)} {ph : HP} {kc ks : Nat}
theorem G.ireturn {v : Int32} (hd : decode f.2.1 pc = .ok (.ireturn, 1)) (hp : Post (some (.int v)) ph) {ty : FieldType} (hr : f.2.2.2.1 = some ty := by rfl) (hn : narrow ty (.int v) = .int v := by rfl) (hk : kc ≤ f.2.2.2.2.1.cells ∧ ks ≤ f.2.2.2.2.1.slots := by exact ⟨Nat.le_of_ble_eq_true rfl, Nat.le_of_ble_eq_true rfl⟩) : G E f (jFin E f Post XPost) pc ls [.int v] ph kc ks := by
  intro p e s m args below meth c hF H locs la hR hb hL
  refine vx_ret (W.widen hk.1 hk.2 ?_)
  exact W.zret hF.1 hF.2.1 (hF.2.2.2.2.2.1.trans hr) hn (fun t ht _ => ⟨_, ph, rfl, by rw [ht]; exact hR, hp⟩) hb hd hF.2.2.2.2.2.2.1
theorem G.lreturn {v : Int64} (hd : decode f.2.1 pc = .ok (.lreturn, 1)) (hp : Post (some (.long v)) ph) (hr : f.2.2.2.1 = some .long := by rfl) (hk : kc ≤ f.2.2.2.2.1.cells ∧ ks ≤ f.2.2.2.2.1.slots := by exact ⟨Nat.le_of_ble_eq_true rfl, Nat.le_of_ble_eq_true rfl⟩) : G E f (jFin E f Post XPost) pc ls [.long v] ph kc ks := by
  intro p e s m args below meth c hF H locs la hR hb hL
  refine vx_ret (W.widen hk.1 hk.2 ?_)
  exact W.lret hF.1 hF.2.1 (hF.2.2.2.2.2.1.trans hr) (fun t ht _ => ⟨_, ph, rfl, by rw [ht]; exact hR, hp⟩) hb hd hF.2.2.2.2.2.2.1
theorem G.return_ (hd : decode f.2.1 pc = .ok (.return_, 1)) (hp : Post none ph) (hr : f.2.2.2.1 = none := by rfl) (hk : kc ≤ f.2.2.2.2.1.cells ∧ ks ≤ f.2.2.2.2.1.slots := by exact ⟨Nat.le_of_ble_eq_true rfl, Nat.le_of_ble_eq_true rfl⟩) : G E f (jFin E f Post XPost) pc ls [] ph kc ks := by
  intro p e s m args below meth c hF H locs la hR hb hL
  refine vx_ret (W.widen hk.1 hk.2 ?_)
  exact W.vret hF.1 hF.2.1 (hF.2.2.2.2.2.1.trans hr) (fun t ht _ => ⟨_, ph, rfl, by rw [ht]; exact hR, hp⟩) hb hd hF.2.2.2.2.2.2.1
theorem G.areturn {v : Value} (hd : decode f.2.1 pc = .ok (.areturn, 1)) (hp : Post (some v) ph) {ty : FieldType} (hr : f.2.2.2.1 = some ty := by rfl) (hrt : (∃ n, ty = .object n) ∨ ∃ t, ty = .array t := by first | exact Or.inl ⟨_, rfl⟩ | exact Or.inr ⟨_, rfl⟩) (hv : v = .null ∨ ∃ a, v = .ref a := by first | exact Or.inr ⟨_, rfl⟩ | exact Or.inl rfl) (hk : kc ≤ f.2.2.2.2.1.cells ∧ ks ≤ f.2.2.2.2.1.slots := by exact ⟨Nat.le_of_ble_eq_true rfl, Nat.le_of_ble_eq_true rfl⟩) : G E f (jFin E f Post XPost) pc ls [v] ph kc ks := by
  intro p e s m args below meth c hF H locs la hR hb hL
  refine vx_ret (W.widen hk.1 hk.2 ?_)
  exact W.aret hF.1 hF.2.1 (hF.2.2.2.2.2.1.trans hr) hrt hv (fun t ht _ => ⟨_, ph, rfl, by rw [ht]; exact hR, hp⟩) hb hd hF.2.2.2.2.2.2.1
theorem GX.out {q : Addr} {C : String} (hh : f.2.2.2.2.2 = []) (hp : XPost q C ph) (hk : kc ≤ f.2.2.2.2.1.cells ∧ ks ≤ f.2.2.2.2.1.slots) : GX E f (jFin E f Post XPost) pc ls q C ph kc ks := by
  intro p e s m args below meth c hF H locs la rest ce hR hb hL hce hv hcl
  refine vx_out (fun x hx => ?_) hF.2.2.2.2.2.2.1 hce hv hcl (fun t ht _ => ⟨ph, by rw [ht]; exact hR, hp⟩) hb hk.1 hk.2
  rw [hF.2.2.2.2.2.2.2.2.2, hh] at hx
  cases hx
end Ends
section Rows
variable {E : JE} {f : FS} {F : JFin} {pc : Nat} {ls : List (Option Value)} {st : List Value} {ph : HP} {kc ks : Nat}
theorem G.athrow {q : Addr} {C : String} {ci : Nat} {fs : List Value} (hd : decode f.2.1 pc = .ok (.athrow, 1)) (ha : ph q = some (.inr (ci, fs))) (hc : (jCL ci).map (fun r => r.1) = some C) (k : GX E f F pc ls q C ph kc ks) : G E f F pc ls (.ref q :: st) ph kc ks := by
  intro p e s m args below meth c hF H locs la hR hb hL
  obtain ⟨r, h1, cell, g1, g2, g3, -⟩ := hR.1 q _ ha
  rw [h1] at hc
  cases hc
  exact vx_athrow hF.1 hF.2.1 hd (k p e s m args below meth c hF H locs la st cell hR hb hL g1 g3 (by rw [g2]; exact (hF.2.2.2.2.2.2.2.2.1.1 ci r h1).2.1))
/-- caught by a row of this method's own table -/
theorem GX.catch_ {q : Addr} {C name : String} {ci : Nat} (x : ExceptionTableEntry) (suf : List ExceptionTableEntry) (hs : tableOf f.2.2.2.2.2 = x :: suf) (hx : covers x pc = true) (h0 : x.catchType ≠ 0) (hl : Cond.classLink f.1.cls x.catchType name ∈ lw_all) (hcast : Cond.castable C name ∈ lw_tbl) (k : G E f F x.handlerPc ls [.ref q] ph kc ks) : GX E f F pc ls q C ph kc ks := by
  intro p e s m args below meth c hF H locs la rest ce hR hb hL hce hv hcl
  exact vx_catch hF.2.2.2.1 [] x suf (by rw [hF.2.2.2.2.2.2.2.2.2, hs]; rfl) (fun z hz => by cases hz) hx h0 (hF.2.2.2.2.1 _ hl) (va_Nw.use rfl (hF.2.2.2.2.2.2.2.2.1.2.2.1 _ hcast rfl)) hce hv hcl (k p e s m args below meth c hF H locs la hR hb hL)
-- locals
theorem G.dropL {i : Nat} (k : G E f F pc (ls.set i none) st ph kc ks) : G E f F pc ls st ph kc ks := by
  intro p e s m args below meth c hF H locs la hR hb hL
  refine k p e s m args below meth c hF H locs la hR hb (jL.to hL fun j w hj => ?_)
  rw [List.getElem?_set] at hj
  by_cases hij : i = j
  · rw [if_pos hij] at hj
    split at hj <;> cases hj
  · rw [if_neg hij] at hj
    exact jLs_0.mpr hj
theorem G.iload {i : Nat} {x : Int32} (hd : decode f.2.1 pc = .ok (.iload i, 2)) (hl : ls[i]? = some (some (.int x))) (k : G E f F (pc + 2) ls (.int x :: st) ph kc ks) : G E f F pc ls st ph kc ks := fun p e s m args below meth c hF H locs la hR hb hL => lv_iload hF.1 hF.2.1 hd (hL.at hl) (k p e s m args below meth c hF H locs la hR hb hL)
theorem G.iload_n {n : Fin 4} {i : Nat} {x : Int32} (hd : decode f.2.1 pc = .ok (.iload_n n, 1)) (hi : (n : Nat) = i) (hl : ls[i]? = some (some (.int x))) (k : G E f F (pc + 1) ls (.int x :: st) ph kc ks) : G E f F pc ls st ph kc ks := fun p e s m args below meth c hF H locs la hR hb hL => lv_iload_n hF.1 hF.2.1 hd hi (hL.at hl) (k p e s m args below meth c hF H locs la hR hb hL)
theorem G.lload {i : Nat} {x : Int64} (hd : decode f.2.1 pc = .ok (.lload i, 2)) (hl : ls[i]? = some (some (.long x))) (k : G E f F (pc + 2) ls (.long x :: st) ph kc ks) : G E f F pc ls st ph kc ks := fun p e s m args below meth c hF H locs la hR hb hL => lv_lload hF.1 hF.2.1 hd (hL.at hl) (k p e s m args below meth c hF H locs la hR hb hL)
theorem G.lload_n {n : Fin 4} {i : Nat} {x : Int64} (hd : decode f.2.1 pc = .ok (.lload_n n, 1)) (hi : (n : Nat) = i) (hl : ls[i]? = some (some (.long x))) (k : G E f F (pc + 1) ls (.long x :: st) ph kc ks) : G E f F pc ls st ph kc ks := fun p e s m args below meth c hF H locs la hR hb hL => lv_lload_n hF.1 hF.2.1 hd hi (hL.at hl) (k p e s m args below meth c hF H locs la hR hb hL)
theorem G.aload {i x : Nat} (hd : decode f.2.1 pc = .ok (.aload i, 2)) (hl : ls[i]? = some (some (.ref x))) (k : G E f F (pc + 2) ls (.ref x :: st) ph kc ks) : G E f F pc ls st ph kc ks := fun p e s m args below meth c hF H locs la hR hb hL => lv_aload hF.1 hF.2.1 hd (hL.at hl) (k p e s m args below meth c hF H locs la hR hb hL)
theorem G.aload_n {n : Fin 4} {i x : Nat} (hd : decode f.2.1 pc = .ok (.aload_n n, 1)) (hi : (n : Nat) = i) (hl : ls[i]? = some (some (.ref x))) (k : G E f F (pc + 1) ls (.ref x :: st) ph kc ks) : G E f F pc ls st ph kc ks := fun p e s m args below meth c hF H locs la hR hb hL => lv_aload_n hF.1 hF.2.1 hd hi (hL.at hl) (k p e s m args below meth c hF H locs la hR hb hL)
theorem G.aloadN {i : Nat} (hd : decode f.2.1 pc = .ok (.aload i, 2)) (hl : ls[i]? = some (some .null)) (k : G E f F (pc + 2) ls (.null :: st) ph kc ks) : G E f F pc ls st ph kc ks := fun p e s m args below meth c hF H locs la hR hb hL => lv_aloadN hF.1 hF.2.1 hd (hL.at hl) (k p e s m args below meth c hF H locs la hR hb hL)
theorem G.aload_nN {n : Fin 4} {i : Nat} (hd : decode f.2.1 pc = .ok (.aload_n n, 1)) (hi : (n : Nat) = i) (hl : ls[i]? = some (some .null)) (k : G E f F (pc + 1) ls (.null :: st) ph kc ks) : G E f F pc ls st ph kc ks := fun p e s m args below meth c hF H locs la hR hb hL => lv_aload_nN hF.1 hF.2.1 hd hi (hL.at hl) (k p e s m args below meth c hF H locs la hR hb hL)
theorem G.istore {i : Nat} {x : Int32} (hd : decode f.2.1 pc = .ok (.istore i, 2)) (hm : i < f.2.2.1) (hn : jn2 ls i = true) (k : G E f F (pc + 2) (ls.set i (some (.int x))) st ph kc ks) : G E f F pc ls (.int x :: st) ph kc ks := fun p e s m args below meth c hF H locs la hR hb hL => lv_istore hF.1 hF.2.1 hd hL hm rfl fun la' h' => k p e s m args below meth c hF H locs la' hR hb (jL.to h' (jset_mem hn))
theorem G.istore_n {n : Fin 4} {i : Nat} {x : Int32} (hd : decode f.2.1 pc = .ok (.istore_n n, 1)) (hi : (n : Nat) = i) (hm : i < f.2.2.1) (hn : jn2 ls i = true) (k : G E f F (pc + 1) (ls.set i (some (.int x))) st ph kc ks) : G E f F pc ls (.int x :: st) ph kc ks := fun p e s m args below meth c hF H locs la hR hb hL => lv_istore_n hF.1 hF.2.1 hd hi hL hm rfl fun la' h' => k p e s m args below meth c hF H locs la' hR hb (jL.to h' (jset_mem hn))
theorem G.astore {i x : Nat} (hd : decode f.2.1 pc = .ok (.astore i, 2)) (hm : i < f.2.2.1) (hn : jn2 ls i = true) (k : G E f F (pc + 2) (ls.set i (some (.ref x))) st ph kc ks) : G E f F pc ls (.ref x :: st) ph kc ks := fun p e s m args below meth c hF H locs la hR hb hL => lv_astore hF.1 hF.2.1 hd hL hm rfl fun la' h' => k p e s m args below meth c hF H locs la' hR hb (jL.to h' (jset_mem hn))
theorem G.astore_n {n : Fin 4} {i x : Nat} (hd : decode f.2.1 pc = .ok (.astore_n n, 1)) (hi : (n : Nat) = i) (hm : i < f.2.2.1) (hn : jn2 ls i = true) (k : G E f F (pc + 1) (ls.set i (some (.ref x))) st ph kc ks) : G E f F pc ls (.ref x :: st) ph kc ks := fun p e s m args below meth c hF H locs la hR hb hL => lv_astore_n hF.1 hF.2.1 hd hi hL hm rfl fun la' h' => k p e s m args below meth c hF H locs la' hR hb (jL.to h' (jset_mem hn))
theorem G.astoreN {i : Nat} (hd : decode f.2.1 pc = .ok (.astore i, 2)) (hm : i < f.2.2.1) (hn : jn2 ls i = true) (k : G E f F (pc + 2) (ls.set i (some .null)) st ph kc ks) : G E f F pc ls (.null :: st) ph kc ks := fun p e s m args below meth c hF H locs la hR hb hL => lv_astoreN hF.1 hF.2.1 hd hL hm rfl fun la' h' => k p e s m args below meth c hF H locs la' hR hb (jL.to h' (jset_mem hn))
theorem G.astore_nN {n : Fin 4} {i : Nat} (hd : decode f.2.1 pc = .ok (.astore_n n, 1)) (hi : (n : Nat) = i) (hm : i < f.2.2.1) (hn : jn2 ls i = true) (k : G E f F (pc + 1) (ls.set i (some .null)) st ph kc ks) : G E f F pc ls (.null :: st) ph kc ks := fun p e s m args below meth c hF H locs la hR hb hL => lv_astore_nN hF.1 hF.2.1 hd hi hL hm rfl fun la' h' => k p e s m args below meth c hF H locs la' hR hb (jL.to h' (jset_mem hn))
theorem G.lstore {i : Nat} {x : Int64} (hd : decode f.2.1 pc = .ok (.lstore i, 2)) (hm : i + 1 < f.2.2.1) (hn : jn2 ls i = true) (k : G E f F (pc + 2) ((ls.set i (some (.long x))).set (i + 1) none) st ph kc ks) : G E f F pc ls (.long x :: st) ph kc ks := fun p e s m args below meth c hF H locs la hR hb hL => lv_lstore hF.1 hF.2.1 hd hL hm rfl fun la' h' => k p e s m args below meth c hF H locs la' hR hb (jL.to h' (jset2_mem hn))
theorem G.lstore_n {n : Fin 4} {i : Nat} {x : Int64} (hd : decode f.2.1 pc = .ok (.lstore_n n, 1)) (hi : (n : Nat) = i) (hm : i + 1 < f.2.2.1) (hn : jn2 ls i = true) (k : G E f F (pc + 1) ((ls.set i (some (.long x))).set (i + 1) none) st ph kc ks) : G E f F pc ls (.long x :: st) ph kc ks := fun p e s m args below meth c hF H locs la hR hb hL => lv_lstore_n hF.1 hF.2.1 hd hi hL hm rfl fun la' h' => k p e s m args below meth c hF H locs la' hR hb (jL.to h' (jset2_mem hn))
theorem G.iinc {i : Nat} {n : Int} {x : Int32} (hd : decode f.2.1 pc = .ok (.iinc i n, 3)) (hl : ls[i]? = some (some (.int x))) (hm : i < f.2.2.1) (hn : jn2 ls i = true) (k : G E f F (pc + 3) (ls.set i (some (.int (x + Int32.ofInt n)))) st ph kc ks) : G E f F pc ls st ph kc ks := by
  intro p e s m args below meth c hF H locs la hR hb hL
  obtain ⟨kk, hkk⟩ := List.getElem?_of_mem (jLs_0.mpr hl)
  exact lv_iinc hF.1 hF.2.1 hd hL hkk rfl hm rfl fun la' h' => k p e s m args below meth c hF H locs la' hR hb (jL.to h' (jset_mem hn))
theorem G.ldc {i : Nat} {v : Int32} (hc : Cond.constant f.1.cls i v ∈ lw_all) (hd : decode f.2.1 pc = .ok (.ldc i, 2)) (k : G E f F (pc + 2) ls (.int v :: st) ph kc ks) : G E f F pc ls st ph kc ks := fun p e s m args below meth c hF H locs la hR hb hL => lv_ldc hF.1 hF.2.1 hF.2.2.2.1 (hF.2.2.2.2.1 _ hc) hd (k p e s m args below meth c hF H locs la hR hb hL)
theorem G.ldcw {i : Nat} {v : Int32} (hc : Cond.constant f.1.cls i v ∈ lw_all) (hd : decode f.2.1 pc = .ok (.ldc_w i, 3)) (k : G E f F (pc + 3) ls (.int v :: st) ph kc ks) : G E f F pc ls st ph kc ks := fun p e s m args below meth c hF H locs la hR hb hL => lv_ldcw hF.1 hF.2.1 hF.2.2.2.1 (hF.2.2.2.2.1 _ hc) hd (k p e s m args below meth c hF H locs la hR hb hL)
theorem G.ldc2 {i : Nat} {v : Int64} (hc : Cond.constantLong f.1.cls i v ∈ lw_all) (hd : decode f.2.1 pc = .ok (.ldc2_w i, 3)) (k : G E f F (pc + 3) ls (.long v :: st) ph kc ks) : G E f F pc ls st ph kc ks := fun p e s m args below meth c hF H locs la hR hb hL => lv_ldc2 hF.1 hF.2.1 hF.2.2.2.1 (hF.2.2.2.2.1 _ hc) hd (k p e s m args below meth c hF H locs la hR hb hL)
theorem G.ldcS {i : Nat} {tx : String} (hc : Cond.stringRef f.1.cls i tx ∈ lw_tbl) (hd : decode f.2.1 pc = .ok (.ldc i, 2)) (k : G E f F (pc + 2) ls (.ref (E.2.2.2.1 f.1.cls i) :: st) ph kc ks) : G E f F pc ls st ph kc ks := fun p e s m args below meth c hF H locs la hR hb hL => va_ldcS hF.1 hF.2.1 hF.2.2.2.1 (hF.2.2.2.2.2.2.2.2.1.2.2.2.2.1 _ _ _ hc) hd (k p e s m args below meth c hF H locs la hR hb hL)
theorem G.getstatic {i idx : Nat} {q : String × String × String} {ref : String} (hq : jST[i]? = some q) (hlink : Cond.fieldLink f.1.cls idx ref q.2.1 q.2.2 ∈ lw_all) (hsame : q.1 = ref) (hd : decode f.2.1 pc = .ok (.getstatic idx, 3)) (k : G E f F (pc + 3) ls (E.2.2.2.2 i :: st) ph kc ks) : G E f F pc ls st ph kc ks := by
  intro p e s m args below meth c hF H locs la hR hb hL
  obtain ⟨cf, kf, fi, fd, a, cell, h1, h2, h3, h4, h5, h6, h7, h8⟩ := hF.2.2.2.2.2.2.2.2.1.2.2.2.2.2.1 i q hq
  have ha : a < jb E := (Array.getElem?_eq_some_iff.mp h5).1
  exact W.gets hF.1 hF.2.1 hF.2.2.2.1 (hF.2.2.2.2.1 _ hlink) (by rw [← hsame]; exact h1) h2 h3 h4 (by rw [hR.2.2.2 a ha]; exact h5) (fun e => by rw [e] at h6; cases h6) h7 rfl hd (k p e s m args below meth c hF H locs la hR hb hL)
end Rows
theorem G.iconst {E : JE} {f : FS} {F : JFin} {pc : Nat} {ls : List (Option Value)} {st : List Value} {ph : HP} {kc ks : Nat} {n : Int} {v : Int32} (hdg : decode f.2.1 pc = .ok (.iconst n, 1)) (hv : Int32.ofInt n = v) (k : G E f F (pc + 1) ls (.int v :: st) ph kc ks) : G E f F pc ls (st) ph kc ks := fun p e s m args below meth c hF H locs la hR hb hL => lv_iconst hF.1 hF.2.1 hdg hv (k p e s m args below meth c hF H locs la hR hb hL)
theorem G.bipush {E : JE} {f : FS} {F : JFin} {pc : Nat} {ls : List (Option Value)} {st : List Value} {ph : HP} {kc ks : Nat} {n : Int} {v : Int32} (hdg : decode f.2.1 pc = .ok (.bipush n, 2)) (hv : (Int8.ofInt n).toInt32 = v) (k : G E f F (pc + 2) ls (.int v :: st) ph kc ks) : G E f F pc ls (st) ph kc ks := fun p e s m args below meth c hF H locs la hR hb hL => lv_bipush hF.1 hF.2.1 hdg hv (k p e s m args below meth c hF H locs la hR hb hL)
theorem G.sipush {E : JE} {f : FS} {F : JFin} {pc : Nat} {ls : List (Option Value)} {st : List Value} {ph : HP} {kc ks : Nat} {n : Int} {v : Int32} (hdg : decode f.2.1 pc = .ok (.sipush n, 3)) (hv : (Int16.ofInt n).toInt32 = v) (k : G E f F (pc + 3) ls (.int v :: st) ph kc ks) : G E f F pc ls (st) ph kc ks := fun p e s m args below meth c hF H locs la hR hb hL => lv_sipush hF.1 hF.2.1 hdg hv (k p e s m args below meth c hF H locs la hR hb hL)
theorem G.lconst {E : JE} {f : FS} {F : JFin} {pc : Nat} {ls : List (Option Value)} {st : List Value} {ph : HP} {kc ks : Nat} {n : Fin 2} {v : Int64} (hdg : decode f.2.1 pc = .ok (.lconst n, 1)) (hv : Int64.ofNat (n : Nat) = v) (k : G E f F (pc + 1) ls (.long v :: st) ph kc ks) : G E f F pc ls (st) ph kc ks := fun p e s m args below meth c hF H locs la hR hb hL => lv_lconst hF.1 hF.2.1 hdg hv (k p e s m args below meth c hF H locs la hR hb hL)
theorem G.iadd {E : JE} {f : FS} {F : JFin} {pc : Nat} {ls : List (Option Value)} {st : List Value} {ph : HP} {kc ks : Nat} {x y : Int32} (hdg : decode f.2.1 pc = .ok (.iadd, 1)) (k : G E f F (pc + 1) ls (.int (x + y) :: st) ph kc ks) : G E f F pc ls (.int y :: .int x :: st) ph kc ks := fun p e s m args below meth c hF H locs la hR hb hL => lv_iadd hF.1 hF.2.1 hdg (k p e s m args below meth c hF H locs la hR hb hL)
theorem G.isub {E : JE} {f : FS} {F : JFin} {pc : Nat} {ls : List (Option Value)} {st : List Value} {ph : HP} {kc ks : Nat} {x y : Int32} (hdg : decode f.2.1 pc = .ok (.isub, 1)) (k : G E f F (pc + 1) ls (.int (x - y) :: st) ph kc ks) : G E f F pc ls (.int y :: .int x :: st) ph kc ks := fun p e s m args below meth c hF H locs la hR hb hL => lv_isub hF.1 hF.2.1 hdg (k p e s m args below meth c hF H locs la hR hb hL)
theorem G.imul {E : JE} {f : FS} {F : JFin} {pc : Nat} {ls : List (Option Value)} {st : List Value} {ph : HP} {kc ks : Nat} {x y : Int32} (hdg : decode f.2.1 pc = .ok (.imul, 1)) (k : G E f F (pc + 1) ls (.int (x * y) :: st) ph kc ks) : G E f F pc ls (.int y :: .int x :: st) ph kc ks := fun p e s m args below meth c hF H locs la hR hb hL => lv_imul hF.1 hF.2.1 hdg (k p e s m args below meth c hF H locs la hR hb hL)
theorem G.iand {E : JE} {f : FS} {F : JFin} {pc : Nat} {ls : List (Option Value)} {st : List Value} {ph : HP} {kc ks : Nat} {x y : Int32} (hdg : decode f.2.1 pc = .ok (.iand, 1)) (k : G E f F (pc + 1) ls (.int (x &&& y) :: st) ph kc ks) : G E f F pc ls (.int y :: .int x :: st) ph kc ks := fun p e s m args below meth c hF H locs la hR hb hL => lv_iand hF.1 hF.2.1 hdg (k p e s m args below meth c hF H locs la hR hb hL)
theorem G.ior {E : JE} {f : FS} {F : JFin} {pc : Nat} {ls : List (Option Value)} {st : List Value} {ph : HP} {kc ks : Nat} {x y : Int32} (hdg : decode f.2.1 pc = .ok (.ior, 1)) (k : G E f F (pc + 1) ls (.int (x ||| y) :: st) ph kc ks) : G E f F pc ls (.int y :: .int x :: st) ph kc ks := fun p e s m args below meth c hF H locs la hR hb hL => lv_ior hF.1 hF.2.1 hdg (k p e s m args below meth c hF H locs la hR hb hL)
theorem G.ixor {E : JE} {f : FS} {F : JFin} {pc : Nat} {ls : List (Option Value)} {st : List Value} {ph : HP} {kc ks : Nat} {x y : Int32} (hdg : decode f.2.1 pc = .ok (.ixor, 1)) (k : G E f F (pc + 1) ls (.int (x ^^^ y) :: st) ph kc ks) : G E f F pc ls (.int y :: .int x :: st) ph kc ks := fun p e s m args below meth c hF H locs la hR hb hL => lv_ixor hF.1 hF.2.1 hdg (k p e s m args below meth c hF H locs la hR hb hL)
theorem G.idiv {E : JE} {f : FS} {F : JFin} {pc : Nat} {ls : List (Option Value)} {st : List Value} {ph : HP} {kc ks : Nat} {x y : Int32} (hdg : decode f.2.1 pc = .ok (.idiv, 1)) (hne : ¬ y = 0) (k : G E f F (pc + 1) ls (.int (x / y) :: st) ph kc ks) : G E f F pc ls (.int y :: .int x :: st) ph kc ks := fun p e s m args below meth c hF H locs la hR hb hL => lv_idiv hF.1 hF.2.1 hdg hne (k p e s m args below meth c hF H locs la hR hb hL)
theorem G.irem {E : JE} {f : FS} {F : JFin} {pc : Nat} {ls : List (Option Value)} {st : List Value} {ph : HP} {kc ks : Nat} {x y : Int32} (hdg : decode f.2.1 pc = .ok (.irem, 1)) (hne : ¬ y = 0) (k : G E f F (pc + 1) ls (.int (x - x / y * y) :: st) ph kc ks) : G E f F pc ls (.int y :: .int x :: st) ph kc ks := fun p e s m args below meth c hF H locs la hR hb hL => lv_irem hF.1 hF.2.1 hdg hne (k p e s m args below meth c hF H locs la hR hb hL)
theorem G.ineg {E : JE} {f : FS} {F : JFin} {pc : Nat} {ls : List (Option Value)} {st : List Value} {ph : HP} {kc ks : Nat} {x : Int32} (hdg : decode f.2.1 pc = .ok (.ineg, 1)) (k : G E f F (pc + 1) ls (.int (-x) :: st) ph kc ks) : G E f F pc ls (.int x :: st) ph kc ks := fun p e s m args below meth c hF H locs la hR hb hL => lv_ineg hF.1 hF.2.1 hdg (k p e s m args below meth c hF H locs la hR hb hL)
theorem G.ladd {E : JE} {f : FS} {F : JFin} {pc : Nat} {ls : List (Option Value)} {st : List Value} {ph : HP} {kc ks : Nat} {x y : Int64} (hdg : decode f.2.1 pc = .ok (.ladd, 1)) (k : G E f F (pc + 1) ls (.long (x + y) :: st) ph kc ks) : G E f F pc ls (.long y :: .long x :: st) ph kc ks := fun p e s m args below meth c hF H locs la hR hb hL => lv_ladd hF.1 hF.2.1 hdg (k p e s m args below meth c hF H locs la hR hb hL)
theorem G.lsub {E : JE} {f : FS} {F : JFin} {pc : Nat} {ls : List (Option Value)} {st : List Value} {ph : HP} {kc ks : Nat} {x y : Int64} (hdg : decode f.2.1 pc = .ok (.lsub, 1)) (k : G E f F (pc + 1) ls (.long (x - y) :: st) ph kc ks) : G E f F pc ls (.long y :: .long x :: st) ph kc ks := fun p e s m args below meth c hF H locs la hR hb hL => lv_lsub hF.1 hF.2.1 hdg (k p e s m args below meth c hF H locs la hR hb hL)
theorem G.lmul {E : JE} {f : FS} {F : JFin} {pc : Nat} {ls : List (Option Value)} {st : List Value} {ph : HP} {kc ks : Nat} {x y : Int64} (hdg : decode f.2.1 pc = .ok (.lmul, 1)) (k : G E f F (pc + 1) ls (.long (x * y) :: st) ph kc ks) : G E f F pc ls (.long y :: .long x :: st) ph kc ks := fun p e s m args below meth c hF H locs la hR hb hL => lv_lmul hF.1 hF.2.1 hdg (k p e s m args below meth c hF H locs la hR hb hL)
theorem G.land {E : JE} {f : FS} {F : JFin} {pc : Nat} {ls : List (Option Value)} {st : List Value} {ph : HP} {kc ks : Nat} {x y : Int64} (hdg : decode f.2.1 pc = .ok (.land, 1)) (k : G E f F (pc + 1) ls (.long (x &&& y) :: st) ph kc ks) : G E f F pc ls (.long y :: .long x :: st) ph kc ks := fun p e s m args below meth c hF H locs la hR hb hL => lv_land hF.1 hF.2.1 hdg (k p e s m args below meth c hF H locs la hR hb hL)
theorem G.lor {E : JE} {f : FS} {F : JFin} {pc : Nat} {ls : List (Option Value)} {st : List Value} {ph : HP} {kc ks : Nat} {x y : Int64} (hdg : decode f.2.1 pc = .ok (.lor, 1)) (k : G E f F (pc + 1) ls (.long (x ||| y) :: st) ph kc ks) : G E f F pc ls (.long y :: .long x :: st) ph kc ks := fun p e s m args below meth c hF H locs la hR hb hL => lv_lor hF.1 hF.2.1 hdg (k p e s m args below meth c hF H locs la hR hb hL)
theorem G.ldiv {E : JE} {f : FS} {F : JFin} {pc : Nat} {ls : List (Option Value)} {st : List Value} {ph : HP} {kc ks : Nat} {x y : Int64} (hdg : decode f.2.1 pc = .ok (.ldiv, 1)) (hne : ¬ y = 0) (k : G E f F (pc + 1) ls (.long (x / y) :: st) ph kc ks) : G E f F pc ls (.long y :: .long x :: st) ph kc ks := fun p e s m args below meth c hF H locs la hR hb hL => lv_ldiv hF.1 hF.2.1 hdg hne (k p e s m args below meth c hF H locs la hR hb hL)
theorem G.lrem {E : JE} {f : FS} {F : JFin} {pc : Nat} {ls : List (Option Value)} {st : List Value} {ph : HP} {kc ks : Nat} {x y : Int64} (hdg : decode f.2.1 pc = .ok (.lrem, 1)) (hne : ¬ y = 0) (k : G E f F (pc + 1) ls (.long (x - x / y * y) :: st) ph kc ks) : G E f F pc ls (.long y :: .long x :: st) ph kc ks := fun p e s m args below meth c hF H locs la hR hb hL => lv_lrem hF.1 hF.2.1 hdg hne (k p e s m args below meth c hF H locs la hR hb hL)
theorem G.lneg {E : JE} {f : FS} {F : JFin} {pc : Nat} {ls : List (Option Value)} {st : List Value} {ph : HP} {kc ks : Nat} {x : Int64} (hdg : decode f.2.1 pc = .ok (.lneg, 1)) (k : G E f F (pc + 1) ls (.long (-x) :: st) ph kc ks) : G E f F pc ls (.long x :: st) ph kc ks := fun p e s m args below meth c hF H locs la hR hb hL => lv_lneg hF.1 hF.2.1 hdg (k p e s m args below meth c hF H locs la hR hb hL)
theorem G.ishl {E : JE} {f : FS} {F : JFin} {pc : Nat} {ls : List (Option Value)} {st : List Value} {ph : HP} {kc ks : Nat} {x y : Int32} (hdg : decode f.2.1 pc = .ok (.ishl, 1)) (k : G E f F (pc + 1) ls (.int (x <<< (y &&& 31)) :: st) ph kc ks) : G E f F pc ls (.int y :: .int x :: st) ph kc ks := fun p e s m args below meth c hF H locs la hR hb hL => lv_ishl hF.1 hF.2.1 hdg (k p e s m args below meth c hF H locs la hR hb hL)
theorem G.ishr {E : JE} {f : FS} {F : JFin} {pc : Nat} {ls : List (Option Value)} {st : List Value} {ph : HP} {kc ks : Nat} {x y : Int32} (hdg : decode f.2.1 pc = .ok (.ishr, 1)) (k : G E f F (pc + 1) ls (.int (x >>> (y &&& 31)) :: st) ph kc ks) : G E f F pc ls (.int y :: .int x :: st) ph kc ks := fun p e s m args below meth c hF H locs la hR hb hL => lv_ishr hF.1 hF.2.1 hdg (k p e s m args below meth c hF H locs la hR hb hL)
theorem G.i2l {E : JE} {f : FS} {F : JFin} {pc : Nat} {ls : List (Option Value)} {st : List Value} {ph : HP} {kc ks : Nat} {x : Int32} {v : Int64} (hdg : decode f.2.1 pc = .ok (.i2l, 1)) (hv : x.toInt64 = v) (k : G E f F (pc + 1) ls (.long v :: st) ph kc ks) : G E f F pc ls (.int x :: st) ph kc ks := fun p e s m args below meth c hF H locs la hR hb hL => lv_i2l hF.1 hF.2.1 hdg hv (k p e s m args below meth c hF H locs la hR hb hL)
theorem G.l2i {E : JE} {f : FS} {F : JFin} {pc : Nat} {ls : List (Option Value)} {st : List Value} {ph : HP} {kc ks : Nat} {x : Int64} {v : Int32} (hdg : decode f.2.1 pc = .ok (.l2i, 1)) (hv : x.toInt32 = v) (k : G E f F (pc + 1) ls (.int v :: st) ph kc ks) : G E f F pc ls (.long x :: st) ph kc ks := fun p e s m args below meth c hF H locs la hR hb hL => lv_l2i hF.1 hF.2.1 hdg hv (k p e s m args below meth c hF H locs la hR hb hL)
theorem G.i2b {E : JE} {f : FS} {F : JFin} {pc : Nat} {ls : List (Option Value)} {st : List Value} {ph : HP} {kc ks : Nat} {x : Int32} {v : Int32} (hdg : decode f.2.1 pc = .ok (.i2b, 1)) (hv : x.toInt8.toInt32 = v) (k : G E f F (pc + 1) ls (.int v :: st) ph kc ks) : G E f F pc ls (.int x :: st) ph kc ks := fun p e s m args below meth c hF H locs la hR hb hL => lv_i2b hF.1 hF.2.1 hdg hv (k p e s m args below meth c hF H locs la hR hb hL)
theorem G.i2c {E : JE} {f : FS} {F : JFin} {pc : Nat} {ls : List (Option Value)} {st : List Value} {ph : HP} {kc ks : Nat} {x : Int32} {v : Int32} (hdg : decode f.2.1 pc = .ok (.i2c, 1)) (hv : (x.toUInt32 % 65536).toInt32 = v) (k : G E f F (pc + 1) ls (.int v :: st) ph kc ks) : G E f F pc ls (.int x :: st) ph kc ks := fun p e s m args below meth c hF H locs la hR hb hL => lv_i2c hF.1 hF.2.1 hdg hv (k p e s m args below meth c hF H locs la hR hb hL)
theorem G.iushr {E : JE} {f : FS} {F : JFin} {pc : Nat} {ls : List (Option Value)} {st : List Value} {ph : HP} {kc ks : Nat} {x y v : Int32} (hdg : decode f.2.1 pc = .ok (.iushr, 1)) (hv : (x.toUInt32 >>> (y.toUInt32 &&& Int32.toUInt32 31)).toInt32 = v) (k : G E f F (pc + 1) ls (.int v :: st) ph kc ks) : G E f F pc ls (.int y :: .int x :: st) ph kc ks := fun p e s m args below meth c hF H locs la hR hb hL => lv_iushr hF.1 hF.2.1 hdg hv (k p e s m args below meth c hF H locs la hR hb hL)
theorem G.lushr {E : JE} {f : FS} {F : JFin} {pc : Nat} {ls : List (Option Value)} {st : List Value} {ph : HP} {kc ks : Nat} {x v : Int64} {y : Int32} (hdg : decode f.2.1 pc = .ok (.lushr, 1)) (hv : (x.toUInt64 >>> (y.toInt64.toUInt64 &&& Int64.toUInt64 63)).toInt64 = v) (k : G E f F (pc + 1) ls (.long v :: st) ph kc ks) : G E f F pc ls (.int y :: .long x :: st) ph kc ks := fun p e s m args below meth c hF H locs la hR hb hL => lv_lushr hF.1 hF.2.1 hdg hv (k p e s m args below meth c hF H locs la hR hb hL)
theorem G.lshl {E : JE} {f : FS} {F : JFin} {pc : Nat} {ls : List (Option Value)} {st : List Value} {ph : HP} {kc ks : Nat} {x v : Int64} {y : Int32} (hdg : decode f.2.1 pc = .ok (.lshl, 1)) (hv : x <<< (y.toInt64 &&& 63) = v) (k : G E f F (pc + 1) ls (.long v :: st) ph kc ks) : G E f F pc ls (.int y :: .long x :: st) ph kc ks := fun p e s m args below meth c hF H locs la hR hb hL => lv_lshl hF.1 hF.2.1 hdg hv (k p e s m args below meth c hF H locs la hR hb hL)
theorem G.dup {E : JE} {f : FS} {F : JFin} {pc : Nat} {ls : List (Option Value)} {st : List Value} {ph : HP} {kc ks : Nat} {va : Value} (hdg : decode f.2.1 pc = .ok (.dup, 1)) (hva : va.category = 1) (k : G E f F (pc + 1) ls (va :: va :: st) ph kc ks) : G E f F pc ls (va :: st) ph kc ks := fun p e s m args below meth c hF H locs la hR hb hL => lv_dup hF.1 hF.2.1 hdg hva (k p e s m args below meth c hF H locs la hR hb hL)
theorem G.pop {E : JE} {f : FS} {F : JFin} {pc : Nat} {ls : List (Option Value)} {st : List Value} {ph : HP} {kc ks : Nat} {va : Value} (hdg : decode f.2.1 pc = .ok (.pop, 1)) (hva : va.category = 1) (k : G E f F (pc + 1) ls (st) ph kc ks) : G E f F pc ls (va :: st) ph kc ks := fun p e s m args below meth c hF H locs la hR hb hL => lv_pop hF.1 hF.2.1 hdg hva (k p e s m args below meth c hF H locs la hR hb hL)
theorem G.dup_x1 {E : JE} {f : FS} {F : JFin} {pc : Nat} {ls : List (Option Value)} {st : List Value} {ph : HP} {kc ks : Nat} {va vb : Value} (hdg : decode f.2.1 pc = .ok (.dup_x1, 1)) (hva : va.category = 1) (hvb : vb.category = 1) (k : G E f F (pc + 1) ls (va :: vb :: va :: st) ph kc ks) : G E f F pc ls (va :: vb :: st) ph kc ks := fun p e s m args below meth c hF H locs la hR hb hL => lv_dup_x1 hF.1 hF.2.1 hdg hva hvb (k p e s m args below meth c hF H locs la hR hb hL)
theorem G.dup_x2 {E : JE} {f : FS} {F : JFin} {pc : Nat} {ls : List (Option Value)} {st : List Value} {ph : HP} {kc ks : Nat} {va vb vd : Value} (hdg : decode f.2.1 pc = .ok (.dup_x2, 1)) (hva : va.category = 1) (hvb : vb.category = 1) (hvd : vd.category = 1) (k : G E f F (pc + 1) ls (va :: vb :: vd :: va :: st) ph kc ks) : G E f F pc ls (va :: vb :: vd :: st) ph kc ks := fun p e s m args below meth c hF H locs la hR hb hL => lv_dup_x2 hF.1 hF.2.1 hdg hva hvb hvd (k p e s m args below meth c hF H locs la hR hb hL)
theorem G.dup2_11 {E : JE} {f : FS} {F : JFin} {pc : Nat} {ls : List (Option Value)} {st : List Value} {ph : HP} {kc ks : Nat} {va vb : Value} (hdg : decode f.2.1 pc = .ok (.dup2, 1)) (hva : va.category = 1) (hvb : vb.category = 1) (k : G E f F (pc + 1) ls (va :: vb :: va :: vb :: st) ph kc ks) : G E f F pc ls (va :: vb :: st) ph kc ks := fun p e s m args below meth c hF H locs la hR hb hL => lv_dup2_11 hF.1 hF.2.1 hdg hva hvb (k p e s m args below meth c hF H locs la hR hb hL)
theorem G.dup2_2 {E : JE} {f : FS} {F : JFin} {pc : Nat} {ls : List (Option Value)} {st : List Value} {ph : HP} {kc ks : Nat} {va : Value} (hdg : decode f.2.1 pc = .ok (.dup2, 1)) (hva : va.category = 2) (k : G E f F (pc + 1) ls (va :: va :: st) ph kc ks) : G E f F pc ls (va :: st) ph kc ks := fun p e s m args below meth c hF H locs la hR hb hL => lv_dup2_2 hF.1 hF.2.1 hdg hva (k p e s m args below meth c hF H locs la hR hb hL)
theorem G.pop2_2 {E : JE} {f : FS} {F : JFin} {pc : Nat} {ls : List (Option Value)} {st : List Value} {ph : HP} {kc ks : Nat} {va : Value} (hdg : decode f.2.1 pc = .ok (.pop2, 1)) (hva : va.category = 2) (k : G E f F (pc + 1) ls (st) ph kc ks) : G E f F pc ls (va :: st) ph kc ks := fun p e s m args below meth c hF H locs la hR hb hL => lv_pop2_2 hF.1 hF.2.1 hdg hva (k p e s m args below meth c hF H locs la hR hb hL)
theorem G.pop2_11 {E : JE} {f : FS} {F : JFin} {pc : Nat} {ls : List (Option Value)} {st : List Value} {ph : HP} {kc ks : Nat} {va vb : Value} (hdg : decode f.2.1 pc = .ok (.pop2, 1)) (hva : va.category = 1) (hvb : vb.category = 1) (k : G E f F (pc + 1) ls (st) ph kc ks) : G E f F pc ls (va :: vb :: st) ph kc ks := fun p e s m args below meth c hF H locs la hR hb hL => lv_pop2_11 hF.1 hF.2.1 hdg hva hvb (k p e s m args below meth c hF H locs la hR hb hL)
theorem G.goto {E : JE} {f : FS} {F : JFin} {pc : Nat} {ls : List (Option Value)} {st : List Value} {ph : HP} {kc ks : Nat} {off : Int} {tgt : Nat} (hdg : decode f.2.1 pc = .ok (.goto off, 3)) (ht : (pc : Int) + off = (tgt : Int)) (k : G E f F tgt ls st ph kc ks) : G E f F pc ls st ph kc ks := fun p e s m args below meth c hF H locs la hR hb hL => lv_goto hF.1 hF.2.1 hdg ht (k p e s m args below meth c hF H locs la hR hb hL)
theorem G.lookup {E : JE} {f : FS} {F : JFin} {pc : Nat} {ls : List (Option Value)} {st : List Value} {ph : HP} {kc ks : Nat} {dflt : Int} {ps : Array (Int × Int)} {len : Nat} {x : Int32} {off : Int} {tgt : Nat} (hdg : decode f.2.1 pc = .ok (.lookupswitch dflt ps, len)) (hp : (ps.toList.zip (ps.toList.drop 1)).all (fun (a, next) => a.1 < next.1) = true) (ho : Op.lookupswitch.offset ps.toList dflt x.toInt = off) (ht : (pc : Int) + off = (tgt : Int)) (k : G E f F tgt ls st ph kc ks) : G E f F pc ls (.int x :: st) ph kc ks := fun p e s m args below meth c hF H locs la hR hb hL => lv_lookup hF.1 hF.2.1 hdg hp ho ht (k p e s m args below meth c hF H locs la hR hb hL)
theorem G.tableOut {E : JE} {f : FS} {F : JFin} {pc : Nat} {ls : List (Option Value)} {st : List Value} {ph : HP} {kc ks : Nat} {dflt lo hi : Int} {offs : Array Int} {len : Nat} {x : Int32} {tgt : Nat} (hdg : decode f.2.1 pc = .ok (.tableswitch dflt lo hi offs, len)) (h : x.toInt < lo ∨ hi < x.toInt) (ht : (pc : Int) + dflt = (tgt : Int)) (k : G E f F tgt ls st ph kc ks) : G E f F pc ls (.int x :: st) ph kc ks := fun p e s m args below meth c hF H locs la hR hb hL => lv_tableOut hF.1 hF.2.1 hdg h ht (k p e s m args below meth c hF H locs la hR hb hL)
theorem G.tableIn {E : JE} {f : FS} {F : JFin} {pc : Nat} {ls : List (Option Value)} {st : List Value} {ph : HP} {kc ks : Nat} {dflt lo hi : Int} {offs : Array Int} {len : Nat} {x : Int32} {off : Int} {tgt : Nat} (hdg : decode f.2.1 pc = .ok (.tableswitch dflt lo hi offs, len)) (h1 : ¬ x.toInt < lo) (h2 : ¬ hi < x.toInt) (ho : offs[(x.toInt - lo).toNat]? = some off) (ht : (pc : Int) + off = (tgt : Int)) (k : G E f F tgt ls st ph kc ks) : G E f F pc ls (.int x :: st) ph kc ks := fun p e s m args below meth c hF H locs la hR hb hL => lv_tableIn hF.1 hF.2.1 hdg h1 h2 ho ht (k p e s m args below meth c hF H locs la hR hb hL)
theorem G.null {E : JE} {f : FS} {F : JFin} {pc : Nat} {ls : List (Option Value)} {st : List Value} {ph : HP} {kc ks : Nat} (hdg : decode f.2.1 pc = .ok (.aconst_null, 1)) (k : G E f F (pc + 1) ls (.null :: st) ph kc ks) : G E f F pc ls st ph kc ks := fun p e s m args below meth c hF H locs la hR hb hL => lv_null hF.1 hF.2.1 hdg (k p e s m args below meth c hF H locs la hR hb hL)
theorem G.ifnull {E : JE} {f : FS} {F : JFin} {pc : Nat} {ls : List (Option Value)} {st : List Value} {ph : HP} {kc ks : Nat} {x : Nat} {off : Int} (hdg : decode f.2.1 pc = .ok (.ifnull off, 3)) (k : G E f F (pc + 3) ls st ph kc ks) : G E f F pc ls (.ref x :: st) ph kc ks := fun p e s m args below meth c hF H locs la hR hb hL => lv_ifnull hF.1 hF.2.1 hdg (k p e s m args below meth c hF H locs la hR hb hL)
theorem G.ifnonnull {E : JE} {f : FS} {F : JFin} {pc : Nat} {ls : List (Option Value)} {st : List Value} {ph : HP} {kc ks : Nat} {x : Nat} {off : Int} {tgt : Nat} (hdg : decode f.2.1 pc = .ok (.ifnonnull off, 3)) (ht : (pc : Int) + off = (tgt : Int)) (k : G E f F tgt ls st ph kc ks) : G E f F pc ls (.ref x :: st) ph kc ks := fun p e s m args below meth c hF H locs la hR hb hL => lv_ifnonnull hF.1 hF.2.1 hdg ht (k p e s m args below meth c hF H locs la hR hb hL)
theorem G.ifnullN {E : JE} {f : FS} {F : JFin} {pc : Nat} {ls : List (Option Value)} {st : List Value} {ph : HP} {kc ks : Nat} {off : Int} {tgt : Nat} (hdg : decode f.2.1 pc = .ok (.ifnull off, 3)) (ht : (pc : Int) + off = (tgt : Int)) (k : G E f F tgt ls st ph kc ks) : G E f F pc ls (.null :: st) ph kc ks := fun p e s m args below meth c hF H locs la hR hb hL => lv_ifnullN hF.1 hF.2.1 hdg ht (k p e s m args below meth c hF H locs la hR hb hL)
theorem G.ifnonnullN {E : JE} {f : FS} {F : JFin} {pc : Nat} {ls : List (Option Value)} {st : List Value} {ph : HP} {kc ks : Nat} {off : Int} (hdg : decode f.2.1 pc = .ok (.ifnonnull off, 3)) (k : G E f F (pc + 3) ls st ph kc ks) : G E f F pc ls (.null :: st) ph kc ks := fun p e s m args below meth c hF H locs la hR hb hL => lv_ifnonnullN hF.1 hF.2.1 hdg (k p e s m args below meth c hF H locs la hR hb hL)
theorem G.acmp_eq {E : JE} {f : FS} {F : JFin} {pc : Nat} {ls : List (Option Value)} {st : List Value} {ph : HP} {kc ks : Nat} {rx ry : Option Nat} {off : Int} {tgt : Nat} (hdg : decode f.2.1 pc = .ok (.if_acmp .eq off, 3)) (ht : (pc : Int) + off = (tgt : Int)) (kt : rx = ry → G E f F tgt ls st ph kc ks) (kf : ¬ rx = ry → G E f F (pc + 3) ls st ph kc ks) : G E f F pc ls (va_rf ry :: va_rf rx :: st) ph kc ks := fun p e s m args below meth c hF H locs la hR hb hL => lv_acmp_eq hF.1 hF.2.1 hdg ht (fun h => kt h p e s m args below meth c hF H locs la hR hb hL) (fun h => kf h p e s m args below meth c hF H locs la hR hb hL)
theorem G.acmp_ne {E : JE} {f : FS} {F : JFin} {pc : Nat} {ls : List (Option Value)} {st : List Value} {ph : HP} {kc ks : Nat} {rx ry : Option Nat} {off : Int} {tgt : Nat} (hdg : decode f.2.1 pc = .ok (.if_acmp .ne off, 3)) (ht : (pc : Int) + off = (tgt : Int)) (kt : ¬ rx = ry → G E f F tgt ls st ph kc ks) (kf : rx = ry → G E f F (pc + 3) ls st ph kc ks) : G E f F pc ls (va_rf ry :: va_rf rx :: st) ph kc ks := fun p e s m args below meth c hF H locs la hR hb hL => lv_acmp_ne hF.1 hF.2.1 hdg ht (fun h => kt h p e s m args below meth c hF H locs la hR hb hL) (fun h => kf h p e s m args below meth c hF H locs la hR hb hL)
theorem G.if_eq {E : JE} {f : FS} {F : JFin} {pc : Nat} {ls : List (Option Value)} {st : List Value} {ph : HP} {kc ks : Nat} {x : Int32} {off : Int} {tgt : Nat} (hdg : decode f.2.1 pc = .ok (.ifCond .eq off, 3)) (ht : (pc : Int) + off = (tgt : Int)) (kt : x = 0 → G E f F tgt ls st ph kc ks) (kf : ¬ x = 0 → G E f F (pc + 3) ls st ph kc ks) : G E f F pc ls (.int x :: st) ph kc ks := fun p e s m args below meth c hF H locs la hR hb hL => lv_if_eq hF.1 hF.2.1 hdg ht (fun h => kt h p e s m args below meth c hF H locs la hR hb hL) (fun h => kf h p e s m args below meth c hF H locs la hR hb hL)
theorem G.icmp_eq {E : JE} {f : FS} {F : JFin} {pc : Nat} {ls : List (Option Value)} {st : List Value} {ph : HP} {kc ks : Nat} {x y : Int32} {off : Int} {tgt : Nat} (hdg : decode f.2.1 pc = .ok (.if_icmp .eq off, 3)) (ht : (pc : Int) + off = (tgt : Int)) (kt : x = y → G E f F tgt ls st ph kc ks) (kf : ¬ x = y → G E f F (pc + 3) ls st ph kc ks) : G E f F pc ls (.int y :: .int x :: st) ph kc ks := fun p e s m args below meth c hF H locs la hR hb hL => lv_icmp_eq hF.1 hF.2.1 hdg ht (fun h => kt h p e s m args below meth c hF H locs la hR hb hL) (fun h => kf h p e s m args below meth c hF H locs la hR hb hL)
theorem G.if_ne {E : JE} {f : FS} {F : JFin} {pc : Nat} {ls : List (Option Value)} {st : List Value} {ph : HP} {kc ks : Nat} {x : Int32} {off : Int} {tgt : Nat} (hdg : decode f.2.1 pc = .ok (.ifCond .ne off, 3)) (ht : (pc : Int) + off = (tgt : Int)) (kt : ¬ x = 0 → G E f F tgt ls st ph kc ks) (kf : x = 0 → G E f F (pc + 3) ls st ph kc ks) : G E f F pc ls (.int x :: st) ph kc ks := fun p e s m args below meth c hF H locs la hR hb hL => lv_if_ne hF.1 hF.2.1 hdg ht (fun h => kt h p e s m args below meth c hF H locs la hR hb hL) (fun h => kf h p e s m args below meth c hF H locs la hR hb hL)
theorem G.icmp_ne {E : JE} {f : FS} {F : JFin} {pc : Nat} {ls : List (Option Value)} {st : List Value} {ph : HP} {kc ks : Nat} {x y : Int32} {off : Int} {tgt : Nat} (hdg : decode f.2.1 pc = .ok (.if_icmp .ne off, 3)) (ht : (pc : Int) + off = (tgt : Int)) (kt : ¬ x = y → G E f F tgt ls st ph kc ks) (kf : x = y → G E f F (pc + 3) ls st ph kc ks) : G E f F pc ls (.int y :: .int x :: st) ph kc ks := fun p e s m args below meth c hF H locs la hR hb hL => lv_icmp_ne hF.1 hF.2.1 hdg ht (fun h => kt h p e s m args below meth c hF H locs la hR hb hL) (fun h => kf h p e s m args below meth c hF H locs la hR hb hL)
theorem G.if_lt {E : JE} {f : FS} {F : JFin} {pc : Nat} {ls : List (Option Value)} {st : List Value} {ph : HP} {kc ks : Nat} {x : Int32} {off : Int} {tgt : Nat} (hdg : decode f.2.1 pc = .ok (.ifCond .lt off, 3)) (ht : (pc : Int) + off = (tgt : Int)) (kt : x < 0 → G E f F tgt ls st ph kc ks) (kf : ¬ x < 0 → G E f F (pc + 3) ls st ph kc ks) : G E f F pc ls (.int x :: st) ph kc ks := fun p e s m args below meth c hF H locs la hR hb hL => lv_if_lt hF.1 hF.2.1 hdg ht (fun h => kt h p e s m args below meth c hF H locs la hR hb hL) (fun h => kf h p e s m args below meth c hF H locs la hR hb hL)
theorem G.icmp_lt {E : JE} {f : FS} {F : JFin} {pc : Nat} {ls : List (Option Value)} {st : List Value} {ph : HP} {kc ks : Nat} {x y : Int32} {off : Int} {tgt : Nat} (hdg : decode f.2.1 pc = .ok (.if_icmp .lt off, 3)) (ht : (pc : Int) + off = (tgt : Int)) (kt : x < y → G E f F tgt ls st ph kc ks) (kf : ¬ x < y → G E f F (pc + 3) ls st ph kc ks) : G E f F pc ls (.int y :: .int x :: st) ph kc ks := fun p e s m args below meth c hF H locs la hR hb hL => lv_icmp_lt hF.1 hF.2.1 hdg ht (fun h => kt h p e s m args below meth c hF H locs la hR hb hL) (fun h => kf h p e s m args below meth c hF H locs la hR hb hL)
theorem G.if_ge {E : JE} {f : FS} {F : JFin} {pc : Nat} {ls : List (Option Value)} {st : List Value} {ph : HP} {kc ks : Nat} {x : Int32} {off : Int} {tgt : Nat} (hdg : decode f.2.1 pc = .ok (.ifCond .ge off, 3)) (ht : (pc : Int) + off = (tgt : Int)) (kt : 0 ≤ x → G E f F tgt ls st ph kc ks) (kf : ¬ 0 ≤ x → G E f F (pc + 3) ls st ph kc ks) : G E f F pc ls (.int x :: st) ph kc ks := fun p e s m args below meth c hF H locs la hR hb hL => lv_if_ge hF.1 hF.2.1 hdg ht (fun h => kt h p e s m args below meth c hF H locs la hR hb hL) (fun h => kf h p e s m args below meth c hF H locs la hR hb hL)
theorem G.icmp_ge {E : JE} {f : FS} {F : JFin} {pc : Nat} {ls : List (Option Value)} {st : List Value} {ph : HP} {kc ks : Nat} {x y : Int32} {off : Int} {tgt : Nat} (hdg : decode f.2.1 pc = .ok (.if_icmp .ge off, 3)) (ht : (pc : Int) + off = (tgt : Int)) (kt : y ≤ x → G E f F tgt ls st ph kc ks) (kf : ¬ y ≤ x → G E f F (pc + 3) ls st ph kc ks) : G E f F pc ls (.int y :: .int x :: st) ph kc ks := fun p e s m args below meth c hF H locs la hR hb hL => lv_icmp_ge hF.1 hF.2.1 hdg ht (fun h => kt h p e s m args below meth c hF H locs la hR hb hL) (fun h => kf h p e s m args below meth c hF H locs la hR hb hL)
theorem G.if_gt {E : JE} {f : FS} {F : JFin} {pc : Nat} {ls : List (Option Value)} {st : List Value} {ph : HP} {kc ks : Nat} {x : Int32} {off : Int} {tgt : Nat} (hdg : decode f.2.1 pc = .ok (.ifCond .gt off, 3)) (ht : (pc : Int) + off = (tgt : Int)) (kt : 0 < x → G E f F tgt ls st ph kc ks) (kf : ¬ 0 < x → G E f F (pc + 3) ls st ph kc ks) : G E f F pc ls (.int x :: st) ph kc ks := fun p e s m args below meth c hF H locs la hR hb hL => lv_if_gt hF.1 hF.2.1 hdg ht (fun h => kt h p e s m args below meth c hF H locs la hR hb hL) (fun h => kf h p e s m args below meth c hF H locs la hR hb hL)
theorem G.icmp_gt {E : JE} {f : FS} {F : JFin} {pc : Nat} {ls : List (Option Value)} {st : List Value} {ph : HP} {kc ks : Nat} {x y : Int32} {off : Int} {tgt : Nat} (hdg : decode f.2.1 pc = .ok (.if_icmp .gt off, 3)) (ht : (pc : Int) + off = (tgt : Int)) (kt : y < x → G E f F tgt ls st ph kc ks) (kf : ¬ y < x → G E f F (pc + 3) ls st ph kc ks) : G E f F pc ls (.int y :: .int x :: st) ph kc ks := fun p e s m args below meth c hF H locs la hR hb hL => lv_icmp_gt hF.1 hF.2.1 hdg ht (fun h => kt h p e s m args below meth c hF H locs la hR hb hL) (fun h => kf h p e s m args below meth c hF H locs la hR hb hL)
theorem G.if_le {E : JE} {f : FS} {F : JFin} {pc : Nat} {ls : List (Option Value)} {st : List Value} {ph : HP} {kc ks : Nat} {x : Int32} {off : Int} {tgt : Nat} (hdg : decode f.2.1 pc = .ok (.ifCond .le off, 3)) (ht : (pc : Int) + off = (tgt : Int)) (kt : x ≤ 0 → G E f F tgt ls st ph kc ks) (kf : ¬ x ≤ 0 → G E f F (pc + 3) ls st ph kc ks) : G E f F pc ls (.int x :: st) ph kc ks := fun p e s m args below meth c hF H locs la hR hb hL => lv_if_le hF.1 hF.2.1 hdg ht (fun h => kt h p e s m args below meth c hF H locs la hR hb hL) (fun h => kf h p e s m args below meth c hF H locs la hR hb hL)
theorem G.icmp_le {E : JE} {f : FS} {F : JFin} {pc : Nat} {ls : List (Option Value)} {st : List Value} {ph : HP} {kc ks : Nat} {x y : Int32} {off : Int} {tgt : Nat} (hdg : decode f.2.1 pc = .ok (.if_icmp .le off, 3)) (ht : (pc : Int) + off = (tgt : Int)) (kt : x ≤ y → G E f F tgt ls st ph kc ks) (kf : ¬ x ≤ y → G E f F (pc + 3) ls st ph kc ks) : G E f F pc ls (.int y :: .int x :: st) ph kc ks := fun p e s m args below meth c hF H locs la hR hb hL => lv_icmp_le hF.1 hF.2.1 hdg ht (fun h => kt h p e s m args below meth c hF H locs la hR hb hL) (fun h => kf h p e s m args below meth c hF H locs la hR hb hL)
theorem G.lcmp {E : JE} {f : FS} {F : JFin} {pc : Nat} {ls : List (Option Value)} {st : List Value} {ph : HP} {kc ks : Nat} {x y : Int64} (hdg : decode f.2.1 pc = .ok (.lcmp, 1)) (k : G E f F (pc + 1) ls (.int (lg_cmp x y) :: st) ph kc ks) : G E f F pc ls (.long y :: .long x :: st) ph kc ks := fun p e s m args below meth c hF H locs la hR hb hL => W.lcmp hF.1 hF.2.1 hdg (k p e s m args below meth c hF H locs la hR hb hL)
theorem G.iload0 {E : JE} {f : FS} {F : JFin} {pc : Nat} {st : List Value} {ph : HP} {kc ks : Nat} {r : List (Option Value)} {x : Int32} (hd : decode f.2.1 pc = .ok (.iload 0, 2)) (k : G E f F (pc + 2) (some (.int x) :: r) (.int x :: st) ph kc ks) : G E f F pc (some (.int x) :: r) st ph kc ks := G.iload (i := 0) hd rfl k
theorem G.iload_n0 {E : JE} {f : FS} {F : JFin} {pc : Nat} {st : List Value} {ph : HP} {kc ks : Nat} {r : List (Option Value)} {x : Int32} (hd : decode f.2.1 pc = .ok (.iload_n 0, 1)) (k : G E f F (pc + 1) (some (.int x) :: r) (.int x :: st) ph kc ks) : G E f F pc (some (.int x) :: r) st ph kc ks := G.iload_n (i := 0) hd rfl rfl k
theorem G.lload0 {E : JE} {f : FS} {F : JFin} {pc : Nat} {st : List Value} {ph : HP} {kc ks : Nat} {r : List (Option Value)} {x : Int64} (hd : decode f.2.1 pc = .ok (.lload 0, 2)) (k : G E f F (pc + 2) (some (.long x) :: r) (.long x :: st) ph kc ks) : G E f F pc (some (.long x) :: r) st ph kc ks := G.lload (i := 0) hd rfl k
theorem G.lload_n0 {E : JE} {f : FS} {F : JFin} {pc : Nat} {st : List Value} {ph : HP} {kc ks : Nat} {r : List (Option Value)} {x : Int64} (hd : decode f.2.1 pc = .ok (.lload_n 0, 1)) (k : G E f F (pc + 1) (some (.long x) :: r) (.long x :: st) ph kc ks) : G E f F pc (some (.long x) :: r) st ph kc ks := G.lload_n (i := 0) hd rfl rfl k
theorem G.aload0 {E : JE} {f : FS} {F : JFin} {pc : Nat} {st : List Value} {ph : HP} {kc ks : Nat} {r : List (Option Value)} {x : Nat} (hd : decode f.2.1 pc = .ok (.aload 0, 2)) (k : G E f F (pc + 2) (some (.ref x) :: r) (.ref x :: st) ph kc ks) : G E f F pc (some (.ref x) :: r) st ph kc ks := G.aload (i := 0) hd rfl k
theorem G.aload0N {E : JE} {f : FS} {F : JFin} {pc : Nat} {st : List Value} {ph : HP} {kc ks : Nat} {r : List (Option Value)} (hd : decode f.2.1 pc = .ok (.aload 0, 2)) (k : G E f F (pc + 2) (some .null :: r) (.null :: st) ph kc ks) : G E f F pc (some .null :: r) st ph kc ks := G.aloadN (i := 0) hd rfl k
theorem G.aload_n0 {E : JE} {f : FS} {F : JFin} {pc : Nat} {st : List Value} {ph : HP} {kc ks : Nat} {r : List (Option Value)} {x : Nat} (hd : decode f.2.1 pc = .ok (.aload_n 0, 1)) (k : G E f F (pc + 1) (some (.ref x) :: r) (.ref x :: st) ph kc ks) : G E f F pc (some (.ref x) :: r) st ph kc ks := G.aload_n (i := 0) hd rfl rfl k
theorem G.aload_n0N {E : JE} {f : FS} {F : JFin} {pc : Nat} {st : List Value} {ph : HP} {kc ks : Nat} {r : List (Option Value)} (hd : decode f.2.1 pc = .ok (.aload_n 0, 1)) (k : G E f F (pc + 1) (some .null :: r) (.null :: st) ph kc ks) : G E f F pc (some .null :: r) st ph kc ks := G.aload_nN (i := 0) hd rfl rfl k
theorem G.istore0 {E : JE} {f : FS} {F : JFin} {pc : Nat} {st : List Value} {ph : HP} {kc ks : Nat} {a0 : Option Value} {r : List (Option Value)} {x : Int32} (hd : decode f.2.1 pc = .ok (.istore 0, 2)) (k : G E f F (pc + 2) (some (.int x) :: r) st ph kc ks) (hm : 0 < f.2.2.1 := by exact Nat.le_of_ble_eq_true rfl) : G E f F pc (a0 :: r) (.int x :: st) ph kc ks := G.istore (i := 0) hd hm rfl k
theorem G.astore0 {E : JE} {f : FS} {F : JFin} {pc : Nat} {st : List Value} {ph : HP} {kc ks : Nat} {a0 : Option Value} {r : List (Option Value)} {x : Nat} (hd : decode f.2.1 pc = .ok (.astore 0, 2)) (k : G E f F (pc + 2) (some (.ref x) :: r) st ph kc ks) (hm : 0 < f.2.2.1 := by exact Nat.le_of_ble_eq_true rfl) : G E f F pc (a0 :: r) (.ref x :: st) ph kc ks := G.astore (i := 0) hd hm rfl k
theorem G.astore0N {E : JE} {f : FS} {F : JFin} {pc : Nat} {st : List Value} {ph : HP} {kc ks : Nat} {a0 : Option Value} {r : List (Option Value)} (hd : decode f.2.1 pc = .ok (.astore 0, 2)) (k : G E f F (pc + 2) (some .null :: r) st ph kc ks) (hm : 0 < f.2.2.1 := by exact Nat.le_of_ble_eq_true rfl) : G E f F pc (a0 :: r) (.null :: st) ph kc ks := G.astoreN (i := 0) hd hm rfl k
theorem G.lstore0 {E : JE} {f : FS} {F : JFin} {pc : Nat} {st : List Value} {ph : HP} {kc ks : Nat} {a0 : Option Value} {r : List (Option Value)} {b : Option Value} {x : Int64} (hd : decode f.2.1 pc = .ok (.lstore 0, 2)) (k : G E f F (pc + 2) (some (.long x) :: none :: r) st ph kc ks) (hm : 0 + 1 < f.2.2.1 := by exact Nat.le_of_ble_eq_true rfl) : G E f F pc (a0 :: b :: r) (.long x :: st) ph kc ks := G.lstore (i := 0) hd hm rfl k
theorem G.istore_n0 {E : JE} {f : FS} {F : JFin} {pc : Nat} {st : List Value} {ph : HP} {kc ks : Nat} {a0 : Option Value} {r : List (Option Value)} {x : Int32} (hd : decode f.2.1 pc = .ok (.istore_n 0, 1)) (k : G E f F (pc + 1) (some (.int x) :: r) st ph kc ks) (hm : 0 < f.2.2.1 := by exact Nat.le_of_ble_eq_true rfl) : G E f F pc (a0 :: r) (.int x :: st) ph kc ks := G.istore_n (i := 0) hd rfl hm rfl k
theorem G.astore_n0 {E : JE} {f : FS} {F : JFin} {pc : Nat} {st : List Value} {ph : HP} {kc ks : Nat} {a0 : Option Value} {r : List (Option Value)} {x : Nat} (hd : decode f.2.1 pc = .ok (.astore_n 0, 1)) (k : G E f F (pc + 1) (some (.ref x) :: r) st ph kc ks) (hm : 0 < f.2.2.1 := by exact Nat.le_of_ble_eq_true rfl) : G E f F pc (a0 :: r) (.ref x :: st) ph kc ks := G.astore_n (i := 0) hd rfl hm rfl k
theorem G.astore_n0N {E : JE} {f : FS} {F : JFin} {pc : Nat} {st : List Value} {ph : HP} {kc ks : Nat} {a0 : Option Value} {r : List (Option Value)} (hd : decode f.2.1 pc = .ok (.astore_n 0, 1)) (k : G E f F (pc + 1) (some .null :: r) st ph kc ks) (hm : 0 < f.2.2.1 := by exact Nat.le_of_ble_eq_true rfl) : G E f F pc (a0 :: r) (.null :: st) ph kc ks := G.astore_nN (i := 0) hd rfl hm rfl k
theorem G.lstore_n0 {E : JE} {f : FS} {F : JFin} {pc : Nat} {st : List Value} {ph : HP} {kc ks : Nat} {a0 : Option Value} {r : List (Option Value)} {b : Option Value} {x : Int64} (hd : decode f.2.1 pc = .ok (.lstore_n 0, 1)) (k : G E f F (pc + 1) (some (.long x) :: none :: r) st ph kc ks) (hm : 0 + 1 < f.2.2.1 := by exact Nat.le_of_ble_eq_true rfl) : G E f F pc (a0 :: b :: r) (.long x :: st) ph kc ks := G.lstore_n (i := 0) hd rfl hm rfl k
theorem G.iinc0 {E : JE} {f : FS} {F : JFin} {pc : Nat} {st : List Value} {ph : HP} {kc ks : Nat} {r : List (Option Value)} {x : Int32} {n : Int} (hd : decode f.2.1 pc = .ok (.iinc 0 n, 3)) (k : G E f F (pc + 3) (some (.int (x + Int32.ofInt n)) :: r) st ph kc ks) (hm : 0 < f.2.2.1 := by exact Nat.le_of_ble_eq_true rfl) : G E f F pc (some (.int x) :: r) st ph kc ks := G.iinc (i := 0) hd rfl hm rfl k
theorem G.drop0 {E : JE} {f : FS} {F : JFin} {pc : Nat} {st : List Value} {ph : HP} {kc ks : Nat} {a0 : Option Value} {r : List (Option Value)} (k : G E f F pc (none :: r) st ph kc ks) : G E f F pc (a0 :: r) st ph kc ks := G.dropL (i := 0) k
theorem G.iload1 {E : JE} {f : FS} {F : JFin} {pc : Nat} {st : List Value} {ph : HP} {kc ks : Nat} {a0 : Option Value} {r : List (Option Value)} {x : Int32} (hd : decode f.2.1 pc = .ok (.iload 1, 2)) (k : G E f F (pc + 2) (a0 :: some (.int x) :: r) (.int x :: st) ph kc ks) : G E f F pc (a0 :: some (.int x) :: r) st ph kc ks := G.iload (i := 1) hd rfl k
theorem G.iload_n1 {E : JE} {f : FS} {F : JFin} {pc : Nat} {st : List Value} {ph : HP} {kc ks : Nat} {a0 : Option Value} {r : List (Option Value)} {x : Int32} (hd : decode f.2.1 pc = .ok (.iload_n 1, 1)) (k : G E f F (pc + 1) (a0 :: some (.int x) :: r) (.int x :: st) ph kc ks) : G E f F pc (a0 :: some (.int x) :: r) st ph kc ks := G.iload_n (i := 1) hd rfl rfl k
theorem G.lload1 {E : JE} {f : FS} {F : JFin} {pc : Nat} {st : List Value} {ph : HP} {kc ks : Nat} {a0 : Option Value} {r : List (Option Value)} {x : Int64} (hd : decode f.2.1 pc = .ok (.lload 1, 2)) (k : G E f F (pc + 2) (a0 :: some (.long x) :: r) (.long x :: st) ph kc ks) : G E f F pc (a0 :: some (.long x) :: r) st ph kc ks := G.lload (i := 1) hd rfl k
theorem G.lload_n1 {E : JE} {f : FS} {F : JFin} {pc : Nat} {st : List Value} {ph : HP} {kc ks : Nat} {a0 : Option Value} {r : List (Option Value)} {x : Int64} (hd : decode f.2.1 pc = .ok (.lload_n 1, 1)) (k : G E f F (pc + 1) (a0 :: some (.long x) :: r) (.long x :: st) ph kc ks) : G E f F pc (a0 :: some (.long x) :: r) st ph kc ks := G.lload_n (i := 1) hd rfl rfl k
theorem G.aload1 {E : JE} {f : FS} {F : JFin} {pc : Nat} {st : List Value} {ph : HP} {kc ks : Nat} {a0 : Option Value} {r : List (Option Value)} {x : Nat} (hd : decode f.2.1 pc = .ok (.aload 1, 2)) (k : G E f F (pc + 2) (a0 :: some (.ref x) :: r) (.ref x :: st) ph kc ks) : G E f F pc (a0 :: some (.ref x) :: r) st ph kc ks := G.aload (i := 1) hd rfl k
theorem G.aload1N {E : JE} {f : FS} {F : JFin} {pc : Nat} {st : List Value} {ph : HP} {kc ks : Nat} {a0 : Option Value} {r : List (Option Value)} (hd : decode f.2.1 pc = .ok (.aload 1, 2)) (k : G E f F (pc + 2) (a0 :: some .null :: r) (.null :: st) ph kc ks) : G E f F pc (a0 :: some .null :: r) st ph kc ks := G.aloadN (i := 1) hd rfl k
theorem G.aload_n1 {E : JE} {f : FS} {F : JFin} {pc : Nat} {st : List Value} {ph : HP} {kc ks : Nat} {a0 : Option Value} {r : List (Option Value)} {x : Nat} (hd : decode f.2.1 pc = .ok (.aload_n 1, 1)) (k : G E f F (pc + 1) (a0 :: some (.ref x) :: r) (.ref x :: st) ph kc ks) : G E f F pc (a0 :: some (.ref x) :: r) st ph kc ks := G.aload_n (i := 1) hd rfl rfl k
theorem G.aload_n1N {E : JE} {f : FS} {F : JFin} {pc : Nat} {st : List Value} {ph : HP} {kc ks : Nat} {a0 : Option Value} {r : List (Option Value)} (hd : decode f.2.1 pc = .ok (.aload_n 1, 1)) (k : G E f F (pc + 1) (a0 :: some .null :: r) (.null :: st) ph kc ks) : G E f F pc (a0 :: some .null :: r) st ph kc ks := G.aload_nN (i := 1) hd rfl rfl k
theorem G.istore1 {E : JE} {f : FS} {F : JFin} {pc : Nat} {st : List Value} {ph : HP} {kc ks : Nat} {a0 a1 : Option Value} {r : List (Option Value)} {x : Int32} (hd : decode f.2.1 pc = .ok (.istore 1, 2)) (k : G E f F (pc + 2) (a0 :: some (.int x) :: r) st ph kc ks) (hn : jc2 a0 = false := by rfl) (hm : 1 < f.2.2.1 := by exact Nat.le_of_ble_eq_true rfl) : G E f F pc (a0 :: a1 :: r) (.int x :: st) ph kc ks := G.istore (i := 1) hd hm (jn2_of (i := 0) rfl hn) k
theorem G.astore1 {E : JE} {f : FS} {F : JFin} {pc : Nat} {st : List Value} {ph : HP} {kc ks : Nat} {a0 a1 : Option Value} {r : List (Option Value)} {x : Nat} (hd : decode f.2.1 pc = .ok (.astore 1, 2)) (k : G E f F (pc + 2) (a0 :: some (.ref x) :: r) st ph kc ks) (hn : jc2 a0 = false := by rfl) (hm : 1 < f.2.2.1 := by exact Nat.le_of_ble_eq_true rfl) : G E f F pc (a0 :: a1 :: r) (.ref x :: st) ph kc ks := G.astore (i := 1) hd hm (jn2_of (i := 0) rfl hn) k
theorem G.astore1N {E : JE} {f : FS} {F : JFin} {pc : Nat} {st : List Value} {ph : HP} {kc ks : Nat} {a0 a1 : Option Value} {r : List (Option Value)} (hd : decode f.2.1 pc = .ok (.astore 1, 2)) (k : G E f F (pc + 2) (a0 :: some .null :: r) st ph kc ks) (hn : jc2 a0 = false := by rfl) (hm : 1 < f.2.2.1 := by exact Nat.le_of_ble_eq_true rfl) : G E f F pc (a0 :: a1 :: r) (.null :: st) ph kc ks := G.astoreN (i := 1) hd hm (jn2_of (i := 0) rfl hn) k
theorem G.lstore1 {E : JE} {f : FS} {F : JFin} {pc : Nat} {st : List Value} {ph : HP} {kc ks : Nat} {a0 a1 : Option Value} {r : List (Option Value)} {b : Option Value} {x : Int64} (hd : decode f.2.1 pc = .ok (.lstore 1, 2)) (k : G E f F (pc + 2) (a0 :: some (.long x) :: none :: r) st ph kc ks) (hn : jc2 a0 = false := by rfl) (hm : 1 + 1 < f.2.2.1 := by exact Nat.le_of_ble_eq_true rfl) : G E f F pc (a0 :: a1 :: b :: r) (.long x :: st) ph kc ks := G.lstore (i := 1) hd hm (jn2_of (i := 0) rfl hn) k
theorem G.istore_n1 {E : JE} {f : FS} {F : JFin} {pc : Nat} {st : List Value} {ph : HP} {kc ks : Nat} {a0 a1 : Option Value} {r : List (Option Value)} {x : Int32} (hd : decode f.2.1 pc = .ok (.istore_n 1, 1)) (k : G E f F (pc + 1) (a0 :: some (.int x) :: r) st ph kc ks) (hn : jc2 a0 = false := by rfl) (hm : 1 < f.2.2.1 := by exact Nat.le_of_ble_eq_true rfl) : G E f F pc (a0 :: a1 :: r) (.int x :: st) ph kc ks := G.istore_n (i := 1) hd rfl hm (jn2_of (i := 0) rfl hn) k
theorem G.astore_n1 {E : JE} {f : FS} {F : JFin} {pc : Nat} {st : List Value} {ph : HP} {kc ks : Nat} {a0 a1 : Option Value} {r : List (Option Value)} {x : Nat} (hd : decode f.2.1 pc = .ok (.astore_n 1, 1)) (k : G E f F (pc + 1) (a0 :: some (.ref x) :: r) st ph kc ks) (hn : jc2 a0 = false := by rfl) (hm : 1 < f.2.2.1 := by exact Nat.le_of_ble_eq_true rfl) : G E f F pc (a0 :: a1 :: r) (.ref x :: st) ph kc ks := G.astore_n (i := 1) hd rfl hm (jn2_of (i := 0) rfl hn) k
theorem G.astore_n1N {E : JE} {f : FS} {F : JFin} {pc : Nat} {st : List Value} {ph : HP} {kc ks : Nat} {a0 a1 : Option Value} {r : List (Option Value)} (hd : decode f.2.1 pc = .ok (.astore_n 1, 1)) (k : G E f F (pc + 1) (a0 :: some .null :: r) st ph kc ks) (hn : jc2 a0 = false := by rfl) (hm : 1 < f.2.2.1 := by exact Nat.le_of_ble_eq_true rfl) : G E f F pc (a0 :: a1 :: r) (.null :: st) ph kc ks := G.astore_nN (i := 1) hd rfl hm (jn2_of (i := 0) rfl hn) k
theorem G.lstore_n1 {E : JE} {f : FS} {F : JFin} {pc : Nat} {st : List Value} {ph : HP} {kc ks : Nat} {a0 a1 : Option Value} {r : List (Option Value)} {b : Option Value} {x : Int64} (hd : decode f.2.1 pc = .ok (.lstore_n 1, 1)) (k : G E f F (pc + 1) (a0 :: some (.long x) :: none :: r) st ph kc ks) (hn : jc2 a0 = false := by rfl) (hm : 1 + 1 < f.2.2.1 := by exact Nat.le_of_ble_eq_true rfl) : G E f F pc (a0 :: a1 :: b :: r) (.long x :: st) ph kc ks := G.lstore_n (i := 1) hd rfl hm (jn2_of (i := 0) rfl hn) k
theorem G.iinc1 {E : JE} {f : FS} {F : JFin} {pc : Nat} {st : List Value} {ph : HP} {kc ks : Nat} {a0 : Option Value} {r : List (Option Value)} {x : Int32} {n : Int} (hd : decode f.2.1 pc = .ok (.iinc 1 n, 3)) (k : G E f F (pc + 3) (a0 :: some (.int (x + Int32.ofInt n)) :: r) st ph kc ks) (hn : jc2 a0 = false := by rfl) (hm : 1 < f.2.2.1 := by exact Nat.le_of_ble_eq_true rfl) : G E f F pc (a0 :: some (.int x) :: r) st ph kc ks := G.iinc (i := 1) hd rfl hm (jn2_of (i := 0) rfl hn) k
theorem G.drop1 {E : JE} {f : FS} {F : JFin} {pc : Nat} {st : List Value} {ph : HP} {kc ks : Nat} {a0 a1 : Option Value} {r : List (Option Value)} (k : G E f F pc (a0 :: none :: r) st ph kc ks) : G E f F pc (a0 :: a1 :: r) st ph kc ks := G.dropL (i := 1) k
theorem G.iload2 {E : JE} {f : FS} {F : JFin} {pc : Nat} {st : List Value} {ph : HP} {kc ks : Nat} {a0 a1 : Option Value} {r : List (Option Value)} {x : Int32} (hd : decode f.2.1 pc = .ok (.iload 2, 2)) (k : G E f F (pc + 2) (a0 :: a1 :: some (.int x) :: r) (.int x :: st) ph kc ks) : G E f F pc (a0 :: a1 :: some (.int x) :: r) st ph kc ks := G.iload (i := 2) hd rfl k
theorem G.iload_n2 {E : JE} {f : FS} {F : JFin} {pc : Nat} {st : List Value} {ph : HP} {kc ks : Nat} {a0 a1 : Option Value} {r : List (Option Value)} {x : Int32} (hd : decode f.2.1 pc = .ok (.iload_n 2, 1)) (k : G E f F (pc + 1) (a0 :: a1 :: some (.int x) :: r) (.int x :: st) ph kc ks) : G E f F pc (a0 :: a1 :: some (.int x) :: r) st ph kc ks := G.iload_n (i := 2) hd rfl rfl k
theorem G.lload2 {E : JE} {f : FS} {F : JFin} {pc : Nat} {st : List Value} {ph : HP} {kc ks : Nat} {a0 a1 : Option Value} {r : List (Option Value)} {x : Int64} (hd : decode f.2.1 pc = .ok (.lload 2, 2)) (k : G E f F (pc + 2) (a0 :: a1 :: some (.long x) :: r) (.long x :: st) ph kc ks) : G E f F pc (a0 :: a1 :: some (.long x) :: r) st ph kc ks := G.lload (i := 2) hd rfl k
theorem G.lload_n2 {E : JE} {f : FS} {F : JFin} {pc : Nat} {st : List Value} {ph : HP} {kc ks : Nat} {a0 a1 : Option Value} {r : List (Option Value)} {x : Int64} (hd : decode f.2.1 pc = .ok (.lload_n 2, 1)) (k : G E f F (pc + 1) (a0 :: a1 :: some (.long x) :: r) (.long x :: st) ph kc ks) : G E f F pc (a0 :: a1 :: some (.long x) :: r) st ph kc ks := G.lload_n (i := 2) hd rfl rfl k
theorem G.aload2 {E : JE} {f : FS} {F : JFin} {pc : Nat} {st : List Value} {ph : HP} {kc ks : Nat} {a0 a1 : Option Value} {r : List (Option Value)} {x : Nat} (hd : decode f.2.1 pc = .ok (.aload 2, 2)) (k : G E f F (pc + 2) (a0 :: a1 :: some (.ref x) :: r) (.ref x :: st) ph kc ks) : G E f F pc (a0 :: a1 :: some (.ref x) :: r) st ph kc ks := G.aload (i := 2) hd rfl k
theorem G.aload2N {E : JE} {f : FS} {F : JFin} {pc : Nat} {st : List Value} {ph : HP} {kc ks : Nat} {a0 a1 : Option Value} {r : List (Option Value)} (hd : decode f.2.1 pc = .ok (.aload 2, 2)) (k : G E f F (pc + 2) (a0 :: a1 :: some .null :: r) (.null :: st) ph kc ks) : G E f F pc (a0 :: a1 :: some .null :: r) st ph kc ks := G.aloadN (i := 2) hd rfl k
theorem G.aload_n2 {E : JE} {f : FS} {F : JFin} {pc : Nat} {st : List Value} {ph : HP} {kc ks : Nat} {a0 a1 : Option Value} {r : List (Option Value)} {x : Nat} (hd : decode f.2.1 pc = .ok (.aload_n 2, 1)) (k : G E f F (pc + 1) (a0 :: a1 :: some (.ref x) :: r) (.ref x :: st) ph kc ks) : G E f F pc (a0 :: a1 :: some (.ref x) :: r) st ph kc ks := G.aload_n (i := 2) hd rfl rfl k
theorem G.aload_n2N {E : JE} {f : FS} {F : JFin} {pc : Nat} {st : List Value} {ph : HP} {kc ks : Nat} {a0 a1 : Option Value} {r : List (Option Value)} (hd : decode f.2.1 pc = .ok (.aload_n 2, 1)) (k : G E f F (pc + 1) (a0 :: a1 :: some .null :: r) (.null :: st) ph kc ks) : G E f F pc (a0 :: a1 :: some .null :: r) st ph kc ks := G.aload_nN (i := 2) hd rfl rfl k
theorem G.istore2 {E : JE} {f : FS} {F : JFin} {pc : Nat} {st : List Value} {ph : HP} {kc ks : Nat} {a0 a1 a2 : Option Value} {r : List (Option Value)} {x : Int32} (hd : decode f.2.1 pc = .ok (.istore 2, 2)) (k : G E f F (pc + 2) (a0 :: a1 :: some (.int x) :: r) st ph kc ks) (hn : jc2 a1 = false := by rfl) (hm : 2 < f.2.2.1 := by exact Nat.le_of_ble_eq_true rfl) : G E f F pc (a0 :: a1 :: a2 :: r) (.int x :: st) ph kc ks := G.istore (i := 2) hd hm (jn2_of (i := 1) rfl hn) k
theorem G.astore2 {E : JE} {f : FS} {F : JFin} {pc : Nat} {st : List Value} {ph : HP} {kc ks : Nat} {a0 a1 a2 : Option Value} {r : List (Option Value)} {x : Nat} (hd : decode f.2.1 pc = .ok (.astore 2, 2)) (k : G E f F (pc + 2) (a0 :: a1 :: some (.ref x) :: r) st ph kc ks) (hn : jc2 a1 = false := by rfl) (hm : 2 < f.2.2.1 := by exact Nat.le_of_ble_eq_true rfl) : G E f F pc (a0 :: a1 :: a2 :: r) (.ref x :: st) ph kc ks := G.astore (i := 2) hd hm (jn2_of (i := 1) rfl hn) k
theorem G.astore2N {E : JE} {f : FS} {F : JFin} {pc : Nat} {st : List Value} {ph : HP} {kc ks : Nat} {a0 a1 a2 : Option Value} {r : List (Option Value)} (hd : decode f.2.1 pc = .ok (.astore 2, 2)) (k : G E f F (pc + 2) (a0 :: a1 :: some .null :: r) st ph kc ks) (hn : jc2 a1 = false := by rfl) (hm : 2 < f.2.2.1 := by exact Nat.le_of_ble_eq_true rfl) : G E f F pc (a0 :: a1 :: a2 :: r) (.null :: st) ph kc ks := G.astoreN (i := 2) hd hm (jn2_of (i := 1) rfl hn) k
theorem G.lstore2 {E : JE} {f : FS} {F : JFin} {pc : Nat} {st : List Value} {ph : HP} {kc ks : Nat} {a0 a1 a2 : Option Value} {r : List (Option Value)} {b : Option Value} {x : Int64} (hd : decode f.2.1 pc = .ok (.lstore 2, 2)) (k : G E f F (pc + 2) (a0 :: a1 :: some (.long x) :: none :: r) st ph kc ks) (hn : jc2 a1 = false := by rfl) (hm : 2 + 1 < f.2.2.1 := by exact Nat.le_of_ble_eq_true rfl) : G E f F pc (a0 :: a1 :: a2 :: b :: r) (.long x :: st) ph kc ks := G.lstore (i := 2) hd hm (jn2_of (i := 1) rfl hn) k
theorem G.istore_n2 {E : JE} {f : FS} {F : JFin} {pc : Nat} {st : List Value} {ph : HP} {kc ks : Nat} {a0 a1 a2 : Option Value} {r : List (Option Value)} {x : Int32} (hd : decode f.2.1 pc = .ok (.istore_n 2, 1)) (k : G E f F (pc + 1) (a0 :: a1 :: some (.int x) :: r) st ph kc ks) (hn : jc2 a1 = false := by rfl) (hm : 2 < f.2.2.1 := by exact Nat.le_of_ble_eq_true rfl) : G E f F pc (a0 :: a1 :: a2 :: r) (.int x :: st) ph kc ks := G.istore_n (i := 2) hd rfl hm (jn2_of (i := 1) rfl hn) k
theorem G.astore_n2 {E : JE} {f : FS} {F : JFin} {pc : Nat} {st : List Value} {ph : HP} {kc ks : Nat} {a0 a1 a2 : Option Value} {r : List (Option Value)} {x : Nat} (hd : decode f.2.1 pc = .ok (.astore_n 2, 1)) (k : G E f F (pc + 1) (a0 :: a1 :: some (.ref x) :: r) st ph kc ks) (hn : jc2 a1 = false := by rfl) (hm : 2 < f.2.2.1 := by exact Nat.le_of_ble_eq_true rfl) : G E f F pc (a0 :: a1 :: a2 :: r) (.ref x :: st) ph kc ks := G.astore_n (i := 2) hd rfl hm (jn2_of (i := 1) rfl hn) k
theorem G.astore_n2N {E : JE} {f : FS} {F : JFin} {pc : Nat} {st : List Value} {ph : HP} {kc ks : Nat} {a0 a1 a2 : Option Value} {r : List (Option Value)} (hd : decode f.2.1 pc = .ok (.astore_n 2, 1)) (k : G E f F (pc + 1) (a0 :: a1 :: some .null :: r) st ph kc ks) (hn : jc2 a1 = false := by rfl) (hm : 2 < f.2.2.1 := by exact Nat.le_of_ble_eq_true rfl) : G E f F pc (a0 :: a1 :: a2 :: r) (.null :: st) ph kc ks := G.astore_nN (i := 2) hd rfl hm (jn2_of (i := 1) rfl hn) k
theorem G.lstore_n2 {E : JE} {f : FS} {F : JFin} {pc : Nat} {st : List Value} {ph : HP} {kc ks : Nat} {a0 a1 a2 : Option Value} {r : List (Option Value)} {b : Option Value} {x : Int64} (hd : decode f.2.1 pc = .ok (.lstore_n 2, 1)) (k : G E f F (pc + 1) (a0 :: a1 :: some (.long x) :: none :: r) st ph kc ks) (hn : jc2 a1 = false := by rfl) (hm : 2 + 1 < f.2.2.1 := by exact Nat.le_of_ble_eq_true rfl) : G E f F pc (a0 :: a1 :: a2 :: b :: r) (.long x :: st) ph kc ks := G.lstore_n (i := 2) hd rfl hm (jn2_of (i := 1) rfl hn) k
theorem G.iinc2 {E : JE} {f : FS} {F : JFin} {pc : Nat} {st : List Value} {ph : HP} {kc ks : Nat} {a0 a1 : Option Value} {r : List (Option Value)} {x : Int32} {n : Int} (hd : decode f.2.1 pc = .ok (.iinc 2 n, 3)) (k : G E f F (pc + 3) (a0 :: a1 :: some (.int (x + Int32.ofInt n)) :: r) st ph kc ks) (hn : jc2 a1 = false := by rfl) (hm : 2 < f.2.2.1 := by exact Nat.le_of_ble_eq_true rfl) : G E f F pc (a0 :: a1 :: some (.int x) :: r) st ph kc ks := G.iinc (i := 2) hd rfl hm (jn2_of (i := 1) rfl hn) k
theorem G.drop2 {E : JE} {f : FS} {F : JFin} {pc : Nat} {st : List Value} {ph : HP} {kc ks : Nat} {a0 a1 a2 : Option Value} {r : List (Option Value)} (k : G E f F pc (a0 :: a1 :: none :: r) st ph kc ks) : G E f F pc (a0 :: a1 :: a2 :: r) st ph kc ks := G.dropL (i := 2) k
theorem G.iload3 {E : JE} {f : FS} {F : JFin} {pc : Nat} {st : List Value} {ph : HP} {kc ks : Nat} {a0 a1 a2 : Option Value} {r : List (Option Value)} {x : Int32} (hd : decode f.2.1 pc = .ok (.iload 3, 2)) (k : G E f F (pc + 2) (a0 :: a1 :: a2 :: some (.int x) :: r) (.int x :: st) ph kc ks) : G E f F pc (a0 :: a1 :: a2 :: some (.int x) :: r) st ph kc ks := G.iload (i := 3) hd rfl k
theorem G.iload_n3 {E : JE} {f : FS} {F : JFin} {pc : Nat} {st : List Value} {ph : HP} {kc ks : Nat} {a0 a1 a2 : Option Value} {r : List (Option Value)} {x : Int32} (hd : decode f.2.1 pc = .ok (.iload_n 3, 1)) (k : G E f F (pc + 1) (a0 :: a1 :: a2 :: some (.int x) :: r) (.int x :: st) ph kc ks) : G E f F pc (a0 :: a1 :: a2 :: some (.int x) :: r) st ph kc ks := G.iload_n (i := 3) hd rfl rfl k
theorem G.lload3 {E : JE} {f : FS} {F : JFin} {pc : Nat} {st : List Value} {ph : HP} {kc ks : Nat} {a0 a1 a2 : Option Value} {r : List (Option Value)} {x : Int64} (hd : decode f.2.1 pc = .ok (.lload 3, 2)) (k : G E f F (pc + 2) (a0 :: a1 :: a2 :: some (.long x) :: r) (.long x :: st) ph kc ks) : G E f F pc (a0 :: a1 :: a2 :: some (.long x) :: r) st ph kc ks := G.lload (i := 3) hd rfl k
theorem G.lload_n3 {E : JE} {f : FS} {F : JFin} {pc : Nat} {st : List Value} {ph : HP} {kc ks : Nat} {a0 a1 a2 : Option Value} {r : List (Option Value)} {x : Int64} (hd : decode f.2.1 pc = .ok (.lload_n 3, 1)) (k : G E f F (pc + 1) (a0 :: a1 :: a2 :: some (.long x) :: r) (.long x :: st) ph kc ks) : G E f F pc (a0 :: a1 :: a2 :: some (.long x) :: r) st ph kc ks := G.lload_n (i := 3) hd rfl rfl k
theorem G.aload3 {E : JE} {f : FS} {F : JFin} {pc : Nat} {st : List Value} {ph : HP} {kc ks : Nat} {a0 a1 a2 : Option Value} {r : List (Option Value)} {x : Nat} (hd : decode f.2.1 pc = .ok (.aload 3, 2)) (k : G E f F (pc + 2) (a0 :: a1 :: a2 :: some (.ref x) :: r) (.ref x :: st) ph kc ks) : G E f F pc (a0 :: a1 :: a2 :: some (.ref x) :: r) st ph kc ks := G.aload (i := 3) hd rfl k
theorem G.aload3N {E : JE} {f : FS} {F : JFin} {pc : Nat} {st : List Value} {ph : HP} {kc ks : Nat} {a0 a1 a2 : Option Value} {r : List (Option Value)} (hd : decode f.2.1 pc = .ok (.aload 3, 2)) (k : G E f F (pc + 2) (a0 :: a1 :: a2 :: some .null :: r) (.null :: st) ph kc ks) : G E f F pc (a0 :: a1 :: a2 :: some .null :: r) st ph kc ks := G.aloadN (i := 3) hd rfl k
theorem G.aload_n3 {E : JE} {f : FS} {F : JFin} {pc : Nat} {st : List Value} {ph : HP} {kc ks : Nat} {a0 a1 a2 : Option Value} {r : List (Option Value)} {x : Nat} (hd : decode f.2.1 pc = .ok (.aload_n 3, 1)) (k : G E f F (pc + 1) (a0 :: a1 :: a2 :: some (.ref x) :: r) (.ref x :: st) ph kc ks) : G E f F pc (a0 :: a1 :: a2 :: some (.ref x) :: r) st ph kc ks := G.aload_n (i := 3) hd rfl rfl k
theorem G.aload_n3N {E : JE} {f : FS} {F : JFin} {pc : Nat} {st : List Value} {ph : HP} {kc ks : Nat} {a0 a1 a2 : Option Value} {r : List (Option Value)} (hd : decode f.2.1 pc = .ok (.aload_n 3, 1)) (k : G E f F (pc + 1) (a0 :: a1 :: a2 :: some .null :: r) (.null :: st) ph kc ks) : G E f F pc (a0 :: a1 :: a2 :: some .null :: r) st ph kc ks := G.aload_nN (i := 3) hd rfl rfl k
theorem G.istore3 {E : JE} {f : FS} {F : JFin} {pc : Nat} {st : List Value} {ph : HP} {kc ks : Nat} {a0 a1 a2 a3 : Option Value} {r : List (Option Value)} {x : Int32} (hd : decode f.2.1 pc = .ok (.istore 3, 2)) (k : G E f F (pc + 2) (a0 :: a1 :: a2 :: some (.int x) :: r) st ph kc ks) (hn : jc2 a2 = false := by rfl) (hm : 3 < f.2.2.1 := by exact Nat.le_of_ble_eq_true rfl) : G E f F pc (a0 :: a1 :: a2 :: a3 :: r) (.int x :: st) ph kc ks := G.istore (i := 3) hd hm (jn2_of (i := 2) rfl hn) k
theorem G.astore3 {E : JE} {f : FS} {F : JFin} {pc : Nat} {st : List Value} {ph : HP} {kc ks : Nat} {a0 a1 a2 a3 : Option Value} {r : List (Option Value)} {x : Nat} (hd : decode f.2.1 pc = .ok (.astore 3, 2)) (k : G E f F (pc + 2) (a0 :: a1 :: a2 :: some (.ref x) :: r) st ph kc ks) (hn : jc2 a2 = false := by rfl) (hm : 3 < f.2.2.1 := by exact Nat.le_of_ble_eq_true rfl) : G E f F pc (a0 :: a1 :: a2 :: a3 :: r) (.ref x :: st) ph kc ks := G.astore (i := 3) hd hm (jn2_of (i := 2) rfl hn) k
theorem G.astore3N {E : JE} {f : FS} {F : JFin} {pc : Nat} {st : List Value} {ph : HP} {kc ks : Nat} {a0 a1 a2 a3 : Option Value} {r : List (Option Value)} (hd : decode f.2.1 pc = .ok (.astore 3, 2)) (k : G E f F (pc + 2) (a0 :: a1 :: a2 :: some .null :: r) st ph kc ks) (hn : jc2 a2 = false := by rfl) (hm : 3 < f.2.2.1 := by exact Nat.le_of_ble_eq_true rfl) : G E f F pc (a0 :: a1 :: a2 :: a3 :: r) (.null :: st) ph kc ks := G.astoreN (i := 3) hd hm (jn2_of (i := 2) rfl hn) k
theorem G.lstore3 {E : JE} {f : FS} {F : JFin} {pc : Nat} {st : List Value} {ph : HP} {kc ks : Nat} {a0 a1 a2 a3 : Option Value} {r : List (Option Value)} {b : Option Value} {x : Int64} (hd : decode f.2.1 pc = .ok (.lstore 3, 2)) (k : G E f F (pc + 2) (a0 :: a1 :: a2 :: some (.long x) :: none :: r) st ph kc ks) (hn : jc2 a2 = false := by rfl) (hm : 3 + 1 < f.2.2.1 := by exact Nat.le_of_ble_eq_true rfl) : G E f F pc (a0 :: a1 :: a2 :: a3 :: b :: r) (.long x :: st) ph kc ks := G.lstore (i := 3) hd hm (jn2_of (i := 2) rfl hn) k
theorem G.istore_n3 {E : JE} {f : FS} {F : JFin} {pc : Nat} {st : List Value} {ph : HP} {kc ks : Nat} {a0 a1 a2 a3 : Option Value} {r : List (Option Value)} {x : Int32} (hd : decode f.2.1 pc = .ok (.istore_n 3, 1)) (k : G E f F (pc + 1) (a0 :: a1 :: a2 :: some (.int x) :: r) st ph kc ks) (hn : jc2 a2 = false := by rfl) (hm : 3 < f.2.2.1 := by exact Nat.le_of_ble_eq_true rfl) : G E f F pc (a0 :: a1 :: a2 :: a3 :: r) (.int x :: st) ph kc ks := G.istore_n (i := 3) hd rfl hm (jn2_of (i := 2) rfl hn) k
theorem G.astore_n3 {E : JE} {f : FS} {F : JFin} {pc : Nat} {st : List Value} {ph : HP} {kc ks : Nat} {a0 a1 a2 a3 : Option Value} {r : List (Option Value)} {x : Nat} (hd : decode f.2.1 pc = .ok (.astore_n 3, 1)) (k : G E f F (pc + 1) (a0 :: a1 :: a2 :: some (.ref x) :: r) st ph kc ks) (hn : jc2 a2 = false := by rfl) (hm : 3 < f.2.2.1 := by exact Nat.le_of_ble_eq_true rfl) : G E f F pc (a0 :: a1 :: a2 :: a3 :: r) (.ref x :: st) ph kc ks := G.astore_n (i := 3) hd rfl hm (jn2_of (i := 2) rfl hn) k
theorem G.astore_n3N {E : JE} {f : FS} {F : JFin} {pc : Nat} {st : List Value} {ph : HP} {kc ks : Nat} {a0 a1 a2 a3 : Option Value} {r : List (Option Value)} (hd : decode f.2.1 pc = .ok (.astore_n 3, 1)) (k : G E f F (pc + 1) (a0 :: a1 :: a2 :: some .null :: r) st ph kc ks) (hn : jc2 a2 = false := by rfl) (hm : 3 < f.2.2.1 := by exact Nat.le_of_ble_eq_true rfl) : G E f F pc (a0 :: a1 :: a2 :: a3 :: r) (.null :: st) ph kc ks := G.astore_nN (i := 3) hd rfl hm (jn2_of (i := 2) rfl hn) k
theorem G.lstore_n3 {E : JE} {f : FS} {F : JFin} {pc : Nat} {st : List Value} {ph : HP} {kc ks : Nat} {a0 a1 a2 a3 : Option Value} {r : List (Option Value)} {b : Option Value} {x : Int64} (hd : decode f.2.1 pc = .ok (.lstore_n 3, 1)) (k : G E f F (pc + 1) (a0 :: a1 :: a2 :: some (.long x) :: none :: r) st ph kc ks) (hn : jc2 a2 = false := by rfl) (hm : 3 + 1 < f.2.2.1 := by exact Nat.le_of_ble_eq_true rfl) : G E f F pc (a0 :: a1 :: a2 :: a3 :: b :: r) (.long x :: st) ph kc ks := G.lstore_n (i := 3) hd rfl hm (jn2_of (i := 2) rfl hn) k
theorem G.iinc3 {E : JE} {f : FS} {F : JFin} {pc : Nat} {st : List Value} {ph : HP} {kc ks : Nat} {a0 a1 a2 : Option Value} {r : List (Option Value)} {x : Int32} {n : Int} (hd : decode f.2.1 pc = .ok (.iinc 3 n, 3)) (k : G E f F (pc + 3) (a0 :: a1 :: a2 :: some (.int (x + Int32.ofInt n)) :: r) st ph kc ks) (hn : jc2 a2 = false := by rfl) (hm : 3 < f.2.2.1 := by exact Nat.le_of_ble_eq_true rfl) : G E f F pc (a0 :: a1 :: a2 :: some (.int x) :: r) st ph kc ks := G.iinc (i := 3) hd rfl hm (jn2_of (i := 2) rfl hn) k
theorem G.drop3 {E : JE} {f : FS} {F : JFin} {pc : Nat} {st : List Value} {ph : HP} {kc ks : Nat} {a0 a1 a2 a3 : Option Value} {r : List (Option Value)} (k : G E f F pc (a0 :: a1 :: a2 :: none :: r) st ph kc ks) : G E f F pc (a0 :: a1 :: a2 :: a3 :: r) st ph kc ks := G.dropL (i := 3) k
theorem G.iload4 {E : JE} {f : FS} {F : JFin} {pc : Nat} {st : List Value} {ph : HP} {kc ks : Nat} {a0 a1 a2 a3 : Option Value} {r : List (Option Value)} {x : Int32} (hd : decode f.2.1 pc = .ok (.iload 4, 2)) (k : G E f F (pc + 2) (a0 :: a1 :: a2 :: a3 :: some (.int x) :: r) (.int x :: st) ph kc ks) : G E f F pc (a0 :: a1 :: a2 :: a3 :: some (.int x) :: r) st ph kc ks := G.iload (i := 4) hd rfl k
theorem G.lload4 {E : JE} {f : FS} {F : JFin} {pc : Nat} {st : List Value} {ph : HP} {kc ks : Nat} {a0 a1 a2 a3 : Option Value} {r : List (Option Value)} {x : Int64} (hd : decode f.2.1 pc = .ok (.lload 4, 2)) (k : G E f F (pc + 2) (a0 :: a1 :: a2 :: a3 :: some (.long x) :: r) (.long x :: st) ph kc ks) : G E f F pc (a0 :: a1 :: a2 :: a3 :: some (.long x) :: r) st ph kc ks := G.lload (i := 4) hd rfl k
theorem G.aload4 {E : JE} {f : FS} {F : JFin} {pc : Nat} {st : List Value} {ph : HP} {kc ks : Nat} {a0 a1 a2 a3 : Option Value} {r : List (Option Value)} {x : Nat} (hd : decode f.2.1 pc = .ok (.aload 4, 2)) (k : G E f F (pc + 2) (a0 :: a1 :: a2 :: a3 :: some (.ref x) :: r) (.ref x :: st) ph kc ks) : G E f F pc (a0 :: a1 :: a2 :: a3 :: some (.ref x) :: r) st ph kc ks := G.aload (i := 4) hd rfl k
theorem G.aload4N {E : JE} {f : FS} {F : JFin} {pc : Nat} {st : List Value} {ph : HP} {kc ks : Nat} {a0 a1 a2 a3 : Option Value} {r : List (Option Value)} (hd : decode f.2.1 pc = .ok (.aload 4, 2)) (k : G E f F (pc + 2) (a0 :: a1 :: a2 :: a3 :: some .null :: r) (.null :: st) ph kc ks) : G E f F pc (a0 :: a1 :: a2 :: a3 :: some .null :: r) st ph kc ks := G.aloadN (i := 4) hd rfl k
theorem G.istore4 {E : JE} {f : FS} {F : JFin} {pc : Nat} {st : List Value} {ph : HP} {kc ks : Nat} {a0 a1 a2 a3 a4 : Option Value} {r : List (Option Value)} {x : Int32} (hd : decode f.2.1 pc = .ok (.istore 4, 2)) (k : G E f F (pc + 2) (a0 :: a1 :: a2 :: a3 :: some (.int x) :: r) st ph kc ks) (hn : jc2 a3 = false := by rfl) (hm : 4 < f.2.2.1 := by exact Nat.le_of_ble_eq_true rfl) : G E f F pc (a0 :: a1 :: a2 :: a3 :: a4 :: r) (.int x :: st) ph kc ks := G.istore (i := 4) hd hm (jn2_of (i := 3) rfl hn) k
theorem G.astore4 {E : JE} {f : FS} {F : JFin} {pc : Nat} {st : List Value} {ph : HP} {kc ks : Nat} {a0 a1 a2 a3 a4 : Option Value} {r : List (Option Value)} {x : Nat} (hd : decode f.2.1 pc = .ok (.astore 4, 2)) (k : G E f F (pc + 2) (a0 :: a1 :: a2 :: a3 :: some (.ref x) :: r) st ph kc ks) (hn : jc2 a3 = false := by rfl) (hm : 4 < f.2.2.1 := by exact Nat.le_of_ble_eq_true rfl) : G E f F pc (a0 :: a1 :: a2 :: a3 :: a4 :: r) (.ref x :: st) ph kc ks := G.astore (i := 4) hd hm (jn2_of (i := 3) rfl hn) k
theorem G.astore4N {E : JE} {f : FS} {F : JFin} {pc : Nat} {st : List Value} {ph : HP} {kc ks : Nat} {a0 a1 a2 a3 a4 : Option Value} {r : List (Option Value)} (hd : decode f.2.1 pc = .ok (.astore 4, 2)) (k : G E f F (pc + 2) (a0 :: a1 :: a2 :: a3 :: some .null :: r) st ph kc ks) (hn : jc2 a3 = false := by rfl) (hm : 4 < f.2.2.1 := by exact Nat.le_of_ble_eq_true rfl) : G E f F pc (a0 :: a1 :: a2 :: a3 :: a4 :: r) (.null :: st) ph kc ks := G.astoreN (i := 4) hd hm (jn2_of (i := 3) rfl hn) k
theorem G.lstore4 {E : JE} {f : FS} {F : JFin} {pc : Nat} {st : List Value} {ph : HP} {kc ks : Nat} {a0 a1 a2 a3 a4 : Option Value} {r : List (Option Value)} {b : Option Value} {x : Int64} (hd : decode f.2.1 pc = .ok (.lstore 4, 2)) (k : G E f F (pc + 2) (a0 :: a1 :: a2 :: a3 :: some (.long x) :: none :: r) st ph kc ks) (hn : jc2 a3 = false := by rfl) (hm : 4 + 1 < f.2.2.1 := by exact Nat.le_of_ble_eq_true rfl) : G E f F pc (a0 :: a1 :: a2 :: a3 :: a4 :: b :: r) (.long x :: st) ph kc ks := G.lstore (i := 4) hd hm (jn2_of (i := 3) rfl hn) k
theorem G.iinc4 {E : JE} {f : FS} {F : JFin} {pc : Nat} {st : List Value} {ph : HP} {kc ks : Nat} {a0 a1 a2 a3 : Option Value} {r : List (Option Value)} {x : Int32} {n : Int} (hd : decode f.2.1 pc = .ok (.iinc 4 n, 3)) (k : G E f F (pc + 3) (a0 :: a1 :: a2 :: a3 :: some (.int (x + Int32.ofInt n)) :: r) st ph kc ks) (hn : jc2 a3 = false := by rfl) (hm : 4 < f.2.2.1 := by exact Nat.le_of_ble_eq_true rfl) : G E f F pc (a0 :: a1 :: a2 :: a3 :: some (.int x) :: r) st ph kc ks := G.iinc (i := 4) hd rfl hm (jn2_of (i := 3) rfl hn) k
theorem G.drop4 {E : JE} {f : FS} {F : JFin} {pc : Nat} {st : List Value} {ph : HP} {kc ks : Nat} {a0 a1 a2 a3 a4 : Option Value} {r : List (Option Value)} (k : G E f F pc (a0 :: a1 :: a2 :: a3 :: none :: r) st ph kc ks) : G E f F pc (a0 :: a1 :: a2 :: a3 :: a4 :: r) st ph kc ks := G.dropL (i := 4) k
theorem G.iload5 {E : JE} {f : FS} {F : JFin} {pc : Nat} {st : List Value} {ph : HP} {kc ks : Nat} {a0 a1 a2 a3 a4 : Option Value} {r : List (Option Value)} {x : Int32} (hd : decode f.2.1 pc = .ok (.iload 5, 2)) (k : G E f F (pc + 2) (a0 :: a1 :: a2 :: a3 :: a4 :: some (.int x) :: r) (.int x :: st) ph kc ks) : G E f F pc (a0 :: a1 :: a2 :: a3 :: a4 :: some (.int x) :: r) st ph kc ks := G.iload (i := 5) hd rfl k
theorem G.lload5 {E : JE} {f : FS} {F : JFin} {pc : Nat} {st : List Value} {ph : HP} {kc ks : Nat} {a0 a1 a2 a3 a4 : Option Value} {r : List (Option Value)} {x : Int64} (hd : decode f.2.1 pc = .ok (.lload 5, 2)) (k : G E f F (pc + 2) (a0 :: a1 :: a2 :: a3 :: a4 :: some (.long x) :: r) (.long x :: st) ph kc ks) : G E f F pc (a0 :: a1 :: a2 :: a3 :: a4 :: some (.long x) :: r) st ph kc ks := G.lload (i := 5) hd rfl k
theorem G.aload5 {E : JE} {f : FS} {F : JFin} {pc : Nat} {st : List Value} {ph : HP} {kc ks : Nat} {a0 a1 a2 a3 a4 : Option Value} {r : List (Option Value)} {x : Nat} (hd : decode f.2.1 pc = .ok (.aload 5, 2)) (k : G E f F (pc + 2) (a0 :: a1 :: a2 :: a3 :: a4 :: some (.ref x) :: r) (.ref x :: st) ph kc ks) : G E f F pc (a0 :: a1 :: a2 :: a3 :: a4 :: some (.ref x) :: r) st ph kc ks := G.aload (i := 5) hd rfl k
theorem G.aload5N {E : JE} {f : FS} {F : JFin} {pc : Nat} {st : List Value} {ph : HP} {kc ks : Nat} {a0 a1 a2 a3 a4 : Option Value} {r : List (Option Value)} (hd : decode f.2.1 pc = .ok (.aload 5, 2)) (k : G E f F (pc + 2) (a0 :: a1 :: a2 :: a3 :: a4 :: some .null :: r) (.null :: st) ph kc ks) : G E f F pc (a0 :: a1 :: a2 :: a3 :: a4 :: some .null :: r) st ph kc ks := G.aloadN (i := 5) hd rfl k
theorem G.istore5 {E : JE} {f : FS} {F : JFin} {pc : Nat} {st : List Value} {ph : HP} {kc ks : Nat} {a0 a1 a2 a3 a4 a5 : Option Value} {r : List (Option Value)} {x : Int32} (hd : decode f.2.1 pc = .ok (.istore 5, 2)) (k : G E f F (pc + 2) (a0 :: a1 :: a2 :: a3 :: a4 :: some (.int x) :: r) st ph kc ks) (hn : jc2 a4 = false := by rfl) (hm : 5 < f.2.2.1 := by exact Nat.le_of_ble_eq_true rfl) : G E f F pc (a0 :: a1 :: a2 :: a3 :: a4 :: a5 :: r) (.int x :: st) ph kc ks := G.istore (i := 5) hd hm (jn2_of (i := 4) rfl hn) k
theorem G.astore5 {E : JE} {f : FS} {F : JFin} {pc : Nat} {st : List Value} {ph : HP} {kc ks : Nat} {a0 a1 a2 a3 a4 a5 : Option Value} {r : List (Option Value)} {x : Nat} (hd : decode f.2.1 pc = .ok (.astore 5, 2)) (k : G E f F (pc + 2) (a0 :: a1 :: a2 :: a3 :: a4 :: some (.ref x) :: r) st ph kc ks) (hn : jc2 a4 = false := by rfl) (hm : 5 < f.2.2.1 := by exact Nat.le_of_ble_eq_true rfl) : G E f F pc (a0 :: a1 :: a2 :: a3 :: a4 :: a5 :: r) (.ref x :: st) ph kc ks := G.astore (i := 5) hd hm (jn2_of (i := 4) rfl hn) k
theorem G.astore5N {E : JE} {f : FS} {F : JFin} {pc : Nat} {st : List Value} {ph : HP} {kc ks : Nat} {a0 a1 a2 a3 a4 a5 : Option Value} {r : List (Option Value)} (hd : decode f.2.1 pc = .ok (.astore 5, 2)) (k : G E f F (pc + 2) (a0 :: a1 :: a2 :: a3 :: a4 :: some .null :: r) st ph kc ks) (hn : jc2 a4 = false := by rfl) (hm : 5 < f.2.2.1 := by exact Nat.le_of_ble_eq_true rfl) : G E f F pc (a0 :: a1 :: a2 :: a3 :: a4 :: a5 :: r) (.null :: st) ph kc ks := G.astoreN (i := 5) hd hm (jn2_of (i := 4) rfl hn) k
theorem G.lstore5 {E : JE} {f : FS} {F : JFin} {pc : Nat} {st : List Value} {ph : HP} {kc ks : Nat} {a0 a1 a2 a3 a4 a5 : Option Value} {r : List (Option Value)} {b : Option Value} {x : Int64} (hd : decode f.2.1 pc = .ok (.lstore 5, 2)) (k : G E f F (pc + 2) (a0 :: a1 :: a2 :: a3 :: a4 :: some (.long x) :: none :: r) st ph kc ks) (hn : jc2 a4 = false := by rfl) (hm : 5 + 1 < f.2.2.1 := by exact Nat.le_of_ble_eq_true rfl) : G E f F pc (a0 :: a1 :: a2 :: a3 :: a4 :: a5 :: b :: r) (.long x :: st) ph kc ks := G.lstore (i := 5) hd hm (jn2_of (i := 4) rfl hn) k
theorem G.iinc5 {E : JE} {f : FS} {F : JFin} {pc : Nat} {st : List Value} {ph : HP} {kc ks : Nat} {a0 a1 a2 a3 a4 : Option Value} {r : List (Option Value)} {x : Int32} {n : Int} (hd : decode f.2.1 pc = .ok (.iinc 5 n, 3)) (k : G E f F (pc + 3) (a0 :: a1 :: a2 :: a3 :: a4 :: some (.int (x + Int32.ofInt n)) :: r) st ph kc ks) (hn : jc2 a4 = false := by rfl) (hm : 5 < f.2.2.1 := by exact Nat.le_of_ble_eq_true rfl) : G E f F pc (a0 :: a1 :: a2 :: a3 :: a4 :: some (.int x) :: r) st ph kc ks := G.iinc (i := 5) hd rfl hm (jn2_of (i := 4) rfl hn) k
theorem G.drop5 {E : JE} {f : FS} {F : JFin} {pc : Nat} {st : List Value} {ph : HP} {kc ks : Nat} {a0 a1 a2 a3 a4 a5 : Option Value} {r : List (Option Value)} (k : G E f F pc (a0 :: a1 :: a2 :: a3 :: a4 :: none :: r) st ph kc ks) : G E f F pc (a0 :: a1 :: a2 :: a3 :: a4 :: a5 :: r) st ph kc ks := G.dropL (i := 5) k
theorem G.iload6 {E : JE} {f : FS} {F : JFin} {pc : Nat} {st : List Value} {ph : HP} {kc ks : Nat} {a0 a1 a2 a3 a4 a5 : Option Value} {r : List (Option Value)} {x : Int32} (hd : decode f.2.1 pc = .ok (.iload 6, 2)) (k : G E f F (pc + 2) (a0 :: a1 :: a2 :: a3 :: a4 :: a5 :: some (.int x) :: r) (.int x :: st) ph kc ks) : G E f F pc (a0 :: a1 :: a2 :: a3 :: a4 :: a5 :: some (.int x) :: r) st ph kc ks := G.iload (i := 6) hd rfl k
theorem G.lload6 {E : JE} {f : FS} {F : JFin} {pc : Nat} {st : List Value} {ph : HP} {kc ks : Nat} {a0 a1 a2 a3 a4 a5 : Option Value} {r : List (Option Value)} {x : Int64} (hd : decode f.2.1 pc = .ok (.lload 6, 2)) (k : G E f F (pc + 2) (a0 :: a1 :: a2 :: a3 :: a4 :: a5 :: some (.long x) :: r) (.long x :: st) ph kc ks) : G E f F pc (a0 :: a1 :: a2 :: a3 :: a4 :: a5 :: some (.long x) :: r) st ph kc ks := G.lload (i := 6) hd rfl k
theorem G.aload6 {E : JE} {f : FS} {F : JFin} {pc : Nat} {st : List Value} {ph : HP} {kc ks : Nat} {a0 a1 a2 a3 a4 a5 : Option Value} {r : List (Option Value)} {x : Nat} (hd : decode f.2.1 pc = .ok (.aload 6, 2)) (k : G E f F (pc + 2) (a0 :: a1 :: a2 :: a3 :: a4 :: a5 :: some (.ref x) :: r) (.ref x :: st) ph kc ks) : G E f F pc (a0 :: a1 :: a2 :: a3 :: a4 :: a5 :: some (.ref x) :: r) st ph kc ks := G.aload (i := 6) hd rfl k
theorem G.aload6N {E : JE} {f : FS} {F : JFin} {pc : Nat} {st : List Value} {ph : HP} {kc ks : Nat} {a0 a1 a2 a3 a4 a5 : Option Value} {r : List (Option Value)} (hd : decode f.2.1 pc = .ok (.aload 6, 2)) (k : G E f F (pc + 2) (a0 :: a1 :: a2 :: a3 :: a4 :: a5 :: some .null :: r) (.null :: st) ph kc ks) : G E f F pc (a0 :: a1 :: a2 :: a3 :: a4 :: a5 :: some .null :: r) st ph kc ks := G.aloadN (i := 6) hd rfl k
theorem G.istore6 {E : JE} {f : FS} {F : JFin} {pc : Nat} {st : List Value} {ph : HP} {kc ks : Nat} {a0 a1 a2 a3 a4 a5 a6 : Option Value} {r : List (Option Value)} {x : Int32} (hd : decode f.2.1 pc = .ok (.istore 6, 2)) (k : G E f F (pc + 2) (a0 :: a1 :: a2 :: a3 :: a4 :: a5 :: some (.int x) :: r) st ph kc ks) (hn : jc2 a5 = false := by rfl) (hm : 6 < f.2.2.1 := by exact Nat.le_of_ble_eq_true rfl) : G E f F pc (a0 :: a1 :: a2 :: a3 :: a4 :: a5 :: a6 :: r) (.int x :: st) ph kc ks := G.istore (i := 6) hd hm (jn2_of (i := 5) rfl hn) k
theorem G.astore6 {E : JE} {f : FS} {F : JFin} {pc : Nat} {st : List Value} {ph : HP} {kc ks : Nat} {a0 a1 a2 a3 a4 a5 a6 : Option Value} {r : List (Option Value)} {x : Nat} (hd : decode f.2.1 pc = .ok (.astore 6, 2)) (k : G E f F (pc + 2) (a0 :: a1 :: a2 :: a3 :: a4 :: a5 :: some (.ref x) :: r) st ph kc ks) (hn : jc2 a5 = false := by rfl) (hm : 6 < f.2.2.1 := by exact Nat.le_of_ble_eq_true rfl) : G E f F pc (a0 :: a1 :: a2 :: a3 :: a4 :: a5 :: a6 :: r) (.ref x :: st) ph kc ks := G.astore (i := 6) hd hm (jn2_of (i := 5) rfl hn) k
theorem G.astore6N {E : JE} {f : FS} {F : JFin} {pc : Nat} {st : List Value} {ph : HP} {kc ks : Nat} {a0 a1 a2 a3 a4 a5 a6 : Option Value} {r : List (Option Value)} (hd : decode f.2.1 pc = .ok (.astore 6, 2)) (k : G E f F (pc + 2) (a0 :: a1 :: a2 :: a3 :: a4 :: a5 :: some .null :: r) st ph kc ks) (hn : jc2 a5 = false := by rfl) (hm : 6 < f.2.2.1 := by exact Nat.le_of_ble_eq_true rfl) : G E f F pc (a0 :: a1 :: a2 :: a3 :: a4 :: a5 :: a6 :: r) (.null :: st) ph kc ks := G.astoreN (i := 6) hd hm (jn2_of (i := 5) rfl hn) k
theorem G.lstore6 {E : JE} {f : FS} {F : JFin} {pc : Nat} {st : List Value} {ph : HP} {kc ks : Nat} {a0 a1 a2 a3 a4 a5 a6 : Option Value} {r : List (Option Value)} {b : Option Value} {x : Int64} (hd : decode f.2.1 pc = .ok (.lstore 6, 2)) (k : G E f F (pc + 2) (a0 :: a1 :: a2 :: a3 :: a4 :: a5 :: some (.long x) :: none :: r) st ph kc ks) (hn : jc2 a5 = false := by rfl) (hm : 6 + 1 < f.2.2.1 := by exact Nat.le_of_ble_eq_true rfl) : G E f F pc (a0 :: a1 :: a2 :: a3 :: a4 :: a5 :: a6 :: b :: r) (.long x :: st) ph kc ks := G.lstore (i := 6) hd hm (jn2_of (i := 5) rfl hn) k
theorem G.iinc6 {E : JE} {f : FS} {F : JFin} {pc : Nat} {st : List Value} {ph : HP} {kc ks : Nat} {a0 a1 a2 a3 a4 a5 : Option Value} {r : List (Option Value)} {x : Int32} {n : Int} (hd : decode f.2.1 pc = .ok (.iinc 6 n, 3)) (k : G E f F (pc + 3) (a0 :: a1 :: a2 :: a3 :: a4 :: a5 :: some (.int (x + Int32.ofInt n)) :: r) st ph kc ks) (hn : jc2 a5 = false := by rfl) (hm : 6 < f.2.2.1 := by exact Nat.le_of_ble_eq_true rfl) : G E f F pc (a0 :: a1 :: a2 :: a3 :: a4 :: a5 :: some (.int x) :: r) st ph kc ks := G.iinc (i := 6) hd rfl hm (jn2_of (i := 5) rfl hn) k
theorem G.drop6 {E : JE} {f : FS} {F : JFin} {pc : Nat} {st : List Value} {ph : HP} {kc ks : Nat} {a0 a1 a2 a3 a4 a5 a6 : Option Value} {r : List (Option Value)} (k : G E f F pc (a0 :: a1 :: a2 :: a3 :: a4 :: a5 :: none :: r) st ph kc ks) : G E f F pc (a0 :: a1 :: a2 :: a3 :: a4 :: a5 :: a6 :: r) st ph kc ks := G.dropL (i := 6) k
theorem G.iload7 {E : JE} {f : FS} {F : JFin} {pc : Nat} {st : List Value} {ph : HP} {kc ks : Nat} {a0 a1 a2 a3 a4 a5 a6 : Option Value} {r : List (Option Value)} {x : Int32} (hd : decode f.2.1 pc = .ok (.iload 7, 2)) (k : G E f F (pc + 2) (a0 :: a1 :: a2 :: a3 :: a4 :: a5 :: a6 :: some (.int x) :: r) (.int x :: st) ph kc ks) : G E f F pc (a0 :: a1 :: a2 :: a3 :: a4 :: a5 :: a6 :: some (.int x) :: r) st ph kc ks := G.iload (i := 7) hd rfl k
theorem G.lload7 {E : JE} {f : FS} {F : JFin} {pc : Nat} {st : List Value} {ph : HP} {kc ks : Nat} {a0 a1 a2 a3 a4 a5 a6 : Option Value} {r : List (Option Value)} {x : Int64} (hd : decode f.2.1 pc = .ok (.lload 7, 2)) (k : G E f F (pc + 2) (a0 :: a1 :: a2 :: a3 :: a4 :: a5 :: a6 :: some (.long x) :: r) (.long x :: st) ph kc ks) : G E f F pc (a0 :: a1 :: a2 :: a3 :: a4 :: a5 :: a6 :: some (.long x) :: r) st ph kc ks := G.lload (i := 7) hd rfl k
theorem G.aload7 {E : JE} {f : FS} {F : JFin} {pc : Nat} {st : List Value} {ph : HP} {kc ks : Nat} {a0 a1 a2 a3 a4 a5 a6 : Option Value} {r : List (Option Value)} {x : Nat} (hd : decode f.2.1 pc = .ok (.aload 7, 2)) (k : G E f F (pc + 2) (a0 :: a1 :: a2 :: a3 :: a4 :: a5 :: a6 :: some (.ref x) :: r) (.ref x :: st) ph kc ks) : G E f F pc (a0 :: a1 :: a2 :: a3 :: a4 :: a5 :: a6 :: some (.ref x) :: r) st ph kc ks := G.aload (i := 7) hd rfl k
theorem G.aload7N {E : JE} {f : FS} {F : JFin} {pc : Nat} {st : List Value} {ph : HP} {kc ks : Nat} {a0 a1 a2 a3 a4 a5 a6 : Option Value} {r : List (Option Value)} (hd : decode f.2.1 pc = .ok (.aload 7, 2)) (k : G E f F (pc + 2) (a0 :: a1 :: a2 :: a3 :: a4 :: a5 :: a6 :: some .null :: r) (.null :: st) ph kc ks) : G E f F pc (a0 :: a1 :: a2 :: a3 :: a4 :: a5 :: a6 :: some .null :: r) st ph kc ks := G.aloadN (i := 7) hd rfl k
theorem G.istore7 {E : JE} {f : FS} {F : JFin} {pc : Nat} {st : List Value} {ph : HP} {kc ks : Nat} {a0 a1 a2 a3 a4 a5 a6 a7 : Option Value} {r : List (Option Value)} {x : Int32} (hd : decode f.2.1 pc = .ok (.istore 7, 2)) (k : G E f F (pc + 2) (a0 :: a1 :: a2 :: a3 :: a4 :: a5 :: a6 :: some (.int x) :: r) st ph kc ks) (hn : jc2 a6 = false := by rfl) (hm : 7 < f.2.2.1 := by exact Nat.le_of_ble_eq_true rfl) : G E f F pc (a0 :: a1 :: a2 :: a3 :: a4 :: a5 :: a6 :: a7 :: r) (.int x :: st) ph kc ks := G.istore (i := 7) hd hm (jn2_of (i := 6) rfl hn) k
theorem G.astore7 {E : JE} {f : FS} {F : JFin} {pc : Nat} {st : List Value} {ph : HP} {kc ks : Nat} {a0 a1 a2 a3 a4 a5 a6 a7 : Option Value} {r : List (Option Value)} {x : Nat} (hd : decode f.2.1 pc = .ok (.astore 7, 2)) (k : G E f F (pc + 2) (a0 :: a1 :: a2 :: a3 :: a4 :: a5 :: a6 :: some (.ref x) :: r) st ph kc ks) (hn : jc2 a6 = false := by rfl) (hm : 7 < f.2.2.1 := by exact Nat.le_of_ble_eq_true rfl) : G E f F pc (a0 :: a1 :: a2 :: a3 :: a4 :: a5 :: a6 :: a7 :: r) (.ref x :: st) ph kc ks := G.astore (i := 7) hd hm (jn2_of (i := 6) rfl hn) k
theorem G.astore7N {E : JE} {f : FS} {F : JFin} {pc : Nat} {st : List Value} {ph : HP} {kc ks : Nat} {a0 a1 a2 a3 a4 a5 a6 a7 : Option Value} {r : List (Option Value)} (hd : decode f.2.1 pc = .ok (.astore 7, 2)) (k : G E f F (pc + 2) (a0 :: a1 :: a2 :: a3 :: a4 :: a5 :: a6 :: some .null :: r) st ph kc ks) (hn : jc2 a6 = false := by rfl) (hm : 7 < f.2.2.1 := by exact Nat.le_of_ble_eq_true rfl) : G E f F pc (a0 :: a1 :: a2 :: a3 :: a4 :: a5 :: a6 :: a7 :: r) (.null :: st) ph kc ks := G.astoreN (i := 7) hd hm (jn2_of (i := 6) rfl hn) k
theorem G.lstore7 {E : JE} {f : FS} {F : JFin} {pc : Nat} {st : List Value} {ph : HP} {kc ks : Nat} {a0 a1 a2 a3 a4 a5 a6 a7 : Option Value} {r : List (Option Value)} {b : Option Value} {x : Int64} (hd : decode f.2.1 pc = .ok (.lstore 7, 2)) (k : G E f F (pc + 2) (a0 :: a1 :: a2 :: a3 :: a4 :: a5 :: a6 :: some (.long x) :: none :: r) st ph kc ks) (hn : jc2 a6 = false := by rfl) (hm : 7 + 1 < f.2.2.1 := by exact Nat.le_of_ble_eq_true rfl) : G E f F pc (a0 :: a1 :: a2 :: a3 :: a4 :: a5 :: a6 :: a7 :: b :: r) (.long x :: st) ph kc ks := G.lstore (i := 7) hd hm (jn2_of (i := 6) rfl hn) k
theorem G.iinc7 {E : JE} {f : FS} {F : JFin} {pc : Nat} {st : List Value} {ph : HP} {kc ks : Nat} {a0 a1 a2 a3 a4 a5 a6 : Option Value} {r : List (Option Value)} {x : Int32} {n : Int} (hd : decode f.2.1 pc = .ok (.iinc 7 n, 3)) (k : G E f F (pc + 3) (a0 :: a1 :: a2 :: a3 :: a4 :: a5 :: a6 :: some (.int (x + Int32.ofInt n)) :: r) st ph kc ks) (hn : jc2 a6 = false := by rfl) (hm : 7 < f.2.2.1 := by exact Nat.le_of_ble_eq_true rfl) : G E f F pc (a0 :: a1 :: a2 :: a3 :: a4 :: a5 :: a6 :: some (.int x) :: r) st ph kc ks := G.iinc (i := 7) hd rfl hm (jn2_of (i := 6) rfl hn) k
theorem G.drop7 {E : JE} {f : FS} {F : JFin} {pc : Nat} {st : List Value} {ph : HP} {kc ks : Nat} {a0 a1 a2 a3 a4 a5 a6 a7 : Option Value} {r : List (Option Value)} (k : G E f F pc (a0 :: a1 :: a2 :: a3 :: a4 :: a5 :: a6 :: none :: r) st ph kc ks) : G E f F pc (a0 :: a1 :: a2 :: a3 :: a4 :: a5 :: a6 :: a7 :: r) st ph kc ks := G.dropL (i := 7) k
theorem G.iload8 {E : JE} {f : FS} {F : JFin} {pc : Nat} {st : List Value} {ph : HP} {kc ks : Nat} {a0 a1 a2 a3 a4 a5 a6 a7 : Option Value} {r : List (Option Value)} {x : Int32} (hd : decode f.2.1 pc = .ok (.iload 8, 2)) (k : G E f F (pc + 2) (a0 :: a1 :: a2 :: a3 :: a4 :: a5 :: a6 :: a7 :: some (.int x) :: r) (.int x :: st) ph kc ks) : G E f F pc (a0 :: a1 :: a2 :: a3 :: a4 :: a5 :: a6 :: a7 :: some (.int x) :: r) st ph kc ks := G.iload (i := 8) hd rfl k
theorem G.lload8 {E : JE} {f : FS} {F : JFin} {pc : Nat} {st : List Value} {ph : HP} {kc ks : Nat} {a0 a1 a2 a3 a4 a5 a6 a7 : Option Value} {r : List (Option Value)} {x : Int64} (hd : decode f.2.1 pc = .ok (.lload 8, 2)) (k : G E f F (pc + 2) (a0 :: a1 :: a2 :: a3 :: a4 :: a5 :: a6 :: a7 :: some (.long x) :: r) (.long x :: st) ph kc ks) : G E f F pc (a0 :: a1 :: a2 :: a3 :: a4 :: a5 :: a6 :: a7 :: some (.long x) :: r) st ph kc ks := G.lload (i := 8) hd rfl k
theorem G.aload8 {E : JE} {f : FS} {F : JFin} {pc : Nat} {st : List Value} {ph : HP} {kc ks : Nat} {a0 a1 a2 a3 a4 a5 a6 a7 : Option Value} {r : List (Option Value)} {x : Nat} (hd : decode f.2.1 pc = .ok (.aload 8, 2)) (k : G E f F (pc + 2) (a0 :: a1 :: a2 :: a3 :: a4 :: a5 :: a6 :: a7 :: some (.ref x) :: r) (.ref x :: st) ph kc ks) : G E f F pc (a0 :: a1 :: a2 :: a3 :: a4 :: a5 :: a6 :: a7 :: some (.ref x) :: r) st ph kc ks := G.aload (i := 8) hd rfl k
theorem G.aload8N {E : JE} {f : FS} {F : JFin} {pc : Nat} {st : List Value} {ph : HP} {kc ks : Nat} {a0 a1 a2 a3 a4 a5 a6 a7 : Option Value} {r : List (Option Value)} (hd : decode f.2.1 pc = .ok (.aload 8, 2)) (k : G E f F (pc + 2) (a0 :: a1 :: a2 :: a3 :: a4 :: a5 :: a6 :: a7 :: some .null :: r) (.null :: st) ph kc ks) : G E f F pc (a0 :: a1 :: a2 :: a3 :: a4 :: a5 :: a6 :: a7 :: some .null :: r) st ph kc ks := G.aloadN (i := 8) hd rfl k
theorem G.istore8 {E : JE} {f : FS} {F : JFin} {pc : Nat} {st : List Value} {ph : HP} {kc ks : Nat} {a0 a1 a2 a3 a4 a5 a6 a7 a8 : Option Value} {r : List (Option Value)} {x : Int32} (hd : decode f.2.1 pc = .ok (.istore 8, 2)) (k : G E f F (pc + 2) (a0 :: a1 :: a2 :: a3 :: a4 :: a5 :: a6 :: a7 :: some (.int x) :: r) st ph kc ks) (hn : jc2 a7 = false := by rfl) (hm : 8 < f.2.2.1 := by exact Nat.le_of_ble_eq_true rfl) : G E f F pc (a0 :: a1 :: a2 :: a3 :: a4 :: a5 :: a6 :: a7 :: a8 :: r) (.int x :: st) ph kc ks := G.istore (i := 8) hd hm (jn2_of (i := 7) rfl hn) k
theorem G.astore8 {E : JE} {f : FS} {F : JFin} {pc : Nat} {st : List Value} {ph : HP} {kc ks : Nat} {a0 a1 a2 a3 a4 a5 a6 a7 a8 : Option Value} {r : List (Option Value)} {x : Nat} (hd : decode f.2.1 pc = .ok (.astore 8, 2)) (k : G E f F (pc + 2) (a0 :: a1 :: a2 :: a3 :: a4 :: a5 :: a6 :: a7 :: some (.ref x) :: r) st ph kc ks) (hn : jc2 a7 = false := by rfl) (hm : 8 < f.2.2.1 := by exact Nat.le_of_ble_eq_true rfl) : G E f F pc (a0 :: a1 :: a2 :: a3 :: a4 :: a5 :: a6 :: a7 :: a8 :: r) (.ref x :: st) ph kc ks := G.astore (i := 8) hd hm (jn2_of (i := 7) rfl hn) k
theorem G.astore8N {E : JE} {f : FS} {F : JFin} {pc : Nat} {st : List Value} {ph : HP} {kc ks : Nat} {a0 a1 a2 a3 a4 a5 a6 a7 a8 : Option Value} {r : List (Option Value)} (hd : decode f.2.1 pc = .ok (.astore 8, 2)) (k : G E f F (pc + 2) (a0 :: a1 :: a2 :: a3 :: a4 :: a5 :: a6 :: a7 :: some .null :: r) st ph kc ks) (hn : jc2 a7 = false := by rfl) (hm : 8 < f.2.2.1 := by exact Nat.le_of_ble_eq_true rfl) : G E f F pc (a0 :: a1 :: a2 :: a3 :: a4 :: a5 :: a6 :: a7 :: a8 :: r) (.null :: st) ph kc ks := G.astoreN (i := 8) hd hm (jn2_of (i := 7) rfl hn) k
theorem G.lstore8 {E : JE} {f : FS} {F : JFin} {pc : Nat} {st : List Value} {ph : HP} {kc ks : Nat} {a0 a1 a2 a3 a4 a5 a6 a7 a8 : Option Value} {r : List (Option Value)} {b : Option Value} {x : Int64} (hd : decode f.2.1 pc = .ok (.lstore 8, 2)) (k : G E f F (pc + 2) (a0 :: a1 :: a2 :: a3 :: a4 :: a5 :: a6 :: a7 :: some (.long x) :: none :: r) st ph kc ks) (hn : jc2 a7 = false := by rfl) (hm : 8 + 1 < f.2.2.1 := by exact Nat.le_of_ble_eq_true rfl) : G E f F pc (a0 :: a1 :: a2 :: a3 :: a4 :: a5 :: a6 :: a7 :: a8 :: b :: r) (.long x :: st) ph kc ks := G.lstore (i := 8) hd hm (jn2_of (i := 7) rfl hn) k
theorem G.iinc8 {E : JE} {f : FS} {F : JFin} {pc : Nat} {st : List Value} {ph : HP} {kc ks : Nat} {a0 a1 a2 a3 a4 a5 a6 a7 : Option Value} {r : List (Option Value)} {x : Int32} {n : Int} (hd : decode f.2.1 pc = .ok (.iinc 8 n, 3)) (k : G E f F (pc + 3) (a0 :: a1 :: a2 :: a3 :: a4 :: a5 :: a6 :: a7 :: some (.int (x + Int32.ofInt n)) :: r) st ph kc ks) (hn : jc2 a7 = false := by rfl) (hm : 8 < f.2.2.1 := by exact Nat.le_of_ble_eq_true rfl) : G E f F pc (a0 :: a1 :: a2 :: a3 :: a4 :: a5 :: a6 :: a7 :: some (.int x) :: r) st ph kc ks := G.iinc (i := 8) hd rfl hm (jn2_of (i := 7) rfl hn) k
theorem G.drop8 {E : JE} {f : FS} {F : JFin} {pc : Nat} {st : List Value} {ph : HP} {kc ks : Nat} {a0 a1 a2 a3 a4 a5 a6 a7 a8 : Option Value} {r : List (Option Value)} (k : G E f F pc (a0 :: a1 :: a2 :: a3 :: a4 :: a5 :: a6 :: a7 :: none :: r) st ph kc ks) : G E f F pc (a0 :: a1 :: a2 :: a3 :: a4 :: a5 :: a6 :: a7 :: a8 :: r) st ph kc ks := G.dropL (i := 8) k
theorem G.iload9 {E : JE} {f : FS} {F : JFin} {pc : Nat} {st : List Value} {ph : HP} {kc ks : Nat} {a0 a1 a2 a3 a4 a5 a6 a7 a8 : Option Value} {r : List (Option Value)} {x : Int32} (hd : decode f.2.1 pc = .ok (.iload 9, 2)) (k : G E f F (pc + 2) (a0 :: a1 :: a2 :: a3 :: a4 :: a5 :: a6 :: a7 :: a8 :: some (.int x) :: r) (.int x :: st) ph kc ks) : G E f F pc (a0 :: a1 :: a2 :: a3 :: a4 :: a5 :: a6 :: a7 :: a8 :: some (.int x) :: r) st ph kc ks := G.iload (i := 9) hd rfl k
theorem G.lload9 {E : JE} {f : FS} {F : JFin} {pc : Nat} {st : List Value} {ph : HP} {kc ks : Nat} {a0 a1 a2 a3 a4 a5 a6 a7 a8 : Option Value} {r : List (Option Value)} {x : Int64} (hd : decode f.2.1 pc = .ok (.lload 9, 2)) (k : G E f F (pc + 2) (a0 :: a1 :: a2 :: a3 :: a4 :: a5 :: a6 :: a7 :: a8 :: some (.long x) :: r) (.long x :: st) ph kc ks) : G E f F pc (a0 :: a1 :: a2 :: a3 :: a4 :: a5 :: a6 :: a7 :: a8 :: some (.long x) :: r) st ph kc ks := G.lload (i := 9) hd rfl k
theorem G.aload9 {E : JE} {f : FS} {F : JFin} {pc : Nat} {st : List Value} {ph : HP} {kc ks : Nat} {a0 a1 a2 a3 a4 a5 a6 a7 a8 : Option Value} {r : List (Option Value)} {x : Nat} (hd : decode f.2.1 pc = .ok (.aload 9, 2)) (k : G E f F (pc + 2) (a0 :: a1 :: a2 :: a3 :: a4 :: a5 :: a6 :: a7 :: a8 :: some (.ref x) :: r) (.ref x :: st) ph kc ks) : G E f F pc (a0 :: a1 :: a2 :: a3 :: a4 :: a5 :: a6 :: a7 :: a8 :: some (.ref x) :: r) st ph kc ks := G.aload (i := 9) hd rfl k
theorem G.aload9N {E : JE} {f : FS} {F : JFin} {pc : Nat} {st : List Value} {ph : HP} {kc ks : Nat} {a0 a1 a2 a3 a4 a5 a6 a7 a8 : Option Value} {r : List (Option Value)} (hd : decode f.2.1 pc = .ok (.aload 9, 2)) (k : G E f F (pc + 2) (a0 :: a1 :: a2 :: a3 :: a4 :: a5 :: a6 :: a7 :: a8 :: some .null :: r) (.null :: st) ph kc ks) : G E f F pc (a0 :: a1 :: a2 :: a3 :: a4 :: a5 :: a6 :: a7 :: a8 :: some .null :: r) st ph kc ks := G.aloadN (i := 9) hd rfl k
theorem G.istore9 {E : JE} {f : FS} {F : JFin} {pc : Nat} {st : List Value} {ph : HP} {kc ks : Nat} {a0 a1 a2 a3 a4 a5 a6 a7 a8 a9 : Option Value} {r : List (Option Value)} {x : Int32} (hd : decode f.2.1 pc = .ok (.istore 9, 2)) (k : G E f F (pc + 2) (a0 :: a1 :: a2 :: a3 :: a4 :: a5 :: a6 :: a7 :: a8 :: some (.int x) :: r) st ph kc ks) (hn : jc2 a8 = false := by rfl) (hm : 9 < f.2.2.1 := by exact Nat.le_of_ble_eq_true rfl) : G E f F pc (a0 :: a1 :: a2 :: a3 :: a4 :: a5 :: a6 :: a7 :: a8 :: a9 :: r) (.int x :: st) ph kc ks := G.istore (i := 9) hd hm (jn2_of (i := 8) rfl hn) k
theorem G.astore9 {E : JE} {f : FS} {F : JFin} {pc : Nat} {st : List Value} {ph : HP} {kc ks : Nat} {a0 a1 a2 a3 a4 a5 a6 a7 a8 a9 : Option Value} {r : List (Option Value)} {x : Nat} (hd : decode f.2.1 pc = .ok (.astore 9, 2)) (k : G E f F (pc + 2) (a0 :: a1 :: a2 :: a3 :: a4 :: a5 :: a6 :: a7 :: a8 :: some (.ref x) :: r) st ph kc ks) (hn : jc2 a8 = false := by rfl) (hm : 9 < f.2.2.1 := by exact Nat.le_of_ble_eq_true rfl) : G E f F pc (a0 :: a1 :: a2 :: a3 :: a4 :: a5 :: a6 :: a7 :: a8 :: a9 :: r) (.ref x :: st) ph kc ks := G.astore (i := 9) hd hm (jn2_of (i := 8) rfl hn) k
theorem G.astore9N {E : JE} {f : FS} {F : JFin} {pc : Nat} {st : List Value} {ph : HP} {kc ks : Nat} {a0 a1 a2 a3 a4 a5 a6 a7 a8 a9 : Option Value} {r : List (Option Value)} (hd : decode f.2.1 pc = .ok (.astore 9, 2)) (k : G E f F (pc + 2) (a0 :: a1 :: a2 :: a3 :: a4 :: a5 :: a6 :: a7 :: a8 :: some .null :: r) st ph kc ks) (hn : jc2 a8 = false := by rfl) (hm : 9 < f.2.2.1 := by exact Nat.le_of_ble_eq_true rfl) : G E f F pc (a0 :: a1 :: a2 :: a3 :: a4 :: a5 :: a6 :: a7 :: a8 :: a9 :: r) (.null :: st) ph kc ks := G.astoreN (i := 9) hd hm (jn2_of (i := 8) rfl hn) k
theorem G.lstore9 {E : JE} {f : FS} {F : JFin} {pc : Nat} {st : List Value} {ph : HP} {kc ks : Nat} {a0 a1 a2 a3 a4 a5 a6 a7 a8 a9 : Option Value} {r : List (Option Value)} {b : Option Value} {x : Int64} (hd : decode f.2.1 pc = .ok (.lstore 9, 2)) (k : G E f F (pc + 2) (a0 :: a1 :: a2 :: a3 :: a4 :: a5 :: a6 :: a7 :: a8 :: some (.long x) :: none :: r) st ph kc ks) (hn : jc2 a8 = false := by rfl) (hm : 9 + 1 < f.2.2.1 := by exact Nat.le_of_ble_eq_true rfl) : G E f F pc (a0 :: a1 :: a2 :: a3 :: a4 :: a5 :: a6 :: a7 :: a8 :: a9 :: b :: r) (.long x :: st) ph kc ks := G.lstore (i := 9) hd hm (jn2_of (i := 8) rfl hn) k
theorem G.iinc9 {E : JE} {f : FS} {F : JFin} {pc : Nat} {st : List Value} {ph : HP} {kc ks : Nat} {a0 a1 a2 a3 a4 a5 a6 a7 a8 : Option Value} {r : List (Option Value)} {x : Int32} {n : Int} (hd : decode f.2.1 pc = .ok (.iinc 9 n, 3)) (k : G E f F (pc + 3) (a0 :: a1 :: a2 :: a3 :: a4 :: a5 :: a6 :: a7 :: a8 :: some (.int (x + Int32.ofInt n)) :: r) st ph kc ks) (hn : jc2 a8 = false := by rfl) (hm : 9 < f.2.2.1 := by exact Nat.le_of_ble_eq_true rfl) : G E f F pc (a0 :: a1 :: a2 :: a3 :: a4 :: a5 :: a6 :: a7 :: a8 :: some (.int x) :: r) st ph kc ks := G.iinc (i := 9) hd rfl hm (jn2_of (i := 8) rfl hn) k
theorem G.drop9 {E : JE} {f : FS} {F : JFin} {pc : Nat} {st : List Value} {ph : HP} {kc ks : Nat} {a0 a1 a2 a3 a4 a5 a6 a7 a8 a9 : Option Value} {r : List (Option Value)} (k : G E f F pc (a0 :: a1 :: a2 :: a3 :: a4 :: a5 :: a6 :: a7 :: a8 :: none :: r) st ph kc ks) : G E f F pc (a0 :: a1 :: a2 :: a3 :: a4 :: a5 :: a6 :: a7 :: a8 :: a9 :: r) st ph kc ks := G.dropL (i := 9) k
theorem G.iload10 {E : JE} {f : FS} {F : JFin} {pc : Nat} {st : List Value} {ph : HP} {kc ks : Nat} {a0 a1 a2 a3 a4 a5 a6 a7 a8 a9 : Option Value} {r : List (Option Value)} {x : Int32} (hd : decode f.2.1 pc = .ok (.iload 10, 2)) (k : G E f F (pc + 2) (a0 :: a1 :: a2 :: a3 :: a4 :: a5 :: a6 :: a7 :: a8 :: a9 :: some (.int x) :: r) (.int x :: st) ph kc ks) : G E f F pc (a0 :: a1 :: a2 :: a3 :: a4 :: a5 :: a6 :: a7 :: a8 :: a9 :: some (.int x) :: r) st ph kc ks := G.iload (i := 10) hd rfl k
theorem G.lload10 {E : JE} {f : FS} {F : JFin} {pc : Nat} {st : List Value} {ph : HP} {kc ks : Nat} {a0 a1 a2 a3 a4 a5 a6 a7 a8 a9 : Option Value} {r : List (Option Value)} {x : Int64} (hd : decode f.2.1 pc = .ok (.lload 10, 2)) (k : G E f F (pc + 2) (a0 :: a1 :: a2 :: a3 :: a4 :: a5 :: a6 :: a7 :: a8 :: a9 :: some (.long x) :: r) (.long x :: st) ph kc ks) : G E f F pc (a0 :: a1 :: a2 :: a3 :: a4 :: a5 :: a6 :: a7 :: a8 :: a9 :: some (.long x) :: r) st ph kc ks := G.lload (i := 10) hd rfl k
theorem G.aload10 {E : JE} {f : FS} {F : JFin} {pc : Nat} {st : List Value} {ph : HP} {kc ks : Nat} {a0 a1 a2 a3 a4 a5 a6 a7 a8 a9 : Option Value} {r : List (Option Value)} {x : Nat} (hd : decode f.2.1 pc = .ok (.aload 10, 2)) (k : G E f F (pc + 2) (a0 :: a1 :: a2 :: a3 :: a4 :: a5 :: a6 :: a7 :: a8 :: a9 :: some (.ref x) :: r) (.ref x :: st) ph kc ks) : G E f F pc (a0 :: a1 :: a2 :: a3 :: a4 :: a5 :: a6 :: a7 :: a8 :: a9 :: some (.ref x) :: r) st ph kc ks := G.aload (i := 10) hd rfl k
theorem G.aload10N {E : JE} {f : FS} {F : JFin} {pc : Nat} {st : List Value} {ph : HP} {kc ks : Nat} {a0 a1 a2 a3 a4 a5 a6 a7 a8 a9 : Option Value} {r : List (Option Value)} (hd : decode f.2.1 pc = .ok (.aload 10, 2)) (k : G E f F (pc + 2) (a0 :: a1 :: a2 :: a3 :: a4 :: a5 :: a6 :: a7 :: a8 :: a9 :: some .null :: r) (.null :: st) ph kc ks) : G E f F pc (a0 :: a1 :: a2 :: a3 :: a4 :: a5 :: a6 :: a7 :: a8 :: a9 :: some .null :: r) st ph kc ks := G.aloadN (i := 10) hd rfl k
theorem G.istore10 {E : JE} {f : FS} {F : JFin} {pc : Nat} {st : List Value} {ph : HP} {kc ks : Nat} {a0 a1 a2 a3 a4 a5 a6 a7 a8 a9 a10 : Option Value} {r : List (Option Value)} {x : Int32} (hd : decode f.2.1 pc = .ok (.istore 10, 2)) (k : G E f F (pc + 2) (a0 :: a1 :: a2 :: a3 :: a4 :: a5 :: a6 :: a7 :: a8 :: a9 :: some (.int x) :: r) st ph kc ks) (hn : jc2 a9 = false := by rfl) (hm : 10 < f.2.2.1 := by exact Nat.le_of_ble_eq_true rfl) : G E f F pc (a0 :: a1 :: a2 :: a3 :: a4 :: a5 :: a6 :: a7 :: a8 :: a9 :: a10 :: r) (.int x :: st) ph kc ks := G.istore (i := 10) hd hm (jn2_of (i := 9) rfl hn) k
theorem G.astore10 {E : JE} {f : FS} {F : JFin} {pc : Nat} {st : List Value} {ph : HP} {kc ks : Nat} {a0 a1 a2 a3 a4 a5 a6 a7 a8 a9 a10 : Option Value} {r : List (Option Value)} {x : Nat} (hd : decode f.2.1 pc = .ok (.astore 10, 2)) (k : G E f F (pc + 2) (a0 :: a1 :: a2 :: a3 :: a4 :: a5 :: a6 :: a7 :: a8 :: a9 :: some (.ref x) :: r) st ph kc ks) (hn : jc2 a9 = false := by rfl) (hm : 10 < f.2.2.1 := by exact Nat.le_of_ble_eq_true rfl) : G E f F pc (a0 :: a1 :: a2 :: a3 :: a4 :: a5 :: a6 :: a7 :: a8 :: a9 :: a10 :: r) (.ref x :: st) ph kc ks := G.astore (i := 10) hd hm (jn2_of (i := 9) rfl hn) k
theorem G.astore10N {E : JE} {f : FS} {F : JFin} {pc : Nat} {st : List Value} {ph : HP} {kc ks : Nat} {a0 a1 a2 a3 a4 a5 a6 a7 a8 a9 a10 : Option Value} {r : List (Option Value)} (hd : decode f.2.1 pc = .ok (.astore 10, 2)) (k : G E f F (pc + 2) (a0 :: a1 :: a2 :: a3 :: a4 :: a5 :: a6 :: a7 :: a8 :: a9 :: some .null :: r) st ph kc ks) (hn : jc2 a9 = false := by rfl) (hm : 10 < f.2.2.1 := by exact Nat.le_of_ble_eq_true rfl) : G E f F pc (a0 :: a1 :: a2 :: a3 :: a4 :: a5 :: a6 :: a7 :: a8 :: a9 :: a10 :: r) (.null :: st) ph kc ks := G.astoreN (i := 10) hd hm (jn2_of (i := 9) rfl hn) k
theorem G.iinc10 {E : JE} {f : FS} {F : JFin} {pc : Nat} {st : List Value} {ph : HP} {kc ks : Nat} {a0 a1 a2 a3 a4 a5 a6 a7 a8 a9 : Option Value} {r : List (Option Value)} {x : Int32} {n : Int} (hd : decode f.2.1 pc = .ok (.iinc 10 n, 3)) (k : G E f F (pc + 3) (a0 :: a1 :: a2 :: a3 :: a4 :: a5 :: a6 :: a7 :: a8 :: a9 :: some (.int (x + Int32.ofInt n)) :: r) st ph kc ks) (hn : jc2 a9 = false := by rfl) (hm : 10 < f.2.2.1 := by exact Nat.le_of_ble_eq_true rfl) : G E f F pc (a0 :: a1 :: a2 :: a3 :: a4 :: a5 :: a6 :: a7 :: a8 :: a9 :: some (.int x) :: r) st ph kc ks := G.iinc (i := 10) hd rfl hm (jn2_of (i := 9) rfl hn) k
theorem G.drop10 {E : JE} {f : FS} {F : JFin} {pc : Nat} {st : List Value} {ph : HP} {kc ks : Nat} {a0 a1 a2 a3 a4 a5 a6 a7 a8 a9 a10 : Option Value} {r : List (Option Value)} (k : G E f F pc (a0 :: a1 :: a2 :: a3 :: a4 :: a5 :: a6 :: a7 :: a8 :: a9 :: none :: r) st ph kc ks) : G E f F pc (a0 :: a1 :: a2 :: a3 :: a4 :: a5 :: a6 :: a7 :: a8 :: a9 :: a10 :: r) st ph kc ks := G.dropL (i := 10) k
/-! HEAP ROWS: fields, arrays, what is made, copies, calls -/
def jC (ci : Nat) (C : String) (T : u_T) (N : Nat) : Prop := jCL ci = some (C, T, N) ∧ (∀ w ∈ u_ws C T N, w ∈ lw_all) ∧ ∀ j, j < N → ∃ ty, parseFieldDescriptor (T j).2.2.1 = some ty
def jFs (T : u_T) (k : Nat) (ref : String) : Prop := (T k).1 = ref ∨ Cond.sameField ref (T k).1 (T k).2.1 (T k).2.2.1 ∈ lw_all
/-- the field entry idx of own leads to the field k of a jCL ci -/
def jFL (own : String) (idx ci k : Nat) : Prop := ∃ C T N ref, jC ci C T N ∧ k < N ∧ (Cond.fieldLink own idx ref (T k).2.1 (T k).2.2.1 ∈ lw_all ∨ ∃ host, Cond.fieldLinkNest own idx ref (T k).2.1 (T k).2.2.1 host ∈ lw_tbl) ∧ jFs T k ref
/-- the same, to write to: no other field of its name -/
def jFP (own : String) (idx ci k : Nat) (ty : FieldType) : Prop := ∃ C T N ref, jC ci C T N ∧ k < N ∧ (Cond.fieldLink own idx ref (T k).2.1 (T k).2.2.1 ∈ lw_all ∨ ∃ host, Cond.fieldLinkNest own idx ref (T k).2.1 (T k).2.2.1 host ∈ lw_tbl) ∧ jFs T k ref ∧ parseFieldDescriptor (T k).2.2.1 = some ty ∧ (∀ j, j < N → j ≠ k → (T j).2.1 ≠ (T k).2.1) ∧ (T k).2.2.2 = false
/-- a final field, written by its own start; d: another field of its name, or k -/
def jFF (own : String) (idx ci k d : Nat) (ty : FieldType) : Prop := ∃ C T N ref, jC ci C T N ∧ k < N ∧ Cond.fieldLink own idx ref (T k).2.1 (T k).2.2.1 ∈ lw_all ∧ jFs T k ref ∧ parseFieldDescriptor (T k).2.2.1 = some ty ∧ (∀ j, j < N → j ≠ k → j ≠ d → (T j).2.1 ≠ (T k).2.1) ∧ (T k).2.2.2 = true ∧ (T k).1 = own
def jNew (own : String) (idx ci n : Nat) (fs : List Value) : Prop := ∃ C T N, ∃ ty : Nat → FieldType, jC ci C T N ∧ (∀ k, k < N → parseFieldDescriptor (T k).2.2.1 = some (ty k)) ∧ Cond.classLink own idx C ∈ lw_all ∧ Cond.instantiable C n ∈ lw_all ∧ Cond.initialized C ∈ lw_all ∧ ∀ j, j < N → defaultValue (ty j) = vp_V fs j
theorem jup_self {ph : HP} {a : Nat} {e : HE} (h : ph a = some e) : jup ph a e = ph := by
  funext q
  by_cases hq : q = a
  · subst hq; rw [jup_s, h]
  · rw [jup_n hq]
theorem jFs.same {T : u_T} {k : Nat} {ref : String} {s : State} {args : Array Value} (h : jFs T k ref) (hts : ∀ w ∈ lw_all, w.before args s = true) : ∀ x, s.fieldFound? (T k).1 (T k).2.1 (T k).2.2.1 = some x → s.fieldFound? ref (T k).2.1 (T k).2.2.1 = some x := by
  rcases h with h | h
  · intro x hx; rw [← h]; exact hx
  · exact u_same (hts _ h)
theorem j_apart {ci : Nat} {C : String} {T : u_T} {N : Nat} {s : State} {args : Array Value} {E : JE} (hC : jC ci C T N) (hts : ∀ w ∈ lw_all, w.before args s = true) (hK : KK E s) {j k : Nat} (hj : j < N) (hk : k < N) (hne : (T j).2.1 ≠ (T k).2.1) : E.2.1.2.1 ci j ≠ E.2.1.2.1 ci k := by
  obtain ⟨hS, -⟩ := hK.1 ci _ hC.1
  obtain ⟨_, _, _, fa, hia, ea⟩ := hS j hj
  obtain ⟨_, _, _, fb, hib, eb⟩ := hS k hk
  obtain ⟨ta, ha⟩ := hC.2.2 j hj
  obtain ⟨tb, hb⟩ := hC.2.2 k hk
  rw [← ea, ← eb]
  refine u_apart (u_lays hts hC.2.1 hj) (u_lays hts hC.2.1 hk) hia hib ?_
  rw [(State.fieldFound?_type hia ha).1, (State.fieldFound?_type hib hb).1]
  exact hne
theorem j_set {cell : Cell} {N : Nat} {iS : Nat → Nat} {V : Nat → Value} (h : ∀ k, k < N → cell.slots[iS k]? = some (V k)) {k : Nat} (hk : k < N) (hap : ∀ j, j < N → j ≠ k → iS j ≠ iS k) (v : Value) : ∀ j, j < N → (cell.setSlot (iS k) v).slots[iS j]? = some (updV V k v j) := by
  intro j hj
  by_cases hjk : j = k
  · subst hjk
    rw [Cell.slots_setSlot_self _ (k2_hasslot (h j hj))]
    simp [updV]
  · rw [slot_ne _ _ (fun q => hap j hj hjk q.symm), h j hj]
    simp [updV, hjk]
section Heap
variable {E : JE} {f : FS} {F : JFin} {pc : Nat} {ls : List (Option Value)} {st : List Value} {ph : HP} {kc ks : Nat}
theorem G.getfield {idx ci k a : Nat} {fs : List Value} {v : Value} (L : jFL f.1.cls idx ci k) (ha : ph a = some (.inr (ci, fs))) (hv : fs[k]? = some v) (hd : decode f.2.1 pc = .ok (.getfield idx, 3)) (kk : G E f F (pc + 3) ls (v :: st) ph kc ks) : G E f F pc ls (.ref a :: st) ph kc ks := by
  intro p e s m args below meth c hF H locs la hR hb hL
  obtain ⟨C, T, N, ref, hC, hk, hlink, hsm⟩ := L
  obtain ⟨r, h1, cell, q1, q2, q3, q4⟩ := hR.1 a _ ha
  have hr : r = (C, T, N) := Option.some.inj (h1.symm.trans hC.1)
  subst hr
  have hts := hF.2.2.2.2.1
  obtain ⟨hS, hfc, kC, hkC, hkind⟩ := hF.2.2.2.2.2.2.2.2.1.1 ci _ hC.1
  obtain ⟨cf, kf, fi, fd, hi, hsl⟩ := hS k hk
  have hsame := hsm.same hts _ hi
  have hst := (u_facts hfc hkC (u_lays hts hC.2.1 hk) hi).1
  have hslot : cell.slots[fd.slot]? = some v := by
    rw [hsl, q4 k hk]
    simp [vp_V, hv]
  have kk' := kk p e s m args below meth c hF H locs la hR hb hL
  rcases hlink with hlink | ⟨host, hlink⟩
  · exact W.getf hF.1 hF.2.1 hF.2.2.2.1 (hts _ hlink) hsame hst q1 (by rw [q3]; exact fun h => by cases h) hslot rfl rfl hd kk'
  · exact va_Wgetf hF.1 hF.2.1 hF.2.2.2.1 (va_Nw.use rfl (hF.2.2.2.2.2.2.2.2.1.2.2.1 _ hlink rfl)) hsame hst q1 (by rw [q3]; exact fun h => by cases h) hslot rfl rfl hd kk'
theorem j_ob {a : Nat} {cC : ClassId} {N : Nat} {iS : Nat → Nat} {H1 : Heap} {fs : List Value} {k : Nat} {v : Value} {cell : Cell} (hl : k < fs.length) (e1 : H1[a]? = some (cell.setSlot (iS k) v)) (q2 : cell.cls = cC) (q3 : cell.vm = .none) (q4 : ∀ k, k < N → cell.slots[iS k]? = some (vp_V fs k)) (hk : k < N) (hap : ∀ j, j < N → j ≠ k → iS j ≠ iS k) : t_OB a cC N iS H1 (vp_V (fs.set k v)) :=
  t_OB.to (V := updV (vp_V fs) k v) ⟨_, e1, q2, q3, j_set q4 hk hap v⟩ (fun j _ => vp_updV_set hl v j)
theorem G.putfield {idx ci k a : Nat} {ty : FieldType} {fs : List Value} {v : Value} (L : jFP f.1.cls idx ci k ty) (ha : ph a = some (.inr (ci, fs))) (hd : decode f.2.1 pc = .ok (.putfield idx, 3)) (kk : G E f F (pc + 3) ls st (jup ph a (.inr (ci, fs.set k v))) kc ks) (hl : k < fs.length := by exact Nat.le_of_ble_eq_true rfl) (hn : narrow ty v = v := by rfl) (hfit : fits ty v = true := by rfl) (hz : (ci == 43) = false := by rfl) : G E f F pc ls (v :: .ref a :: st) ph kc ks := by
  intro p e s m args below meth c hF H locs la hR hb hL
  obtain ⟨C, T, N, ref, hC, hk, hlink, hsm, hty, hnm, hfin⟩ := L
  obtain ⟨r, h1, cell, q1, q2, q3, q4⟩ := hR.1 a _ ha
  have hr : r = (C, T, N) := Option.some.inj (h1.symm.trans hC.1)
  subst hr
  have hts := hF.2.2.2.2.1
  have hK := hF.2.2.2.2.2.2.2.2.1
  obtain ⟨hS, hfc, kC, hkC, hkind⟩ := hK.1 ci _ hC.1
  obtain ⟨cf, kf, fi, fd, hi, hsl⟩ := hS k hk
  have hlay := hts _ (hC.2.1 _ (u_in_lay hk))
  unfold u_lay at hlay
  rw [if_neg (by rw [hfin]; decide)] at hlay
  have hst := (u_facts hfc hkC (u_lays hts hC.2.1 hk) hi).1
  have h6 := u_store hfc hkC hkind hlay hi hty hn hfit
  have hap : ∀ j, j < N → j ≠ k → E.2.1.2.1 ci j ≠ E.2.1.2.1 ci k := fun j hj hjk => j_apart hC hts hK hj hk (hnm j hj hjk)
  have hz' : jfz (.inr (ci, fs)) = false := hz
  have done : ∀ H1 : Heap, H1[a]? = some (cell.setSlot fd.slot v) → H1.size = H.size → (∀ q, q ≠ a → H1[q]? = H[q]?) → W p E.1 e f.2.2.2.2.1 s m args below meth c H1 (locs ++ [⟨a, fd.slot⟩]) kc ks (F below args s) (F0 m (pc + 3) la st) := by
    intro H1 e1 e2 e3
    rw [hsl] at e1
    have hb2 : jb E ≤ a := by
      rcases hR.2.1 a _ ha with q | q
      · rw [hz'] at q; cases q
      · exact q
    refine kk p e s m args below meth c hF H1 _ la (hR.put ha hz' ⟨_, hC.1, j_ob hl e1 q2 q3 q4 hk hap⟩ e2 e3) (fun z hzz => ?_) hL
    rcases List.mem_append.mp hzz with q | q
    · exact hb z q
    · rw [List.mem_singleton.mp q]; exact hb2
  rcases hlink with hlink | ⟨host, hlink⟩
  · exact W.putK hF.1 hF.2.1 (f := fd) ⟨hF.2.2.2.1, hts _ hlink, ⟨_, _, _, hsm.same hts _ hi⟩, hst⟩ (by rw [q2]; exact h6) q1 q3 (by rw [hsl]; exact k2_hasslot (q4 k hk)) rfl rfl hd done
  · exact va_WputK hF.1 hF.2.1 (f := fd) hF.2.2.2.1 (va_Nw.use rfl (hK.2.2.1 _ hlink rfl)) (hsm.same hts _ hi) hst (by rw [q2]; exact h6) q1 q3 (by rw [hsl]; exact k2_hasslot (q4 k hk)) rfl rfl hd done
/-- a final field in its own start; d = k: no other field of its name; else what the field d then holds is one of two -/
theorem G.putfinal {idx ci k d a : Nat} {ty : FieldType} {fs : List Value} {v : Value} (L : jFF f.1.cls idx ci k d ty) (ha : ph a = some (.inr (ci, fs))) (hd : decode f.2.1 pc = .ok (.putfield idx, 3)) (kk : ∀ w : Value, (w = vp_V (fs.set k v) d ∨ w = v) → G E f F (pc + 3) ls st (jup ph a (.inr (ci, (fs.set k v).set d w))) kc ks) (hl : k < fs.length := by exact Nat.le_of_ble_eq_true rfl) (hl2 : d < fs.length := by exact Nat.le_of_ble_eq_true rfl) (hn : narrow ty v = v := by rfl) (hfit : fits ty v = true := by rfl) (hz : (ci == 43) = false := by rfl) (hin : f.1.name = "<init>" := by rfl) : G E f F pc ls (v :: .ref a :: st) ph kc ks := by
  intro p e s m args below meth c hF H locs la hR hb hL
  obtain ⟨C, T, N, ref, hC, hk, hlink, hsm, hty, hnm, hfin, hown⟩ := L
  obtain ⟨r, h1, cell, q1, q2, q3, q4⟩ := hR.1 a _ ha
  have hr : r = (C, T, N) := Option.some.inj (h1.symm.trans hC.1)
  subst hr
  have hts := hF.2.2.2.2.1
  have hK := hF.2.2.2.2.2.2.2.2.1
  obtain ⟨hS, hfc, kC, hkC, hkind⟩ := hK.1 ci _ hC.1
  obtain ⟨cf, kf, fi, fd, hi, hsl⟩ := hS k hk
  have hlay := hts _ (hC.2.1 _ (u_in_lay hk))
  unfold u_lay at hlay
  rw [if_pos hfin] at hlay
  have hst := (u_facts hfc hkC (u_lays hts hC.2.1 hk) hi).1
  have hcf : m.cls = cf := by
    obtain ⟨_, _, c', _, _, _, -, -, hf', -, -, -, hown2, -⟩ := Cond.laysFinal_spec hlay
    have e1 : c' = cf := by have := hi.symm.trans hf'; simp at this; exact this.1.symm
    rw [hown] at hown2
    rw [← e1]; exact Option.some.inj (hF.2.2.2.1.symm.trans hown2)
  have h6 := u_fits hfc hkC hkind (Or.inr hlay) hi hty hn hfit
  have hz' : jfz (.inr (ci, fs)) = false := hz
  refine W.putFinK hF.1 hF.2.1 hF.2.2.2.1 (hts _ hlink) (hsm.same hts _ hi) hst hcf (hF.2.2.2.2.2.2.2.1.trans hin) (by rw [q2]; exact h6) q1 q3 (by rw [hsl]; exact k2_hasslot (q4 k hk)) rfl rfl hd fun H1 e1 e2 e3 => ?_
  rw [hsl] at e1
  have hb2 : jb E ≤ a := by
    rcases hR.2.1 a _ ha with q | q
    · rw [hz'] at q; cases q
    · exact q
  have hbb : ∀ z ∈ locs ++ [⟨a, fd.slot⟩], jb E ≤ z.base := by
    intro z hzz
    rcases List.mem_append.mp hzz with q | q
    · exact hb z q
    · rw [List.mem_singleton.mp q]; exact hb2
  have key : ∀ w : Value, (∀ j, j < N → (cell.setSlot (E.2.1.2.1 ci k) v).slots[E.2.1.2.1 ci j]? = some (vp_V ((fs.set k v).set d w) j)) → (w = vp_V (fs.set k v) d ∨ w = v) → W p E.1 e f.2.2.2.2.1 s m args below meth c H1 (locs ++ [⟨a, fd.slot⟩]) kc ks (F below args s) (F0 m (pc + 3) la st) := by
    intro w hw hor
    exact kk w hor p e s m args below meth c hF H1 _ la (hR.put ha hz' ⟨_, hC.1, _, e1, q2, q3, hw⟩ e2 e3) hbb hL
  have hl3 : d < (fs.set k v).length := by simpa using hl2
  have setd : ∀ (w : Value) (j : Nat), vp_V ((fs.set k v).set d w) j = if j = d then w else if j = k then v else vp_V fs j := by
    intro w j
    rw [← vp_updV_set hl3, updV]
    by_cases hjd : j = d
    · simp [hjd]
    · rw [if_neg hjd, if_neg hjd, ← vp_updV_set hl]
      rfl
  have same : ∀ j, j < N → E.2.1.2.1 ci j ≠ E.2.1.2.1 ci k → (cell.setSlot (E.2.1.2.1 ci k) v).slots[E.2.1.2.1 ci j]? = some (vp_V fs j) := fun j hj hne => by
    rw [slot_ne _ _ (fun q => hne q.symm)]
    exact q4 j hj
  have self : (cell.setSlot (E.2.1.2.1 ci k) v).slots[E.2.1.2.1 ci k]? = some v := Cell.slots_setSlot_self _ (k2_hasslot (q4 k hk))
  have hap : ∀ j, j < N → j ≠ k → j ≠ d → E.2.1.2.1 ci j ≠ E.2.1.2.1 ci k := fun j hj hjk hjd => j_apart hC hts hK hj hk (hnm j hj hjk hjd)
  by_cases hdk : d = k
  · refine key v (fun j hj => ?_) (Or.inr rfl)
    rw [setd]
    by_cases hjd : j = d
    · rw [if_pos hjd, hjd, hdk]; exact self
    · rw [if_neg hjd, if_neg (fun q => hjd (q.trans hdk.symm))]
      exact same j hj (hap j hj (fun q => hjd (q.trans hdk.symm)) hjd)
  · by_cases hs : E.2.1.2.1 ci d = E.2.1.2.1 ci k
    · refine key v (fun j hj => ?_) (Or.inr rfl)
      rw [setd]
      by_cases hjd : j = d
      · rw [if_pos hjd, hjd, hs]; exact self
      · rw [if_neg hjd]
        by_cases hjk : j = k
        · rw [if_pos hjk, hjk]; exact self
        · rw [if_neg hjk]; exact same j hj (hap j hj hjk hjd)
    · refine key (vp_V fs d) (fun j hj => ?_) (Or.inl ?_)
      · rw [setd]
        by_cases hjd : j = d
        · rw [if_pos hjd, hjd]
          exact same d (hjd ▸ hj) hs
        · rw [if_neg hjd]
          by_cases hjk : j = k
          · rw [if_pos hjk, hjk]; exact self
          · rw [if_neg hjk]; exact same j hj (hap j hj hjk hjd)
      · rw [← vp_updV_set hl, updV, if_neg hdk]
theorem G.new_ {idx ci n : Nat} {fs : List Value} (L : jNew f.1.cls idx ci n fs) (hd : decode f.2.1 pc = .ok (.new idx, 3)) (hc : kc + 1 ≤ f.2.2.2.2.1.cells) (hs : ks + n ≤ f.2.2.2.2.1.slots) (kk : ∀ q : Nat, ph q = none → jb E ≤ q → G E f F (pc + 3) ls (.ref q :: st) (jup ph q (.inr (ci, fs))) (kc + 1) (ks + n)) : G E f F pc ls st ph kc ks := by
  intro p e s m args below meth c hF H locs la hR hb hL
  obtain ⟨C, T, N, ty, hC, hty, h1, h2, h3, hfs⟩ := L
  have hts := hF.2.2.2.2.1
  have hKn := hF.2.2.2.2.2.2.2.2.1.1 ci _ hC.1
  refine W.newcK hF.1 hF.2.1 hF.2.2.2.1 (hts _ h1) (hts _ h2) (hts _ h3) rfl hd hc hs hKn.2.1 rfl fun H1 kC hkC e1 z1 o1 => ?_
  exact kk H.size hR.fresh hR.2.2.1 p e s m args below meth c hF H1 locs la (hR.new ⟨_, hC.1, (u_born ty hts hC.2.1 hKn hkC e1 hty).to hfs⟩ z1 o1) hb hL
theorem G.objInit {idx a : Nat} (hl : Cond.methodLink f.1.cls idx objectInit ∈ lw_all) (h1 : Cond.instanceMethod objectInit ∈ lw_all) (h2 : Cond.code objectInit ⟨#[0xb1]⟩ 1 none ∈ lw_all) (hd : decode f.2.1 pc = .ok (.invokespecial idx, 3)) (hf : 1 ≤ f.2.2.2.2.1.frames) (hlo : (st.map fun v => v.category).sum + 12 ≤ f.2.2.2.2.1.locals) (kk : G E f F (pc + 3) ls st ph kc ks) : G E f F pc ls (.ref a :: st) ph kc ks := by
  intro p e s m args below meth c hF H locs la hR hb hL
  have hts := hF.2.2.2.2.1
  exact W.objInit hF.1 hF.2.1 hF.2.2.2.1 (hts _ hl) (hts _ h1) (hts _ h2) (g := F0 m pc la (.ref a :: st)) rfl (by rw [hF.2.2.1]; exact hL.1) rfl hd hf (by show 2 * 0 + _ + 12 ≤ _; omega) (kk p e s m args below meth c hF H locs la hR hb hL)
-- arrays
theorem jw1 {E : JE} {ph : HP} {H : Heap} {a t : Nat} {x : vp_A} (hR : jR E ph H) (ha : ph a = some (.inl (t, x))) : va_P (E.2.1.1, E.2.1.2.1) [] [(a, .inl (E.2.1.2.2 t, x))] H := by
  intro k q hk
  cases k with
  | zero => cases hk; exact hR.1 a _ ha
  | succ k => simp at hk
theorem jk1 {E : JE} {s : State} (hK : KK E s) {t : Nat} {ty : FieldType} (ht : jTY t = some ty) : va_K (E.2.1.1, E.2.1.2.1) [] [(E.2.1.2.2 t, ty)] s := by
  refine ⟨fun c q hq => by simp at hq, fun k q hk => ?_⟩
  cases k with
  | zero => cases hk; exact hK.2.1 t ty ht
  | succ k => simp at hk
theorem j_ix {i : Int32} {j n : Nat} (hi : i = nI j) (hj : j < n) (hn : n < 2147483648) : vp_in i n ∧ i.toNatClampNeg = j := by
  subst hi
  exact ⟨vp_in_nI hj hn, nI_clamp (by omega)⟩
theorem G.arraylength {a t : Nat} {x : vp_A} {ty : FieldType} {v : Int32} (ha : ph a = some (.inl (t, x))) (hd : decode f.2.1 pc = .ok (.arraylength, 1)) (hv : Int32.ofNat x.1 = v) (kk : G E f F (pc + 1) ls (.int v :: st) ph kc ks) (ht : jTY t = some ty := by rfl) : G E f F pc ls (.ref a :: st) ph kc ks := fun p e s m args below meth c hF H locs la hR hb hL => va_alen hF.1 hF.2.1 (jk1 hF.2.2.2.2.2.2.2.2.1 ht) (jw1 hR ha) 0 0 rfl rfl hv hd (kk p e s m args below meth c hF H locs la hR hb hL)
theorem G.iaload {a t n : Nat} {g : Nat → Int32} {i : Int32} (j : Nat) (ha : ph a = some (.inl (t, n, .inl g))) (hd : decode f.2.1 pc = .ok (.iaload, 1)) (hi : i = nI j) (hj : j < n) (hn : n < 2147483648) (kk : G E f F (pc + 1) ls (.int (g j) :: st) ph kc ks) (ht : jTY t = some .int := by rfl) : G E f F pc ls (.int i :: .ref a :: st) ph kc ks := fun p e s m args below meth c hF H locs la hR hb hL => va_iald hF.1 hF.2.1 (jk1 hF.2.2.2.2.2.2.2.2.1 ht) (jw1 hR ha) 0 0 rfl rfl (j_ix hi hj hn).1 hd (by rw [(j_ix hi hj hn).2]; exact kk p e s m args below meth c hF H locs la hR hb hL)
theorem G.baload {a t n : Nat} {g : Nat → Int32} {i : Int32} (j : Nat) (ha : ph a = some (.inl (t, n, .inl g))) (hd : decode f.2.1 pc = .ok (.baload, 1)) (hi : i = nI j) (hj : j < n) (hn : n < 2147483648) (kk : G E f F (pc + 1) ls (.int (g j) :: st) ph kc ks) (ht : jTY t = some .byte := by rfl) : G E f F pc ls (.int i :: .ref a :: st) ph kc ks := fun p e s m args below meth c hF H locs la hR hb hL => va_bald hF.1 hF.2.1 (jk1 hF.2.2.2.2.2.2.2.2.1 ht) (jw1 hR ha) 0 0 rfl rfl (j_ix hi hj hn).1 hd (by rw [(j_ix hi hj hn).2]; exact kk p e s m args below meth c hF H locs la hR hb hL)
theorem G.zaload {a t n : Nat} {g : Nat → Int32} {i : Int32} (j : Nat) (ha : ph a = some (.inl (t, n, .inl g))) (hd : decode f.2.1 pc = .ok (.baload, 1)) (hi : i = nI j) (hj : j < n) (hn : n < 2147483648) (kk : G E f F (pc + 1) ls (.int (g j) :: st) ph kc ks) (ht : jTY t = some .boolean := by rfl) : G E f F pc ls (.int i :: .ref a :: st) ph kc ks := fun p e s m args below meth c hF H locs la hR hb hL => va_zald hF.1 hF.2.1 (jk1 hF.2.2.2.2.2.2.2.2.1 ht) (jw1 hR ha) 0 0 rfl rfl (j_ix hi hj hn).1 hd (by rw [(j_ix hi hj hn).2]; exact kk p e s m args below meth c hF H locs la hR hb hL)
theorem G.laload {a t n : Nat} {g : Nat → Int64} {i : Int32} (j : Nat) (ha : ph a = some (.inl (t, n, .inr (.inl g)))) (hd : decode f.2.1 pc = .ok (.laload, 1)) (hi : i = nI j) (hj : j < n) (hn : n < 2147483648) (kk : G E f F (pc + 1) ls (.long (g j) :: st) ph kc ks) (ht : jTY t = some .long := by rfl) : G E f F pc ls (.int i :: .ref a :: st) ph kc ks := fun p e s m args below meth c hF H locs la hR hb hL => va_lald hF.1 hF.2.1 (jk1 hF.2.2.2.2.2.2.2.2.1 ht) (jw1 hR ha) 0 0 rfl rfl (j_ix hi hj hn).1 hd (by rw [(j_ix hi hj hn).2]; exact kk p e s m args below meth c hF H locs la hR hb hL)
theorem G.aaload {a t n : Nat} {g : Nat → Option Nat} {i : Int32} {ty : FieldType} (j : Nat) (ha : ph a = some (.inl (t, n, .inr (.inr (.inr (.inr g)))))) (hd : decode f.2.1 pc = .ok (.aaload, 1)) (hi : i = nI j) (hj : j < n) (hn : n < 2147483648) (kk : G E f F (pc + 1) ls (va_rf (g j) :: st) ph kc ks) (ht : jTY t = some ty := by rfl) (hty : ty.isReference = true := by rfl) : G E f F pc ls (.int i :: .ref a :: st) ph kc ks := by
  intro p e s m args below meth c hF H locs la hR hb hL
  obtain ⟨hin, hc⟩ := j_ix hi hj hn
  have hlt : i.toNatClampNeg < n := by rw [hc]; exact hj
  refine W.aald (v := va_rf (g j)) (ty := ty) hF.1 hF.2.1 (hR.1 a _ ha) (((jk1 hF.2.2.2.2.2.2.2.2.1 ht).2 0 _ rfl).1 n (fun j => va_rf (g j))) hty (fun q => by cases q) (by show ¬ (i < 0 ∨ (arrV _ _ _).slots.size ≤ _); rw [arrV_size]; exact hin) (by show (arrV _ _ _).slots[_]? = _; rw [arrV_read _ _ hlt, hc]) rfl rfl hd (kk p e s m args below meth c hF H locs la hR hb hL)
theorem jlocs {E : JE} {ph : HP} {H : Heap} {locs : List Loc} {a k : Nat} {e0 : HE} (hR : jR E ph H) (ha : ph a = some e0) (hz : jfz e0 = false) (hb : ∀ z ∈ locs, jb E ≤ z.base) : ∀ z ∈ locs ++ [⟨a, k⟩], jb E ≤ z.base := by
  intro z hzz
  rcases List.mem_append.mp hzz with q | q
  · exact hb z q
  · rw [List.mem_singleton.mp q]
    rcases hR.2.1 a _ ha with q | q
    · rw [hz] at q; cases q
    · exact q
theorem G.iastore {a t n : Nat} {g : Nat → Int32} {i x : Int32} (j : Nat) (ha : ph a = some (.inl (t, n, .inl g))) (hd : decode f.2.1 pc = .ok (.iastore, 1)) (hi : i = nI j) (hj : j < n) (hn : n < 2147483648) (kk : G E f F (pc + 1) ls st (jup ph a (.inl (t, n, .inl (upd g j x)))) kc ks) (ht : jTY t = some .int := by rfl) (hz : Nat.ble 20 t = false := by rfl) : G E f F pc ls (.int x :: .int i :: .ref a :: st) ph kc ks := by
  intro p e s m args below meth c hF H locs la hR hb hL
  obtain ⟨hin, hc⟩ := j_ix hi hj hn
  refine W.iast hF.1 hF.2.1 (hR.1 a _ ha) (((jk1 hF.2.2.2.2.2.2.2.2.1 ht).2 0 _ rfl).1 n (fun j => .int (g j))) (fun q => by cases q) (by show ¬ (i < 0 ∨ (arrV _ _ _).slots.size ≤ _); rw [arrV_size]; exact hin) rfl rfl hd fun H1 e1 z1 o1 => ?_
  refine kk p e s m args below meth c hF H1 _ la (hR.put ha hz ?_ z1 o1) (jlocs hR ha hz hb) hL
  show H1[a]? = some (vp_cell _ _)
  rw [e1, vp_cell_i, vp_cell_i, arrV_store, hc]
  congr 2
  funext q
  by_cases hq : q = j
  · subst hq
    simp [updV, upd]
  · simp [updV, upd, hq]
theorem G.bastore {a t n : Nat} {g : Nat → Int32} {i x : Int32} (j : Nat) (ha : ph a = some (.inl (t, n, .inl g))) (hd : decode f.2.1 pc = .ok (.bastore, 1)) (hi : i = nI j) (hj : j < n) (hn : n < 2147483648) (kk : G E f F (pc + 1) ls st (jup ph a (.inl (t, n, .inl (upd g j x.toInt8.toInt32)))) kc ks) (ht : jTY t = some .byte := by rfl) (hz : Nat.ble 20 t = false := by rfl) : G E f F pc ls (.int x :: .int i :: .ref a :: st) ph kc ks := by
  intro p e s m args below meth c hF H locs la hR hb hL
  obtain ⟨hin, hc⟩ := j_ix hi hj hn
  refine W.bast hF.1 hF.2.1 (hR.1 a _ ha) (((jk1 hF.2.2.2.2.2.2.2.2.1 ht).2 0 _ rfl).1 n (fun j => .int (g j))) (fun q => by cases q) (by show ¬ (i < 0 ∨ (arrV _ _ _).slots.size ≤ _); rw [arrV_size]; exact hin) rfl rfl hd fun H1 e1 z1 o1 => ?_
  refine kk p e s m args below meth c hF H1 _ la (hR.put ha hz ?_ z1 o1) (jlocs hR ha hz hb) hL
  show H1[a]? = some (vp_cell _ _)
  rw [e1, vp_cell_i, vp_cell_i, arrV_store, hc]
  congr 2
  funext q
  by_cases hq : q = j
  · subst hq
    simp [updV, upd]
    try rfl
  · simp [updV, upd, hq]
theorem G.zastore {a t n : Nat} {g : Nat → Int32} {i x : Int32} (j : Nat) (ha : ph a = some (.inl (t, n, .inl g))) (hd : decode f.2.1 pc = .ok (.bastore, 1)) (hi : i = nI j) (hj : j < n) (hn : n < 2147483648) (hx : narrow .boolean (.int x) = .int x) (kk : G E f F (pc + 1) ls st (jup ph a (.inl (t, n, .inl (upd g j x)))) kc ks) (ht : jTY t = some .boolean := by rfl) (hz : Nat.ble 20 t = false := by rfl) : G E f F pc ls (.int x :: .int i :: .ref a :: st) ph kc ks := by
  intro p e s m args below meth c hF H locs la hR hb hL
  obtain ⟨hin, hc⟩ := j_ix hi hj hn
  refine W.zast hF.1 hF.2.1 (hR.1 a _ ha) (((jk1 hF.2.2.2.2.2.2.2.2.1 ht).2 0 _ rfl).1 n (fun j => .int (g j))) (fun q => by cases q) (by show ¬ (i < 0 ∨ (arrV _ _ _).slots.size ≤ _); rw [arrV_size]; exact hin) rfl rfl hd fun H1 e1 z1 o1 => ?_
  refine kk p e s m args below meth c hF H1 _ la (hR.put ha hz ?_ z1 o1) (jlocs hR ha hz hb) hL
  show H1[a]? = some (vp_cell _ _)
  rw [e1, vp_cell_i, vp_cell_i, arrV_store, hc, hx]
  congr 2
  funext q
  by_cases hq : q = j
  · subst hq
    simp [updV, upd]
  · simp [updV, upd, hq]
theorem G.lastore {a t n : Nat} {g : Nat → Int64} {i : Int32} {x : Int64} (j : Nat) (ha : ph a = some (.inl (t, n, .inr (.inl g)))) (hd : decode f.2.1 pc = .ok (.lastore, 1)) (hi : i = nI j) (hj : j < n) (hn : n < 2147483648) (kk : G E f F (pc + 1) ls st (jup ph a (.inl (t, n, .inr (.inl (vp_updL g j x))))) kc ks) (ht : jTY t = some .long := by rfl) (hz : Nat.ble 20 t = false := by rfl) : G E f F pc ls (.long x :: .int i :: .ref a :: st) ph kc ks := by
  intro p e s m args below meth c hF H locs la hR hb hL
  obtain ⟨hin, hc⟩ := j_ix hi hj hn
  refine W.last hF.1 hF.2.1 (hR.1 a _ ha) (((jk1 hF.2.2.2.2.2.2.2.2.1 ht).2 0 _ rfl).1 n (fun j => .long (g j))) (fun q => by cases q) (by show ¬ (i < 0 ∨ (arrV _ _ _).slots.size ≤ _); rw [arrV_size]; exact hin) rfl rfl hd fun H1 e1 z1 o1 => ?_
  refine kk p e s m args below meth c hF H1 _ la (hR.put ha hz ?_ z1 o1) (jlocs hR ha hz hb) hL
  show H1[a]? = some (vp_cell _ _)
  rw [e1, vp_cell_l, vp_cell_l, arrV_store, hc]
  congr 2
  funext q
  by_cases hq : q = j
  · subst hq
    simp [updV, vp_updL]
  · simp [updV, vp_updL, hq]
/-- an object stored in an array of references: what it is may be held there -/
theorem G.aastore {a t n v ci : Nat} {g : Nat → Option Nat} {i : Int32} {C D : String} {vs : List Value} (j : Nat) (ha : ph a = some (.inl (t, n, .inr (.inr (.inr (.inr g)))))) (hd : decode f.2.1 pc = .ok (.aastore, 1)) (hi : i = nI j) (hj : j < n) (hn : n < 2147483648) (hv : ph v = some (.inr (ci, vs))) (hc : (jCL ci).map (fun r => r.1) = some C) (hcast : Cond.castable C D ∈ lw_tbl) (kk : G E f F (pc + 1) ls st (jup ph a (.inl (t, n, .inr (.inr (.inr (.inr (va_up g j (some v)))))))) kc ks) (ht : jTY t = some (.object D) := by rfl) (hz : Nat.ble 20 t = false := by rfl) : G E f F pc ls (.ref v :: .int i :: .ref a :: st) ph kc ks := by
  intro p e s m args below meth c hF H locs la hR hb hL
  obtain ⟨hin, hcl⟩ := j_ix hi hj hn
  have hlt : i.toNatClampNeg < n := by rw [hcl]; exact hj
  have h0 : ¬ i < 0 := fun q => hin (Or.inl q)
  have hK := hF.2.2.2.2.2.2.2.2.1
  obtain ⟨r, hr1, cellV, g1, g2, g3, -⟩ := hR.1 v _ hv
  rw [hr1] at hc
  cases hc
  have hcls := (hK.1 ci r hr1).2
  obtain ⟨kA, comp, k1, k2, k3, -⟩ := (hK.2.1 t _ ht).2
  obtain ⟨kE, hkE, -⟩ := Vm.findClass_spec k3
  obtain ⟨c0, t1, f1, f2, f3⟩ := Cond.castable_spec (va_Nw.use (A := args) rfl (hK.2.2.1 _ hcast rfl))
  cases hcls.1.symm.trans f1
  cases k3.symm.trans f2
  obtain ⟨kC, hkC, -⟩ := hcls.2
  refine W.aast hF.1 hF.2.1 (hR.1 a _ ha) (fun q h => by cases h) (fun h => by cases h) k1 k2 rfl hkE ⟨h0, by show _ < (arrV _ _ _).slots.size; rw [arrV_size]; exact hlt⟩ g1 (fun q h => by rw [g3] at h; cases h) (by rw [g2]; exact hkC) (by rw [g2]; exact f3) rfl rfl hd fun H1 e1 z1 o1 => ?_
  refine kk p e s m args below meth c hF H1 _ la (hR.put ha hz ?_ z1 o1) (jlocs hR ha hz hb) hL
  show H1[a]? = some (vp_cell _ _)
  rw [e1, vp_cell_q, vp_cell_q, arrV_store, hcl]
  congr 2
  funext q
  by_cases hq : q = j
  · subst hq
    simp [updV, va_up, va_rf]
  · simp [updV, va_up, hq]
theorem G.newarray {i : Int32} {ty : FieldType} {a0 : vp_A} (t N : Nat) (at_ : ArrayType) (hd : decode f.2.1 pc = .ok (.newarray at_, 2)) (hty : newarray.typeOf at_ = ty) (ht : jTY t = some ty) (hw : Cond.arrayClass ty ∈ lw_all) (ha : ∀ cA : ClassId, vp_cell cA a0 = arrV cA N (fun _ => defaultValue ty)) (hi : i = nI N) (hN : N < 60000000) (hcb : componentBytes ty ≤ 8) (hc : kc + 1 ≤ f.2.2.2.2.1.cells) (hs : ks + N ≤ f.2.2.2.2.1.slots) (hprim : ∀ U cA, va_RA U cA ty → U.vm.findClass ("[" ++ ty.toString) = some cA) (kk : ∀ q : Nat, ph q = none → jb E ≤ q → G E f F (pc + 2) ls (.ref q :: st) (jup ph q (.inl (t, a0))) (kc + 1) (ks + N)) : G E f F pc ls (.int i :: st) ph kc ks := by
  intro p e s m args below meth c hF H locs la hR hb hL
  subst hty
  have h31 : N < 2 ^ 31 := by omega
  have hcn : i.toNatClampNeg = N := by rw [hi]; exact nI_clamp h31
  refine va_newaK hF.1 hF.2.1 (hF.2.2.2.2.1 _ hw) rfl hd rfl (by rw [hi]; exact nI_pos h31) hcn (Nat.le_trans (Nat.mul_le_mul_left N hcb) (by omega)) hc hs rfl fun H1 cA e1 z1 o1 _ hnm => ?_
  have hA := hprim s _ (hF.2.2.2.2.2.2.2.2.1.2.1 t _ ht).2
  have hcA : cA = E.2.1.2.2 t := Option.some.inj (hnm.symm.trans hA)
  refine kk H.size hR.fresh hR.2.2.1 p e s m args below meth c hF H1 locs la (hR.new ?_ z1 o1) hb hL
  show H1[H.size]? = some (vp_cell _ _)
  rw [ha, ← hcA]
  exact e1
theorem G.newint {i : Int32} (N : Nat) (hd : decode f.2.1 pc = .ok (.newarray .int, 2)) (hw : Cond.arrayClass .int ∈ lw_all) (hi : i = nI N) (hN : N < 60000000) (hc : kc + 1 ≤ f.2.2.2.2.1.cells) (hs : ks + N ≤ f.2.2.2.2.1.slots) (kk : ∀ q : Nat, ph q = none → jb E ≤ q → G E f F (pc + 2) ls (.ref q :: st) (jup ph q (.inl (0, N, .inl (fun _ => 0)))) (kc + 1) (ks + N)) : G E f F pc ls (.int i :: st) ph kc ks := G.newarray 0 N .int hd rfl rfl hw (fun _ => rfl) hi hN (by decide) hc hs (fun _ _ h => h) kk
theorem G.newbyte {i : Int32} (N : Nat) (hd : decode f.2.1 pc = .ok (.newarray .byte, 2)) (hw : Cond.arrayClass .byte ∈ lw_all) (hi : i = nI N) (hN : N < 60000000) (hc : kc + 1 ≤ f.2.2.2.2.1.cells) (hs : ks + N ≤ f.2.2.2.2.1.slots) (kk : ∀ q : Nat, ph q = none → jb E ≤ q → G E f F (pc + 2) ls (.ref q :: st) (jup ph q (.inl (2, N, .inl (fun _ => 0)))) (kc + 1) (ks + N)) : G E f F pc ls (.int i :: st) ph kc ks := G.newarray 2 N .byte hd rfl rfl hw (fun _ => rfl) hi hN (by decide) hc hs (fun _ _ h => h) kk
theorem G.newbool {i : Int32} (N : Nat) (hd : decode f.2.1 pc = .ok (.newarray .boolean, 2)) (hw : Cond.arrayClass .boolean ∈ lw_all) (hi : i = nI N) (hN : N < 60000000) (hc : kc + 1 ≤ f.2.2.2.2.1.cells) (hs : ks + N ≤ f.2.2.2.2.1.slots) (kk : ∀ q : Nat, ph q = none → jb E ≤ q → G E f F (pc + 2) ls (.ref q :: st) (jup ph q (.inl (3, N, .inl (fun _ => 0)))) (kc + 1) (ks + N)) : G E f F pc ls (.int i :: st) ph kc ks := G.newarray 3 N .boolean hd rfl rfl hw (fun _ => rfl) hi hN (by decide) hc hs (fun _ _ h => h) kk
theorem G.newlong {i : Int32} (N : Nat) (hd : decode f.2.1 pc = .ok (.newarray .long, 2)) (hw : Cond.arrayClass .long ∈ lw_all) (hi : i = nI N) (hN : N < 60000000) (hc : kc + 1 ≤ f.2.2.2.2.1.cells) (hs : ks + N ≤ f.2.2.2.2.1.slots) (kk : ∀ q : Nat, ph q = none → jb E ≤ q → G E f F (pc + 2) ls (.ref q :: st) (jup ph q (.inl (1, N, .inr (.inl (fun _ => 0))))) (kc + 1) (ks + N)) : G E f F pc ls (.int i :: st) ph kc ks := G.newarray 1 N .long hd rfl rfl hw (fun _ => rfl) hi hN (by decide) hc hs (fun _ _ h => h) kk
theorem G.anewarray {i : Int32} {C : String} {idx : Nat} (t N : Nat) (hd : decode f.2.1 pc = .ok (.anewarray idx, 3)) (ht : jTY t = some (.object C)) (hw : Cond.arrayOver (.object C) ∈ lw_tbl) (hl : Cond.classLink f.1.cls idx C ∈ lw_all) (hi : i = nI N) (hN : N < 60000000) (hc : kc + 1 ≤ f.2.2.2.2.1.cells) (hs : ks + N ≤ f.2.2.2.2.1.slots) (kk : ∀ q : Nat, ph q = none → jb E ≤ q → G E f F (pc + 3) ls (.ref q :: st) (jup ph q (.inl (t, N, .inr (.inr (.inr (.inr (fun _ => none))))))) (kc + 1) (ks + N)) : G E f F pc ls (.int i :: st) ph kc ks := by
  intro p e s m args below meth c hF H locs la hR hb hL
  have h31 : N < 2 ^ 31 := by omega
  have hcn : i.toNatClampNeg = N := by rw [hi]; exact nI_clamp h31
  have hK := hF.2.2.2.2.2.2.2.2.1
  subst hcn
  refine W.anew hF.1 hF.2.1 hF.2.2.2.1 (hF.2.2.2.2.1 _ hl) (va_AO.use (hK.2.2.2.1.1 C hw)) rfl hd rfl (by rw [hi]; exact nI_pos h31) (by omega) hc hs fun cA kA comp f1 f2 f3 f4 => ?_
  obtain ⟨kA', comp', r1, r2, r3, r4⟩ := (hK.2.1 t _ ht).2
  have hcA : cA = E.2.1.2.2 t := Option.some.inj (f1.symm.trans r4)
  generalize hH1 : H.push ({ cls := cA, slots := Array.replicate i.toNatClampNeg .null, vm := .none } : Cell) = H1
  have z1 : H1.size = H.size + 1 := by rw [← hH1, Array.size_push]
  have e1 : H1[H.size]? = some (arrV cA i.toNatClampNeg (fun _ => .null)) := by rw [← hH1, Array.getElem?_push_size, ← arrV_new]
  have o1 : ∀ q : Nat, q < H.size → H1[q]? = H[q]? := fun q hq => by rw [← hH1, Array.getElem?_push, if_neg (Nat.ne_of_lt hq)]
  refine kk H.size hR.fresh hR.2.2.1 p e s m args below meth c hF H1 locs la (hR.new ?_ z1 o1) hb hL
  show H1[H.size]? = some (vp_cell _ _)
  rw [vp_cell_q, ← hcA]
  exact e1
end Heap
/-! CALLS -/
def pI (P : Int32 → HP → Prop) : Option Value → HP → Prop := fun v ph => ∃ r, v = some (.int r) ∧ P r ph
def pJ (P : Int64 → HP → Prop) : Option Value → HP → Prop := fun v ph => ∃ r, v = some (.long r) ∧ P r ph
def pV (P : HP → Prop) : Option Value → HP → Prop := fun v ph => v = none ∧ P ph
def pA (P : Nat → HP → Prop) : Option Value → HP → Prop := fun v ph => ∃ r, v = some (.ref r) ∧ P r ph
def pN (P : Option Nat → HP → Prop) : Option Value → HP → Prop := fun v ph => ∃ r, v = some (va_rf r) ∧ P r ph
section PostK
variable {E : JE} {f : FS} {F : JFin} {pc : Nat} {ls : List (Option Value)} {st : List Value} {kc ks : Nat}
theorem pI.k {P : Int32 → HP → Prop} (k : ∀ r ph', P r ph' → G E f F pc ls (.int r :: st) ph' kc ks) : ∀ v ph', pI P v ph' → G E f F pc ls (v.toList ++ st) ph' kc ks := by
  rintro _ ph' ⟨r, rfl, h⟩
  exact k r ph' h
theorem pJ.k {P : Int64 → HP → Prop} (k : ∀ r ph', P r ph' → G E f F pc ls (.long r :: st) ph' kc ks) : ∀ v ph', pJ P v ph' → G E f F pc ls (v.toList ++ st) ph' kc ks := by
  rintro _ ph' ⟨r, rfl, h⟩
  exact k r ph' h
theorem pV.k {P : HP → Prop} (k : ∀ ph', P ph' → G E f F pc ls st ph' kc ks) : ∀ v ph', pV P v ph' → G E f F pc ls (v.toList ++ st) ph' kc ks := by
  rintro _ ph' ⟨rfl, h⟩
  exact k ph' h
theorem pA.k {P : Nat → HP → Prop} (k : ∀ r ph', P r ph' → G E f F pc ls (.ref r :: st) ph' kc ks) : ∀ v ph', pA P v ph' → G E f F pc ls (v.toList ++ st) ph' kc ks := by
  rintro _ ph' ⟨r, rfl, h⟩
  exact k r ph' h
theorem pN.k {P : Option Nat → HP → Prop} (k : ∀ r ph', P r ph' → G E f F pc ls (va_rf r :: st) ph' kc ks) : ∀ v ph', pN P v ph' → G E f F pc ls (v.toList ++ st) ph' kc ks := by
  rintro _ ph' ⟨r, rfl, h⟩
  exact k r ph' h
theorem jno : ∀ q C ph', jNo q C ph' → GX E f F pc ls q C ph' kc ks := fun _ _ _ h => h.elim
end PostK
abbrev jok (y : MethodName) (n : Nat) : Prop := y.cls ≠ "java/lang/invoke/MethodHandle" ∧ y.cls ≠ "java/lang/invoke/VarHandle" ∧ (parseMethodDescriptor y.desc).map (fun d => d.parameters.length) = some n
def CkV (f : FS) (n : Nat) : Prop := Cond.instanceMethod f.1 ∈ lw_all ∧ Cond.selects f.1.cls f.1 f.1 ∈ lw_all ∧ Cond.initialized f.1.cls ∈ lw_all ∧ Cond.code f.1 f.2.1 f.2.2.1 f.2.2.2.1 ∈ lw_all ∧ jok f.1 n
def CkW (f : FS) (n : Nat) : Prop := Cond.instanceMethod f.1 ∈ lw_all ∧ Cond.selects f.1.cls f.1 f.1 ∈ lw_all ∧ Cond.initialized f.1.cls ∈ lw_all ∧ Cond.codeWith f.1 f.2.1 f.2.2.1 f.2.2.2.1 f.2.2.2.2.2 ∈ lw_all ∧ jok f.1 n
def CkS (f : FS) (n : Nat) : Prop := Cond.static f.1 ∈ lw_all ∧ Cond.initialized f.1.cls ∈ lw_all ∧ Cond.code f.1 f.2.1 f.2.2.1 f.2.2.2.1 ∈ lw_all ∧ jok f.1 n
def CkI (f : FS) (n : Nat) : Prop := Cond.instanceMethod f.1 ∈ lw_all ∧ Cond.initialized f.1.cls ∈ lw_all ∧ Cond.code f.1 f.2.1 f.2.2.1 none ∈ lw_all ∧ jok f.1 n ∧ f.2.2.2.1 = none ∧ f.1.name = "<init>"
def CkU (own : String) (idx : Nat) (C owner : String) (x : MethodName) (f : FS) (n : Nat) : Prop := Cond.methodLink own idx x ∈ lw_all ∧ Cond.sameMethod x.cls owner x.name x.desc ∈ lw_all ∧ Cond.selects C x f.1 ∈ lw_all ∧ Cond.instanceMethod f.1 ∈ lw_all ∧ Cond.initialized f.1.cls ∈ lw_all ∧ Cond.code f.1 f.2.1 f.2.2.1 f.2.2.2.1 ∈ lw_all ∧ (owner ≠ "java/lang/invoke/MethodHandle" ∧ owner ≠ "java/lang/invoke/VarHandle" ∧ (parseMethodDescriptor x.desc).map (fun d => d.parameters.length) = some n) ∧ (f.1 = ⟨owner, x.name, x.desc⟩ ∨ (Cond.instanceMethod ⟨owner, x.name, x.desc⟩ ∈ lw_all ∧ ∃ b0 m0 r0, Cond.code ⟨owner, x.name, x.desc⟩ b0 m0 r0 ∈ lw_all) ∨ Cond.declares ⟨owner, x.name, x.desc⟩ ∈ lw_tbl)
abbrev jroom (f' f : FS) : Prop := f'.2.2.2.2.1.frames + 1 ≤ f.2.2.2.2.1.frames ∧ 8 + (f'.2.2.1 + 11) + f'.2.2.2.2.1.locals ≤ f.2.2.2.2.1.locals
abbrev jpay (f' f : FS) (kc ks : Nat) : Prop := kc + f'.2.2.2.2.1.cells ≤ f.2.2.2.2.1.cells ∧ ks + f'.2.2.2.2.1.slots ≤ f.2.2.2.2.1.slots
section Calls
theorem j_go {p : Program} {l : Launch} {e : Env} {R : Room} {s : State} {m : MethodId} {args : Array Value} {below : List Frame} {meth : Method} {c : Code} {H : Heap} {locs : List Loc} {kc ks mc ms : Nat} {Q : State → Prop} {pc : Nat} {la : Array Slot} {st0 rest : List Value} {a : Array Value} {E : JE} {Post : Option Value → HP → Prop} {XPost : Addr → String → HP → Prop}
    (hr : vx_Run p l e R s m args below meth c H locs kc ks mc ms (F0 m pc la st0) rest (jQ E Post a) (jX E XPost) (jfree E)) (hb : ∀ z ∈ locs, jb E ≤ z.base)
    (kx : ∀ q C ph', XPost q C ph' → ∀ (H1 : Heap) (locs1 : List Loc) (ce : Cell), jR E ph' H1 → (∀ z ∈ locs1, jb E ≤ z.base) → H1[q]? = some ce → ce.vm = .none → s.vm.findClass C = some ce.cls → vx_W p l e R s m args below meth c H1 locs1 (kc + mc) (ks + ms) Q (F0 m pc la rest) q)
    (k : ∀ v ph', Post v ph' → ∀ (H1 : Heap) (locs1 : List Loc), jR E ph' H1 → (∀ z ∈ locs1, jb E ≤ z.base) → W p l e R s m args below meth c H1 locs1 (kc + mc) (ks + ms) Q (F0 m (pc + 3) la (v.toList ++ rest))) : W p l e R s m args below meth c H locs kc ks Q (F0 m pc la st0) := by
  intro T hT X
  have hbb : ∀ L : List Loc, (∀ z ∈ L, jfree E z.base) → ∀ z ∈ locs ++ L, jb E ≤ z.base := by
    intro L hL z hz
    rcases List.mem_append.mp hz with q | q
    · exact hb z q
    · exact hL z q
  rcases hr T hT X with ⟨v, st₀, t, T', L, h0, X', hL, e1, e2, ⟨v', ph', hv, hR', hp⟩, st⟩ | ⟨q, st₀, t, T', L, C, ce, h0, X', hL, e1, e2, ⟨ph', hR', hp⟩, hce, hcv, hcl, st⟩
  · cases hv
    obtain ⟨t2, a1, b1⟩ := k v ph' hp T'.heap (locs ++ L) (by rw [e1]; exact hR') (hbb L hL) T' rfl X'
    exact ⟨t2, st t2 a1, b1⟩
  · obtain ⟨t2, a1, b1⟩ := kx q C ph' hp T'.heap (locs ++ L) ce (by rw [e1]; exact hR') (hbb L hL) (by rw [e1]; exact hce) hcv hcl T' rfl X'
    exact ⟨t2, st.trans a1, b1⟩
theorem j_preV {E : JE} {s : State} {H : Heap} {ph : HP} {b ci : Nat} {fs As : List Value} {C : String} (hK : KK E s) (hR : jR E ph H) (hb0 : ph b = some (.inr (ci, fs))) (hci : (jCL ci).map (fun r => r.1) = some C) : PreV s H C b (jP E (.ref b :: As) ph) As := by
  refine ⟨jP.blind, ?_, fun U hU hW => ⟨rfl, by rw [hU]; exact hR, hK.warm hW⟩⟩
  obtain ⟨r, h1, cell, g1, g2, g3, -⟩ := hR.1 b _ hb0
  rw [h1] at hci
  cases hci
  exact ⟨cell, g1, by rw [g3]; rfl, by rw [g2]; exact (hK.1 ci r h1).2.1⟩
theorem j_preS {E : JE} {s : State} {H : Heap} {ph : HP} {As : List Value} (hK : KK E s) (hR : jR E ph H) : PreS s H (jP E As ph) As := ⟨jP.blind, fun U hU hW => ⟨rfl, by rw [hU]; exact hR, hK.warm hW⟩⟩
variable {E : JE} {f f' : FS} {F : JFin} {pc : Nat} {ls : List (Option Value)} {st rest As : List Value} {ph : HP} {kc ks : Nat} {idx n b ci : Nat} {fs : List Value} {Post' : Option Value → HP → Prop} {XPost' : Addr → String → HP → Prop}
theorem G.callV (L : Cond.methodLink f.1.cls idx f'.1 ∈ lw_all) (ck : CkV f' n) (hct : Ct E f' (.ref b :: As) ph Post' XPost') (hb0 : ph b = some (.inr (ci, fs))) (hd : decode f.2.1 pc = .ok (.invokevirtual idx, 3))
    (kx : ∀ q C ph', XPost' q C ph' → GX E f F pc ls q C ph' (kc + f'.2.2.2.2.1.cells) (ks + f'.2.2.2.2.1.slots)) (k : ∀ v ph', Post' v ph' → G E f F (pc + 3) ls (v.toList ++ rest) ph' (kc + f'.2.2.2.2.1.cells) (ks + f'.2.2.2.2.1.slots))
    (hci : (jCL ci).map (fun r => r.1) = some f'.1.cls := by rfl) (hst : st = As.reverse ++ .ref b :: rest := by rfl) (hn : As.length = n := by rfl) (hrest : (rest.map fun v => v.category).sum ≤ 8 := by exact Nat.le_of_ble_eq_true rfl) (hroom : jroom f' f := by exact ⟨Nat.le_of_ble_eq_true rfl, Nat.le_of_ble_eq_true rfl⟩) (hk : jpay f' f kc ks := by exact ⟨Nat.le_of_ble_eq_true rfl, Nat.le_of_ble_eq_true rfl⟩) : G E f F pc ls st ph kc ks := by
  intro p e s m args below meth c hF H locs la hR hb hL
  obtain ⟨c1, c2, c3, c4, c5⟩ := ck
  refine j_go (vx_runV (As := As) (rest := rest) (g := F0 m pc la st) ⟨hF.1, hF.2.1, hF.2.2.1, hF.2.2.2.1, hF.2.2.2.2.1⟩ hct (cwV n hF.2.2.2.2.1 (lw_V L c1 c2 c3 c4) rfl rfl rfl ⟨rfl, c5⟩ hroom) (j_preV hF.2.2.2.2.2.2.2.2.1 hR hb0 hci) rfl hn hL.1 hst (lv_room hrest) hd hk) hb (fun q C ph' hp H1 locs1 ce h1 h2 h3 h4 h5 => ?_) (fun v ph' hp H1 locs1 h1 h2 => ?_)
  · exact kx q C ph' hp p e s m args below meth c hF H1 locs1 la rest ce h1 h2 hL h3 h4 h5
  · exact k v ph' hp p e s m args below meth c hF H1 locs1 la h1 h2 hL
theorem G.callW (L : Cond.methodLink f.1.cls idx f'.1 ∈ lw_all) (ck : CkW f' n) (hct : CtW E f' (.ref b :: As) ph Post' XPost') (hb0 : ph b = some (.inr (ci, fs))) (hd : decode f.2.1 pc = .ok (.invokevirtual idx, 3))
    (kx : ∀ q C ph', XPost' q C ph' → GX E f F pc ls q C ph' (kc + f'.2.2.2.2.1.cells) (ks + f'.2.2.2.2.1.slots)) (k : ∀ v ph', Post' v ph' → G E f F (pc + 3) ls (v.toList ++ rest) ph' (kc + f'.2.2.2.2.1.cells) (ks + f'.2.2.2.2.1.slots))
    (hci : (jCL ci).map (fun r => r.1) = some f'.1.cls := by rfl) (hst : st = As.reverse ++ .ref b :: rest := by rfl) (hn : As.length = n := by rfl) (hrest : (rest.map fun v => v.category).sum ≤ 8 := by exact Nat.le_of_ble_eq_true rfl) (hroom : jroom f' f := by exact ⟨Nat.le_of_ble_eq_true rfl, Nat.le_of_ble_eq_true rfl⟩) (hk : jpay f' f kc ks := by exact ⟨Nat.le_of_ble_eq_true rfl, Nat.le_of_ble_eq_true rfl⟩) : G E f F pc ls st ph kc ks := by
  intro p e s m args below meth c hF H locs la hR hb hL
  obtain ⟨c1, c2, c3, c4, c5⟩ := ck
  refine j_go (vx_runVX (As := As) (rest := rest) (g := F0 m pc la st) ⟨hF.1, hF.2.1, hF.2.2.1, hF.2.2.2.1, hF.2.2.2.2.1⟩ hct (vx_cwVW n hF.2.2.2.2.1 (lw_VW L c1 c2 c3 c4) rfl rfl rfl ⟨rfl, c5⟩ hroom) (j_preV hF.2.2.2.2.2.2.2.2.1 hR hb0 hci) rfl hn hL.1 hst (lv_room hrest) hd hk) hb (fun q C ph' hp H1 locs1 ce h1 h2 h3 h4 h5 => ?_) (fun v ph' hp H1 locs1 h1 h2 => ?_)
  · exact kx q C ph' hp p e s m args below meth c hF H1 locs1 la rest ce h1 h2 hL h3 h4 h5
  · exact k v ph' hp p e s m args below meth c hF H1 locs1 la h1 h2 hL
theorem G.callS (L : Cond.methodLink f.1.cls idx f'.1 ∈ lw_all) (ck : CkS f' n) (hct : Ct E f' As ph Post' XPost') (hd : decode f.2.1 pc = .ok (.invokestatic idx, 3))
    (kx : ∀ q C ph', XPost' q C ph' → GX E f F pc ls q C ph' (kc + f'.2.2.2.2.1.cells) (ks + f'.2.2.2.2.1.slots)) (k : ∀ v ph', Post' v ph' → G E f F (pc + 3) ls (v.toList ++ rest) ph' (kc + f'.2.2.2.2.1.cells) (ks + f'.2.2.2.2.1.slots))
    (hst : st = As.reverse ++ rest := by rfl) (hn : As.length = n := by rfl) (hrest : (rest.map fun v => v.category).sum ≤ 8 := by exact Nat.le_of_ble_eq_true rfl) (hroom : jroom f' f := by exact ⟨Nat.le_of_ble_eq_true rfl, Nat.le_of_ble_eq_true rfl⟩) (hk : jpay f' f kc ks := by exact ⟨Nat.le_of_ble_eq_true rfl, Nat.le_of_ble_eq_true rfl⟩) : G E f F pc ls st ph kc ks := by
  intro p e s m args below meth c hF H locs la hR hb hL
  obtain ⟨c1, c2, c3, c4⟩ := ck
  refine j_go (vx_runS (As := As) (rest := rest) (g := F0 m pc la st) ⟨hF.1, hF.2.1, hF.2.2.1, hF.2.2.2.1, hF.2.2.2.2.1⟩ hct (va_cwS n hF.2.2.2.2.1 (lw_S L c1 c2 c3) rfl rfl rfl c4 hroom) (j_preS hF.2.2.2.2.2.2.2.2.1 hR) rfl hn hL.1 hst (lv_room hrest) hd hk) hb (fun q C ph' hp H1 locs1 ce h1 h2 h3 h4 h5 => ?_) (fun v ph' hp H1 locs1 h1 h2 => ?_)
  · exact kx q C ph' hp p e s m args below meth c hF H1 locs1 la rest ce h1 h2 hL h3 h4 h5
  · exact k v ph' hp p e s m args below meth c hF H1 locs1 la h1 h2 hL
theorem G.callI (L : Cond.methodLink f.1.cls idx f'.1 ∈ lw_all) (ck : CkI f' n) (hct : Ct E f' (.ref b :: As) ph Post' XPost') (hd : decode f.2.1 pc = .ok (.invokespecial idx, 3))
    (kx : ∀ q C ph', XPost' q C ph' → GX E f F pc ls q C ph' (kc + f'.2.2.2.2.1.cells) (ks + f'.2.2.2.2.1.slots)) (k : ∀ v ph', Post' v ph' → G E f F (pc + 3) ls (v.toList ++ rest) ph' (kc + f'.2.2.2.2.1.cells) (ks + f'.2.2.2.2.1.slots))
    (hst : st = As.reverse ++ .ref b :: rest := by rfl) (hn : As.length = n := by rfl) (hrest : (rest.map fun v => v.category).sum ≤ 8 := by exact Nat.le_of_ble_eq_true rfl) (hroom : jroom f' f := by exact ⟨Nat.le_of_ble_eq_true rfl, Nat.le_of_ble_eq_true rfl⟩) (hk : jpay f' f kc ks := by exact ⟨Nat.le_of_ble_eq_true rfl, Nat.le_of_ble_eq_true rfl⟩) : G E f F pc ls st ph kc ks := by
  intro p e s m args below meth c hF H locs la hR hb hL
  obtain ⟨c1, c2, c3, c4, c5, c6⟩ := ck
  have hts := hF.2.2.2.2.1
  unfold Ct at hct
  rw [c5] at hct
  refine j_go (vx_runI (As := As) (rest := rest) (g := F0 m pc la st) ⟨hF.1, hF.2.1, hF.2.2.1, hF.2.2.2.1, hts⟩ hct (cwI n hts (lw_meth c3) rfl rfl rfl (hts _ c2) (hts _ L) (hts _ c1) c6 c4 hroom) (j_preS hF.2.2.2.2.2.2.2.2.1 hR) rfl hn hL.1 hst (lv_room hrest) hd hk) hb (fun q C ph' hp H1 locs1 ce h1 h2 h3 h4 h5 => ?_) (fun v ph' hp H1 locs1 h1 h2 => ?_)
  · exact kx q C ph' hp p e s m args below meth c hF H1 locs1 la rest ce h1 h2 hL h3 h4 h5
  · exact k v ph' hp p e s m args below meth c hF H1 locs1 la h1 h2 hL
/-- a start of a nest mate -/
theorem G.callIN {host : String} (L : Cond.methodLinkNest f.1.cls idx f'.1 host ∈ lw_tbl) (ck : CkI f' n) (hct : Ct E f' (.ref b :: As) ph Post' XPost') (hd : decode f.2.1 pc = .ok (.invokespecial idx, 3))
    (kx : ∀ q C ph', XPost' q C ph' → GX E f F pc ls q C ph' (kc + f'.2.2.2.2.1.cells) (ks + f'.2.2.2.2.1.slots)) (k : ∀ v ph', Post' v ph' → G E f F (pc + 3) ls (v.toList ++ rest) ph' (kc + f'.2.2.2.2.1.cells) (ks + f'.2.2.2.2.1.slots))
    (hst : st = As.reverse ++ .ref b :: rest := by rfl) (hn : As.length = n := by rfl) (hrest : (rest.map fun v => v.category).sum ≤ 8 := by exact Nat.le_of_ble_eq_true rfl) (hroom : jroom f' f := by exact ⟨Nat.le_of_ble_eq_true rfl, Nat.le_of_ble_eq_true rfl⟩) (hk : jpay f' f kc ks := by exact ⟨Nat.le_of_ble_eq_true rfl, Nat.le_of_ble_eq_true rfl⟩) : G E f F pc ls st ph kc ks := by
  intro p e s m args below meth c hF H locs la hR hb hL
  obtain ⟨c1, c2, c3, c4, c5, c6⟩ := ck
  have hts := hF.2.2.2.2.1
  unfold Ct at hct
  rw [c5] at hct
  refine j_go (vx_runIN (As := As) (rest := rest) (g := F0 m pc la st) ⟨hF.1, hF.2.1, hF.2.2.1, hF.2.2.2.1, hts⟩ hct ⟨va_cnB n hts (lw_meth c3) rfl rfl rfl (hF.2.2.2.2.2.2.2.2.1.2.2.1 _ L rfl) (hts _ c2) c4 hroom, c6, hts _ c1⟩ (j_preS hF.2.2.2.2.2.2.2.2.1 hR) rfl hn hL.1 hst (lv_room hrest) hd hk) hb (fun q C ph' hp H1 locs1 ce h1 h2 h3 h4 h5 => ?_) (fun v ph' hp H1 locs1 h1 h2 => ?_)
  · exact kx q C ph' hp p e s m args below meth c hF H1 locs1 la rest ce h1 h2 hL h3 h4 h5
  · exact k v ph' hp p e s m args below meth c hF H1 locs1 la h1 h2 hL
theorem G.callVN {host : String} (L : Cond.methodLinkNest f.1.cls idx f'.1 host ∈ lw_tbl) (ck : CkV f' n) (hct : Ct E f' (.ref b :: As) ph Post' XPost') (hb0 : ph b = some (.inr (ci, fs))) (hd : decode f.2.1 pc = .ok (.invokevirtual idx, 3))
    (kx : ∀ q C ph', XPost' q C ph' → GX E f F pc ls q C ph' (kc + f'.2.2.2.2.1.cells) (ks + f'.2.2.2.2.1.slots)) (k : ∀ v ph', Post' v ph' → G E f F (pc + 3) ls (v.toList ++ rest) ph' (kc + f'.2.2.2.2.1.cells) (ks + f'.2.2.2.2.1.slots))
    (hci : (jCL ci).map (fun r => r.1) = some f'.1.cls := by rfl) (hst : st = As.reverse ++ .ref b :: rest := by rfl) (hn : As.length = n := by rfl) (hrest : (rest.map fun v => v.category).sum ≤ 8 := by exact Nat.le_of_ble_eq_true rfl) (hroom : jroom f' f := by exact ⟨Nat.le_of_ble_eq_true rfl, Nat.le_of_ble_eq_true rfl⟩) (hk : jpay f' f kc ks := by exact ⟨Nat.le_of_ble_eq_true rfl, Nat.le_of_ble_eq_true rfl⟩) : G E f F pc ls st ph kc ks := by
  intro p e s m args below meth c hF H locs la hR hb hL
  obtain ⟨c1, c2, c3, c4, c5⟩ := ck
  have hts := hF.2.2.2.2.1
  refine j_go (vx_runVN (C := f'.1.cls) (As := As) (rest := rest) (g := F0 m pc la st) ⟨hF.1, hF.2.1, hF.2.2.1, hF.2.2.2.1, hts⟩ hct ⟨va_cnB n hts (lw_meth c4) rfl rfl rfl (hF.2.2.2.2.2.2.2.2.1.2.2.1 _ L rfl) (hts _ c3) c5 hroom, hts _ c1, hts _ c2⟩ (j_preV hF.2.2.2.2.2.2.2.2.1 hR hb0 hci) rfl hn hL.1 hst (lv_room hrest) hd hk) hb (fun q C ph' hp H1 locs1 ce h1 h2 h3 h4 h5 => ?_) (fun v ph' hp H1 locs1 h1 h2 => ?_)
  · exact kx q C ph' hp p e s m args below meth c hF H1 locs1 la rest ce h1 h2 hL h3 h4 h5
  · exact k v ph' hp p e s m args below meth c hF H1 locs1 la h1 h2 hL
theorem G.callSN {host : String} (L : Cond.methodLinkNest f.1.cls idx f'.1 host ∈ lw_tbl) (ck : CkS f' n) (hct : Ct E f' As ph Post' XPost') (hd : decode f.2.1 pc = .ok (.invokestatic idx, 3))
    (kx : ∀ q C ph', XPost' q C ph' → GX E f F pc ls q C ph' (kc + f'.2.2.2.2.1.cells) (ks + f'.2.2.2.2.1.slots)) (k : ∀ v ph', Post' v ph' → G E f F (pc + 3) ls (v.toList ++ rest) ph' (kc + f'.2.2.2.2.1.cells) (ks + f'.2.2.2.2.1.slots))
    (hst : st = As.reverse ++ rest := by rfl) (hn : As.length = n := by rfl) (hrest : (rest.map fun v => v.category).sum ≤ 8 := by exact Nat.le_of_ble_eq_true rfl) (hroom : jroom f' f := by exact ⟨Nat.le_of_ble_eq_true rfl, Nat.le_of_ble_eq_true rfl⟩) (hk : jpay f' f kc ks := by exact ⟨Nat.le_of_ble_eq_true rfl, Nat.le_of_ble_eq_true rfl⟩) : G E f F pc ls st ph kc ks := by
  intro p e s m args below meth c hF H locs la hR hb hL
  obtain ⟨c1, c2, c3, c4⟩ := ck
  have hts := hF.2.2.2.2.1
  refine j_go (vx_runSN (As := As) (rest := rest) (g := F0 m pc la st) ⟨hF.1, hF.2.1, hF.2.2.1, hF.2.2.2.1, hts⟩ hct ⟨va_cnB n hts (lw_meth c3) rfl rfl rfl (hF.2.2.2.2.2.2.2.2.1.2.2.1 _ L rfl) (hts _ c2) c4 hroom, hts _ c1, trivial⟩ (j_preS hF.2.2.2.2.2.2.2.2.1 hR) rfl hn hL.1 hst (lv_room hrest) hd hk) hb (fun q C ph' hp H1 locs1 ce h1 h2 h3 h4 h5 => ?_) (fun v ph' hp H1 locs1 h1 h2 => ?_)
  · exact kx q C ph' hp p e s m args below meth c hF H1 locs1 la rest ce h1 h2 hL h3 h4 h5
  · exact k v ph' hp p e s m args below meth c hF H1 locs1 la h1 h2 hL
/-- a method of a type above, found by what the receiver is (C) -/
theorem G.callU {C owner : String} {x : MethodName} (ck : CkU f.1.cls idx C owner x f' n) (hct : Ct E f' (.ref b :: As) ph Post' XPost') (hb0 : ph b = some (.inr (ci, fs))) (hd : decode f.2.1 pc = .ok (.invokevirtual idx, 3))
    (kx : ∀ q C ph', XPost' q C ph' → GX E f F pc ls q C ph' (kc + f'.2.2.2.2.1.cells) (ks + f'.2.2.2.2.1.slots)) (k : ∀ v ph', Post' v ph' → G E f F (pc + 3) ls (v.toList ++ rest) ph' (kc + f'.2.2.2.2.1.cells) (ks + f'.2.2.2.2.1.slots))
    (hci : (jCL ci).map (fun r => r.1) = some C := by rfl) (hst : st = As.reverse ++ .ref b :: rest := by rfl) (hn : As.length = n := by rfl) (hrest : (rest.map fun v => v.category).sum ≤ 8 := by exact Nat.le_of_ble_eq_true rfl) (hroom : jroom f' f := by exact ⟨Nat.le_of_ble_eq_true rfl, Nat.le_of_ble_eq_true rfl⟩) (hk : jpay f' f kc ks := by exact ⟨Nat.le_of_ble_eq_true rfl, Nat.le_of_ble_eq_true rfl⟩) : G E f F pc ls st ph kc ks := by
  intro p e s m args below meth c hF H locs la hR hb hL
  obtain ⟨c1, c2, c3, c4, c5, c6, c7, c8⟩ := ck
  have hts := hF.2.2.2.2.1
  have hG : GoodIn lw_all (va_wsU f.1.cls idx C owner x f'.1 (ws_ f'.1 f'.2.1 f'.2.2.1 f'.2.2.2.1)) := by
    refine lw_app ?_ (lw_meth c6)
    intro w hw
    simp only [List.mem_cons, List.not_mem_nil, or_false] at hw
    rcases hw with e | e | e | e | e <;> (rw [e]; assumption)
  have cw : va_CU f.2.2.2.2.1 s args f.1.cls C owner idx x f'.1 f'.2.1 f'.2.2.1 f'.2.2.2.1 (ws_ f'.1 f'.2.1 f'.2.2.1 f'.2.2.2.1) f'.2.2.2.2.1 f'.2.2.2.2.1.cells f'.2.2.2.2.1.slots n := by
    rcases c8 with e | ⟨e0, b0, m0, r0, e⟩ | e
    · exact va_cwU n hts hG rfl rfl rfl e c7 hroom
    · have hG2 : GoodIn lw_all (va_wsO f.1.cls idx C owner x f'.1 (ws_ f'.1 f'.2.1 f'.2.2.1 f'.2.2.2.1)) := by
        refine lw_app ?_ (lw_meth c6)
        intro w hw
        simp only [List.mem_cons, List.not_mem_nil, or_false] at hw
        rcases hw with e | e | e | e | e | e <;> (rw [e]; assumption)
      exact va_cwO n hts hG2 rfl rfl rfl e c7 hroom
    · exact va_cwA n hts hG rfl rfl rfl (hF.2.2.2.2.2.2.2.2.1.2.2.1 _ e rfl) c7 hroom
  refine j_go (vx_runU (As := As) (rest := rest) (g := F0 m pc la st) ⟨hF.1, hF.2.1, hF.2.2.1, hF.2.2.2.1, hts⟩ hct cw (j_preV hF.2.2.2.2.2.2.2.2.1 hR hb0 hci) rfl hn hL.1 hst (lv_room hrest) hd hk) hb (fun q C ph' hp H1 locs1 ce h1 h2 h3 h4 h5 => ?_) (fun v ph' hp H1 locs1 h1 h2 => ?_)
  · exact kx q C ph' hp p e s m args below meth c hF H1 locs1 la rest ce h1 h2 hL h3 h4 h5
  · exact k v ph' hp p e s m args below meth c hF H1 locs1 la h1 h2 hL
end Calls
/-! COPIES, Math, casts -/
theorem jq_acs : Cond.static arraycopyName ∈ lw_all := q553
theorem jq_acn : Cond.native arraycopyName ∈ lw_all := q554
theorem jq_aci : Cond.initialized "java/lang/System" ∈ lw_all := q133
theorem jq_mi : Cond.initialized "java/lang/Math" ∈ lw_all := q131
theorem jq_mx : Cond.static Lib.Math.max.name ∈ lw_all ∧ Cond.code Lib.Math.max.name Lib.Math.max.code 2 (some .int) ∈ lw_all := ⟨q504, q505⟩
theorem jq_mn : Cond.static Lib.Math.min.name ∈ lw_all ∧ Cond.code Lib.Math.min.name Lib.Math.min.code 2 (some .int) ∈ lw_all := ⟨q550, q551⟩
theorem jq_ln : Cond.static Lib.MathLoose.min_long.x ∈ lw_all ∧ Cond.code Lib.MathLoose.min_long.x Lib.MathLoose.min_long.code 4 (some .long) ∈ lw_all := ⟨q1316, q1317⟩
theorem jq_lx : Cond.static Lib.MathLoose.max_long.x ∈ lw_all ∧ Cond.code Lib.MathLoose.max_long.x Lib.MathLoose.max_long.code 4 (some .long) ∈ lw_all := ⟨q1319, q1320⟩
section More
variable {E : JE} {f : FS} {F : JFin} {pc : Nat} {ls : List (Option Value)} {st : List Value} {ph : HP} {kc ks : Nat}
theorem j_nn {z : Int32} {k : Nat} (h : z = nI k) (hk : k < 2147483648) : ¬ z < 0 ∧ z.toNatClampNeg = k ∧ z.toInt = (k : Int) := by
  subst h
  exact ⟨nI_pos (by omega), nI_clamp (by omega), nI_toInt (by omega)⟩
theorem G.copyi {idx a0 a t0 t1 n0 n1 : Nat} {g0 g1 : Nat → Int32} {ty : FieldType} {sp dp n : Int32} (sk dk nk : Nat) (hl : Cond.methodLink f.1.cls idx arraycopyName ∈ lw_all) (ha0 : ph a0 = some (.inl (t0, n0, .inl g0))) (ha1 : ph a = some (.inl (t1, n1, .inl g1))) (ht0 : jTY t0 = some ty) (ht1 : jTY t1 = some ty) (hprim : refKind ty = false) (hsp : sp = nI sk) (hdp : dp = nI dk) (hn : n = nI nk) (h4 : sk + nk ≤ n0) (h5 : dk + nk ≤ n1) (hb0 : n0 < 2147483648) (hb1 : n1 < 2147483648) (hfit : ∀ i, i < nk → fits ty (.int (g0 (sk + i))) = true) (hd : decode f.2.1 pc = .ok (.invokestatic idx, 3)) (hfr : 1 ≤ f.2.2.2.2.1.frames) (hlo : (st.map fun v => v.category).sum + (nativeFrameWords "java/lang/System" "arraycopy" 5 + 11) ≤ f.2.2.2.2.1.locals) (hz : Nat.ble 20 t1 = false) (kk : G E f F (pc + 3) ls st (jup ph a (.inl (t1, n1, .inl (va_cpy g0 g1 sk dk nk)))) kc ks) : G E f F pc ls (.int n :: .int dp :: .ref a :: .int sp :: .ref a0 :: st) ph kc ks := by
  intro p e s m args below meth c hF H locs la hR hb hL T hT X
  have hF0 := hF
  obtain ⟨hexec, hbb, hml, hown, hts, -, -, -, hK, -⟩ := hF
  obtain ⟨h1, s2, s3⟩ := j_nn hsp (by omega)
  obtain ⟨h2, d2, d3⟩ := j_nn hdp (by omega)
  obtain ⟨h3, n2, n3⟩ := j_nn hn (by omega)
  have hc0 : H[a0]? = some (vp_cell (E.2.1.2.2 t0) (n0, .inl g0)) := hR.1 a0 _ ha0
  have hc1 : H[a]? = some (vp_cell (E.2.1.2.2 t1) (n1, .inl g1)) := hR.1 a _ ha1
  obtain ⟨-, k0, hk0, cm0, hkk0⟩ := (hK.2.1 t0 ty ht0).1 n0 (fun j => .int (g0 j))
  obtain ⟨-, k1, hk1, cm1, hkk1⟩ := (hK.2.1 t1 ty ht1).1 n1 (fun j => .int (g1 j))
  obtain ⟨vm', X', step⟩ := X.arraycopy hexec hown (hts _ hl) (hts _ jq_acn) (hts _ jq_acs) (hts _ jq_aci) (src := a0) (dst := a) (cs := vp_cell (E.2.1.2.2 t0) (n0, .inl g0)) (cd := vp_cell (E.2.1.2.2 t1) (n1, .inl g1)) (srcPos := sp) (destPos := dp) (n := n) (by rw [hT]; exact hc0) (by rw [hT]; exact hc1)
    (fun _ h => by cases h) (fun _ h => by cases h) (fun h => by cases h) (fun h => by cases h) hk0 hk1 hkk0 hkk1 (by simp [hprim]) h1 h2 h3
    (by rw [s3, n3]; show ¬ _ > ((arrV (E.2.1.2.2 t0) n0 (fun j => .int (g0 j))).slots.size : Int); rw [arrV_size]; omega)
    (by rw [d3, n3]; show ¬ _ > ((arrV (E.2.1.2.2 t1) n1 (fun j => .int (g1 j))).slots.size : Int); rw [arrV_size]; omega)
    (fun vm₁ _ i hi => by
      rw [n2] at hi
      have e : (vp_cell (E.2.1.2.2 t0) (n0, .inl g0)).slots.getD (sp.toNatClampNeg + i) .null = .int (g0 (sp.toNatClampNeg + i)) := by
        show (arrV (E.2.1.2.2 t0) n0 (fun j => .int (g0 j))).slots.getD _ _ = _
        rw [Array.getD_eq_getD_getElem?, arrV_read _ _ (by rw [s2]; omega)]
        rfl
      refine ⟨?_, ?_⟩
      · rw [e, s2]
        exact hfit i hi
      · rw [e]
        exact trivial)
    (g := F0 m pc la (.int n :: .int dp :: .ref a :: .int sp :: .ref a0 :: st)) rfl (by rw [hml]; exact hL.1) (rest := st) rfl (by rw [hbb]; exact hd) hfr (by show 2 * 0 + _ + _ ≤ _; omega)
  have e1 : copied (vp_cell (E.2.1.2.2 t0) (n0, .inl g0)) (vp_cell (E.2.1.2.2 t1) (n1, .inl g1)) sp dp n = vp_cell (E.2.1.2.2 t1) (n1, .inl (va_cpy g0 g1 sk dk nk)) := by
    have := va_copied (fun z => Value.int z) (E.2.1.2.2 t0) (E.2.1.2.2 t1) (n1 := n1) (dp := dp.toNatClampNeg) g0 g1 (show sp.toNatClampNeg + n.toNatClampNeg ≤ n0 by rw [s2, n2]; exact h4)
    rw [s2, d2, n2] at this
    unfold copied
    rw [s2, d2, n2]
    exact this
  rw [e1] at X' step
  have hl : a < H.size := (Array.getElem?_eq_some_iff.mp hc1).1
  have hheap : ((T.setVm vm').setCell a (vp_cell (E.2.1.2.2 t1) (n1, .inl (va_cpy g0 g1 sk dk nk)))).heap = H.setIfInBounds a (vp_cell (E.2.1.2.2 t1) (n1, .inl (va_cpy g0 g1 sk dk nk))) := by rw [← hT]; rfl
  have oq : ∀ q : Nat, q ≠ a → (H.setIfInBounds a (vp_cell (E.2.1.2.2 t1) (n1, .inl (va_cpy g0 g1 sk dk nk))))[q]? = H[q]? := fun q hq => by simp [Array.getElem?_setIfInBounds, Ne.symm hq]
  have hba : jb E ≤ a := by
    rcases hR.2.1 a _ ha1 with q | q
    · exact absurd (show Nat.ble 20 t1 = true from q) (by rw [hz]; decide)
    · exact q
  obtain ⟨t, a1, b1⟩ := kk p e s m args below meth c hF0 _ _ la (hR.put ha1 (show jfz (.inl (t1, n1, .inl g1)) = false from hz) (show (H.setIfInBounds a _)[a]? = some _ by simp [Array.getElem?_setIfInBounds, hl]) (by simp) oq) (fun z hzz => by
      rcases List.mem_append.mp hzz with h | h
      · exact hb z h
      · obtain ⟨z', -, hz'⟩ := List.mem_map.mp h
        rw [← hz']
        exact hba) hL _ hheap X'
  exact ⟨t, step t a1, b1⟩
/-- references: what is copied may be held by arrays of Object -/
theorem G.copyq {idx a0 a t0 t1 n0 n1 : Nat} {g0 g1 : Nat → Option Nat} {D0 D1 : String} {sp dp n : Int32} (sk dk nk : Nat) (hl : Cond.methodLink f.1.cls idx arraycopyName ∈ lw_all) (ha0 : ph a0 = some (.inl (t0, n0, .inr (.inr (.inr (.inr g0)))))) (ha1 : ph a = some (.inl (t1, n1, .inr (.inr (.inr (.inr g1)))))) (ht0 : jTY t0 = some (.object D0)) (ht1 : jTY t1 = some (.object D1)) (hsp : sp = nI sk) (hdp : dp = nI dk) (hn : n = nI nk) (h4 : sk + nk ≤ n0) (h5 : dk + nk ≤ n1) (hb0 : n0 < 2147483648) (hb1 : n1 < 2147483648) (hel : ∀ i, i < nk → ∀ y, g0 (sk + i) = some y → ∃ ci fs C, ph y = some (.inr (ci, fs)) ∧ (jCL ci).map (fun r => r.1) = some C ∧ Cond.castable C D1 ∈ lw_tbl) (hd : decode f.2.1 pc = .ok (.invokestatic idx, 3)) (hfr : 1 ≤ f.2.2.2.2.1.frames) (hlo : (st.map fun v => v.category).sum + (nativeFrameWords "java/lang/System" "arraycopy" 5 + 11) ≤ f.2.2.2.2.1.locals) (hz : Nat.ble 20 t1 = false) (kk : G E f F (pc + 3) ls st (jup ph a (.inl (t1, n1, .inr (.inr (.inr (.inr (va_cpy g0 g1 sk dk nk))))))) kc ks) : G E f F pc ls (.int n :: .int dp :: .ref a :: .int sp :: .ref a0 :: st) ph kc ks := by
  intro p e s m args below meth c hF H locs la hR hb hL T hT X
  have hF0 := hF
  obtain ⟨hexec, hbb, hml, hown, hts, -, -, -, hK, -⟩ := hF
  obtain ⟨h1, s2, s3⟩ := j_nn hsp (by omega)
  obtain ⟨h2, d2, d3⟩ := j_nn hdp (by omega)
  obtain ⟨h3, n2, n3⟩ := j_nn hn (by omega)
  have hc0 : H[a0]? = some (vp_cell (E.2.1.2.2 t0) (n0, .inr (.inr (.inr (.inr g0))))) := hR.1 a0 _ ha0
  have hc1 : H[a]? = some (vp_cell (E.2.1.2.2 t1) (n1, .inr (.inr (.inr (.inr g1))))) := hR.1 a _ ha1
  obtain ⟨-, k0, hk0, cm0, hkk0⟩ := (hK.2.1 t0 _ ht0).1 n0 (fun j => va_rf (g0 j))
  obtain ⟨-, k1, hk1, cm1, hkk1⟩ := (hK.2.1 t1 _ ht1).1 n1 (fun j => va_rf (g1 j))
  obtain ⟨vm', X', step⟩ := X.arraycopy hexec hown (hts _ hl) (hts _ jq_acn) (hts _ jq_acs) (hts _ jq_aci) (src := a0) (dst := a) (cs := vp_cell (E.2.1.2.2 t0) (n0, .inr (.inr (.inr (.inr g0))))) (cd := vp_cell (E.2.1.2.2 t1) (n1, .inr (.inr (.inr (.inr g1))))) (srcPos := sp) (destPos := dp) (n := n) (by rw [hT]; exact hc0) (by rw [hT]; exact hc1)
    (fun _ h => by cases h) (fun _ h => by cases h) (fun h => by cases h) (fun h => by cases h) hk0 hk1 hkk0 hkk1 rfl h1 h2 h3
    (by rw [s3, n3]; show ¬ _ > ((arrV (E.2.1.2.2 t0) n0 (fun j => va_rf (g0 j))).slots.size : Int); rw [arrV_size]; omega)
    (by rw [d3, n3]; show ¬ _ > ((arrV (E.2.1.2.2 t1) n1 (fun j => va_rf (g1 j))).slots.size : Int); rw [arrV_size]; omega)
    (fun vm₁ hal i hi => by
      rw [n2] at hi
      have e : (vp_cell (E.2.1.2.2 t0) (n0, .inr (.inr (.inr (.inr g0))))).slots.getD (sp.toNatClampNeg + i) .null = va_rf (g0 (sp.toNatClampNeg + i)) := by
        show (arrV (E.2.1.2.2 t0) n0 (fun j => va_rf (g0 j))).slots.getD _ _ = _
        rw [Array.getD_eq_getD_getElem?, arrV_read _ _ (by rw [s2]; omega)]
        rfl
      rw [e, s2]
      cases hy : g0 (sk + i) with
      | none => exact ⟨rfl, trivial⟩
      | some y =>
        obtain ⟨ci, fs, C, hy1, hy2, hy3⟩ := hel i hi y hy
        obtain ⟨r, hr1, cellV, q1, q2, q3, -⟩ := hR.1 y _ hy1
        rw [hr1] at hy2
        cases hy2
        have hcls := (hK.1 ci r hr1).2
        obtain ⟨kA, comp, r1, r2, r3, -⟩ := (hK.2.1 t1 _ ht1).2
        cases hk1.symm.trans r1
        cases hkk1.symm.trans r2
        obtain ⟨c9, t9, f1, f2, f3⟩ := Cond.castable_spec (va_Nw.use (A := args) rfl (hK.2.2.1 _ hy3 rfl))
        cases hcls.1.symm.trans f1
        cases r3.symm.trans f2
        obtain ⟨kC, hkC, -⟩ := hcls.2
        obtain ⟨kE, hkE, -⟩ := Vm.findClass_spec r3
        obtain ⟨kC', hkC', -⟩ := hal.2.2 _ _ hkC
        obtain ⟨kE', hkE', -⟩ := hal.2.2 _ _ hkE
        refine ⟨rfl, cellV, (show T.heap[y]? = some cellV by rw [hT]; exact q1), (fun q h => by rw [q3] at h; cases h), ⟨kC', by rw [q2]; exact hkC'⟩, ?_, ?_⟩
        · exact ⟨kE', hkE'⟩
        · show vm₁.assignable _ _ = true
          rw [hal.assignable, q2]
          exact f3)
    (g := F0 m pc la (.int n :: .int dp :: .ref a :: .int sp :: .ref a0 :: st)) rfl (by rw [hml]; exact hL.1) (rest := st) rfl (by rw [hbb]; exact hd) hfr (by show 2 * 0 + _ + _ ≤ _; omega)
  have e1 : copied (vp_cell (E.2.1.2.2 t0) (n0, .inr (.inr (.inr (.inr g0))))) (vp_cell (E.2.1.2.2 t1) (n1, .inr (.inr (.inr (.inr g1))))) sp dp n = vp_cell (E.2.1.2.2 t1) (n1, .inr (.inr (.inr (.inr (va_cpy g0 g1 sk dk nk))))) := by
    have := va_copied (fun z => va_rf z) (E.2.1.2.2 t0) (E.2.1.2.2 t1) (n1 := n1) (dp := dp.toNatClampNeg) g0 g1 (show sp.toNatClampNeg + n.toNatClampNeg ≤ n0 by rw [s2, n2]; exact h4)
    rw [s2, d2, n2] at this
    unfold copied
    rw [s2, d2, n2]
    exact this
  rw [e1] at X' step
  have hl : a < H.size := (Array.getElem?_eq_some_iff.mp hc1).1
  have hheap : ((T.setVm vm').setCell a (vp_cell (E.2.1.2.2 t1) (n1, .inr (.inr (.inr (.inr (va_cpy g0 g1 sk dk nk))))))).heap = H.setIfInBounds a (vp_cell (E.2.1.2.2 t1) (n1, .inr (.inr (.inr (.inr (va_cpy g0 g1 sk dk nk)))))) := by rw [← hT]; rfl
  have oq : ∀ q : Nat, q ≠ a → (H.setIfInBounds a (vp_cell (E.2.1.2.2 t1) (n1, .inr (.inr (.inr (.inr (va_cpy g0 g1 sk dk nk)))))))[q]? = H[q]? := fun q hq => by simp [Array.getElem?_setIfInBounds, Ne.symm hq]
  have hba : jb E ≤ a := by
    rcases hR.2.1 a _ ha1 with q | q
    · exact absurd (show Nat.ble 20 t1 = true from q) (by rw [hz]; decide)
    · exact q
  obtain ⟨t, a1, b1⟩ := kk p e s m args below meth c hF0 _ _ la (hR.put ha1 (show jfz (.inl (t1, n1, .inr (.inr (.inr (.inr g1))))) = false from hz) (show (H.setIfInBounds a _)[a]? = some _ by simp [Array.getElem?_setIfInBounds, hl]) (by simp) oq) (fun z hzz => by
      rcases List.mem_append.mp hzz with h | h
      · exact hb z h
      · obtain ⟨z', -, hz'⟩ := List.mem_map.mp h
        rw [← hz']
        exact hba) hL _ hheap X'
  exact ⟨t, step t a1, b1⟩
theorem G.checkcast {idx a ci : Nat} {fs : List Value} {C nm : String} (ha : ph a = some (.inr (ci, fs))) (hd : decode f.2.1 pc = .ok (.checkcast idx, 3)) (hl : Cond.classLink f.1.cls idx nm ∈ lw_all) (hc : Cond.castable C nm ∈ lw_tbl) (kk : G E f F (pc + 3) ls (.ref a :: st) ph kc ks) (hci : (jCL ci).map (fun r => r.1) = some C := by rfl) : G E f F pc ls (.ref a :: st) ph kc ks := by
  intro p e s m args below meth c hF H locs la hR hb hL
  have hK := hF.2.2.2.2.2.2.2.2.1
  refine va_castY hF.1 hF.2.1 hF.2.2.2.1 (hF.2.2.2.2.1 _ hl) (hK.2.2.1 _ hc rfl) ?_ hd (kk p e s m args below meth c hF H locs la hR hb hL)
  obtain ⟨r, h1, cell, g1, g2, g3, -⟩ := hR.1 a _ ha
  rw [h1] at hci
  cases hci
  exact ⟨cell, g1, by rw [g3]; rfl, by rw [g2]; exact (hK.1 ci r h1).2.1⟩
theorem G.checkcastS {idx a ci : Nat} {fs : List Value} {nm : String} (ha : ph a = some (.inr (ci, fs))) (hd : decode f.2.1 pc = .ok (.checkcast idx, 3)) (hl : Cond.classLink f.1.cls idx nm ∈ lw_all) (kk : G E f F (pc + 3) ls (.ref a :: st) ph kc ks) (hci : (jCL ci).map (fun r => r.1) = some nm := by rfl) : G E f F pc ls (.ref a :: st) ph kc ks := by
  intro p e s m args below meth c hF H locs la hR hb hL
  have hK := hF.2.2.2.2.2.2.2.2.1
  obtain ⟨r, h1, cell, g1, g2, g3, -⟩ := hR.1 a _ ha
  rw [h1] at hci
  cases hci
  exact va_castS hF.1 hF.2.1 hF.2.2.2.1 (hF.2.2.2.2.1 _ hl) (hK.1 ci r h1).2 ⟨cell, g1, by rw [g3]; rfl, by rw [g2]; exact (hK.1 ci r h1).2.1⟩ hd (kk p e s m args below meth c hF H locs la hR hb hL)
theorem G.imax {idx : Nat} {x y : Int32} (hl : Cond.methodLink f.1.cls idx Lib.Math.max.name ∈ lw_all) (hd : decode f.2.1 pc = .ok (.invokestatic idx, 3)) (kk : G E f F (pc + 3) ls (.int (if x < y then y else x) :: st) ph kc ks) (hfr : 1 ≤ f.2.2.2.2.1.frames := by exact Nat.le_of_ble_eq_true rfl) (hlo : (st.map fun v => v.category).sum + 13 ≤ f.2.2.2.2.1.locals := by exact Nat.le_of_ble_eq_true rfl) (hk : kc ≤ f.2.2.2.2.1.cells ∧ ks ≤ f.2.2.2.2.1.slots := by exact ⟨Nat.le_of_ble_eq_true rfl, Nat.le_of_ble_eq_true rfl⟩) : G E f F pc ls (.int y :: .int x :: st) ph kc ks := by
  intro p e s m args below meth c hF H locs la hR hb hL
  have hts := hF.2.2.2.2.1
  exact va_mmax hF.1 hF.2.1 (hF.2.2.1.trans hL.1.symm) hF.2.2.2.1 (hts _ hl) (hts _ jq_mx.1) (hts _ jq_mi) (hts _ jq_mx.2) hfr hlo hk.1 hk.2 hd (kk p e s m args below meth c hF H locs la hR hb hL)
theorem G.imin {idx : Nat} {x y : Int32} (hl : Cond.methodLink f.1.cls idx Lib.Math.min.name ∈ lw_all) (hd : decode f.2.1 pc = .ok (.invokestatic idx, 3)) (kk : G E f F (pc + 3) ls (.int (if y < x then y else x) :: st) ph kc ks) (hfr : 1 ≤ f.2.2.2.2.1.frames := by exact Nat.le_of_ble_eq_true rfl) (hlo : (st.map fun v => v.category).sum + 13 ≤ f.2.2.2.2.1.locals := by exact Nat.le_of_ble_eq_true rfl) (hk : kc ≤ f.2.2.2.2.1.cells ∧ ks ≤ f.2.2.2.2.1.slots := by exact ⟨Nat.le_of_ble_eq_true rfl, Nat.le_of_ble_eq_true rfl⟩) : G E f F pc ls (.int y :: .int x :: st) ph kc ks := by
  intro p e s m args below meth c hF H locs la hR hb hL
  have hts := hF.2.2.2.2.1
  exact va_mmin hF.1 hF.2.1 (hF.2.2.1.trans hL.1.symm) hF.2.2.2.1 (hts _ hl) (hts _ jq_mn.1) (hts _ jq_mi) (hts _ jq_mn.2) hfr hlo hk.1 hk.2 hd (kk p e s m args below meth c hF H locs la hR hb hL)
theorem G.lmax {idx : Nat} {x y : Int64} (hl : Cond.methodLink f.1.cls idx Lib.MathLoose.max_long.x ∈ lw_all) (hd : decode f.2.1 pc = .ok (.invokestatic idx, 3)) (kk : G E f F (pc + 3) ls (.long (if y < x then x else y) :: st) ph kc ks) (hfr : 1 ≤ f.2.2.2.2.1.frames := by exact Nat.le_of_ble_eq_true rfl) (hlo : (st.map fun v => v.category).sum + 15 ≤ f.2.2.2.2.1.locals := by exact Nat.le_of_ble_eq_true rfl) (hk : kc ≤ f.2.2.2.2.1.cells ∧ ks ≤ f.2.2.2.2.1.slots := by exact ⟨Nat.le_of_ble_eq_true rfl, Nat.le_of_ble_eq_true rfl⟩) : G E f F pc ls (.long y :: .long x :: st) ph kc ks := by
  intro p e s m args below meth c hF H locs la hR hb hL
  have hts := hF.2.2.2.2.1
  exact va_mmax_long hF.1 hF.2.1 (hF.2.2.1.trans hL.1.symm) hF.2.2.2.1 (hts _ hl) (hts _ jq_lx.1) (hts _ jq_mi) (hts _ jq_lx.2) hfr hlo hk.1 hk.2 hd (kk p e s m args below meth c hF H locs la hR hb hL)
theorem G.lmin {idx : Nat} {x y : Int64} (hl : Cond.methodLink f.1.cls idx Lib.MathLoose.min_long.x ∈ lw_all) (hd : decode f.2.1 pc = .ok (.invokestatic idx, 3)) (kk : G E f F (pc + 3) ls (.long (if y < x then y else x) :: st) ph kc ks) (hfr : 1 ≤ f.2.2.2.2.1.frames := by exact Nat.le_of_ble_eq_true rfl) (hlo : (st.map fun v => v.category).sum + 15 ≤ f.2.2.2.2.1.locals := by exact Nat.le_of_ble_eq_true rfl) (hk : kc ≤ f.2.2.2.2.1.cells ∧ ks ≤ f.2.2.2.2.1.slots := by exact ⟨Nat.le_of_ble_eq_true rfl, Nat.le_of_ble_eq_true rfl⟩) : G E f F pc ls (.long y :: .long x :: st) ph kc ks := by
  intro p e s m args below meth c hF H locs la hR hb hL
  have hts := hF.2.2.2.2.1
  exact va_mmin_long hF.1 hF.2.1 (hF.2.2.1.trans hL.1.symm) hF.2.2.2.1 (hts _ hl) (hts _ jq_ln.1) (hts _ jq_mi) (hts _ jq_ln.2) hfr hlo hk.1 hk.2 hd (kk p e s m args below meth c hF H locs la hR hb hL)
end More
