/-! ===== jr: the judgement and its rows (printed by mk_rows.py) ===== -/
def jd_L : List (Option Value) → Nat → List (Nat × Value)
  | [], _ => []
  | some v :: r, k => (k, v) :: jd_L r (k + 1)
  | none :: r, k => jd_L r (k + 1)
theorem jd_L_mem : ∀ {ls : List (Option Value)} {k i : Nat} {v : Value}, (i, v) ∈ jd_L ls k ↔ k ≤ i ∧ ls[i - k]? = some (some v)
  | [], k, i, v => by simp [jd_L]
  | some w :: r, k, i, v => by
    simp only [jd_L, List.mem_cons, Prod.mk.injEq, jd_L_mem (ls := r)]
    constructor
    · rintro (⟨rfl, rfl⟩ | ⟨h1, h2⟩)
      · simp
      · refine ⟨by omega, ?_⟩
        rw [show i - k = (i - (k + 1)) + 1 by omega, List.getElem?_cons_succ]; exact h2
    · rintro ⟨h1, h2⟩
      by_cases e : i = k
      · subst e; simp at h2; exact Or.inl ⟨rfl, h2.symm⟩
      · refine Or.inr ⟨by omega, ?_⟩
        rw [show i - k = (i - (k + 1)) + 1 by omega, List.getElem?_cons_succ] at h2; exact h2
  | none :: r, k, i, v => by
    simp only [jd_L, jd_L_mem (ls := r)]
    constructor
    · rintro ⟨h1, h2⟩
      refine ⟨by omega, ?_⟩
      rw [show i - k = (i - (k + 1)) + 1 by omega, List.getElem?_cons_succ]; exact h2
    · rintro ⟨h1, h2⟩
      by_cases e : i = k
      · subst e; simp at h2
      · refine ⟨by omega, ?_⟩
        rw [show i - k = (i - (k + 1)) + 1 by omega, List.getElem?_cons_succ] at h2; exact h2
def jd_ent (vs : List Value) (n : Nat) : List (Option Value) := (vs.flatMap fun v => if v.category = 2 then [some v, none] else [some v]) ++ List.replicate (n - (lg_sl vs).length) none
theorem jd_ent_mem (q : Nat × Value) (tl : List (Option Value)) (htl : ∀ x ∈ tl, x = none) : ∀ (vs : List Value) (k : Nat), q ∈ jd_L ((vs.flatMap fun v => if v.category = 2 then [some v, none] else [some v]) ++ tl) k → q ∈ lv_args k vs := by
  intro vs
  induction vs with
  | nil =>
    intro k h
    rw [List.flatMap_nil, List.nil_append] at h
    obtain ⟨i, v⟩ := q
    have h2 := (jd_L_mem.mp h).2
    have := htl _ (List.mem_of_getElem? h2)
    cases this
  | cons v vs ih =>
    intro k h
    rw [List.flatMap_cons] at h
    show q ∈ (k, v) :: lv_args (if v.category = 2 then k + 2 else k + 1) vs
    by_cases hc : v.category = 2
    · rw [if_pos hc] at h ⊢
      rcases List.mem_cons.mp h with h | h
      · exact List.mem_cons.mpr (Or.inl h)
      · exact List.mem_cons_of_mem _ (ih _ h)
    · rw [if_neg hc] at h ⊢
      rcases List.mem_cons.mp h with h | h
      · exact List.mem_cons.mpr (Or.inl h)
      · exact List.mem_cons_of_mem _ (ih _ h)
theorem jd_at {la : Array Slot} {nL : Nat} {ls : List (Option Value)} (hl : lv_has la nL (jd_L ls 0)) {i : Nat} {v : Value} (hv : ls[i]? = some (some v)) : la[i]? = some (.val v) := hl.2.2 (i, v) (jd_L_mem.mpr ⟨Nat.zero_le _, hv⟩)
/-- a local of one word may be stored at i -/
def jd_c2 (ls : List (Option Value)) : Nat → Bool
  | 0 => true
  | j + 1 => match ls[j]? with
    | some (some v) => v.category == 1
    | _ => true
theorem jd_st {la : Array Slot} {nL : Nat} {ls : List (Option Value)} {i : Nat} {v : Value} (hl : lv_has la nL ((i, v) :: (jd_L ls 0).filter (fun q => !(q.1 == i) && !(q.1 + 1 == i && q.2.category == 2)))) (hc : jd_c2 ls i = true) : lv_has la nL (jd_L (ls.set i (some v)) 0) := by
  refine ⟨hl.1, hl.2.1, fun q hq => ?_⟩
  obtain ⟨j, w⟩ := q
  have h2 := (jd_L_mem.mp hq).2
  simp only [Nat.sub_zero, List.getElem?_set] at h2
  by_cases e : i = j
  · subst e
    simp only [if_true] at h2
    split at h2
    · simp only [Option.some.injEq] at h2
      subst h2
      exact hl.2.2 _ List.mem_cons_self
    · cases h2
  · rw [if_neg e] at h2
    refine hl.2.2 _ (List.mem_cons_of_mem _ (List.mem_filter.mpr ⟨jd_L_mem.mpr ⟨Nat.zero_le _, h2⟩, ?_⟩))
    have e1 : (j == i) = false := by simpa using Ne.symm e
    simp only [e1, Bool.not_false, Bool.true_and, Bool.not_eq_true', Bool.and_eq_false_iff]
    by_cases e2 : j + 1 = i
    · right
      subst e2
      simp only [jd_c2, h2] at hc
      have : w.category = 1 := by simpa using hc
      rw [this]; rfl
    · left
      simpa using e2
/-- the frame that runs -/
def jd_Cx (G : jd_G) (M : jd_M) (d : Nat) (p : Program) (l : Launch) (R : Room) (s : State) (m : MethodId) (args : Array Value) (meth : Method) (c : Code) : Prop :=
  p.tables.exec = Jvm.exec ∧ c.code = M.2.2.1 ∧ c.maxLocals = M.2.2.2.1 ∧ meth.sig.returnType = M.2.2.2.2.1 ∧ meth.locks = false ∧ meth.name = M.2.1.name ∧ s.vm.findClass M.1 = some m.cls ∧ (∀ w ∈ lw_all, w.before args s = true) ∧ jd_GU G s ∧ d ≤ R.frames ∧ 100 * d ≤ R.locals ∧ c.exceptionTable.toList = tableOf M.2.2.2.2.2 ∧ l.flags = flags0
def jd_Qc (G : jd_G) (Q : Option Value → jd_H → Prop) : Array Value → State → Outcome → State → Prop := fun _ st o t => ∃ v h, o = .returned v ∧ Q v h ∧ jd_Hp G h t.heap ∧ va_F (jd_A G) st t
def jd_XC (G : jd_G) (X : String → jd_H → Prop) : String → State → State → Prop := fun E st t => ∃ h, X E h ∧ jd_Hp G h t.heap ∧ va_F (jd_A G) st t
def jd_W (G : jd_G) (M : jd_M) (d cb sb : Nat) (pc : Nat) (ls : List (Option Value)) (st : List Value) (h : jd_H) (Q : Option Value → jd_H → Prop) (X : String → jd_H → Prop) : Prop :=
  ∀ (p : Program) (l : Launch) (e : Env) (R : Room) (s : State) (m : MethodId) (args : Array Value) (below : List Frame) (meth : Method) (c : Code) (H : Heap) (locs : List Loc) (cells slots : Nat) (la : Array Slot),
    jd_Cx G M d p l R s m args meth c → cells + cb ≤ R.cells → slots + sb ≤ R.slots → jd_Hp G h H → va_S (jd_A G) s.heap H locs → lv_has la M.2.2.2.1 (jd_L ls 0) →
    W p l e R s m args below meth c H locs cells slots (vx_MQ below (jd_Qc G Q) (jd_XC G X) args s R.cells R.slots (jd_A G)) (F0 m pc la st)
/-- an exception of class E is on its way out of the instruction at pc -/
def jd_X (G : jd_G) (M : jd_M) (d cb sb : Nat) (pc : Nat) (ls : List (Option Value)) (E : String) (h : jd_H) (Q : Option Value → jd_H → Prop) (X : String → jd_H → Prop) : Prop :=
  ∀ (p : Program) (l : Launch) (e : Env) (R : Room) (s : State) (m : MethodId) (args : Array Value) (below : List Frame) (meth : Method) (c : Code) (H : Heap) (locs : List Loc) (cells slots : Nat) (la : Array Slot) (rest : List Value) (q : Addr) (ce : Cell),
    jd_Cx G M d p l R s m args meth c → cells + cb ≤ R.cells → slots + sb ≤ R.slots → jd_Hp G h H → va_S (jd_A G) s.heap H locs → lv_has la M.2.2.2.1 (jd_L ls 0) → H[q]? = some ce → ce.vm = .none → s.vm.findClass E = some ce.cls →
    vx_W p l e R s m args below meth c H locs cells slots (vx_MQ below (jd_Qc G Q) (jd_XC G X) args s R.cells R.slots (jd_A G)) (F0 m pc la rest) q
def jd_ws (M : jd_M) : List Cond := match M.2.2.2.2.2 with
  | [] => ws_ M.2.1 M.2.2.1 M.2.2.2.1 M.2.2.2.2.1
  | hh => wsW_ M.2.1 M.2.2.1 M.2.2.2.1 M.2.2.2.2.1 hh
def jd_rm_ (d cb sb : Nat) : Room := { frames := d, cells := cb, slots := sb, locals := 100 * d }
/-- a contract: called with args in the heap h, it ends with Q, or throws with X -/
def jd_Ct (G : jd_G) (M : jd_M) (d cb sb : Nat) (args : List Value) (h : jd_H) (Q : Option Value → jd_H → Prop) (X : String → jd_H → Prop) : Prop :=
  ∀ l : Launch, l.flags = flags0 → vx_Met l M.2.1 (jd_ws M) (jd_rm_ d cb sb) (va_Pc args (fun U => jd_GU G U ∧ jd_Hp G h U.heap)) (jd_Qc G Q) (jd_XC G X) cb sb (jd_A G)
def jd_no : String → jd_H → Prop := fun _ _ => False
/-- the answer is v, the heap is as it was -/
def jd_pu (h : jd_H) (v : Value) : Option Value → jd_H → Prop := fun r h' => r = some v ∧ h' = h
/-- no answer, the heap is h -/
def jd_vd (h : jd_H) : Option Value → jd_H → Prop := fun r h' => r = none ∧ h' = h
def jd_rem (x y : Int32) : Int32 := x - x / y * y
section JR
variable {G : jd_G} {M : jd_M} {d cb sb pc : Nat} {ls ls' : List (Option Value)} {st : List Value} {h : jd_H} {Q : Option Value → jd_H → Prop} {X : String → jd_H → Prop}
theorem jd_drop {h' : jd_H} (hs : ∀ i x, h' i = some x → h i = some x) (k : jd_W G M d cb sb pc ls st h' Q X) : jd_W G M d cb sb pc ls st h Q X := by
  intro p l e R s m args below meth c H locs cells slots la C h1 h2 hP hS hl
  exact k p l e R s m args below meth c H locs cells slots la C h1 h2 (hP.drop hs) hS hl
theorem jd_heq {h' : jd_H} (hs : h' = h) (k : jd_W G M d cb sb pc ls st h' Q X) : jd_W G M d cb sb pc ls st h Q X := hs ▸ k
theorem jd_ren {i j : jd_Id} {a : Nat} {x : jd_E} (hi : h i = some (a, x)) (hj : h j = none) (h0 : j.1 ≠ 0) (k : jd_W G M d cb sb pc ls st (jd_up (jd_rm h i) j (a, x)) Q X) : jd_W G M d cb sb pc ls st h Q X := by
  intro p l e R s m args below meth c H locs cells slots la C h1 h2 hP hS hl
  exact k p l e R s m args below meth c H locs cells slots la C h1 h2 (hP.ren hi hj h0) hS hl
theorem jd_inj {i j : jd_Id} {a b : Nat} {x y : jd_E} (hi : h i = some (a, x)) (hj : h j = some (b, y)) (hn : i ≠ j) (k : a ≠ b → jd_W G M d cb sb pc ls st h Q X) : jd_W G M d cb sb pc ls st h Q X := by
  intro p l e R s m args below meth c H locs cells slots la C h1 h2 hP hS hl
  exact k (fun z => hn (by subst z; exact hP.inj hi hj)) p l e R s m args below meth c H locs cells slots la C h1 h2 hP hS hl
theorem jd_wk {cb' sb' : Nat} (k : jd_W G M d cb' sb' pc ls st h Q X) (hc : cb' ≤ cb) (hs : sb' ≤ sb) : jd_W G M d cb sb pc ls st h Q X := by
  intro p l e R s m args below meth c H locs cells slots la C h1 h2 hP hS hl
  exact k p l e R s m args below meth c H locs cells slots la C (by omega) (by omega) hP hS hl
theorem jd_ls {ls2 : List (Option Value)} (hs : ∀ (i : Nat) (v : Value), ls2[i]? = some (some v) → ls[i]? = some (some v)) (k : jd_W G M d cb sb pc ls2 st h Q X) : jd_W G M d cb sb pc ls st h Q X := by
  intro p l e R s m args below meth c H locs cells slots la C h1 h2 hP hS hl
  refine k p l e R s m args below meth c H locs cells slots la C h1 h2 hP hS ⟨hl.1, hl.2.1, fun q hq => ?_⟩
  obtain ⟨i, v⟩ := q
  exact hl.2.2 _ (jd_L_mem.mpr ⟨Nat.zero_le _, hs i v (jd_L_mem.mp hq).2⟩)
theorem jd_cons {Q' : Option Value → jd_H → Prop} {X' : String → jd_H → Prop} (hQ : ∀ v h', Q' v h' → Q v h') (hX : ∀ E h', X' E h' → X E h') (k : jd_W G M d cb sb pc ls st h Q' X') : jd_W G M d cb sb pc ls st h Q X := by
  intro p l e R s m args below meth c H locs cells slots la C h1 h2 hP hS hl T hT Y
  obtain ⟨t, a1, o, b1, b2, b3⟩ := k p l e R s m args below meth c H locs cells slots la C h1 h2 hP hS hl T hT Y
  refine ⟨t, a1, o, b1, b2, ?_⟩
  rcases b3 with ⟨⟨v, h', e1, e2, e3⟩, b4⟩ | ⟨q, e1, E, ce, L, ⟨h', e2, e3⟩, e4⟩
  · exact Or.inl ⟨⟨v, h', e1, hQ _ _ e2, e3⟩, b4⟩
  · exact Or.inr ⟨q, e1, E, ce, L, ⟨h', hX _ _ e2, e3⟩, e4⟩

theorem jd_iconst {n : Int} {v : Int32} (dc : decode M.2.2.1 pc = .ok (.iconst n, 1)) (hv : Int32.ofInt n = v) (k : jd_W G M d cb sb (pc + 1) ls (.int v :: st) h Q X) : jd_W G M d cb sb pc ls (st) h Q X := by
  intro p l e R s m args below meth c H locs cells slots la C h1 h2 hP hS hl
  exact lv_iconst C.1 C.2.1 dc hv (k p l e R s m args below meth c H locs cells slots la C h1 h2 hP hS hl)
theorem jd_bipush {n : Int} {v : Int32} (dc : decode M.2.2.1 pc = .ok (.bipush n, 2)) (hv : (Int8.ofInt n).toInt32 = v) (k : jd_W G M d cb sb (pc + 2) ls (.int v :: st) h Q X) : jd_W G M d cb sb pc ls (st) h Q X := by
  intro p l e R s m args below meth c H locs cells slots la C h1 h2 hP hS hl
  exact lv_bipush C.1 C.2.1 dc hv (k p l e R s m args below meth c H locs cells slots la C h1 h2 hP hS hl)
theorem jd_sipush {n : Int} {v : Int32} (dc : decode M.2.2.1 pc = .ok (.sipush n, 3)) (hv : (Int16.ofInt n).toInt32 = v) (k : jd_W G M d cb sb (pc + 3) ls (.int v :: st) h Q X) : jd_W G M d cb sb pc ls (st) h Q X := by
  intro p l e R s m args below meth c H locs cells slots la C h1 h2 hP hS hl
  exact lv_sipush C.1 C.2.1 dc hv (k p l e R s m args below meth c H locs cells slots la C h1 h2 hP hS hl)
theorem jd_lconst {n : Fin 2} {v : Int64} (dc : decode M.2.2.1 pc = .ok (.lconst n, 1)) (hv : Int64.ofNat (n : Nat) = v) (k : jd_W G M d cb sb (pc + 1) ls (.long v :: st) h Q X) : jd_W G M d cb sb pc ls (st) h Q X := by
  intro p l e R s m args below meth c H locs cells slots la C h1 h2 hP hS hl
  exact lv_lconst C.1 C.2.1 dc hv (k p l e R s m args below meth c H locs cells slots la C h1 h2 hP hS hl)
theorem jd_iload_n {q : Fin 4} {x : Int32} (dc : decode M.2.2.1 pc = .ok (.iload_n q, 1)) (hv : ls[(q : Nat)]? = some (some (.int x))) (k : jd_W G M d cb sb (pc + 1) ls (.int x :: st) h Q X) : jd_W G M d cb sb pc ls (st) h Q X := by
  intro p l e R s m args below meth c H locs cells slots la C h1 h2 hP hS hl
  exact lv_iload_n C.1 C.2.1 dc rfl (jd_at hl hv) (k p l e R s m args below meth c H locs cells slots la C h1 h2 hP hS hl)
theorem jd_iload {i : Nat} {x : Int32} (dc : decode M.2.2.1 pc = .ok (.iload i, 2)) (hv : ls[i]? = some (some (.int x))) (k : jd_W G M d cb sb (pc + 2) ls (.int x :: st) h Q X) : jd_W G M d cb sb pc ls (st) h Q X := by
  intro p l e R s m args below meth c H locs cells slots la C h1 h2 hP hS hl
  exact lv_iload C.1 C.2.1 dc (jd_at hl hv) (k p l e R s m args below meth c H locs cells slots la C h1 h2 hP hS hl)
theorem jd_aload_n {q : Fin 4} {x : Nat} (dc : decode M.2.2.1 pc = .ok (.aload_n q, 1)) (hv : ls[(q : Nat)]? = some (some (.ref x))) (k : jd_W G M d cb sb (pc + 1) ls (.ref x :: st) h Q X) : jd_W G M d cb sb pc ls (st) h Q X := by
  intro p l e R s m args below meth c H locs cells slots la C h1 h2 hP hS hl
  exact lv_aload_n C.1 C.2.1 dc rfl (jd_at hl hv) (k p l e R s m args below meth c H locs cells slots la C h1 h2 hP hS hl)
theorem jd_aload {i : Nat} {x : Nat} (dc : decode M.2.2.1 pc = .ok (.aload i, 2)) (hv : ls[i]? = some (some (.ref x))) (k : jd_W G M d cb sb (pc + 2) ls (.ref x :: st) h Q X) : jd_W G M d cb sb pc ls (st) h Q X := by
  intro p l e R s m args below meth c H locs cells slots la C h1 h2 hP hS hl
  exact lv_aload C.1 C.2.1 dc (jd_at hl hv) (k p l e R s m args below meth c H locs cells slots la C h1 h2 hP hS hl)
theorem jd_lload_n {q : Fin 4} {x : Int64} (dc : decode M.2.2.1 pc = .ok (.lload_n q, 1)) (hv : ls[(q : Nat)]? = some (some (.long x))) (k : jd_W G M d cb sb (pc + 1) ls (.long x :: st) h Q X) : jd_W G M d cb sb pc ls (st) h Q X := by
  intro p l e R s m args below meth c H locs cells slots la C h1 h2 hP hS hl
  exact lv_lload_n C.1 C.2.1 dc rfl (jd_at hl hv) (k p l e R s m args below meth c H locs cells slots la C h1 h2 hP hS hl)
theorem jd_istore_n {q : Fin 4} {x : Int32} (dc : decode M.2.2.1 pc = .ok (.istore_n q, 1)) (hn : (q : Nat) < M.2.2.2.1) (hc : jd_c2 ls (q : Nat) = true) (hls : ls.set (q : Nat) (some (.int x)) = ls') (k : jd_W G M d cb sb (pc + 1) ls' st h Q X) : jd_W G M d cb sb pc ls (.int x :: st) h Q X := by
  subst hls
  intro p l e R s m args below meth c H locs cells slots la C h1 h2 hP hS hl
  exact lv_istore_n C.1 C.2.1 dc rfl hl hn rfl (fun la' hl' => k p l e R s m args below meth c H locs cells slots la' C h1 h2 hP hS (jd_st hl' hc))
theorem jd_istore {i : Nat} {x : Int32} (dc : decode M.2.2.1 pc = .ok (.istore i, 2)) (hn : i < M.2.2.2.1) (hc : jd_c2 ls i = true) (hls : ls.set i (some (.int x)) = ls') (k : jd_W G M d cb sb (pc + 2) ls' st h Q X) : jd_W G M d cb sb pc ls (.int x :: st) h Q X := by
  subst hls
  intro p l e R s m args below meth c H locs cells slots la C h1 h2 hP hS hl
  exact lv_istore C.1 C.2.1 dc hl hn rfl (fun la' hl' => k p l e R s m args below meth c H locs cells slots la' C h1 h2 hP hS (jd_st hl' hc))
theorem jd_astore_n {q : Fin 4} {x : Nat} (dc : decode M.2.2.1 pc = .ok (.astore_n q, 1)) (hn : (q : Nat) < M.2.2.2.1) (hc : jd_c2 ls (q : Nat) = true) (hls : ls.set (q : Nat) (some (.ref x)) = ls') (k : jd_W G M d cb sb (pc + 1) ls' st h Q X) : jd_W G M d cb sb pc ls (.ref x :: st) h Q X := by
  subst hls
  intro p l e R s m args below meth c H locs cells slots la C h1 h2 hP hS hl
  exact lv_astore_n C.1 C.2.1 dc rfl hl hn rfl (fun la' hl' => k p l e R s m args below meth c H locs cells slots la' C h1 h2 hP hS (jd_st hl' hc))
theorem jd_astore {i : Nat} {x : Nat} (dc : decode M.2.2.1 pc = .ok (.astore i, 2)) (hn : i < M.2.2.2.1) (hc : jd_c2 ls i = true) (hls : ls.set i (some (.ref x)) = ls') (k : jd_W G M d cb sb (pc + 2) ls' st h Q X) : jd_W G M d cb sb pc ls (.ref x :: st) h Q X := by
  subst hls
  intro p l e R s m args below meth c H locs cells slots la C h1 h2 hP hS hl
  exact lv_astore C.1 C.2.1 dc hl hn rfl (fun la' hl' => k p l e R s m args below meth c H locs cells slots la' C h1 h2 hP hS (jd_st hl' hc))
theorem jd_iinc {i : Nat} {n : Int} {x v : Int32} (dc : decode M.2.2.1 pc = .ok (.iinc i n, 3)) (hx : ls[i]? = some (some (.int x))) (hv : x + Int32.ofInt n = v) (hn : i < M.2.2.2.1) (hc : jd_c2 ls i = true) (hls : ls.set i (some (.int v)) = ls') (k : jd_W G M d cb sb (pc + 3) ls' st h Q X) : jd_W G M d cb sb pc ls st h Q X := by
  subst hls
  intro p l e R s m args below meth c H locs cells slots la C h1 h2 hP hS hl
  obtain ⟨j, hj⟩ := List.getElem?_of_mem (jd_L_mem.mpr ⟨Nat.zero_le i, hx⟩ : (i, Value.int x) ∈ jd_L ls 0)
  exact lv_iinc (k := j) C.1 C.2.1 dc hl hj hv hn rfl (fun la' hl' => k p l e R s m args below meth c H locs cells slots la' C h1 h2 hP hS (jd_st hl' hc))
theorem jd_iadd {x y : Int32} (dc : decode M.2.2.1 pc = .ok (.iadd, 1)) (k : jd_W G M d cb sb (pc + 1) ls (.int (x + y) :: st) h Q X) : jd_W G M d cb sb pc ls (.int y :: .int x :: st) h Q X := by
  intro p l e R s m args below meth c H locs cells slots la C h1 h2 hP hS hl
  exact lv_iadd C.1 C.2.1 dc (k p l e R s m args below meth c H locs cells slots la C h1 h2 hP hS hl)
theorem jd_isub {x y : Int32} (dc : decode M.2.2.1 pc = .ok (.isub, 1)) (k : jd_W G M d cb sb (pc + 1) ls (.int (x - y) :: st) h Q X) : jd_W G M d cb sb pc ls (.int y :: .int x :: st) h Q X := by
  intro p l e R s m args below meth c H locs cells slots la C h1 h2 hP hS hl
  exact lv_isub C.1 C.2.1 dc (k p l e R s m args below meth c H locs cells slots la C h1 h2 hP hS hl)
theorem jd_imul {x y : Int32} (dc : decode M.2.2.1 pc = .ok (.imul, 1)) (k : jd_W G M d cb sb (pc + 1) ls (.int (x * y) :: st) h Q X) : jd_W G M d cb sb pc ls (.int y :: .int x :: st) h Q X := by
  intro p l e R s m args below meth c H locs cells slots la C h1 h2 hP hS hl
  exact lv_imul C.1 C.2.1 dc (k p l e R s m args below meth c H locs cells slots la C h1 h2 hP hS hl)
theorem jd_iand {x y : Int32} (dc : decode M.2.2.1 pc = .ok (.iand, 1)) (k : jd_W G M d cb sb (pc + 1) ls (.int (x &&& y) :: st) h Q X) : jd_W G M d cb sb pc ls (.int y :: .int x :: st) h Q X := by
  intro p l e R s m args below meth c H locs cells slots la C h1 h2 hP hS hl
  exact lv_iand C.1 C.2.1 dc (k p l e R s m args below meth c H locs cells slots la C h1 h2 hP hS hl)
theorem jd_ior {x y : Int32} (dc : decode M.2.2.1 pc = .ok (.ior, 1)) (k : jd_W G M d cb sb (pc + 1) ls (.int (x ||| y) :: st) h Q X) : jd_W G M d cb sb pc ls (.int y :: .int x :: st) h Q X := by
  intro p l e R s m args below meth c H locs cells slots la C h1 h2 hP hS hl
  exact lv_ior C.1 C.2.1 dc (k p l e R s m args below meth c H locs cells slots la C h1 h2 hP hS hl)
theorem jd_ixor {x y : Int32} (dc : decode M.2.2.1 pc = .ok (.ixor, 1)) (k : jd_W G M d cb sb (pc + 1) ls (.int (x ^^^ y) :: st) h Q X) : jd_W G M d cb sb pc ls (.int y :: .int x :: st) h Q X := by
  intro p l e R s m args below meth c H locs cells slots la C h1 h2 hP hS hl
  exact lv_ixor C.1 C.2.1 dc (k p l e R s m args below meth c H locs cells slots la C h1 h2 hP hS hl)
theorem jd_ishl {x y : Int32} (dc : decode M.2.2.1 pc = .ok (.ishl, 1)) (k : jd_W G M d cb sb (pc + 1) ls (.int (x <<< (y &&& 31)) :: st) h Q X) : jd_W G M d cb sb pc ls (.int y :: .int x :: st) h Q X := by
  intro p l e R s m args below meth c H locs cells slots la C h1 h2 hP hS hl
  exact lv_ishl C.1 C.2.1 dc (k p l e R s m args below meth c H locs cells slots la C h1 h2 hP hS hl)
theorem jd_ishr {x y : Int32} (dc : decode M.2.2.1 pc = .ok (.ishr, 1)) (k : jd_W G M d cb sb (pc + 1) ls (.int (x >>> (y &&& 31)) :: st) h Q X) : jd_W G M d cb sb pc ls (.int y :: .int x :: st) h Q X := by
  intro p l e R s m args below meth c H locs cells slots la C h1 h2 hP hS hl
  exact lv_ishr C.1 C.2.1 dc (k p l e R s m args below meth c H locs cells slots la C h1 h2 hP hS hl)
theorem jd_idiv {x y : Int32} (dc : decode M.2.2.1 pc = .ok (.idiv, 1)) (hne : ¬ y = 0) (k : jd_W G M d cb sb (pc + 1) ls (.int (x / y) :: st) h Q X) : jd_W G M d cb sb pc ls (.int y :: .int x :: st) h Q X := by
  intro p l e R s m args below meth c H locs cells slots la C h1 h2 hP hS hl
  exact lv_idiv C.1 C.2.1 dc hne (k p l e R s m args below meth c H locs cells slots la C h1 h2 hP hS hl)
theorem jd_irem {x y : Int32} (dc : decode M.2.2.1 pc = .ok (.irem, 1)) (hne : ¬ y = 0) (k : jd_W G M d cb sb (pc + 1) ls (.int (jd_rem x y) :: st) h Q X) : jd_W G M d cb sb pc ls (.int y :: .int x :: st) h Q X := by
  intro p l e R s m args below meth c H locs cells slots la C h1 h2 hP hS hl
  exact lv_irem C.1 C.2.1 dc hne (k p l e R s m args below meth c H locs cells slots la C h1 h2 hP hS hl)
theorem jd_ineg {x : Int32} (dc : decode M.2.2.1 pc = .ok (.ineg, 1)) (k : jd_W G M d cb sb (pc + 1) ls (.int (-x) :: st) h Q X) : jd_W G M d cb sb pc ls (.int x :: st) h Q X := by
  intro p l e R s m args below meth c H locs cells slots la C h1 h2 hP hS hl
  exact lv_ineg C.1 C.2.1 dc (k p l e R s m args below meth c H locs cells slots la C h1 h2 hP hS hl)
theorem jd_ladd {x y : Int64} (dc : decode M.2.2.1 pc = .ok (.ladd, 1)) (k : jd_W G M d cb sb (pc + 1) ls (.long (x + y) :: st) h Q X) : jd_W G M d cb sb pc ls (.long y :: .long x :: st) h Q X := by
  intro p l e R s m args below meth c H locs cells slots la C h1 h2 hP hS hl
  exact lv_ladd C.1 C.2.1 dc (k p l e R s m args below meth c H locs cells slots la C h1 h2 hP hS hl)
theorem jd_lmul {x y : Int64} (dc : decode M.2.2.1 pc = .ok (.lmul, 1)) (k : jd_W G M d cb sb (pc + 1) ls (.long (x * y) :: st) h Q X) : jd_W G M d cb sb pc ls (.long y :: .long x :: st) h Q X := by
  intro p l e R s m args below meth c H locs cells slots la C h1 h2 hP hS hl
  exact lv_lmul C.1 C.2.1 dc (k p l e R s m args below meth c H locs cells slots la C h1 h2 hP hS hl)
theorem jd_lcmp {x y : Int64} (dc : decode M.2.2.1 pc = .ok (.lcmp, 1)) (k : jd_W G M d cb sb (pc + 1) ls (.int (lg_cmp x y) :: st) h Q X) : jd_W G M d cb sb pc ls (.long y :: .long x :: st) h Q X := by
  intro p l e R s m args below meth c H locs cells slots la C h1 h2 hP hS hl
  exact W.lcmp C.1 C.2.1 dc (k p l e R s m args below meth c H locs cells slots la C h1 h2 hP hS hl)
theorem jd_i2l {x : Int32} (dc : decode M.2.2.1 pc = .ok (.i2l, 1)) (k : jd_W G M d cb sb (pc + 1) ls (.long x.toInt64 :: st) h Q X) : jd_W G M d cb sb pc ls (.int x :: st) h Q X := by
  intro p l e R s m args below meth c H locs cells slots la C h1 h2 hP hS hl
  exact lv_i2l C.1 C.2.1 dc rfl (k p l e R s m args below meth c H locs cells slots la C h1 h2 hP hS hl)
theorem jd_i2b {x : Int32} (dc : decode M.2.2.1 pc = .ok (.i2b, 1)) (k : jd_W G M d cb sb (pc + 1) ls (.int x.toInt8.toInt32 :: st) h Q X) : jd_W G M d cb sb pc ls (.int x :: st) h Q X := by
  intro p l e R s m args below meth c H locs cells slots la C h1 h2 hP hS hl
  exact lv_i2b C.1 C.2.1 dc rfl (k p l e R s m args below meth c H locs cells slots la C h1 h2 hP hS hl)
theorem jd_iushr {x y : Int32} (dc : decode M.2.2.1 pc = .ok (.iushr, 1)) (k : jd_W G M d cb sb (pc + 1) ls (.int (x.toUInt32 >>> (y.toUInt32 &&& Int32.toUInt32 31)).toInt32 :: st) h Q X) : jd_W G M d cb sb pc ls (.int y :: .int x :: st) h Q X := by
  intro p l e R s m args below meth c H locs cells slots la C h1 h2 hP hS hl
  exact lv_iushr C.1 C.2.1 dc rfl (k p l e R s m args below meth c H locs cells slots la C h1 h2 hP hS hl)
theorem jd_dup {va : Value} (dc : decode M.2.2.1 pc = .ok (.dup, 1)) (hva : va.category = 1) (k : jd_W G M d cb sb (pc + 1) ls (va :: va :: st) h Q X) : jd_W G M d cb sb pc ls (va :: st) h Q X := by
  intro p l e R s m args below meth c H locs cells slots la C h1 h2 hP hS hl
  exact lv_dup C.1 C.2.1 dc hva (k p l e R s m args below meth c H locs cells slots la C h1 h2 hP hS hl)
theorem jd_pop {va : Value} (dc : decode M.2.2.1 pc = .ok (.pop, 1)) (hva : va.category = 1) (k : jd_W G M d cb sb (pc + 1) ls (st) h Q X) : jd_W G M d cb sb pc ls (va :: st) h Q X := by
  intro p l e R s m args below meth c H locs cells slots la C h1 h2 hP hS hl
  exact lv_pop C.1 C.2.1 dc hva (k p l e R s m args below meth c H locs cells slots la C h1 h2 hP hS hl)
theorem jd_dup_x1 {va vb : Value} (dc : decode M.2.2.1 pc = .ok (.dup_x1, 1)) (hva : va.category = 1) (hvb : vb.category = 1) (k : jd_W G M d cb sb (pc + 1) ls (va :: vb :: va :: st) h Q X) : jd_W G M d cb sb pc ls (va :: vb :: st) h Q X := by
  intro p l e R s m args below meth c H locs cells slots la C h1 h2 hP hS hl
  exact lv_dup_x1 C.1 C.2.1 dc hva hvb (k p l e R s m args below meth c H locs cells slots la C h1 h2 hP hS hl)
theorem jd_dup2 {va vb : Value} (dc : decode M.2.2.1 pc = .ok (.dup2, 1)) (hva : va.category = 1) (hvb : vb.category = 1) (k : jd_W G M d cb sb (pc + 1) ls (va :: vb :: va :: vb :: st) h Q X) : jd_W G M d cb sb pc ls (va :: vb :: st) h Q X := by
  intro p l e R s m args below meth c H locs cells slots la C h1 h2 hP hS hl
  exact lv_dup2_11 C.1 C.2.1 dc hva hvb (k p l e R s m args below meth c H locs cells slots la C h1 h2 hP hS hl)
theorem jd_null  (dc : decode M.2.2.1 pc = .ok (.aconst_null, 1)) (k : jd_W G M d cb sb (pc + 1) ls (.null :: st) h Q X) : jd_W G M d cb sb pc ls (st) h Q X := by
  intro p l e R s m args below meth c H locs cells slots la C h1 h2 hP hS hl
  exact lv_null C.1 C.2.1 dc (k p l e R s m args below meth c H locs cells slots la C h1 h2 hP hS hl)
theorem jd_ifnull {x : Nat} {off : Int} (dc : decode M.2.2.1 pc = .ok (.ifnull off, 3)) (k : jd_W G M d cb sb (pc + 3) ls (st) h Q X) : jd_W G M d cb sb pc ls (.ref x :: st) h Q X := by
  intro p l e R s m args below meth c H locs cells slots la C h1 h2 hP hS hl
  exact lv_ifnull C.1 C.2.1 dc (k p l e R s m args below meth c H locs cells slots la C h1 h2 hP hS hl)
theorem jd_ifnonnullN {off : Int} (dc : decode M.2.2.1 pc = .ok (.ifnonnull off, 3)) (k : jd_W G M d cb sb (pc + 3) ls (st) h Q X) : jd_W G M d cb sb pc ls (.null :: st) h Q X := by
  intro p l e R s m args below meth c H locs cells slots la C h1 h2 hP hS hl
  exact lv_ifnonnullN C.1 C.2.1 dc (k p l e R s m args below meth c H locs cells slots la C h1 h2 hP hS hl)
theorem jd_goto  {off : Int} {tgt : Nat} (dc : decode M.2.2.1 pc = .ok (.goto off, 3)) (ht : (pc : Int) + off = (tgt : Int)) (k : jd_W G M d cb sb tgt ls st h Q X) : jd_W G M d cb sb pc ls (st) h Q X := by
  intro p l e R s m args below meth c H locs cells slots la C h1 h2 hP hS hl
  exact lv_goto C.1 C.2.1 dc ht (k p l e R s m args below meth c H locs cells slots la C h1 h2 hP hS hl)
theorem jd_ifnullN  {off : Int} {tgt : Nat} (dc : decode M.2.2.1 pc = .ok (.ifnull off, 3)) (ht : (pc : Int) + off = (tgt : Int)) (k : jd_W G M d cb sb tgt ls st h Q X) : jd_W G M d cb sb pc ls (.null :: st) h Q X := by
  intro p l e R s m args below meth c H locs cells slots la C h1 h2 hP hS hl
  exact lv_ifnullN C.1 C.2.1 dc ht (k p l e R s m args below meth c H locs cells slots la C h1 h2 hP hS hl)
theorem jd_ifnonnull {x : Nat} {off : Int} {tgt : Nat} (dc : decode M.2.2.1 pc = .ok (.ifnonnull off, 3)) (ht : (pc : Int) + off = (tgt : Int)) (k : jd_W G M d cb sb tgt ls st h Q X) : jd_W G M d cb sb pc ls (.ref x :: st) h Q X := by
  intro p l e R s m args below meth c H locs cells slots la C h1 h2 hP hS hl
  exact lv_ifnonnull C.1 C.2.1 dc ht (k p l e R s m args below meth c H locs cells slots la C h1 h2 hP hS hl)
theorem jd_if_eq {x : Int32} {off : Int} {tgt : Nat} (dc : decode M.2.2.1 pc = .ok (.ifCond .eq off, 3)) (ht : (pc : Int) + off = (tgt : Int)) (kt : x = 0 → jd_W G M d cb sb tgt ls st h Q X) (kf : ¬ x = 0 → jd_W G M d cb sb (pc + 3) ls st h Q X) : jd_W G M d cb sb pc ls (.int x :: st) h Q X := by
  intro p l e R s m args below meth c H locs cells slots la C h1 h2 hP hS hl
  exact lv_if_eq C.1 C.2.1 dc ht (fun z => kt z p l e R s m args below meth c H locs cells slots la C h1 h2 hP hS hl) (fun z => kf z p l e R s m args below meth c H locs cells slots la C h1 h2 hP hS hl)
theorem jd_icmp_eq {x y : Int32} {off : Int} {tgt : Nat} (dc : decode M.2.2.1 pc = .ok (.if_icmp .eq off, 3)) (ht : (pc : Int) + off = (tgt : Int)) (kt : x = y → jd_W G M d cb sb tgt ls st h Q X) (kf : ¬ x = y → jd_W G M d cb sb (pc + 3) ls st h Q X) : jd_W G M d cb sb pc ls (.int y :: .int x :: st) h Q X := by
  intro p l e R s m args below meth c H locs cells slots la C h1 h2 hP hS hl
  exact lv_icmp_eq C.1 C.2.1 dc ht (fun z => kt z p l e R s m args below meth c H locs cells slots la C h1 h2 hP hS hl) (fun z => kf z p l e R s m args below meth c H locs cells slots la C h1 h2 hP hS hl)
theorem jd_if_ne {x : Int32} {off : Int} {tgt : Nat} (dc : decode M.2.2.1 pc = .ok (.ifCond .ne off, 3)) (ht : (pc : Int) + off = (tgt : Int)) (kt : ¬ x = 0 → jd_W G M d cb sb tgt ls st h Q X) (kf : x = 0 → jd_W G M d cb sb (pc + 3) ls st h Q X) : jd_W G M d cb sb pc ls (.int x :: st) h Q X := by
  intro p l e R s m args below meth c H locs cells slots la C h1 h2 hP hS hl
  exact lv_if_ne C.1 C.2.1 dc ht (fun z => kt z p l e R s m args below meth c H locs cells slots la C h1 h2 hP hS hl) (fun z => kf z p l e R s m args below meth c H locs cells slots la C h1 h2 hP hS hl)
theorem jd_icmp_ne {x y : Int32} {off : Int} {tgt : Nat} (dc : decode M.2.2.1 pc = .ok (.if_icmp .ne off, 3)) (ht : (pc : Int) + off = (tgt : Int)) (kt : ¬ x = y → jd_W G M d cb sb tgt ls st h Q X) (kf : x = y → jd_W G M d cb sb (pc + 3) ls st h Q X) : jd_W G M d cb sb pc ls (.int y :: .int x :: st) h Q X := by
  intro p l e R s m args below meth c H locs cells slots la C h1 h2 hP hS hl
  exact lv_icmp_ne C.1 C.2.1 dc ht (fun z => kt z p l e R s m args below meth c H locs cells slots la C h1 h2 hP hS hl) (fun z => kf z p l e R s m args below meth c H locs cells slots la C h1 h2 hP hS hl)
theorem jd_if_lt {x : Int32} {off : Int} {tgt : Nat} (dc : decode M.2.2.1 pc = .ok (.ifCond .lt off, 3)) (ht : (pc : Int) + off = (tgt : Int)) (kt : x < 0 → jd_W G M d cb sb tgt ls st h Q X) (kf : ¬ x < 0 → jd_W G M d cb sb (pc + 3) ls st h Q X) : jd_W G M d cb sb pc ls (.int x :: st) h Q X := by
  intro p l e R s m args below meth c H locs cells slots la C h1 h2 hP hS hl
  exact lv_if_lt C.1 C.2.1 dc ht (fun z => kt z p l e R s m args below meth c H locs cells slots la C h1 h2 hP hS hl) (fun z => kf z p l e R s m args below meth c H locs cells slots la C h1 h2 hP hS hl)
theorem jd_icmp_lt {x y : Int32} {off : Int} {tgt : Nat} (dc : decode M.2.2.1 pc = .ok (.if_icmp .lt off, 3)) (ht : (pc : Int) + off = (tgt : Int)) (kt : x < y → jd_W G M d cb sb tgt ls st h Q X) (kf : ¬ x < y → jd_W G M d cb sb (pc + 3) ls st h Q X) : jd_W G M d cb sb pc ls (.int y :: .int x :: st) h Q X := by
  intro p l e R s m args below meth c H locs cells slots la C h1 h2 hP hS hl
  exact lv_icmp_lt C.1 C.2.1 dc ht (fun z => kt z p l e R s m args below meth c H locs cells slots la C h1 h2 hP hS hl) (fun z => kf z p l e R s m args below meth c H locs cells slots la C h1 h2 hP hS hl)
theorem jd_if_ge {x : Int32} {off : Int} {tgt : Nat} (dc : decode M.2.2.1 pc = .ok (.ifCond .ge off, 3)) (ht : (pc : Int) + off = (tgt : Int)) (kt : 0 ≤ x → jd_W G M d cb sb tgt ls st h Q X) (kf : ¬ 0 ≤ x → jd_W G M d cb sb (pc + 3) ls st h Q X) : jd_W G M d cb sb pc ls (.int x :: st) h Q X := by
  intro p l e R s m args below meth c H locs cells slots la C h1 h2 hP hS hl
  exact lv_if_ge C.1 C.2.1 dc ht (fun z => kt z p l e R s m args below meth c H locs cells slots la C h1 h2 hP hS hl) (fun z => kf z p l e R s m args below meth c H locs cells slots la C h1 h2 hP hS hl)
theorem jd_icmp_ge {x y : Int32} {off : Int} {tgt : Nat} (dc : decode M.2.2.1 pc = .ok (.if_icmp .ge off, 3)) (ht : (pc : Int) + off = (tgt : Int)) (kt : y ≤ x → jd_W G M d cb sb tgt ls st h Q X) (kf : ¬ y ≤ x → jd_W G M d cb sb (pc + 3) ls st h Q X) : jd_W G M d cb sb pc ls (.int y :: .int x :: st) h Q X := by
  intro p l e R s m args below meth c H locs cells slots la C h1 h2 hP hS hl
  exact lv_icmp_ge C.1 C.2.1 dc ht (fun z => kt z p l e R s m args below meth c H locs cells slots la C h1 h2 hP hS hl) (fun z => kf z p l e R s m args below meth c H locs cells slots la C h1 h2 hP hS hl)
theorem jd_if_gt {x : Int32} {off : Int} {tgt : Nat} (dc : decode M.2.2.1 pc = .ok (.ifCond .gt off, 3)) (ht : (pc : Int) + off = (tgt : Int)) (kt : 0 < x → jd_W G M d cb sb tgt ls st h Q X) (kf : ¬ 0 < x → jd_W G M d cb sb (pc + 3) ls st h Q X) : jd_W G M d cb sb pc ls (.int x :: st) h Q X := by
  intro p l e R s m args below meth c H locs cells slots la C h1 h2 hP hS hl
  exact lv_if_gt C.1 C.2.1 dc ht (fun z => kt z p l e R s m args below meth c H locs cells slots la C h1 h2 hP hS hl) (fun z => kf z p l e R s m args below meth c H locs cells slots la C h1 h2 hP hS hl)
theorem jd_icmp_gt {x y : Int32} {off : Int} {tgt : Nat} (dc : decode M.2.2.1 pc = .ok (.if_icmp .gt off, 3)) (ht : (pc : Int) + off = (tgt : Int)) (kt : y < x → jd_W G M d cb sb tgt ls st h Q X) (kf : ¬ y < x → jd_W G M d cb sb (pc + 3) ls st h Q X) : jd_W G M d cb sb pc ls (.int y :: .int x :: st) h Q X := by
  intro p l e R s m args below meth c H locs cells slots la C h1 h2 hP hS hl
  exact lv_icmp_gt C.1 C.2.1 dc ht (fun z => kt z p l e R s m args below meth c H locs cells slots la C h1 h2 hP hS hl) (fun z => kf z p l e R s m args below meth c H locs cells slots la C h1 h2 hP hS hl)
theorem jd_if_le {x : Int32} {off : Int} {tgt : Nat} (dc : decode M.2.2.1 pc = .ok (.ifCond .le off, 3)) (ht : (pc : Int) + off = (tgt : Int)) (kt : x ≤ 0 → jd_W G M d cb sb tgt ls st h Q X) (kf : ¬ x ≤ 0 → jd_W G M d cb sb (pc + 3) ls st h Q X) : jd_W G M d cb sb pc ls (.int x :: st) h Q X := by
  intro p l e R s m args below meth c H locs cells slots la C h1 h2 hP hS hl
  exact lv_if_le C.1 C.2.1 dc ht (fun z => kt z p l e R s m args below meth c H locs cells slots la C h1 h2 hP hS hl) (fun z => kf z p l e R s m args below meth c H locs cells slots la C h1 h2 hP hS hl)
theorem jd_icmp_le {x y : Int32} {off : Int} {tgt : Nat} (dc : decode M.2.2.1 pc = .ok (.if_icmp .le off, 3)) (ht : (pc : Int) + off = (tgt : Int)) (kt : x ≤ y → jd_W G M d cb sb tgt ls st h Q X) (kf : ¬ x ≤ y → jd_W G M d cb sb (pc + 3) ls st h Q X) : jd_W G M d cb sb pc ls (.int y :: .int x :: st) h Q X := by
  intro p l e R s m args below meth c H locs cells slots la C h1 h2 hP hS hl
  exact lv_icmp_le C.1 C.2.1 dc ht (fun z => kt z p l e R s m args below meth c H locs cells slots la C h1 h2 hP hS hl) (fun z => kf z p l e R s m args below meth c H locs cells slots la C h1 h2 hP hS hl)
theorem jd_ncmp_eq {a b : Nat} {off : Int} {tgt : Nat} (dc : decode M.2.2.1 pc = .ok (.if_icmp .eq off, 3)) (ht : (pc : Int) + off = (tgt : Int)) (ha : a < 2 ^ 31) (hb : b < 2 ^ 31) (kt : a = b → jd_W G M d cb sb tgt ls st h Q X) (kf : a ≠ b → jd_W G M d cb sb (pc + 3) ls st h Q X) : jd_W G M d cb sb pc ls (.int (nI b) :: .int (nI a) :: st) h Q X :=
  jd_icmp_eq dc ht (fun z => kt ((nI_eq ha hb).mp z)) (fun z => kf (fun w => z ((nI_eq ha hb).mpr w)))
theorem jd_ncmp_ne {a b : Nat} {off : Int} {tgt : Nat} (dc : decode M.2.2.1 pc = .ok (.if_icmp .ne off, 3)) (ht : (pc : Int) + off = (tgt : Int)) (ha : a < 2 ^ 31) (hb : b < 2 ^ 31) (kt : a ≠ b → jd_W G M d cb sb tgt ls st h Q X) (kf : a = b → jd_W G M d cb sb (pc + 3) ls st h Q X) : jd_W G M d cb sb pc ls (.int (nI b) :: .int (nI a) :: st) h Q X :=
  jd_icmp_ne dc ht (fun z => kt (fun w => z ((nI_eq ha hb).mpr w))) (fun z => kf ((nI_eq ha hb).mp z))
theorem jd_ncmp_lt {a b : Nat} {off : Int} {tgt : Nat} (dc : decode M.2.2.1 pc = .ok (.if_icmp .lt off, 3)) (ht : (pc : Int) + off = (tgt : Int)) (ha : a < 2 ^ 31) (hb : b < 2 ^ 31) (kt : a < b → jd_W G M d cb sb tgt ls st h Q X) (kf : b ≤ a → jd_W G M d cb sb (pc + 3) ls st h Q X) : jd_W G M d cb sb pc ls (.int (nI b) :: .int (nI a) :: st) h Q X :=
  jd_icmp_lt dc ht (fun z => kt ((nI_ltI ha hb).mp z)) (fun z => kf (Nat.le_of_not_lt (fun w => z ((nI_ltI ha hb).mpr w))))
theorem jd_ncmp_ge {a b : Nat} {off : Int} {tgt : Nat} (dc : decode M.2.2.1 pc = .ok (.if_icmp .ge off, 3)) (ht : (pc : Int) + off = (tgt : Int)) (ha : a < 2 ^ 31) (hb : b < 2 ^ 31) (kt : b ≤ a → jd_W G M d cb sb tgt ls st h Q X) (kf : a < b → jd_W G M d cb sb (pc + 3) ls st h Q X) : jd_W G M d cb sb pc ls (.int (nI b) :: .int (nI a) :: st) h Q X :=
  jd_icmp_ge dc ht (fun z => kt ((nI_leI hb ha).mp z)) (fun z => kf (Nat.lt_of_not_le (fun w => z ((nI_leI hb ha).mpr w))))
theorem jd_ncmp_gt {a b : Nat} {off : Int} {tgt : Nat} (dc : decode M.2.2.1 pc = .ok (.if_icmp .gt off, 3)) (ht : (pc : Int) + off = (tgt : Int)) (ha : a < 2 ^ 31) (hb : b < 2 ^ 31) (kt : b < a → jd_W G M d cb sb tgt ls st h Q X) (kf : a ≤ b → jd_W G M d cb sb (pc + 3) ls st h Q X) : jd_W G M d cb sb pc ls (.int (nI b) :: .int (nI a) :: st) h Q X :=
  jd_icmp_gt dc ht (fun z => kt ((nI_ltI hb ha).mp z)) (fun z => kf (Nat.le_of_not_lt (fun w => z ((nI_ltI hb ha).mpr w))))
theorem jd_ncmp_le {a b : Nat} {off : Int} {tgt : Nat} (dc : decode M.2.2.1 pc = .ok (.if_icmp .le off, 3)) (ht : (pc : Int) + off = (tgt : Int)) (ha : a < 2 ^ 31) (hb : b < 2 ^ 31) (kt : a ≤ b → jd_W G M d cb sb tgt ls st h Q X) (kf : b < a → jd_W G M d cb sb (pc + 3) ls st h Q X) : jd_W G M d cb sb pc ls (.int (nI b) :: .int (nI a) :: st) h Q X :=
  jd_icmp_le dc ht (fun z => kt ((nI_leI ha hb).mp z)) (fun z => kf (Nat.lt_of_not_le (fun w => z ((nI_leI ha hb).mpr w))))
theorem jd_acmp_eq {a b : Nat} {off : Int} {tgt : Nat} (dc : decode M.2.2.1 pc = .ok (.if_acmp .eq off, 3)) (ht : (pc : Int) + off = (tgt : Int)) (kt : a = b → jd_W G M d cb sb tgt ls st h Q X) (kf : ¬ a = b → jd_W G M d cb sb (pc + 3) ls st h Q X) : jd_W G M d cb sb pc ls (.ref b :: .ref a :: st) h Q X := by
  intro p l e R s m args below meth c H locs cells slots la C h1 h2 hP hS hl
  exact lv_acmp_eq (rx := some a) (ry := some b) C.1 C.2.1 dc ht (fun z => kt (by simpa using z) p l e R s m args below meth c H locs cells slots la C h1 h2 hP hS hl) (fun z => kf (by simpa using z) p l e R s m args below meth c H locs cells slots la C h1 h2 hP hS hl)
theorem jd_acmp_ne {a b : Nat} {off : Int} {tgt : Nat} (dc : decode M.2.2.1 pc = .ok (.if_acmp .ne off, 3)) (ht : (pc : Int) + off = (tgt : Int)) (kt : ¬ a = b → jd_W G M d cb sb tgt ls st h Q X) (kf : a = b → jd_W G M d cb sb (pc + 3) ls st h Q X) : jd_W G M d cb sb pc ls (.ref b :: .ref a :: st) h Q X := by
  intro p l e R s m args below meth c H locs cells slots la C h1 h2 hP hS hl
  exact lv_acmp_ne (rx := some a) (ry := some b) C.1 C.2.1 dc ht (fun z => kt (by simpa using z) p l e R s m args below meth c H locs cells slots la C h1 h2 hP hS hl) (fun z => kf (by simpa using z) p l e R s m args below meth c H locs cells slots la C h1 h2 hP hS hl)
theorem jd_tableOut {dflt lo hi : Int} {offs : Array Int} {len : Nat} {x : Int32} {tgt : Nat} (dc : decode M.2.2.1 pc = .ok (.tableswitch dflt lo hi offs, len)) (hx : x.toInt < lo ∨ hi < x.toInt) (ht : (pc : Int) + dflt = (tgt : Int)) (k : jd_W G M d cb sb tgt ls st h Q X) : jd_W G M d cb sb pc ls (.int x :: st) h Q X := by
  intro p l e R s m args below meth c H locs cells slots la C h1 h2 hP hS hl
  exact lv_tableOut C.1 C.2.1 dc hx ht (k p l e R s m args below meth c H locs cells slots la C h1 h2 hP hS hl)
theorem jd_tableIn {dflt lo hi : Int} {offs : Array Int} {len : Nat} {x : Int32} {off : Int} {tgt : Nat} (dc : decode M.2.2.1 pc = .ok (.tableswitch dflt lo hi offs, len)) (hx1 : ¬ x.toInt < lo) (hx2 : ¬ hi < x.toInt) (ho : offs[(x.toInt - lo).toNat]? = some off) (ht : (pc : Int) + off = (tgt : Int)) (k : jd_W G M d cb sb tgt ls st h Q X) : jd_W G M d cb sb pc ls (.int x :: st) h Q X := by
  intro p l e R s m args below meth c H locs cells slots la C h1 h2 hP hS hl
  exact lv_tableIn C.1 C.2.1 dc hx1 hx2 ho ht (k p l e R s m args below meth c H locs cells slots la C h1 h2 hP hS hl)
theorem jd_ldcw {index : Nat} {v : Int32} (qc : Cond.constant M.1 index v ∈ lw_all) (dc : decode M.2.2.1 pc = .ok (.ldc_w index, 3)) (k : jd_W G M d cb sb (pc + 3) ls (.int v :: st) h Q X) : jd_W G M d cb sb pc ls st h Q X := by
  intro p l e R s m args below meth c H locs cells slots la C h1 h2 hP hS hl
  exact lv_ldcw C.1 C.2.1 C.2.2.2.2.2.2.1 (C.2.2.2.2.2.2.2.1 _ qc) dc (k p l e R s m args below meth c H locs cells slots la C h1 h2 hP hS hl)
theorem jd_ldc {index : Nat} {v : Int32} (qc : Cond.constant M.1 index v ∈ lw_all) (dc : decode M.2.2.1 pc = .ok (.ldc index, 2)) (k : jd_W G M d cb sb (pc + 2) ls (.int v :: st) h Q X) : jd_W G M d cb sb pc ls st h Q X := by
  intro p l e R s m args below meth c H locs cells slots la C h1 h2 hP hS hl
  exact lv_ldc C.1 C.2.1 C.2.2.2.2.2.2.1 (C.2.2.2.2.2.2.2.1 _ qc) dc (k p l e R s m args below meth c H locs cells slots la C h1 h2 hP hS hl)
theorem jd_ldc2 {index : Nat} {v : Int64} (qc : Cond.constantLong M.1 index v ∈ lw_all) (dc : decode M.2.2.1 pc = .ok (.ldc2_w index, 3)) (k : jd_W G M d cb sb (pc + 3) ls (.long v :: st) h Q X) : jd_W G M d cb sb pc ls st h Q X := by
  intro p l e R s m args below meth c H locs cells slots la C h1 h2 hP hS hl
  exact lv_ldc2 C.1 C.2.1 C.2.2.2.2.2.2.1 (C.2.2.2.2.2.2.2.1 _ qc) dc (k p l e R s m args below meth c H locs cells slots la C h1 h2 hP hS hl)
theorem jd_iret {v : Int32} (dc : decode M.2.2.1 pc = .ok (.ireturn, 1)) (hr : M.2.2.2.2.1 = some .int) (hq : Q (some (.int v)) h) : jd_W G M d cb sb pc ls [.int v] h Q X := by
  intro p l e R s m args below meth c H locs cells slots la C h1 h2 hP hS hl
  refine W.widen (k := R.cells) (n := R.slots) (by omega) (by omega) (vx_ret ?_)
  exact W.iret C.1 C.2.1 (C.2.2.2.1.trans hr) (fun t ht hW => ⟨_, h, rfl, hq, by rw [ht]; exact hP, hS.F ht⟩) hS.2.2 dc C.2.2.2.2.1
theorem jd_zret {v : Int32} (dc : decode M.2.2.1 pc = .ok (.ireturn, 1)) (hr : M.2.2.2.2.1 = some .boolean) (hv : v = 0 ∨ v = 1) (hq : Q (some (.int v)) h) : jd_W G M d cb sb pc ls [.int v] h Q X := by
  intro p l e R s m args below meth c H locs cells slots la C h1 h2 hP hS hl
  refine W.widen (k := R.cells) (n := R.slots) (by omega) (by omega) (vx_ret ?_)
  exact W.zret C.1 C.2.1 (C.2.2.2.1.trans hr) (by rcases hv with e | e <;> (subst e; rfl)) (fun t ht hW => ⟨_, h, rfl, hq, by rw [ht]; exact hP, hS.F ht⟩) hS.2.2 dc C.2.2.2.2.1
theorem jd_lret {v : Int64} (dc : decode M.2.2.1 pc = .ok (.lreturn, 1)) (hr : M.2.2.2.2.1 = some .long) (hq : Q (some (.long v)) h) : jd_W G M d cb sb pc ls [.long v] h Q X := by
  intro p l e R s m args below meth c H locs cells slots la C h1 h2 hP hS hl
  refine W.widen (k := R.cells) (n := R.slots) (by omega) (by omega) (vx_ret ?_)
  exact W.lret C.1 C.2.1 (C.2.2.2.1.trans hr) (fun t ht hW => ⟨_, h, rfl, hq, by rw [ht]; exact hP, hS.F ht⟩) hS.2.2 dc C.2.2.2.2.1
theorem jd_vret (dc : decode M.2.2.1 pc = .ok (.return_, 1)) (hr : M.2.2.2.2.1 = none) (hq : Q none h) : jd_W G M d cb sb pc ls [] h Q X := by
  intro p l e R s m args below meth c H locs cells slots la C h1 h2 hP hS hl
  refine W.widen (k := R.cells) (n := R.slots) (by omega) (by omega) (vx_ret ?_)
  exact W.vret C.1 C.2.1 (C.2.2.2.1.trans hr) (fun t ht hW => ⟨_, h, rfl, hq, by rw [ht]; exact hP, hS.F ht⟩) hS.2.2 dc C.2.2.2.2.1
end JR
