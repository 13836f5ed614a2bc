/-! ===== jd: a pure heap over the machine ===== -/
abbrev jd_Id : Type := Nat × Nat
abbrev jd_E : Type := va_E ⊕ (Int32 × Nat × (Nat → Nat))
abbrev jd_H : Type := jd_Id → Option (Nat × jd_E)
abbrev jd_C : Type := jd_Id × Bool → Option (Nat × va_E)
/-- classes' numbers and places of fields; classes of arrays; the first address that may be written; constants -/
abbrev jd_G : Type := va_G × (Nat → ClassId) × Nat × (Nat → Nat)
/-- a method: its class, name, code, locals, answer, handlers -/
abbrev jd_M : Type := String × MethodName × ByteArray × Nat × Option FieldType × List (Nat × Nat × Nat × Nat)
abbrev jd_cl : List vw_C := [(RX1, TX1, 9), (RX2, TX2, 2), (RX3, TX3, 6), (RX7, TX7, 8), (RX9, TX9, 8), (RX11, TX11, 7), (RX13, TX13, 3), (RX14, TX14, 3), (RX15, TX15, 1), (RX4, TX4, 13), (RX5, TX5, 6), (RX8, TX8, 8), (RX10, TX10, 9), (RX12, TX12, 6), (RX6, TX6, 2), (RJ2, TJ2, 3), (RJ24, TJ24, 4), (RJ17, TJ17, 1), (RJ21, TJ21, 4), (RJ11, TJ11, 4), (RJ19, TJ19, 1)]
abbrev jd_tys (G : jd_G) : List (ClassId × FieldType) := [(G.2.1 0, .int), (G.2.1 1, .boolean), (G.2.1 2, .byte), (G.2.1 3, .object "java/lang/Object"), (G.2.1 4, .array .int), (G.2.1 5, .object "LullabygateModel$Land")]
def jd_A (G : jd_G) : Nat → Prop := fun q => G.2.2.1 ≤ q
def jd_up (h : jd_H) (i : jd_Id) (x : Nat × jd_E) : jd_H := fun j => if j = i then some x else h j
def jd_rm (h : jd_H) (i : jd_Id) : jd_H := fun j => if j = i then none else h j
theorem jd_up_s {h : jd_H} {i : jd_Id} {x : Nat × jd_E} : jd_up h i x i = some x := if_pos rfl
theorem jd_up_n {h : jd_H} {i j : jd_Id} {x : Nat × jd_E} (hn : j ≠ i) : jd_up h i x j = h j := if_neg hn
theorem jd_rm_s {h : jd_H} {i : jd_Id} : jd_rm h i i = none := if_pos rfl
theorem jd_rm_n {h : jd_H} {i j : jd_Id} (hn : j ≠ i) : jd_rm h i j = h j := if_neg hn
theorem jd_up_up {h : jd_H} {i : jd_Id} {x y : Nat × jd_E} : jd_up (jd_up h i x) i y = jd_up h i y := by
  funext j; unfold jd_up; split <;> rfl
theorem jd_up_cm {h : jd_H} {i j : jd_Id} {x y : Nat × jd_E} (hn : i ≠ j) : jd_up (jd_up h i x) j y = jd_up (jd_up h j y) i x := by
  funext k; unfold jd_up; split
  · next e => rw [e, if_neg (Ne.symm hn)]
  · rfl
theorem jd_up_id {h : jd_H} {i : jd_Id} {x : Nat × jd_E} (hi : h i = some x) : jd_up h i x = h := by
  funext j; unfold jd_up; split
  · next e => rw [e, hi]
  · rfl
/-- the cells of the machine -/
def jd_Hc (G : jd_G) (c : jd_C) (H : Heap) : Prop :=
  (∀ i a v, c i = some (a, v) → G.2.2.1 ≤ a ∧ va_at G.1 jd_cl (a, v) H) ∧
  (∀ i j a v w, c i = some (a, v) → c j = some (a, w) → i = j) ∧
  (∀ x a v, c ((0, x), false) = some (a, v) → a = x)
/-- a list: its object and its array -/
def jd_Ls (G : jd_G) (c : jd_C) (i : jd_Id) (a : Nat) (x : Int32 × Nat × (Nat → Nat)) : Prop :=
  ∃ (b cap : Nat) (g : Nat → Option Nat), c (i, false) = some (a, .inr (15, [.int x.1, .ref b, .int (nI x.2.1)])) ∧ x.2.1 ≤ cap ∧ cap ≤ 1000 ∧ (∀ k, k < x.2.1 → g k = some (x.2.2 k)) ∧ ((cap = 0 ∧ b = G.2.2.2 0) ∨ (cap ≠ 0 ∧ c (i, true) = some (b, .inl (G.2.1 3, cap, .inr (.inr (.inr (.inr g)))))))
def jd_Rp (G : jd_G) (h : jd_H) (c : jd_C) : Prop := ∀ i a e, h i = some (a, e) → match e with
  | .inl v => c (i, false) = some (a, v)
  | .inr x => jd_Ls G c i a x
def jd_Hp (G : jd_G) (h : jd_H) (H : Heap) : Prop := ∃ c, jd_Hc G c H ∧ jd_Rp G h c
theorem jd_Hp.at {G : jd_G} {h : jd_H} {H : Heap} (hP : jd_Hp G h H) {i : jd_Id} {a : Nat} {v : va_E} (hi : h i = some (a, .inl v)) : va_at G.1 jd_cl (a, v) H := by
  obtain ⟨c, h1, h2⟩ := hP
  exact (h1.1 _ _ _ (h2 i a _ hi)).2
theorem jd_Hp.lo {G : jd_G} {h : jd_H} {H : Heap} (hP : jd_Hp G h H) {i : jd_Id} {a : Nat} {e : jd_E} (hi : h i = some (a, e)) : G.2.2.1 ≤ a := by
  obtain ⟨c, h1, h2⟩ := hP
  cases e with
  | inl v => exact (h1.1 _ _ _ (h2 i a _ hi)).1
  | inr x => obtain ⟨b, cap, g, e1, -⟩ := h2 i a _ hi; exact (h1.1 _ _ _ e1).1
/-- the object behind any entry -/
theorem jd_Hp.main {G : jd_G} {h : jd_H} {c : jd_C} (hR : jd_Rp G h c) {i : jd_Id} {a : Nat} {e : jd_E} (hi : h i = some (a, e)) : ∃ v, c (i, false) = some (a, v) := by
  cases e with
  | inl v => exact ⟨v, hR i a _ hi⟩
  | inr x => obtain ⟨b, cap, g, e1, -⟩ := hR i a _ hi; exact ⟨_, e1⟩
theorem jd_Hp.inj {G : jd_G} {h : jd_H} {H : Heap} (hP : jd_Hp G h H) {i j : jd_Id} {a : Nat} {e f : jd_E} (hi : h i = some (a, e)) (hj : h j = some (a, f)) : i = j := by
  obtain ⟨c, h1, h2⟩ := hP
  obtain ⟨v, e1⟩ := jd_Hp.main h2 hi
  obtain ⟨w, e2⟩ := jd_Hp.main h2 hj
  have := h1.2.1 _ _ _ _ _ e1 e2
  exact congrArg Prod.fst this
theorem jd_Hp.lt {G : jd_G} {h : jd_H} {H : Heap} (hP : jd_Hp G h H) {i : jd_Id} {a : Nat} {e : jd_E} (hi : h i = some (a, e)) : a < H.size := by
  obtain ⟨c, h1, h2⟩ := hP
  obtain ⟨v, e1⟩ := jd_Hp.main h2 hi
  exact (h1.1 _ _ _ e1).2.lt
/-- one cell is written -/
theorem jd_Hp.wr {G : jd_G} {h : jd_H} {H H1 : Heap} (hP : jd_Hp G h H) {i : jd_Id} {a : Nat} {v w : va_E} (hi : h i = some (a, .inl v)) (ha : va_at G.1 jd_cl (a, w) H1) (ho : ∀ q : Nat, q ≠ a → H1[q]? = H[q]?) : jd_Hp G (jd_up h i (a, .inl w)) H1 := by
  obtain ⟨c, ⟨h1, h2, h3⟩, hR⟩ := hP
  have hc := hR i a _ hi
  refine ⟨fun j => if j = (i, false) then some (a, w) else c j, ⟨?_, ?_, ?_⟩, ?_⟩
  · intro j b u hj
    by_cases e : j = (i, false)
    · simp only [e, if_true, Option.some.injEq, Prod.mk.injEq] at hj
      obtain ⟨rfl, rfl⟩ := hj
      exact ⟨(h1 _ _ _ hc).1, ha⟩
    · simp only [e, if_false] at hj
      refine ⟨(h1 _ _ _ hj).1, (h1 _ _ _ hj).2.kept (ho b (fun z => e ?_))⟩
      subst z
      exact h2 _ _ _ _ _ hj hc
  · intro j k b u u' hj hk
    have aux : ∀ j b u, (if j = (i, false) then some (a, w) else c j) = some (b, u) → ∃ u0, c j = some (b, u0) := by
      intro j b u hj
      by_cases e : j = (i, false)
      · simp only [e, if_true, Option.some.injEq, Prod.mk.injEq] at hj
        obtain ⟨rfl, rfl⟩ := hj
        rw [e]
        exact ⟨_, hc⟩
      · simp only [e, if_false] at hj
        exact ⟨_, hj⟩
    obtain ⟨_, e1⟩ := aux j b u hj
    obtain ⟨_, e2⟩ := aux k b u' hk
    exact h2 _ _ _ _ _ e1 e2
  · intro x b u hj
    by_cases e : ((0, x), false) = (i, false)
    · simp only [e, if_true, Option.some.injEq, Prod.mk.injEq] at hj
      obtain ⟨rfl, rfl⟩ := hj
      rw [← e] at hc
      exact h3 _ _ _ hc
    · simp only [e, if_false] at hj
      exact h3 _ _ _ hj
  · intro j b e hj
    by_cases eq : j = i
    · subst eq
      rw [jd_up_s] at hj
      cases hj
      exact if_pos rfl
    · rw [jd_up_n eq] at hj
      have h5 := hR j b e hj
      have ne1 : (j, false) ≠ (i, false) := fun z => eq (congrArg Prod.fst z)
      have ne2 : (j, true) ≠ (i, false) := fun z => by cases z
      cases e with
      | inl v' => show (if (j, false) = (i, false) then _ else _) = _; rw [if_neg ne1]; exact h5
      | inr x =>
        obtain ⟨b', cap, g, e1, e2, e3, e4, e5⟩ := h5
        refine ⟨b', cap, g, ?_, e2, e3, e4, ?_⟩
        · show (if (j, false) = (i, false) then _ else _) = _; rw [if_neg ne1]; exact e1
        · rcases e5 with e5 | ⟨e5, e6⟩
          · exact Or.inl e5
          · refine Or.inr ⟨e5, ?_⟩
            show (if (j, true) = (i, false) then _ else _) = _; rw [if_neg ne2]; exact e6
/-- the heap has grown, all old cells are as they were -/
theorem jd_Hp.kept {G : jd_G} {h : jd_H} {H H1 : Heap} (hP : jd_Hp G h H) (ho : ∀ q : Nat, q < H.size → H1[q]? = H[q]?) : jd_Hp G h H1 := by
  obtain ⟨c, ⟨h1, h2, h3⟩, hR⟩ := hP
  exact ⟨c, ⟨fun i a v hi => ⟨(h1 i a v hi).1, (h1 i a v hi).2.kept (ho _ (h1 i a v hi).2.lt)⟩, h2, h3⟩, hR⟩
/-- a new cell -/
theorem jd_Hp.nw {G : jd_G} {h : jd_H} {H H1 : Heap} (hP : jd_Hp G h H) {w : va_E} (hlo : G.2.2.1 ≤ H.size) (ha : va_at G.1 jd_cl (H.size, w) H1) (ho : ∀ q : Nat, q < H.size → H1[q]? = H[q]?) : h (0, H.size) = none ∧ jd_Hp G (jd_up h (0, H.size) (H.size, .inl w)) H1 := by
  have hfresh : h (0, H.size) = none := by
    cases hh : h (0, H.size) with
    | none => rfl
    | some y =>
      obtain ⟨a, e⟩ := y
      exfalso
      have hl := hP.lt hh
      obtain ⟨c, ⟨h1, h2, h3⟩, hR⟩ := hP
      obtain ⟨v, e1⟩ := jd_Hp.main hR hh
      have := h3 _ _ _ e1
      omega
  refine ⟨hfresh, ?_⟩
  obtain ⟨c, ⟨h1, h2, h3⟩, hR⟩ := hP
  have hnone : c ((0, H.size), false) = none := by
    cases hh : c ((0, H.size), false) with
    | none => rfl
    | some y =>
      obtain ⟨a, e⟩ := y
      exfalso
      have hl := (h1 _ _ _ hh).2.lt
      have := h3 _ _ _ hh
      simp only at hl
      omega
  refine ⟨fun j => if j = ((0, H.size), false) then some (H.size, w) else c j, ⟨?_, ?_, ?_⟩, ?_⟩
  · intro j b u hj
    by_cases e : j = ((0, H.size), false)
    · simp only [e, if_true, Option.some.injEq, Prod.mk.injEq] at hj
      obtain ⟨rfl, rfl⟩ := hj
      exact ⟨hlo, ha⟩
    · simp only [e, if_false] at hj
      exact ⟨(h1 _ _ _ hj).1, (h1 _ _ _ hj).2.kept (ho b (h1 _ _ _ hj).2.lt)⟩
  · intro j k b u u' hj hk
    by_cases e : j = ((0, H.size), false)
    · by_cases e' : k = ((0, H.size), false)
      · rw [e, e']
      · simp only [e, if_true, Option.some.injEq, Prod.mk.injEq] at hj
        simp only [e', if_false] at hk
        obtain ⟨rfl, rfl⟩ := hj
        have := (h1 _ _ _ hk).2.lt
        simp only at this
        omega
    · simp only [e, if_false] at hj
      by_cases e' : k = ((0, H.size), false)
      · simp only [e', if_true, Option.some.injEq, Prod.mk.injEq] at hk
        obtain ⟨rfl, rfl⟩ := hk
        have := (h1 _ _ _ hj).2.lt
        simp only at this
        omega
      · simp only [e', if_false] at hk
        exact h2 _ _ _ _ _ hj hk
  · intro x b u hj
    by_cases e : ((0, x), false) = (((0, H.size), false) : jd_Id × Bool)
    · simp only [e, if_true, Option.some.injEq, Prod.mk.injEq] at hj
      obtain ⟨rfl, rfl⟩ := hj
      have := congrArg (fun z => z.1.2) e
      exact this.symm
    · simp only [e, if_false] at hj
      exact h3 _ _ _ hj
  · intro j b e hj
    by_cases eq : j = (0, H.size)
    · subst eq
      rw [jd_up_s] at hj
      cases hj
      exact if_pos rfl
    · rw [jd_up_n eq] at hj
      have h5 := hR j b e hj
      have ne1 : (j, false) ≠ ((0, H.size), false) := fun z => eq (congrArg Prod.fst z)
      have ne2 : (j, true) ≠ ((0, H.size), false) := fun z => by cases z
      cases e with
      | inl v' => show (if (j, false) = ((0, H.size), false) then _ else _) = _; rw [if_neg ne1]; exact h5
      | inr x =>
        obtain ⟨b', cap, g, e1, e2, e3, e4, e5⟩ := h5
        refine ⟨b', cap, g, ?_, e2, e3, e4, ?_⟩
        · show (if (j, false) = ((0, H.size), false) then _ else _) = _; rw [if_neg ne1]; exact e1
        · rcases e5 with e5 | ⟨e5, e6⟩
          · exact Or.inl e5
          · refine Or.inr ⟨e5, ?_⟩
            show (if (j, true) = ((0, H.size), false) then _ else _) = _; rw [if_neg ne2]; exact e6
/-- some entries are forgotten -/
theorem jd_Hp.drop {G : jd_G} {h h' : jd_H} {H : Heap} (hP : jd_Hp G h H) (hs : ∀ i x, h' i = some x → h i = some x) : jd_Hp G h' H := by
  obtain ⟨c, h1, hR⟩ := hP
  exact ⟨c, h1, fun i a e hi => hR i a e (hs i _ hi)⟩
def jd_mv (c : jd_C) (s t : jd_Id × Bool) : jd_C := fun k => if k = t then c s else if k = s then none else c k
theorem jd_Hc.mv {G : jd_G} {c : jd_C} {H : Heap} (hc : jd_Hc G c H) {s t : jd_Id × Bool} (h3' : ∀ a v x, c s = some (a, v) → t = ((0, x), false) → a = x) : jd_Hc G (jd_mv c s t) H := by
  obtain ⟨h1, h2, h3⟩ := hc
  have aux : ∀ j y, jd_mv c s t j = some y → ∃ k, c k = some y ∧ (j = t ∧ k = s ∨ j ≠ t ∧ j ≠ s ∧ k = j) := by
    intro j y hj
    unfold jd_mv at hj
    by_cases e : j = t
    · rw [if_pos e] at hj; exact ⟨s, hj, Or.inl ⟨e, rfl⟩⟩
    · rw [if_neg e] at hj
      by_cases e' : j = s
      · rw [if_pos e'] at hj; cases hj
      · rw [if_neg e'] at hj; exact ⟨j, hj, Or.inr ⟨e, e', rfl⟩⟩
  refine ⟨?_, ?_, ?_⟩
  · intro i a v hi
    obtain ⟨k, hk, -⟩ := aux i _ hi
    exact h1 _ _ _ hk
  · intro i j a v w hi hj
    obtain ⟨k, hk, ek⟩ := aux i _ hi
    obtain ⟨k', hk', ek'⟩ := aux j _ hj
    have e := h2 _ _ _ _ _ hk hk'
    rcases ek with ⟨e1, e2⟩ | ⟨e1, e2, e3⟩ <;> rcases ek' with ⟨f1, f2⟩ | ⟨f1, f2, f3⟩
    · rw [e1, f1]
    · exfalso; exact f2 (by rw [← f3, ← e, e2])
    · exfalso; exact e2 (by rw [← e3, e, f2])
    · rw [← e3, ← f3, e]
  · intro x a v hi
    obtain ⟨k, hk, ek⟩ := aux _ _ hi
    rcases ek with ⟨e1, e2⟩ | ⟨e1, e2, e3⟩
    · rw [e2] at hk; exact h3' a v x hk e1.symm
    · rw [e3] at hk; exact h3 _ _ _ hk
theorem jd_mv_t {c : jd_C} {s t : jd_Id × Bool} : jd_mv c s t t = c s := if_pos rfl
theorem jd_mv_o {c : jd_C} {s t k : jd_Id × Bool} (h1 : k ≠ t) (h2 : k ≠ s) : jd_mv c s t k = c k := by unfold jd_mv; rw [if_neg h1, if_neg h2]
theorem jd_pf {i j : jd_Id} {x y : Bool} (h : i ≠ j) : (i, x) ≠ (j, y) := fun z => h (congrArg Prod.fst z)
theorem jd_ps {i j : jd_Id} {x y : Bool} (h : x ≠ y) : (i, x) ≠ (j, y) := fun z => h (congrArg Prod.snd z)
/-- an entry gets another name -/
theorem jd_Hp.ren {G : jd_G} {h : jd_H} {H : Heap} (hP : jd_Hp G h H) {i j : jd_Id} {a : Nat} {e : jd_E} (hi : h i = some (a, e)) (hj : h j = none) (h0 : j.1 ≠ 0) : jd_Hp G (jd_up (jd_rm h i) j (a, e)) H := by
  obtain ⟨c, hc, hR⟩ := hP
  have hij : i ≠ j := fun z => by rw [z, hj] at hi; cases hi
  have hn0 : ∀ (x : Nat) (y : Bool), (j, y) ≠ ((0, x), false) := fun x y z => h0 (congrArg (fun q => q.1.1) z)
  have c1 := hc.mv (s := (i, false)) (t := (j, false)) (fun a v x _ z => absurd z (hn0 x _))
  have c2 := c1.mv (s := (i, true)) (t := (j, true)) (fun a v x _ z => absurd z (hn0 x _))
  refine ⟨_, c2, ?_⟩
  have hjf : jd_mv (jd_mv c (i, false) (j, false)) (i, true) (j, true) (j, false) = c (i, false) := by
    rw [jd_mv_o (jd_ps (by decide)) (jd_ps (by decide)), jd_mv_t]
  have hjt : jd_mv (jd_mv c (i, false) (j, false)) (i, true) (j, true) (j, true) = c (i, true) := by
    rw [jd_mv_t, jd_mv_o (jd_pf hij) (jd_ps (by decide))]
  have hko : ∀ k : jd_Id, k ≠ i → k ≠ j → ∀ x, jd_mv (jd_mv c (i, false) (j, false)) (i, true) (j, true) (k, x) = c (k, x) := by
    intro k h1 h2 x
    rw [jd_mv_o (jd_pf h2) (jd_pf h1), jd_mv_o (jd_pf h2) (jd_pf h1)]
  intro k b f hk
  by_cases e1 : k = j
  · subst e1
    rw [jd_up_s] at hk
    cases hk
    have h5 := hR i a e hi
    cases e with
    | inl v => exact hjf.trans h5
    | inr x =>
      obtain ⟨b', cap, g, g1, g2, g3, g4, g5⟩ := h5
      exact ⟨b', cap, g, hjf.trans g1, g2, g3, g4, g5.imp id (fun z => ⟨z.1, hjt.trans z.2⟩)⟩
  · rw [jd_up_n e1] at hk
    by_cases e2 : k = i
    · subst e2; rw [jd_rm_s] at hk; cases hk
    · rw [jd_rm_n e2] at hk
      have h5 := hR k b f hk
      cases f with
      | inl v => exact (hko k e2 e1 false).trans h5
      | inr x =>
        obtain ⟨b', cap, g, g1, g2, g3, g4, g5⟩ := h5
        exact ⟨b', cap, g, (hko k e2 e1 false).trans g1, g2, g3, g4, g5.imp id (fun z => ⟨z.1, (hko k e2 e1 true).trans z.2⟩)⟩
/-- a list is opened: its object, and its array under the name (0, its address) -/
theorem jd_Hp.opn {G : jd_G} {h : jd_H} {H : Heap} (hP : jd_Hp G h H) {i : jd_Id} {a : Nat} {x : Int32 × Nat × (Nat → Nat)} (hi : h i = some (a, .inr x)) :
    ∃ (b cap : Nat) (g : Nat → Option Nat), x.2.1 ≤ cap ∧ cap ≤ 1000 ∧ (∀ k, k < x.2.1 → g k = some (x.2.2 k)) ∧
      ((cap = 0 ∧ b = G.2.2.2 0 ∧ jd_Hp G (jd_up h i (a, .inl (.inr (15, [.int x.1, .ref b, .int (nI x.2.1)])))) H) ∨
       (cap ≠ 0 ∧ h (0, b) = none ∧ jd_Hp G (jd_up (jd_up h i (a, .inl (.inr (15, [.int x.1, .ref b, .int (nI x.2.1)])))) (0, b) (b, .inl (.inl (G.2.1 3, cap, .inr (.inr (.inr (.inr g))))))) H)) := by
  obtain ⟨c, hc, hR⟩ := hP
  obtain ⟨b, cap, g, g1, g2, g3, g4, g5⟩ := hR i a _ hi
  refine ⟨b, cap, g, g2, g3, g4, ?_⟩
  rcases g5 with ⟨g5, g6⟩ | ⟨g5, g6⟩
  · refine Or.inl ⟨g5, g6, c, hc, ?_⟩
    intro k a' e hk
    by_cases ek : k = i
    · subst ek; rw [jd_up_s] at hk; cases hk; exact g1
    · rw [jd_up_n ek] at hk; exact hR k a' e hk
  · have hfr : h (0, b) = none := by
      cases hh : h (0, b) with
      | none => rfl
      | some y =>
        obtain ⟨a', e⟩ := y
        exfalso
        obtain ⟨v, e1⟩ := jd_Hp.main hR hh
        have e2 := hc.2.2 _ _ _ e1
        rw [e2] at e1
        have := hc.2.1 _ _ _ _ _ e1 g6
        exact Bool.noConfusion (congrArg Prod.snd this : false = true)
    have hib : i ≠ (0, b) := fun z => by rw [z, hfr] at hi; cases hi
    refine Or.inr ⟨g5, hfr, _, hc.mv (s := (i, true)) (t := ((0, b), false)) ?_, ?_⟩
    · intro a' v x' e1 e2
      rw [g6] at e1
      have : b = x' := congrArg (fun q => q.1.2) e2
      cases e1
      exact this
    · intro k a' e hk
      by_cases ek : k = (0, b)
      · subst ek; rw [jd_up_s] at hk; cases hk
        exact jd_mv_t.trans g6
      · rw [jd_up_n ek] at hk
        by_cases ek2 : k = i
        · subst ek2; rw [jd_up_s] at hk; cases hk
          exact (jd_mv_o (jd_pf hib) (jd_ps (by decide))).trans g1
        · rw [jd_up_n ek2] at hk
          have h5 := hR k a' e hk
          have ho : ∀ z, jd_mv c (i, true) ((0, b), false) (k, z) = c (k, z) := fun z => jd_mv_o (jd_pf ek) (jd_pf ek2)
          cases e with
          | inl v => exact (ho _).trans h5
          | inr x =>
            obtain ⟨b', cap', g', q1, q2, q3, q4, q5⟩ := h5
            exact ⟨b', cap', g', (ho _).trans q1, q2, q3, q4, q5.imp id (fun z => ⟨z.1, (ho _).trans z.2⟩)⟩
/-- a list is closed -/
theorem jd_Hp.cls {G : jd_G} {h : jd_H} {H : Heap} (hP : jd_Hp G h H) {i : jd_Id} {a b cap n : Nat} {mc : Int32} {g : Nat → Option Nat} {f : Nat → Nat} (hi : h i = some (a, .inl (.inr (15, [.int mc, .ref b, .int (nI n)])))) (hb : h (0, b) = some (b, .inl (.inl (G.2.1 3, cap, .inr (.inr (.inr (.inr g)))))))
    (h1 : n ≤ cap) (h2 : cap ≤ 1000) (h0 : cap ≠ 0) (hg : ∀ k, k < n → g k = some (f k)) : jd_Hp G (jd_up (jd_rm h (0, b)) i (a, .inr (mc, n, f))) H := by
  obtain ⟨c, hc, hR⟩ := hP
  have hib : i ≠ (0, b) := fun z => by rw [z, hb] at hi; cases hi
  refine ⟨_, hc.mv (s := ((0, b), false)) (t := (i, true)) (fun a' v x' _ z => Bool.noConfusion (congrArg Prod.snd z : true = false)), ?_⟩
  intro k a' e hk
  by_cases ek : k = i
  · subst ek; rw [jd_up_s] at hk; cases hk
    exact ⟨b, cap, g, (jd_mv_o (jd_ps (by decide)) (jd_pf hib)).trans (hR k _ _ hi), h1, h2, hg, Or.inr ⟨h0, jd_mv_t.trans (hR _ _ _ hb)⟩⟩
  · rw [jd_up_n ek] at hk
    by_cases ek2 : k = (0, b)
    · subst ek2; rw [jd_rm_s] at hk; cases hk
    · rw [jd_rm_n ek2] at hk
      have h5 := hR k a' e hk
      have ho : ∀ z, jd_mv c ((0, b), false) (i, true) (k, z) = c (k, z) := fun z => jd_mv_o (jd_pf ek) (jd_pf ek2)
      cases e with
      | inl v => exact (ho _).trans h5
      | inr x =>
        obtain ⟨b', cap', g', q1, q2, q3, q4, q5⟩ := h5
        exact ⟨b', cap', g', (ho _).trans q1, q2, q3, q4, q5.imp id (fun z => ⟨z.1, (ho _).trans z.2⟩)⟩
theorem jd_Hp.cls0 {G : jd_G} {h : jd_H} {H : Heap} (hP : jd_Hp G h H) {i : jd_Id} {a : Nat} {mc : Int32} {f : Nat → Nat} (hi : h i = some (a, .inl (.inr (15, [.int mc, .ref (G.2.2.2 0), .int (nI 0)])))) : jd_Hp G (jd_up h i (a, .inr (mc, 0, f))) H := by
  obtain ⟨c, hc, hR⟩ := hP
  refine ⟨c, hc, ?_⟩
  intro k a' e hk
  by_cases ek : k = i
  · subst ek; rw [jd_up_s] at hk; cases hk
    exact ⟨G.2.2.2 0, 0, fun _ => none, hR k _ _ hi, Nat.le_refl 0, by omega, fun k hk => absurd hk (Nat.not_lt_zero k), Or.inl ⟨rfl, rfl⟩⟩
  · rw [jd_up_n ek] at hk; exact hR k a' e hk
/-- the receiver's cell, of any entry that is an object or a list -/
def jd_ci : jd_E → Option Nat
  | .inl (.inr o) => some o.1
  | .inr _ => some 15
  | _ => none
theorem jd_Hp.recv {G : jd_G} {h : jd_H} {H : Heap} {U : State} {tys : List (ClassId × FieldType)} (hP : jd_Hp G h H) (hK : va_K G.1 jd_cl tys U) {i : jd_Id} {a ci : Nat} {e : jd_E} {q : vw_C} (hi : h i = some (a, e)) (hci : jd_ci e = some ci) (hq : jd_cl[ci]? = some q) : ∃ cell : Cell, H[a]? = some cell ∧ cell.vm.isStatics = false ∧ U.vm.findClass q.1 = some cell.cls := by
  obtain ⟨c, hc, hR⟩ := hP
  have h5 := hR i a e hi
  have key : ∃ fs, va_at G.1 jd_cl (a, .inr (ci, fs)) H := by
    cases e with
    | inl v =>
      cases v with
      | inl v => cases hci
      | inr o => cases hci; exact ⟨o.2, (hc.1 _ _ _ h5).2⟩
    | inr x =>
      cases hci
      obtain ⟨b, cap, g, g1, -⟩ := h5
      exact ⟨_, (hc.1 _ _ _ g1).2⟩
  obtain ⟨fs, hat⟩ := key
  exact va_recv hK (ws := [(a, .inr (ci, fs))]) (fun k q hk => by
    have hz : k < 1 := (List.getElem?_eq_some_iff.mp hk).1
    rw [show k = 0 by omega] at hk
    cases hk
    exact hat) hq (q0 := 0) rfl
theorem jd_one {D : va_G} {q : Nat × va_E} {H : Heap} (h : va_at D jd_cl q H) : va_P D jd_cl [q] H := fun k q' hk => by
  have hz : k < 1 := (List.getElem?_eq_some_iff.mp hk).1
  rw [show k = 0 by omega] at hk
  cases hk
  exact h
