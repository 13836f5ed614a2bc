/-! ===== mx: an array of arrays of ints ===== -/
/-- many new cells -/
def jd_many (h : jd_H) (q n : Nat) (w : Nat → va_E) : jd_H := fun i => if i.1 = 0 ∧ q ≤ i.2 ∧ i.2 < q + n then some (i.2, .inl (w (i.2 - q))) else h i
theorem jd_many_s {h : jd_H} {q n : Nat} {w : Nat → va_E} : jd_many h q (n + 1) w = jd_up (jd_many h q n w) (0, q + n) (q + n, .inl (w n)) := by
  funext i
  unfold jd_many jd_up
  by_cases e : i = (0, q + n)
  · subst e
    rw [if_pos ⟨rfl, Nat.le_add_right _ _, Nat.lt_succ_self _⟩, if_pos rfl]
    show some (q + n, Sum.inl (w (q + n - q))) = _
    rw [Nat.add_sub_cancel_left]
  · rw [if_neg e]
    have : (i.1 = 0 ∧ q ≤ i.2 ∧ i.2 < q + (n + 1)) ↔ (i.1 = 0 ∧ q ≤ i.2 ∧ i.2 < q + n) := by
      constructor
      · intro ⟨a, b, c⟩
        refine ⟨a, b, ?_⟩
        have : i.2 ≠ q + n := fun z => e (Prod.ext a z)
        omega
      · intro ⟨a, b, c⟩; exact ⟨a, b, by omega⟩
    by_cases f : i.1 = 0 ∧ q ≤ i.2 ∧ i.2 < q + n
    · exact (if_pos (this.mpr f)).trans (if_pos f).symm
    · exact (if_neg (fun z => f (this.mp z))).trans (if_neg f).symm
theorem jd_Hp.nwN {G : jd_G} {h : jd_H} {H H1 : Heap} (hP : jd_Hp G h H) (w : Nat → va_E) (hlo : G.2.2.1 ≤ H.size) (n : Nat) (hz : H1.size = H.size + n) (ha : ∀ j, j < n → va_at G.1 jd_cl (H.size + j, w j) H1) (ho : ∀ q : Nat, q < H.size → H1[q]? = H[q]?) : (∀ j, j < n → h (0, H.size + j) = none) ∧ jd_Hp G (jd_many h H.size n w) H1 := by
  have hx : ∀ k q : Nat, q < H.size + k → H.size + k ≤ H1.size → (H1.extract 0 (H.size + k))[q]? = H1[q]? := fun k q h1 h2 => by
    rw [Array.getElem?_extract]
    simp only [Nat.sub_zero, Nat.zero_add]
    rw [if_pos (by omega)]
  have key : ∀ k, k ≤ n → (∀ j, j < k → h (0, H.size + j) = none) ∧ jd_Hp G (jd_many h H.size k w) (H1.extract 0 (H.size + k)) := by
    intro k
    induction k with
    | zero =>
      intro _
      refine ⟨fun j hj => absurd hj (Nat.not_lt_zero j), ?_⟩
      have e : jd_many h H.size 0 w = h := by
        funext i; exact if_neg (fun z => by omega)
      rw [e]
      exact hP.kept (fun q hq => (hx 0 q (by omega) (by omega)).trans (ho q hq))
    | succ k ih =>
      intro hk
      obtain ⟨i1, i2⟩ := ih (by omega)
      have hs : (H1.extract 0 (H.size + k)).size = H.size + k := by rw [Array.size_extract]; omega
      have hne : (H1.extract 0 (H.size + k)).size = H.size + k := hs
      have st := i2.nw (H1 := H1.extract 0 (H.size + (k + 1))) (w := w k) (by omega) (by
        rw [hs]
        exact (ha k (by omega)).kept (hx (k + 1) _ (by show H.size + k < _; omega) (by omega))) (fun q hq => by
        rw [hs] at hq
        rw [hx (k + 1) q (by omega) (by omega), hx k q hq (by omega)])
      rw [hs] at st
      obtain ⟨s1, s2⟩ := st
      refine ⟨fun j hj => ?_, ?_⟩
      · rcases Nat.lt_succ_iff_lt_or_eq.mp hj with z | z
        · exact i1 j z
        · subst z
          have : jd_many h H.size j w (0, H.size + j) = h (0, H.size + j) := if_neg (fun z => by have := z.2.2; simp only at this; omega)
          exact this.symm.trans s1
      · rw [jd_many_s]
        exact s2
  obtain ⟨k1, k2⟩ := key n (Nat.le_refl n)
  have e : H1.extract 0 (H.size + n) = H1 := by
    rw [← hz]; exact Array.extract_size
  rw [e] at k2
  exact ⟨k1, k2⟩
theorem jd_outerC (c : ClassId) (N h0 : Nat) : ∀ i, Jvm.Free.Multi.outerC c N h0 i = ({ cls := c, slots := (Jvm.Free.Multi.outerC c N h0 i).slots, vm := .none } : Cell)
  | 0 => rfl
  | i + 1 => by
    have ih := jd_outerC c N h0 i
    unfold Jvm.Free.Multi.outerC Cell.setSlot
    generalize Jvm.Free.Multi.outerC c N h0 i = x at ih ⊢
    rw [ih]
theorem jd_Wmulti {p : Program} {l : Launch} {e : Env} {R : Room} {s : State} {m : MethodId} {args : Array Value} {below : List Frame} {meth : Method} {c : Code} {H : Heap} {locs : List Loc} {cells slots : Nat} {Q : State → Prop} {cc : ByteArray} (hexec : p.tables.exec = Jvm.exec) (hb : c.code = cc) {own : String} {index : Nat} {ty : FieldType} (hown : s.vm.findClass own = some m.cls) (hclink : (Cond.classLink own index ("[" ++ (FieldType.array ty).toString)).before args s = true) (hover : (Cond.arrayOver (.array ty)).before args s = true) (harr : (Cond.arrayClass ty).before args s = true)
    {g : JFrame} (hg : g.method = m) (hdg : decode cc g.pc = .ok (.multianewarray index 2, 4)) {n k : Int32} {rest : List Value} (hstack : g.stack = .int k :: .int n :: rest) (hn : ¬ n < 0) (hk : ¬ k < 0) (hb1 : n.toNatClampNeg * 4 ≤ 536870912) (hb2 : k.toNatClampNeg * componentBytes ty ≤ 536870912) (hb3 : k.toNatClampNeg ≤ 536870912) (hdf : fits ty (defaultValue ty) = true) (hdd : (defaultValue ty).isDefault = true)
    (hcells : cells + (1 + n.toNatClampNeg) ≤ R.cells) (hslots : slots + (n.toNatClampNeg + n.toNatClampNeg * k.toNatClampNeg) ≤ R.slots)
    (kk : ∀ (cA comp : ClassId) (H1 : Heap), s.vm.findClass ("[" ++ (FieldType.array ty).toString) = some cA → s.vm.findClass (FieldType.array ty).toString = some comp → H1.size = H.size + 1 + n.toNatClampNeg → (∀ q : Nat, q < H.size → H1[q]? = H[q]?) → H1[H.size]? = some (arrV cA n.toNatClampNeg (fun j => .ref (H.size + 1 + j))) → (∀ j, j < n.toNatClampNeg → H1[H.size + 1 + j]? = some (arrV comp k.toNatClampNeg (fun _ => defaultValue ty))) →
      W p l e R s m args below meth c H1 locs (cells + 1 + n.toNatClampNeg) (slots + n.toNatClampNeg + n.toNatClampNeg * k.toNatClampNeg) Q { g with pc := g.pc + 4, stack := .ref H.size :: rest }) : W p l e R s m args below meth c H locs cells slots Q g := by
  intro T hT X
  subst hT; subst hb
  obtain ⟨vm₁, cA, comp, hW, hfA, hfC, hO, hI, X1, st⟩ := X.multianewarray2F hexec hown hclink hover harr hg hdg hstack hn hk hb1 hb2 hb3 hdf hdd hcells hslots
  obtain ⟨f1, f2, f3, f4⟩ := Jvm.Free.Multi.fill_facts (T.setVm vm₁) cA comp n.toNatClampNeg k.toNatClampNeg (defaultValue ty) n.toNatClampNeg
  have fo := fun (a : Nat) (ha : a < T.heap.size) => Jvm.Free.Multi.fill_old (T.setVm vm₁) cA comp n.toNatClampNeg k.toNatClampNeg (defaultValue ty) (a := a) ha n.toNatClampNeg
  have fi := fun (j : Nat) (hj : j < n.toNatClampNeg) => Jvm.Free.Multi.fill_inner (T.setVm vm₁) cA comp n.toNatClampNeg k.toNatClampNeg (defaultValue ty) n.toNatClampNeg j hj
  obtain ⟨o1, o2, o3⟩ := Jvm.Free.Multi.outerC_facts cA n.toNatClampNeg T.heap.size n.toNatClampNeg
  have os := fun (j : Nat) (hj : j < n.toNatClampNeg) => Jvm.Free.Multi.outerC_slot cA n.toNatClampNeg T.heap.size n.toNatClampNeg j hj
  have e1 : Jvm.Free.Multi.outerC cA n.toNatClampNeg T.heap.size n.toNatClampNeg = arrV cA n.toNatClampNeg (fun j => .ref (T.heap.size + 1 + j)) := by
    rw [jd_outerC]
    have e2 : (Jvm.Free.Multi.outerC cA n.toNatClampNeg T.heap.size n.toNatClampNeg).slots = (arrV cA n.toNatClampNeg (fun j => Value.ref (T.heap.size + 1 + j))).slots := by
      apply Array.ext_getElem?
      intro i
      by_cases hi : i < n.toNatClampNeg
      · rw [os i hi, if_pos hi]
        exact (arrV_read cA (fun j => Value.ref (T.heap.size + 1 + j)) hi).symm
      · rw [Array.getElem?_eq_none (by omega), Array.getElem?_eq_none (by have := arrV_size cA n.toNatClampNeg (fun j => Value.ref (T.heap.size + 1 + j)); exact Nat.le_trans (Nat.le_of_eq this) (by omega))]
    rw [e2]
    rfl
  obtain ⟨t, a1, b1⟩ := kk cA comp _ hfA hfC f1 fo (f2.trans (congrArg some e1)) (fun j hj => (fi j hj).trans (congrArg some (arrV_new _ _ _))) _ rfl X1
  exact ⟨t, st t a1, b1⟩
section MX
variable {G : jd_G} {M : jd_M} {d cb sb pc idx : Nat} {ls : List (Option Value)} {st : List Value} {h : jd_H} {Q : Option Value → jd_H → Prop} {X : String → jd_H → Prop}
/-- an array of n arrays of L ints, its rows at the addresses behind it -/
def jd_mw (G : jd_G) (q n L : Nat) (F : Nat → Nat → Int32) : Nat → va_E := fun j => match j with
  | 0 => .inl (G.2.1 4, n, .inr (.inr (.inr (.inr (fun k => some (q + 1 + k))))))
  | k + 1 => .inl (G.2.1 0, L, .inl (F k))
def jd_mat (G : jd_G) (h : jd_H) (q n L : Nat) (F : Nat → Nat → Int32) : jd_H := jd_many h q (n + 1) (jd_mw G q n L F)
theorem jd_multi {N L : Nat} (q1 : Cond.classLink M.1 idx "[[I" ∈ lw_all) (q2 : Cond.arrayOver (.array .int) ∈ lw_tbl) (q3 : Cond.arrayClass .int ∈ lw_all) (dc : decode M.2.2.1 pc = .ok (.multianewarray idx 2, 4)) (hN : N ≤ 1000) (hL : L ≤ 1000) (hcb : 1 + N ≤ cb) (hsb : N + N * L ≤ sb)
    (kk : ∀ q : Nat, (∀ j, j < N + 1 → h (0, q + j) = none) → jd_W G M d (cb - (1 + N)) (sb - (N + N * L)) (pc + 4) ls (.ref q :: st) (jd_mat G h q N L (fun _ _ => 0)) Q X) : jd_W G M d cb sb pc ls (.int (nI L) :: .int (nI N) :: st) h Q X := by
  intro p l e R s m args below meth c H locs cells slots la C h1 h2 hP hS hl
  have hts := C.2.2.2.2.2.2.2.1
  have hGU := C.2.2.2.2.2.2.2.2.1
  have hN2 : (nI N).toNatClampNeg = N := nI_clamp (by omega)
  have hL2 : (nI L).toNatClampNeg = L := nI_clamp (by omega)
  refine jd_Wmulti (ty := .int) C.1 C.2.1 C.2.2.2.2.2.2.1 (hts _ q1) (show (Cond.arrayOver (.array .int)).before args s = true from hGU.1.2.1 _ q2 rfl) (hts _ q3) rfl dc rfl (nI_pos (by omega)) (nI_pos (by omega)) (by rw [hN2]; omega) (by rw [hL2]; show L * 4 ≤ _; omega) (by rw [hL2]; omega) rfl rfl (by rw [hN2]; omega) (by rw [hN2, hL2]; omega) fun cA comp H1 g1 g2 z1 o1 e1 e2 => ?_
  rw [hN2] at z1 e1 e2
  rw [hL2] at e2
  rw [hN2, hL2]
  have hA4 : s.vm.findClass ("[" ++ (FieldType.array .int).toString) = some (G.2.1 4) := (hGU.1.1.2 4 _ rfl).2
  have hA0 : s.vm.findClass ("[" ++ (FieldType.int).toString) = some (G.2.1 0) := (hGU.1.1.2 0 _ rfl).2
  have hcA : cA = G.2.1 4 := Option.some.inj (g1.symm.trans hA4)
  have hco : comp = G.2.1 0 := Option.some.inj (g2.symm.trans hA0)
  subst hcA; subst hco
  obtain ⟨hf, hP'⟩ := hP.nwN (H1 := H1) (jd_mw G H.size N L (fun _ _ => 0)) (Nat.le_trans hGU.2.2 hS.1) (N + 1) (by omega) (fun j hj => by
    cases j with
    | zero => exact e1
    | succ k =>
      have := e2 k (by omega)
      show H1[H.size + (k + 1)]? = some (vp_cell _ _)
      rw [show H.size + (k + 1) = H.size + 1 + k by omega, this]
      rfl) o1
  have hcs : cells + 1 + N = cells + (1 + N) := by omega
  have hss : slots + N + N * L = slots + (N + N * L) := by omega
  rw [hcs, hss]
  exact kk _ hf p l e R s m args below meth c H1 locs (cells + (1 + N)) (slots + (N + N * L)) la C (by omega) (by omega) hP' (jd_vS hS (by omega) o1) hl
theorem jd_mat_0 {q n L : Nat} {F : Nat → Nat → Int32} : jd_mat G h q n L F (0, q) = some (q, .inl (.inl (G.2.1 4, n, .inr (.inr (.inr (.inr (fun k => some (q + 1 + k)))))))) := by
  unfold jd_mat jd_many
  rw [if_pos ⟨rfl, Nat.le_refl _, by show q < _; omega⟩]
  show some (q, Sum.inl (jd_mw G q n L F (q - q))) = _
  rw [Nat.sub_self]
  rfl
theorem jd_mat_k {q n L k : Nat} {F : Nat → Nat → Int32} (hk : k < n) : jd_mat G h q n L F (0, q + 1 + k) = some (q + 1 + k, .inl (.inl (G.2.1 0, L, .inl (F k)))) := by
  unfold jd_mat jd_many
  rw [if_pos ⟨rfl, by show q ≤ q + 1 + k; omega, by show q + 1 + k < _; omega⟩]
  show some (q + 1 + k, Sum.inl (jd_mw G q n L F (q + 1 + k - q))) = _
  rw [show q + 1 + k - q = k + 1 by omega]
  rfl
theorem jd_mat_n {q n L : Nat} {F : Nat → Nat → Int32} {i : jd_Id} (hi : i.1 ≠ 0) : jd_mat G h q n L F i = h i := if_neg (fun z => hi z.1)
theorem jd_mat_o {q n L : Nat} {F : Nat → Nat → Int32} {a : Nat} (hf : ∀ j, j < n + 1 → h (0, q + j) = none) {y : Nat × jd_E} (e : h (0, a) = some y) : jd_mat G h q n L F (0, a) = some y := by
  refine (if_neg (fun z => ?_)).trans e
  have := hf (a - q) (by have := z.2.2; simp only at this; omega)
  rw [show q + (a - q) = a by have := z.2.1; simp only at this; omega, e] at this
  cases this
theorem jd_mat_up {q n L k : Nat} {F : Nat → Nat → Int32} {f : Nat → Int32} (hk : k < n) : jd_up (jd_mat G h q n L F) (0, q + 1 + k) (q + 1 + k, .inl (.inl (G.2.1 0, L, .inl f))) = jd_mat G h q n L (fun j => if j = k then f else F j) := by
  funext i
  by_cases e : i = (0, q + 1 + k)
  · subst e
    rw [jd_up_s, jd_mat_k hk, if_pos rfl]
  · rw [jd_up_n e]
    unfold jd_mat jd_many
    by_cases z : i.1 = 0 ∧ q ≤ i.2 ∧ i.2 < q + (n + 1)
    · rw [if_pos z, if_pos z]
      have hne : i.2 - q ≠ k + 1 := fun w => e (Prod.ext z.1 (by show i.2 = _; omega))
      cases hh : i.2 - q with
      | zero => rfl
      | succ j =>
        show (some (i.2, (Sum.inl (Sum.inl (G.2.1 0, L, Sum.inl (F j))) : jd_E)) : Option (Nat × jd_E)) = some (i.2, (Sum.inl (Sum.inl (G.2.1 0, L, Sum.inl (if j = k then f else F j))) : jd_E))
        rw [if_neg (by omega)]
    · rw [if_neg z, if_neg z]
end MX
