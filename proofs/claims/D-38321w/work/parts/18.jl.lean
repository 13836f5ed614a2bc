/-! ===== jl: lists are opened and closed; objects of a class; System.arraycopy; Object.getClass ===== -/
/-- an entry of the heap (or a constant) that is an object of class Cn -/
def jd_cx : jd_E → Option (Nat ⊕ ClassId)
  | .inl (.inr o) => some (.inl o.1)
  | .inr _ => some (.inl 15)
  | .inl (.inl x) => some (.inr x.1)
theorem jd_cx_ci {e : jd_E} {ci : Nat} : jd_ci e = some ci ↔ jd_cx e = some (.inl ci) := by
  cases e with
  | inr x => exact ⟨fun h => by cases h; rfl, fun h => by cases h; rfl⟩
  | inl v => cases v with
    | inr o => exact ⟨fun h => by cases h; rfl, fun h => by cases h; rfl⟩
    | inl x => exact ⟨fun h => (by cases h), fun h => (by cases h)⟩
theorem jd_rvZ {G : jd_G} {h : jd_H} {j : jd_Id} {a : Nat} {e : jd_E} (ho : h j = some (a, e)) (hc : jd_cx e = some (.inr (G.2.1 1))) : jd_Rv G h "[Z" a := fun U H hW _ hP => by
  cases e with
  | inr x => cases hc
  | inl v => cases v with
    | inr o => cases hc
    | inl x =>
      obtain ⟨c, n, f⟩ := x
      have e1 : c = G.2.1 1 := Sum.inr.inj (Option.some.inj hc)
      subst e1
      have hat : H[a]? = some (vp_cell (G.2.1 1) (n, f)) := hP.at ho
      have hf : U.vm.findClass "[Z" = some (G.2.1 1) := (hW.1.2 1 _ rfl).2
      refine ⟨_, hat, ?_, ?_⟩
      · rcases f with f | f | f | f | f <;> rfl
      · rw [hf]
        rcases f with f | f | f | f | f <;> rfl
def jd_Ob (G : jd_G) (h : jd_H) (Cn : String) (a : Nat) : Prop := (∃ j e ci q, h j = some (a, e) ∧ jd_ci e = some ci ∧ jd_cl[ci]? = some q ∧ q.1 = Cn) ∨ (∃ k, k < 256 ∧ a = jd_bA G k ∧ Cn = "java/lang/Integer") ∨ (∃ j e, h j = some (a, e) ∧ jd_cx e = some (.inr (G.2.1 1)) ∧ Cn = "[Z")
theorem jd_Ob.rv {G : jd_G} {h : jd_H} {Cn : String} {a : Nat} (ho : jd_Ob G h Cn a) : jd_Rv G h Cn a := by
  rcases ho with ⟨j, e, ci, q, h1, h2, h3, h4⟩ | ⟨k, hk, e1, e2⟩ | ⟨j, e, h1, h2, h3⟩
  · subst h4; exact jd_rv h1 ci h2 h3
  · subst e1; subst e2; exact jd_rvB hk
  · subst h3; exact jd_rvZ h1 h2
/-- all entries stay where they are, of their classes -/
def jd_kp (h h' : jd_H) : Prop := ∀ j a e, h j = some (a, e) → ∃ e', h' j = some (a, e') ∧ ∀ ci, jd_cx e = some ci → jd_cx e' = some ci
theorem jd_kp.rfl {h : jd_H} : jd_kp h h := fun _ _ e he => ⟨e, he, fun _ h => h⟩
theorem jd_kp.trans {h1 h2 h3 : jd_H} (a : jd_kp h1 h2) (b : jd_kp h2 h3) : jd_kp h1 h3 := fun j x e he => by
  obtain ⟨e', h1, h2⟩ := a j x e he
  obtain ⟨e'', h3, h4⟩ := b j x e' h1
  exact ⟨e'', h3, fun ci hc => h4 ci (h2 ci hc)⟩
theorem jd_kp.up {h : jd_H} {i : jd_Id} {a : Nat} {e e' : jd_E} (hi : h i = some (a, e)) (hc : ∀ ci, jd_cx e = some ci → jd_cx e' = some ci) : jd_kp h (jd_up h i (a, e')) := fun j x f hf => by
  by_cases hj : j = i
  · subst hj
    rw [hi] at hf; cases hf
    exact ⟨e', jd_up_s, hc⟩
  · exact ⟨f, (jd_up_n hj).trans hf, fun _ h => h⟩
theorem jd_kp.fresh {h : jd_H} {i : jd_Id} {x : Nat × jd_E} (hi : h i = none) : jd_kp h (jd_up h i x) := fun j a f hf => by
  have hj : j ≠ i := fun z => by rw [z, hi] at hf; cases hf
  exact ⟨f, (jd_up_n hj).trans hf, fun _ h => h⟩
theorem jd_Ob.kp {G : jd_G} {h h' : jd_H} {Cn : String} {a : Nat} (ho : jd_Ob G h Cn a) (hk : jd_kp h h') : jd_Ob G h' Cn a := by
  rcases ho with ⟨j, e, ci, q, h1, h2, h3, h4⟩ | h9 | ⟨j, e, h1, h2, h3⟩
  · obtain ⟨e', g1, g2⟩ := hk j a e h1
    exact Or.inl ⟨j, e', ci, q, g1, jd_cx_ci.mpr (g2 _ (jd_cx_ci.mp h2)), h3, h4⟩
  · exact Or.inr (Or.inl h9)
  · obtain ⟨e', g1, g2⟩ := hk j a e h1
    exact Or.inr (Or.inr ⟨j, e', g1, g2 _ h2, h3⟩)
abbrev jd_lo (mc : Int32) (b n : Nat) : jd_E := .inl (.inr (15, [.int mc, .ref b, .int (nI n)]))
abbrev jd_la (G : jd_G) (cap : Nat) (g : Nat → Option Nat) : jd_E := .inl (.inl (G.2.1 3, cap, .inr (.inr (.inr (.inr g)))))
section JL
variable {G : jd_G} {M : jd_M} {d cb sb pc : Nat} {ls : List (Option Value)} {st : List Value} {h : jd_H} {Q : Option Value → jd_H → Prop} {X : String → jd_H → Prop}
variable {i : jd_Id} {a idx : Nat} {x : Int32 × Nat × (Nat → Nat)}
theorem jd_opn (ho : h i = some (a, .inr x))
    (k0 : x.2.1 = 0 → jd_W G M d cb sb pc ls st (jd_up h i (a, jd_lo x.1 (jd_k G 0) 0)) Q X)
    (k1 : ∀ (b cap : Nat) (g : Nat → Option Nat), x.2.1 ≤ cap → cap ≤ 1000 → cap ≠ 0 → (∀ k, k < x.2.1 → g k = some (x.2.2 k)) → h (0, b) = none → jd_W G M d cb sb pc ls st (jd_up (jd_up h i (a, jd_lo x.1 b x.2.1)) (0, b) (b, jd_la G cap g)) Q X) : jd_W G M d cb sb pc ls st h Q X := by
  intro p l e R s m args below meth c H locs cells slots la C h1 h2 hP hS hl
  obtain ⟨b, cap, g, g1, g2, g3, g4⟩ := hP.opn ho
  rcases g4 with ⟨g4, g5, g6⟩ | ⟨g4, g5, g6⟩
  · have hn : x.2.1 = 0 := by omega
    refine k0 hn p l e R s m args below meth c H locs cells slots la C h1 h2 ?_ hS hl
    rw [g5, hn] at g6
    exact g6
  · exact k1 b cap g g1 g2 g4 g3 g5 p l e R s m args below meth c H locs cells slots la C h1 h2 g6 hS hl
theorem jd_cls {b cap n : Nat} {mc : Int32} {g : Nat → Option Nat} {f : Nat → Nat} (hi : h i = some (a, jd_lo mc b n)) (hb : h (0, b) = some (b, jd_la G cap g)) (h1 : n ≤ cap) (h2 : cap ≤ 1000) (h0 : cap ≠ 0) (hg : ∀ k, k < n → g k = some (f k)) (k : jd_W G M d cb sb pc ls st (jd_up (jd_rm h (0, b)) i (a, .inr (mc, n, f))) Q X) : jd_W G M d cb sb pc ls st h Q X := by
  intro p l e R s m args below meth c H locs cells slots la C g1 g2 hP hS hl
  exact k p l e R s m args below meth c H locs cells slots la C g1 g2 (hP.cls hi hb h1 h2 h0 hg) hS hl
theorem jd_cls0 {mc : Int32} {f : Nat → Nat} (hi : h i = some (a, jd_lo mc (jd_k G 0) 0)) (k : jd_W G M d cb sb pc ls st (jd_up h i (a, .inr (mc, 0, f))) Q X) : jd_W G M d cb sb pc ls st h Q X := by
  intro p l e R s m args below meth c H locs cells slots la C g1 g2 hP hS hl
  exact k p l e R s m args below meth c H locs cells slots la C g1 g2 (hP.cls0 hi) hS hl
/-- fields of a list that is not opened: 0 modCount, 2 size -/
theorem jd_getL {ref : String} (ho : h i = some (a, .inr x)) (k : Nat) (q : Cond.fieldLink M.1 idx ref (TJ2 k).2.1 (TJ2 k).2.2.1 ∈ lw_all) (qs : ref = (TJ2 k).1 ∨ Cond.sameField ref (TJ2 k).1 (TJ2 k).2.1 (TJ2 k).2.2.1 ∈ lw_all) (dc : decode M.2.2.1 pc = .ok (.getfield idx, 3)) {v : Value} (hv : (k = 0 ∧ v = .int x.1) ∨ (k = 2 ∧ v = .int (nI x.2.1))) (kk : jd_W G M d cb sb (pc + 3) ls (v :: st) h Q X) : jd_W G M d cb sb pc ls (.ref a :: st) h Q X := by
  intro p l e R s m args below meth c H locs cells slots la C h1 h2 hP hS hl
  have hts := C.2.2.2.2.2.2.2.1
  obtain ⟨c', hc', hR⟩ := id hP
  obtain ⟨b, cap, g, g1, -⟩ := hR i a _ ho
  have hat := (hc'.1 _ _ _ g1).2
  have hs : ∀ x, s.fieldFound? (TJ2 k).1 (TJ2 k).2.1 (TJ2 k).2.2.1 = some x → s.fieldFound? ref (TJ2 k).2.1 (TJ2 k).2.2.1 = some x := by
    rcases qs with e | e
    · rw [e]; exact fun _ h => h
    · exact u_same (hts _ e)
  refine va_get (C := RJ2) (T := TJ2) (N := 3) (v := v) C.1 C.2.1 hts in_J2 C.2.2.2.2.2.2.1 C.2.2.2.2.2.2.2.2.1.1.1 (jd_one hat) 0 rfl rfl k (by rcases hv with ⟨e, -⟩ | ⟨e, -⟩ <;> (rw [e]; decide)) (hts _ q) hs ?_ dc (kk p l e R s m args below meth c H locs cells slots la C h1 h2 hP hS hl)
  rcases hv with ⟨e, f⟩ | ⟨e, f⟩
  · subst e; subst f; rfl
  · subst e; subst f; rfl
/-- the length of the constant empty array -/
theorem jd_alen0 (dc : decode M.2.2.1 pc = .ok (.arraylength, 1)) (kk : jd_W G M d cb sb (pc + 1) ls (.int (nI 0) :: st) h Q X) : jd_W G M d cb sb pc ls (.ref (jd_k G 0) :: st) h Q X := by
  intro p l e R s m args below meth c H locs cells slots la C h1 h2 hP hS hl
  have hGU := C.2.2.2.2.2.2.2.2.1
  obtain ⟨cell, e1, e2, e3, e4, e5, e6, e7⟩ := (jd_cs hGU hS).2.2.2.1.2
  exact W.alen C.1 C.2.1 e1 e2 (n := nI 0) e5 rfl rfl dc (kk p l e R s m args below meth c H locs cells slots la C h1 h2 hP hS hl)
/-- System.arraycopy of references -/
theorem jd_acopy {i1 : jd_Id} {a0 a1 n0 n1 sp dp n t0 t1 : Nat} {c0 c1 : ClassId} {f g : Nat → Option Nat} {E0 E1 Cn : String} (qs : Cond.methodLink M.1 idx arraycopyName ∈ lw_all) (q2 : Cond.native arraycopyName ∈ lw_all) (q3 : Cond.static arraycopyName ∈ lw_all) (q4 : Cond.initialized "java/lang/System" ∈ lw_all) (dc : decode M.2.2.1 pc = .ok (.invokestatic idx, 3))
    (ho0 : h i = some (a0, .inl (.inl (c0, n0, .inr (.inr (.inr (.inr f))))))) (ho1 : h i1 = some (a1, .inl (.inl (c1, n1, .inr (.inr (.inr (.inr g))))))) (ht0 : (jd_tys G)[t0]? = some (c0, .object E0)) (ht1 : (jd_tys G)[t1]? = some (c1, .object E1)) (qc : Cond.castable Cn E1 ∈ lw_tbl)
    (h4 : sp + n ≤ n0) (h5 : dp + n ≤ n1) (hb : sp < 2 ^ 31 ∧ dp < 2 ^ 31 ∧ n < 2 ^ 31) (hel : ∀ k, k < n → ∀ y, f (sp + k) = some y → jd_Rv G h Cn y) (hd : 1 ≤ d) (hw : (st.map fun v => v.category).sum ≤ 8)
    (kk : jd_W G M d cb sb (pc + 3) ls st (jd_up h i1 (a1, .inl (.inl (c1, n1, .inr (.inr (.inr (.inr (va_cpy f g sp dp n)))))))) Q X) : jd_W G M d cb sb pc ls (.int (nI n) :: .int (nI dp) :: .ref a1 :: .int (nI sp) :: .ref a0 :: st) h Q X := by
  intro p l e R s m args below meth c H locs cells slots la C h1 h2 hP hS hl T hT Y
  have hts := C.2.2.2.2.2.2.2.1
  have hGU := C.2.2.2.2.2.2.2.2.1
  have hK := hGU.1.1
  have hd1 := C.2.2.2.2.2.2.2.2.2.1
  have hd2 := C.2.2.2.2.2.2.2.2.2.2.1
  obtain ⟨b1, b2, b3⟩ := hb
  have nn : ∀ z : Nat, z < 2 ^ 31 → (nI z).toInt = (z : Int) := fun z hz => nI_toInt hz
  have hc0 : H[a0]? = some (vp_cell c0 (n0, .inr (.inr (.inr (.inr f))))) := hP.at ho0
  have hc1 : H[a1]? = some (vp_cell c1 (n1, .inr (.inr (.inr (.inr g))))) := hP.at ho1
  obtain ⟨-, k0, hk0, cm0, hkk0⟩ := (hK.2 t0 _ ht0).1 n0 (fun j => va_rf (f j))
  obtain ⟨-, k1, hk1, cm1, hkk1⟩ := (hK.2 t1 _ ht1).1 n1 (fun j => va_rf (g j))
  have hcl : ∀ z : Nat, z < 2 ^ 31 → (nI z).toNatClampNeg = z := fun z hz => nI_clamp hz
  obtain ⟨vm', X', step⟩ := Y.arraycopy C.1 C.2.2.2.2.2.2.1 (hts _ qs) (hts _ q2) (hts _ q3) (hts _ q4) (src := a0) (dst := a1) (cs := vp_cell c0 (n0, .inr (.inr (.inr (.inr f))))) (cd := vp_cell c1 (n1, .inr (.inr (.inr (.inr g))))) (srcPos := nI sp) (destPos := nI dp) (n := nI n) (by rw [hT]; exact hc0) (by rw [hT]; exact hc1)
    (fun _ h => by cases h) (fun _ h => by cases h) (fun h => by cases h) (fun h => by cases h) hk0 hk1 hkk0 hkk1 rfl (nI_pos b1) (nI_pos b2) (nI_pos b3)
    (by rw [nn sp b1, nn n b3]; show ¬ _ > ((arrV c0 n0 (fun j => va_rf (f j))).slots.size : Int); rw [arrV_size]; omega)
    (by rw [nn dp b2, nn n b3]; show ¬ _ > ((arrV c1 n1 (fun j => va_rf (g j))).slots.size : Int); rw [arrV_size]; omega)
    (fun vm₁ hal i hi => by
      rw [hcl n b3] at hi
      rw [hcl sp b1]
      have e : (vp_cell c0 (n0, .inr (.inr (.inr (.inr f))))).slots.getD (sp + i) .null = va_rf (f (sp + i)) := by
        show (arrV c0 n0 (fun j => va_rf (f j))).slots.getD _ _ = _
        rw [Array.getD_eq_getD_getElem?, arrV_read _ _ (by omega)]
        rfl
      rw [e]
      cases hy : f (sp + i) with
      | none => exact ⟨rfl, trivial⟩
      | some y =>
        obtain ⟨cellV, g1, g2, g3⟩ := hel i hi y hy s H hGU.1 (jd_cs hGU hS) hP
        obtain ⟨kA, comp, r1, r2, r3, -⟩ := (hK.2 t1 _ ht1).2
        cases hk1.symm.trans r1
        cases hkk1.symm.trans r2
        obtain ⟨x0, x1, f1, f2, f3⟩ := Cond.castable_spec (va_Nw.use (A := args) rfl (hGU.1.2.1 _ qc rfl))
        cases g3.symm.trans f1
        cases r3.symm.trans f2
        obtain ⟨kC, hkC, -⟩ := Vm.findClass_spec f1
        obtain ⟨kE, hkE, -⟩ := Vm.findClass_spec f2
        obtain ⟨kC', hkC', -⟩ := hal.2.2 _ _ hkC
        obtain ⟨kE', hkE', -⟩ := hal.2.2 _ _ hkE
        refine ⟨rfl, cellV, (show T.heap[y]? = some cellV by rw [hT]; exact g1), (fun q h => by rw [h] at g2; cases g2), ⟨kC', hkC'⟩, ?_, ?_⟩
        · exact ⟨kE', hkE'⟩
        · show vm₁.assignable _ _ = true
          rw [hal.assignable]
          exact f3)
    (g := F0 m pc la (.int (nI n) :: .int (nI dp) :: .ref a1 :: .int (nI sp) :: .ref a0 :: st)) rfl (by rw [C.2.2.1]; exact hl.1) (rest := st) rfl (by rw [C.2.1]; exact dc) (by omega) (by
      have e9 : nativeFrameWords "java/lang/System" "arraycopy" 5 + 11 ≤ 92 := by decide
      show 2 * 0 + _ + _ ≤ _; omega)
  have e1 : copied (vp_cell c0 (n0, .inr (.inr (.inr (.inr f))))) (vp_cell c1 (n1, .inr (.inr (.inr (.inr g))))) (nI sp) (nI dp) (nI n) = vp_cell c1 (n1, .inr (.inr (.inr (.inr (va_cpy f g sp dp n))))) := by
    have h9 : copied (vp_cell c0 (n0, .inr (.inr (.inr (.inr f))))) (vp_cell c1 (n1, .inr (.inr (.inr (.inr g))))) (nI sp) (nI dp) (nI n) = vp_cell c1 (n1, .inr (.inr (.inr (.inr (va_cpy f g (nI sp).toNatClampNeg (nI dp).toNatClampNeg (nI n).toNatClampNeg))))) := by
      rw [vp_cell_q, vp_cell_q, vp_cell_q]
      exact va_copied (fun z => va_rf z) c0 c1 f g (by rw [hcl sp b1, hcl n b3]; exact h4)
    rw [hcl sp b1, hcl dp b2, hcl n b3] at h9
    exact h9
  rw [e1] at X' step
  have hl1 : a1 < H.size := (Array.getElem?_eq_some_iff.mp hc1).1
  have hheap : ((T.setVm vm').setCell a1 (vp_cell c1 (n1, .inr (.inr (.inr (.inr (va_cpy f g sp dp n))))))).heap = H.setIfInBounds a1 (vp_cell c1 (n1, .inr (.inr (.inr (.inr (va_cpy f g sp dp n)))))) := by rw [← hT]; rfl
  have oq : ∀ q : Nat, q ≠ a1 → (H.setIfInBounds a1 (vp_cell c1 (n1, .inr (.inr (.inr (.inr (va_cpy f g sp dp n)))))))[q]? = H[q]? := fun q hq => by simp [Array.getElem?_setIfInBounds, Ne.symm hq]
  have hA1 : jd_A G a1 := hP.lo ho1
  obtain ⟨t, x1, y1⟩ := kk p l e R s m args below meth c _ _ cells slots la C h1 h2 (hP.wr ho1 (show (H.setIfInBounds a1 _)[a1]? = some _ by simp [Array.getElem?_setIfInBounds, hl1]) oq) ⟨by simp; exact hS.1, fun q g1 g2 => by
      rw [oq q (fun e => g2 (by rw [e]; exact hA1))]
      exact hS.2.1 q g1 g2, fun q hq => by
      rcases List.mem_append.mp hq with h | h
      · exact hS.2.2 q h
      · obtain ⟨z, -, hz⟩ := List.mem_map.mp h
        rw [← hz]
        exact hA1⟩ hl _ hheap X'
  exact ⟨t, step t x1, y1⟩
end JL
