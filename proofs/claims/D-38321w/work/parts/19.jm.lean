/-! ===== jm: class objects of arrays; heaps that come back ===== -/
section JM
variable {G : jd_G} {M : jd_M} {d cb sb pc : Nat} {ls : List (Option Value)} {st : List Value} {h : jd_H} {Q : Option Value → jd_H → Prop} {X : String → jd_H → Prop}
variable {i : jd_Id} {a idx : Nat}
theorem jd_getClass {n : Nat} {g : Nat → Option Nat} (ho : h i = some (a, jd_la G n g)) (q1 : Cond.methodLink M.1 idx ⟨"java/lang/Object", "getClass", "()Ljava/lang/Class;"⟩ ∈ lw_all) (q2 : Cond.declares ⟨"java/lang/Object", "getClass", "()Ljava/lang/Class;"⟩ ∈ lw_tbl) (q3 : Cond.selects "[Ljava/lang/Object;" ⟨"java/lang/Object", "getClass", "()Ljava/lang/Class;"⟩ ⟨"java/lang/Object", "getClass", "()Ljava/lang/Class;"⟩ ∈ lw_all) (q4 : Cond.instanceMethod ⟨"java/lang/Object", "getClass", "()Ljava/lang/Class;"⟩ ∈ lw_all) (q5 : Cond.native ⟨"java/lang/Object", "getClass", "()Ljava/lang/Class;"⟩ ∈ lw_all) (dc : decode M.2.2.1 pc = .ok (.invokevirtual idx, 3)) (hd : 1 ≤ d) (hw : (st.map fun v => v.category).sum ≤ 8) (kk : jd_W G M d cb sb (pc + 3) ls (.ref (jd_k G 5) :: st) h Q X) : jd_W G M d cb sb pc ls (.ref a :: st) h Q X := by
  intro p l e R s m args below meth c H locs cells slots la C h1 h2 hP hS hl
  have hts := C.2.2.2.2.2.2.2.1
  have hGU := C.2.2.2.2.2.2.2.2.1
  have hd1 := C.2.2.2.2.2.2.2.2.2.1
  have hd2 := C.2.2.2.2.2.2.2.2.2.2.1
  obtain ⟨mi, emi, hM⟩ := hGU.1.2.2.2.1
  subst emi
  have hnm : s.vm.findClass "[Ljava/lang/Object;" = some (G.2.1 3) := va_nmO (hGU.1.1.2 3 _ rfl).2 (by decide)
  refine va_getC C.1 C.2.1 (C.2.2.1.trans hl.1.symm) C.2.2.2.2.2.2.1 (hts _ q1) (va_Nw.use rfl (hGU.1.2.1 _ q2 rfl)) (hts _ q3) (hts _ q4) (hts _ q5) hM ⟨_, hP.at ho, rfl, hnm⟩ (by omega) (by omega) dc (kk p l e R s m args below meth c H locs cells slots la C h1 h2 hP hS hl)
theorem jd_ldcM (q1 : Cond.classLink M.1 idx "[Ljava/lang/Object;" ∈ lw_all) (dc : decode M.2.2.1 pc = .ok (.ldc idx, 2)) (kk : jd_W G M d cb sb (pc + 2) ls (.ref (jd_k G 5) :: st) h Q X) : jd_W G M d cb sb pc ls st h Q X := by
  intro p l e R s m args below meth c H locs cells slots la C h1 h2 hP hS hl
  have hGU := C.2.2.2.2.2.2.2.2.1
  obtain ⟨mi, emi, hM⟩ := hGU.1.2.2.2.1
  subst emi
  exact va_ldcM C.1 C.2.1 C.2.2.2.2.2.2.1 (C.2.2.2.2.2.2.2.1 _ q1) hM dc (kk p l e R s m args below meth c H locs cells slots la C h1 h2 hP hS hl)
end JM
theorem jd_maxN {a b : Nat} (ha : a < 2 ^ 31) (hb : b < 2 ^ 31) : (if nI a < nI b then nI b else nI a) = nI (max a b) := by
  by_cases h : a < b
  · rw [if_pos ((nI_ltI ha hb).mpr h), Nat.max_eq_right (Nat.le_of_lt h)]
  · rw [if_neg (fun z => h ((nI_ltI ha hb).mp z)), Nat.max_eq_left (Nat.le_of_not_lt h)]
theorem jd_minN {a b : Nat} (ha : a < 2 ^ 31) (hb : b < 2 ^ 31) : (if nI b < nI a then nI b else nI a) = nI (min a b) := by
  by_cases h : b < a
  · rw [if_pos ((nI_ltI hb ha).mpr h), Nat.min_eq_right (Nat.le_of_lt h)]
  · rw [if_neg (fun z => h ((nI_ltI hb ha).mp z)), Nat.min_eq_left (Nat.le_of_not_lt h)]
theorem jd_nes {h : jd_H} {i j : jd_Id} {x : Nat × jd_E} (hi : h i = some x) (hj : h j = none) : i ≠ j := fun z => by rw [z, hj] at hi; cases hi
/-- a list that was opened, changed and closed -/
theorem jd_bk {h : jd_H} {i j : jd_Id} {x y z : Nat × jd_E} (hij : i ≠ j) (hj : h j = none) : jd_up (jd_rm (jd_up (jd_up h i x) j y) j) i z = jd_up h i z := by
  funext k
  by_cases h1 : k = i
  · subst h1; rw [jd_up_s, jd_up_s]
  · rw [jd_up_n h1, jd_up_n h1]
    by_cases h2 : k = j
    · subst h2; rw [jd_rm_s, hj]
    · rw [jd_rm_n h2, jd_up_n h2, jd_up_n h1]
theorem jd_bk2 {h : jd_H} {i j : jd_Id} {x y z w v : Nat × jd_E} (hij : i ≠ j) (hj : h j = none) : jd_up (jd_rm (jd_up (jd_up (jd_up h i x) j y) i w) j) i z = jd_up h i z := by
  funext k
  by_cases h1 : k = i
  · subst h1; rw [jd_up_s, jd_up_s]
  · rw [jd_up_n h1, jd_up_n h1]
    by_cases h2 : k = j
    · subst h2; rw [jd_rm_s, hj]
    · rw [jd_rm_n h2, jd_up_n h1, jd_up_n h2, jd_up_n h1]
/-- at all names but i and the new ones below the heaps agree: what is dropped -/
theorem jd_dp {h h' : jd_H} {i : jd_Id} {z : Nat × jd_E} (hi : h' i = some z) (ho : ∀ j x, j ≠ i → h j = some x → h' j = some x) : ∀ j x, jd_up h i z j = some x → h' j = some x := fun j x hj => by
  by_cases h1 : j = i
  · subst h1; rw [jd_up_s] at hj; rw [hi]; exact hj
  · rw [jd_up_n h1] at hj; exact ho j x h1 hj
section JMM
variable {G : jd_G} {M : jd_M} {d cb sb pc idx : Nat} {ls : List (Option Value)} {st : List Value} {h : jd_H} {Q : Option Value → jd_H → Prop} {X : String → jd_H → Prop} {x y : Int32}
theorem jd_mmax (q1 : Cond.methodLink M.1 idx Lib.Math.max.name ∈ lw_all) (q2 : Cond.static Lib.Math.max.name ∈ lw_all) (q3 : Cond.initialized "java/lang/Math" ∈ lw_all) (q4 : Cond.code Lib.Math.max.name Lib.Math.max.code 2 (some .int) ∈ lw_all) (dc : decode M.2.2.1 pc = .ok (.invokestatic idx, 3)) (hd : 1 ≤ d) (hw : (st.map fun v => v.category).sum ≤ 8) (k : jd_W G M d cb sb (pc + 3) ls (.int (if x < y then y else x) :: st) h Q X) : jd_W G M d cb sb pc ls (.int y :: .int x :: st) h Q X := by
  intro p l e R s m args below meth c H locs cells slots la C h1 h2 hP hS hl
  have hts := C.2.2.2.2.2.2.2.1
  have hd1 := C.2.2.2.2.2.2.2.2.2.1
  have hd2 := C.2.2.2.2.2.2.2.2.2.2.1
  exact va_mmax C.1 C.2.1 (C.2.2.1.trans hl.1.symm) C.2.2.2.2.2.2.1 (hts _ q1) (hts _ q2) (hts _ q3) (hts _ q4) (by omega) (by omega) (by omega) (by omega) dc (k p l e R s m args below meth c H locs cells slots la C h1 h2 hP hS hl)
theorem jd_mmin (q1 : Cond.methodLink M.1 idx Lib.Math.min.name ∈ lw_all) (q2 : Cond.static Lib.Math.min.name ∈ lw_all) (q3 : Cond.initialized "java/lang/Math" ∈ lw_all) (q4 : Cond.code Lib.Math.min.name Lib.Math.min.code 2 (some .int) ∈ lw_all) (dc : decode M.2.2.1 pc = .ok (.invokestatic idx, 3)) (hd : 1 ≤ d) (hw : (st.map fun v => v.category).sum ≤ 8) (k : jd_W G M d cb sb (pc + 3) ls (.int (if y < x then y else x) :: st) h Q X) : jd_W G M d cb sb pc ls (.int y :: .int x :: st) h Q X := by
  intro p l e R s m args below meth c H locs cells slots la C h1 h2 hP hS hl
  have hts := C.2.2.2.2.2.2.2.1
  have hd1 := C.2.2.2.2.2.2.2.2.2.1
  have hd2 := C.2.2.2.2.2.2.2.2.2.2.1
  exact va_mmin C.1 C.2.1 (C.2.2.1.trans hl.1.symm) C.2.2.2.2.2.2.1 (hts _ q1) (hts _ q2) (hts _ q3) (hts _ q4) (by omega) (by omega) (by omega) (by omega) dc (k p l e R s m args below meth c H locs cells slots la C h1 h2 hP hS hl)
theorem jd_mabs (q1 : Cond.methodLink M.1 idx Lib.Math.abs.name ∈ lw_all) (q2 : Cond.static Lib.Math.abs.name ∈ lw_all) (q3 : Cond.initialized "java/lang/Math" ∈ lw_all) (q4 : Cond.code Lib.Math.abs.name Lib.Math.abs.code 1 (some .int) ∈ lw_all) (dc : decode M.2.2.1 pc = .ok (.invokestatic idx, 3)) (hd : 1 ≤ d) (hw : (st.map fun v => v.category).sum ≤ 8) (k : jd_W G M d cb sb (pc + 3) ls (.int (if 0 ≤ x then x else 0 - x) :: st) h Q X) : jd_W G M d cb sb pc ls (.int x :: st) h Q X := by
  intro p l e R s m args below meth c H locs cells slots la C h1 h2 hP hS hl
  have hts := C.2.2.2.2.2.2.2.1
  have hd1 := C.2.2.2.2.2.2.2.2.2.1
  have hd2 := C.2.2.2.2.2.2.2.2.2.2.1
  exact va_mabs C.1 C.2.1 (C.2.2.1.trans hl.1.symm) C.2.2.2.2.2.2.1 (hts _ q1) (hts _ q2) (hts _ q3) (hts _ q4) (by omega) (by omega) (by omega) (by omega) dc (k p l e R s m args below meth c H locs cells slots la C h1 h2 hP hS hl)
end JMM
theorem jd_updG {G : jd_G} {M : jd_M} {d cb sb pc : Nat} {ls : List (Option Value)} {st : List Value} {h : jd_H} {Q : Option Value → jd_H → Prop} {X : String → jd_H → Prop} {i : jd_Id} {x : Nat × jd_E} (k : ∀ h' : jd_H, h' i = some x → (∀ j, j ≠ i → h' j = h j) → jd_W G M d cb sb pc ls st h' Q X) : jd_W G M d cb sb pc ls st (jd_up h i x) Q X := k _ jd_up_s (fun _ hj => jd_up_n hj)
theorem jd_kp.of {h h' : jd_H} {i : jd_Id} {a : Nat} {e e' : jd_E} (hi : h i = some (a, e)) (hs : h' i = some (a, e')) (ho : ∀ j, j ≠ i → h' j = h j) (hc : ∀ ci, jd_cx e = some ci → jd_cx e' = some ci) : jd_kp h h' := fun j x f hf => by
  by_cases hj : j = i
  · subst hj
    rw [hi] at hf; cases hf
    exact ⟨e', hs, hc⟩
  · exact ⟨f, (ho j hj).trans hf, fun _ h => h⟩
theorem jd_kp.ofN {h h' : jd_H} {i : jd_Id} (hi : h i = none) (ho : ∀ j, j ≠ i → h' j = h j) : jd_kp h h' := fun j x f hf => by
  have hj : j ≠ i := fun z => by rw [z, hi] at hf; cases hf
  exact ⟨f, (ho j hj).trans hf, fun _ h => h⟩
/-- an element of a constant array of references, of bytes -/
theorem jd_aaldC {G : jd_G} {M : jd_M} {d cb sb pc : Nat} {ls : List (Option Value)} {st : List Value} {h : jd_H} {Q : Option Value → jd_H → Prop} {X : String → jd_H → Prop} {En : String} {t n k y : Nat} {f : Nat → Value} (hz : ∀ (U : State) (H : Heap), jd_Cs G U H → va_T (.object En) t n f (jd_A G) U H) (dc : decode M.2.2.1 pc = .ok (.aaload, 1)) (hk : k < n) (hn : n < 2 ^ 31) (hy : f k = .ref y) (kk : jd_W G M d cb sb (pc + 1) ls (.ref y :: st) h Q X) : jd_W G M d cb sb pc ls (.int (nI k) :: .ref t :: st) h Q X := by
  intro p l e R s m args below meth c H locs cells slots la C h1 h2 hP hS hl
  have hGU := C.2.2.2.2.2.2.2.2.1
  obtain ⟨cell, e1, e2, e3, e4, e5, e6, e7⟩ := hz s H (jd_cs hGU hS)
  refine W.aald (v := .ref y) C.1 C.2.1 e1 e2 rfl e3 (fun z => ?_) ?_ rfl rfl dc (kk p l e R s m args below meth c H locs cells slots la C h1 h2 hP hS hl)
  · rcases z with z | z
    · exact nI_pos (by omega) z
    · rw [nI_clamp (by omega)] at z; omega
  · rw [nI_clamp (by omega), e6 k hk, hy]
theorem jd_baldC {G : jd_G} {M : jd_M} {d cb sb pc : Nat} {ls : List (Option Value)} {st : List Value} {h : jd_H} {Q : Option Value → jd_H → Prop} {X : String → jd_H → Prop} {t n k : Nat} {y : Int32} {f : Nat → Value} (hz : ∀ (U : State) (H : Heap), jd_Cs G U H → va_T .byte t n f (jd_A G) U H) (dc : decode M.2.2.1 pc = .ok (.baload, 1)) (hk : k < n) (hn : n < 2 ^ 31) (hy : f k = .int y) (kk : jd_W G M d cb sb (pc + 1) ls (.int y :: st) h Q X) : jd_W G M d cb sb pc ls (.int (nI k) :: .ref t :: st) h Q X := by
  intro p l e R s m args below meth c H locs cells slots la C h1 h2 hP hS hl
  have hGU := C.2.2.2.2.2.2.2.2.1
  obtain ⟨cell, e1, e2, e3, e4, e5, e6, e7⟩ := hz s H (jd_cs hGU hS)
  refine W.bald (v := .int y) C.1 C.2.1 e1 e2 e3 (fun z => ?_) ?_ rfl rfl dc (kk p l e R s m args below meth c H locs cells slots la C h1 h2 hP hS hl)
  · rcases z with z | z
    · exact nI_pos (by omega) z
    · rw [nI_clamp (by omega)] at z; omega
  · rw [nI_clamp (by omega), e6 k hk, hy]
/-- the box of a small natural number -/
def jd_bx (G : jd_G) (v : Nat) : Nat := jd_bA G (v + 128)
theorem jd_bx_Ob {G : jd_G} {h : jd_H} {v : Nat} (hv : v < 128) : jd_Ob G h "java/lang/Integer" (jd_bx G v) := Or.inr (Or.inl ⟨v + 128, by omega, rfl, rfl⟩)
theorem jd_bx_v {v : Nat} (hv : v < 128) : vb_c (v + 128) = nI v := by
  unfold vb_c
  have := pk_sub (a := v + 128) (b := 128) (by omega)
  rw [Nat.add_sub_cancel] at this
  exact this
theorem jd_bx_f {G : jd_G} {v : Nat} (hv : v < 128) : ∀ (U : State) (H : Heap), jd_Cs G U H → va_OF "java/lang/Integer" "value" "I" (.int (nI v)) (jd_bx G v) (jd_A G) U H := fun U H hC => by
  have := hC.2.2.2.2.1.2.2.2.2 (v + 128) (by omega)
  simp only [jd_bx_v hv] at this
  exact this
theorem jd_getLN {G : jd_G} {M : jd_M} {d cb sb pc idx a : Nat} {i : jd_Id} {x : Int32 × Nat × (Nat → Nat)} {ls : List (Option Value)} {st : List Value} {h : jd_H} {Q : Option Value → jd_H → Prop} {X : String → jd_H → Prop} {host : String} (ho : h i = some (a, .inr x)) (k : Nat) (q : Cond.fieldLinkNest M.1 idx (TJ2 k).1 (TJ2 k).2.1 (TJ2 k).2.2.1 host ∈ lw_tbl) (dc : decode M.2.2.1 pc = .ok (.getfield idx, 3)) {v : Value} (hv : (k = 0 ∧ v = .int x.1) ∨ (k = 2 ∧ v = .int (nI x.2.1))) (kk : jd_W G M d cb sb (pc + 3) ls (v :: st) h Q X) : jd_W G M d cb sb pc ls (.ref a :: st) h Q X := by
  intro p l e R s m args below meth c H locs cells slots la C h1 h2 hP hS hl
  have hts := C.2.2.2.2.2.2.2.1
  obtain ⟨c', hc', hR⟩ := id hP
  obtain ⟨b, cap, g, g1, -⟩ := hR i a _ ho
  have hat := (hc'.1 _ _ _ g1).2
  refine va_getN (C := RJ2) (T := TJ2) (N := 3) (v := v) C.1 C.2.1 hts in_J2 C.2.2.2.2.2.2.1 C.2.2.2.2.2.2.2.2.1.1.1 (jd_one hat) 0 rfl rfl k (by rcases hv with ⟨e, -⟩ | ⟨e, -⟩ <;> (rw [e]; decide)) (va_Nw.use rfl (C.2.2.2.2.2.2.2.2.1.1.2.1 _ q rfl)) (fun _ h => h) ?_ dc (kk p l e R s m args below meth c H locs cells slots la C h1 h2 hP hS hl)
  rcases hv with ⟨e, f⟩ | ⟨e, f⟩
  · subst e; subst f; rfl
  · subst e; subst f; rfl
theorem jd_castS {G : jd_G} {M : jd_M} {d cb sb pc idx a ci N : Nat} {T : u_T} {ls : List (Option Value)} {st : List Value} {h : jd_H} {Q : Option Value → jd_H → Prop} {X : String → jd_H → Prop} {Cn : String} (hv : jd_Rv G h Cn a) (hci : jd_cl[ci]? = some (Cn, T, N)) (q : Cond.classLink M.1 idx Cn ∈ lw_all) (dc : decode M.2.2.1 pc = .ok (.checkcast idx, 3)) (kk : jd_W G M d cb sb (pc + 3) ls (.ref a :: st) h Q X) : jd_W G M d cb sb pc ls (.ref a :: st) h Q X := by
  intro p l e R s m args below meth c H locs cells slots la C h1 h2 hP hS hl
  have hGU := C.2.2.2.2.2.2.2.2.1
  exact va_castS C.1 C.2.1 C.2.2.2.2.2.2.1 (C.2.2.2.2.2.2.2.1 _ q) (hGU.1.1.1 ci _ hci).2 (hv s H hGU.1 (jd_cs hGU hS) hP) dc (kk p l e R s m args below meth c H locs cells slots la C h1 h2 hP hS hl)
