/-! ===== jc: stores into arrays, constants, casts, calls, throws ===== -/
section JC
variable {G : jd_G} {M : jd_M} {d cb sb pc : Nat} {ls ls' : List (Option Value)} {st : List Value} {h : jd_H} {Q : Option Value → jd_H → Prop} {X : String → jd_H → Prop}
variable {i : jd_Id} {a idx n : Nat} {f : Nat → Int32} {g : Nat → Option Nat} {j x : Int32} {cA : ClassId}
theorem jd_iast (ho : h i = some (a, .inl (.inl (G.2.1 0, n, .inl f)))) (dc : decode M.2.2.1 pc = .ok (.iastore, 1)) (hj : vp_in j n) (kk : jd_W G M d cb sb (pc + 1) ls st (jd_up h i (a, .inl (.inl (G.2.1 0, n, .inl (upd f j.toNatClampNeg x))))) Q X) : jd_W G M d cb sb pc ls (.int x :: .int j :: .ref a :: st) h Q X := by
  intro p l e R s m args below meth c H locs cells slots la C h1 h2 hP hS hl
  have hK := C.2.2.2.2.2.2.2.2.1.1.1
  refine W.iast C.1 C.2.1 (hP.at ho) ((hK.2 0 _ rfl).1 n (fun j => .int (f j))) (fun q => by cases q) (by show ¬ (j < 0 ∨ (arrV _ _ _).slots.size ≤ _); rw [arrV_size]; exact hj) rfl rfl dc fun H1 e z oq => ?_
  refine kk p l _ R s m args below meth c H1 _ cells slots la C h1 h2 (hP.wr ho ?_ oq) (hS.put z oq (hP.lo ho)) hl
  show H1[a]? = some (vp_cell _ _)
  rw [e]
  rw [vp_cell_i, vp_cell_i, arrV_store]
  congr 2
  funext q
  by_cases hq : q = j.toNatClampNeg
  · subst hq
    simp [updV, upd]
  · simp [updV, upd, hq]
theorem jd_zast (ho : h i = some (a, .inl (.inl (G.2.1 1, n, .inl f)))) (dc : decode M.2.2.1 pc = .ok (.bastore, 1)) (hj : vp_in j n) (hx : x = 0 ∨ x = 1) (kk : jd_W G M d cb sb (pc + 1) ls st (jd_up h i (a, .inl (.inl (G.2.1 1, n, .inl (upd f j.toNatClampNeg x))))) Q X) : jd_W G M d cb sb pc ls (.int x :: .int j :: .ref a :: st) h Q X := by
  intro p l e R s m args below meth c H locs cells slots la C h1 h2 hP hS hl
  have hK := C.2.2.2.2.2.2.2.2.1.1.1
  have hnar : vp_nar .boolean x = x := by rcases hx with rfl | rfl <;> decide
  refine W.zast C.1 C.2.1 (hP.at ho) ((hK.2 1 _ rfl).1 n (fun j => .int (f j))) (fun q => by cases q) (by show ¬ (j < 0 ∨ (arrV _ _ _).slots.size ≤ _); rw [arrV_size]; exact hj) rfl rfl dc fun H1 e z oq => ?_
  refine kk p l _ R s m args below meth c H1 _ cells slots la C h1 h2 (hP.wr ho ?_ oq) (hS.put z oq (hP.lo ho)) hl
  show H1[a]? = some (vp_cell _ _)
  rw [e]
  rw [vp_cell_i, vp_cell_i, arrV_store]
  congr 2
  funext q
  by_cases hq : q = j.toNatClampNeg
  · subst hq
    have hnv : narrow .boolean (.int x) = .int x := by rcases hx with rfl | rfl <;> rfl
    simp [updV, upd, hnv]
  · simp [updV, upd, hq]
theorem jd_bast (ho : h i = some (a, .inl (.inl (G.2.1 2, n, .inl f)))) (dc : decode M.2.2.1 pc = .ok (.bastore, 1)) (hj : vp_in j n) (hx : narrow .byte (.int x) = .int x) (kk : jd_W G M d cb sb (pc + 1) ls st (jd_up h i (a, .inl (.inl (G.2.1 2, n, .inl (upd f j.toNatClampNeg x))))) Q X) : jd_W G M d cb sb pc ls (.int x :: .int j :: .ref a :: st) h Q X := by
  intro p l e R s m args below meth c H locs cells slots la C h1 h2 hP hS hl
  have hK := C.2.2.2.2.2.2.2.2.1.1.1
  refine W.bast C.1 C.2.1 (hP.at ho) ((hK.2 2 _ rfl).1 n (fun j => .int (f j))) (fun q => by cases q) (by show ¬ (j < 0 ∨ (arrV _ _ _).slots.size ≤ _); rw [arrV_size]; exact hj) rfl rfl dc fun H1 e z oq => ?_
  refine kk p l _ R s m args below meth c H1 _ cells slots la C h1 h2 (hP.wr ho ?_ oq) (hS.put z oq (hP.lo ho)) hl
  show H1[a]? = some (vp_cell _ _)
  rw [e]
  rw [vp_cell_i, vp_cell_i, arrV_store]
  congr 2
  funext q
  by_cases hq : q = j.toNatClampNeg
  · subst hq
    simp [updV, upd, hx]
  · simp [updV, upd, hq]
/-- what a receiver (or what is cast) must be: an object of class Cn -/
def jd_Rv (G : jd_G) (h : jd_H) (Cn : String) (a : Nat) : Prop := ∀ (U : State) (H : Heap), jd_Wd G U → jd_Cs G U H → jd_Hp G h H → ∃ cell : Cell, H[a]? = some cell ∧ cell.vm.isStatics = false ∧ U.vm.findClass Cn = some cell.cls
theorem jd_rv {e : jd_E} (ho : h i = some (a, e)) (ci : Nat) {q : vw_C} (hci : jd_ci e = some ci) (hq : jd_cl[ci]? = some q) : jd_Rv G h q.1 a := fun _ _ hW _ hP => hP.recv hW.1 ho hci hq
theorem jd_rvR {k : Nat} (hk : k < 3) : jd_Rv G h "Lullabygate$Rest" (jd_rA G k) := fun _ _ _ hC _ => by
  obtain ⟨cell, h1, h2, h3, -⟩ := (hC.1.1 k hk).2.1
  exact ⟨cell, h1, h2, h3⟩
theorem jd_rvF {k : Nat} (hk : k < 6) : jd_Rv G h "Lullabygate$Fate" (jd_fA G k) := fun _ _ _ hC _ => by
  obtain ⟨cell, h1, h2, h3, -⟩ := (hC.2.1.1 k hk).2.1
  exact ⟨cell, h1, h2, h3⟩
theorem jd_rvB {k : Nat} (hk : k < 256) : jd_Rv G h "java/lang/Integer" (jd_bA G k) := fun _ _ _ hC _ => by
  obtain ⟨cell, h1, h2, h3, -⟩ := hC.2.2.2.2.1.2.2.2.1 k hk
  exact ⟨cell, h1, h2, h3⟩
theorem jd_rvE : jd_Rv G h "java/util/Optional" (jd_k G 1) := fun _ _ _ hC _ => by
  obtain ⟨cell, h1, h2, h3, -⟩ := hC.2.2.1.2.1
  exact ⟨cell, h1, h2, h3⟩
theorem jd_rvS {k : Nat} (hk : k < 4) : jd_Rv G h "java/lang/String" (jd_sA G k) := fun _ _ _ hC _ => by
  obtain ⟨cell, h1, h2, h3, -⟩ := (hC.2.2.2.2.2.2.1.1 k hk).1
  exact ⟨cell, h1, h2, h3⟩
theorem jd_cs {G : jd_G} {s : State} {H : Heap} {locs : List Loc} (hG : jd_GU G s) (hS : va_S (jd_A G) s.heap H locs) : jd_Cs G s H := hG.2.1.moved (Vm.Alike.refl s.vm) hS.2.1
/-- a store of a reference into an array of objects of class En -/
theorem jd_aast {En Cn : String} {v : Nat} (ho : h i = some (a, .inl (.inl (cA, n, .inr (.inr (.inr (.inr g))))))) (hv : jd_Rv G h Cn v) (dc : decode M.2.2.1 pc = .ok (.aastore, 1)) (t : Nat) (ht : (jd_tys G)[t]? = some (cA, .object En)) (qc : Cond.castable Cn En ∈ lw_tbl) (hj : vp_in j n)
    (kk : jd_W G M d cb sb (pc + 1) ls st (jd_up h i (a, .inl (.inl (cA, n, .inr (.inr (.inr (.inr (va_up g j.toNatClampNeg (some v))))))))) Q X) : jd_W G M d cb sb pc ls (.ref v :: .int j :: .ref a :: st) h Q X := by
  intro p l e R s m args below meth c H locs cells slots la C h1 h2 hP hS hl
  have hGU := C.2.2.2.2.2.2.2.2.1
  have hlt : j.toNatClampNeg < n := Nat.not_le.mp fun q => hj (Or.inr q)
  have h0 : ¬ j < 0 := fun q => hj (Or.inl q)
  obtain ⟨cellV, g1, g2, g3⟩ := hv s H hGU.1 (jd_cs hGU hS) hP
  obtain ⟨kA, comp, k1, k2, k3, -⟩ := (hGU.1.1.2 t _ ht).2
  obtain ⟨c0, t0, f1, f2, f3⟩ := Cond.castable_spec (va_Nw.use (A := args) rfl (hGU.1.2.1 _ qc rfl))
  cases g3.symm.trans f1
  cases k3.symm.trans f2
  obtain ⟨kv, hkv, -⟩ := Vm.findClass_spec f1
  obtain ⟨kc, hkc, -⟩ := Vm.findClass_spec f2
  refine W.aast C.1 C.2.1 (hP.at ho) (fun q h => by cases h) (fun h => by cases h) k1 k2 rfl hkc ⟨h0, by show _ < (arrV _ _ _).slots.size; rw [arrV_size]; exact hlt⟩ g1 (fun q h => by rw [h] at g2; cases g2) hkv f3 rfl rfl dc fun H1 e z oq => ?_
  refine kk p l _ R s m args below meth c H1 _ cells slots la C h1 h2 (hP.wr ho ?_ oq) (hS.put z oq (hP.lo ho)) hl
  show H1[a]? = some (vp_cell _ _)
  rw [e]
  rw [vp_cell_q, vp_cell_q, arrV_store]
  congr 2
  funext q
  by_cases hq : q = j.toNatClampNeg
  · subst hq
    simp [updV, va_up, va_rf]
  · simp [updV, va_up, hq]
theorem jd_aastN {En : String} (ho : h i = some (a, .inl (.inl (cA, n, .inr (.inr (.inr (.inr g))))))) (dc : decode M.2.2.1 pc = .ok (.aastore, 1)) (t : Nat) (ht : (jd_tys G)[t]? = some (cA, .object En)) (hj : vp_in j n)
    (kk : jd_W G M d cb sb (pc + 1) ls st (jd_up h i (a, .inl (.inl (cA, n, .inr (.inr (.inr (.inr (va_up g j.toNatClampNeg none)))))))) Q X) : jd_W G M d cb sb pc ls (.null :: .int j :: .ref a :: st) h Q X := by
  intro p l e R s m args below meth c H locs cells slots la C h1 h2 hP hS hl
  have hGU := C.2.2.2.2.2.2.2.2.1
  refine va_WaastN (C := En) C.1 C.2.1 (hP.at ho) ((hGU.1.1.2 t _ ht).1 n (fun j => va_rf (g j))) (fun h => by cases h) (by show ¬ (j < 0 ∨ (arrV _ _ _).slots.size ≤ _); rw [arrV_size]; exact hj) rfl rfl dc fun H1 e z oq => ?_
  refine kk p l _ R s m args below meth c H1 _ cells slots la C h1 h2 (hP.wr ho ?_ oq) (hS.put z oq (hP.lo ho)) hl
  show H1[a]? = some (vp_cell _ _)
  rw [e]
  rw [vp_cell_q, vp_cell_q, arrV_store]
  congr 2
  funext q
  by_cases hq : q = j.toNatClampNeg
  · subst hq
    simp [updV, va_up, va_rf]
  · simp [updV, va_up, hq]
theorem jd_cast {Cn nm : String} (hv : jd_Rv G h Cn a) (q : Cond.classLink M.1 idx nm ∈ lw_all) (qc : Cond.castable Cn nm ∈ lw_tbl) (dc : decode M.2.2.1 pc = .ok (.checkcast idx, 3)) (kk : jd_W G M d cb sb (pc + 3) ls (.ref a :: st) h Q X) : jd_W G M d cb sb pc ls (.ref a :: st) h Q X := by
  intro p l e R s m args below meth c H locs cells slots la C h1 h2 hP hS hl
  have hGU := C.2.2.2.2.2.2.2.2.1
  exact va_castY C.1 C.2.1 C.2.2.2.2.2.2.1 (C.2.2.2.2.2.2.2.1 _ q) (hGU.1.2.1 _ qc rfl) (hv s H hGU.1 (jd_cs hGU hS) hP) dc (kk p l e R s m args below meth c H locs cells slots la C h1 h2 hP hS hl)
theorem jd_inst {Cn nm : String} (hv : jd_Rv G h Cn a) (q : Cond.classLink M.1 idx nm ∈ lw_all) (qc : Cond.castable Cn nm ∈ lw_tbl) (dc : decode M.2.2.1 pc = .ok (.instanceof idx, 3)) (kk : jd_W G M d cb sb (pc + 3) ls (.int 1 :: st) h Q X) : jd_W G M d cb sb pc ls (.ref a :: st) h Q X := by
  intro p l e R s m args below meth c H locs cells slots la C h1 h2 hP hS hl
  have hGU := C.2.2.2.2.2.2.2.2.1
  exact va_instY C.1 C.2.1 C.2.2.2.2.2.2.1 (C.2.2.2.2.2.2.2.1 _ q) (hGU.1.2.1 _ qc rfl) (hv s H hGU.1 (jd_cs hGU hS) hP) dc (kk p l e R s m args below meth c H locs cells slots la C h1 h2 hP hS hl)
/-- a static field that holds a constant -/
theorem jd_gets {Cn nm ds : String} {v : Value} (hz : ∀ (U : State) (H : Heap), jd_Cs G U H → va_Z Cn nm ds v (jd_A G) U H) (q : Cond.fieldLink M.1 idx Cn nm ds ∈ lw_all) (dc : decode M.2.2.1 pc = .ok (.getstatic idx, 3)) (kk : jd_W G M d cb sb (pc + 3) ls (v :: st) h Q X) : jd_W G M d cb sb pc ls st h Q X := by
  intro p l e R s m args below meth c H locs cells slots la C h1 h2 hP hS hl
  have hGU := C.2.2.2.2.2.2.2.2.1
  exact va_gets C.1 C.2.1 (hz s s.heap hGU.2.1) hS C.2.2.2.2.2.2.1 (C.2.2.2.2.2.2.2.1 _ q) (fun _ h => h) dc (kk p l e R s m args below meth c H locs cells slots la C h1 h2 hP hS hl)
theorem jd_zR {k : Nat} {nm : String} (hk : k < 3) (hn : ["RESTING", "QUEUED", "AWAKE"].getD k "" = nm) : ∀ (U : State) (H : Heap), jd_Cs G U H → va_Z "Lullabygate$Rest" nm "LLullabygate$Rest;" (.ref (jd_rA G k)) (jd_A G) U H := fun U H hC => by
  subst hn
  exact (hC.1.1 k hk).1
theorem jd_zF {k : Nat} {nm : String} (hk : k < 6) (hn : ["UNTOLD", "DECLARED", "EXEMPT", "CAUGHT", "SLIPPED", "TURNED"].getD k "" = nm) : ∀ (U : State) (H : Heap), jd_Cs G U H → va_Z "Lullabygate$Fate" nm "LLullabygate$Fate;" (.ref (jd_fA G k)) (jd_A G) U H := fun U H hC => by
  subst hn
  exact (hC.2.1.1 k hk).1
/-- a field of a constant object -/
theorem jd_getC {o nm ds : String} {v : Value} (hz : ∀ (U : State) (H : Heap), jd_Cs G U H → va_OF o nm ds v a (jd_A G) U H) (q : Cond.fieldLink M.1 idx o nm ds ∈ lw_all) (dc : decode M.2.2.1 pc = .ok (.getfield idx, 3)) (kk : jd_W G M d cb sb (pc + 3) ls (v :: st) h Q X) : jd_W G M d cb sb pc ls (.ref a :: st) h Q X := by
  intro p l e R s m args below meth c H locs cells slots la C h1 h2 hP hS hl
  have hGU := C.2.2.2.2.2.2.2.2.1
  obtain ⟨cf, k, fi, f, cell, g1, g2, g3, g4, g5, g6⟩ := hz s H (jd_cs hGU hS)
  exact W.getf C.1 C.2.1 C.2.2.2.2.2.2.1 (C.2.2.2.2.2.2.2.1 _ q) g1 g2 g3 g4 (v := v) g5 rfl rfl dc (kk p l e R s m args below meth c H locs cells slots la C h1 h2 hP hS hl)
theorem jd_ldcS {tx : String} (hz : ∀ U, jd_Wd G U → vk_R M.1 idx tx a U) (dc : decode M.2.2.1 pc = .ok (.ldc idx, 2)) (kk : jd_W G M d cb sb (pc + 2) ls (.ref a :: st) h Q X) : jd_W G M d cb sb pc ls st h Q X := by
  intro p l e R s m args below meth c H locs cells slots la C h1 h2 hP hS hl
  have hGU := C.2.2.2.2.2.2.2.2.1
  exact va_ldcS C.1 C.2.1 C.2.2.2.2.2.2.1 (hz s hGU.1) dc (kk p l e R s m args below meth c H locs cells slots la C h1 h2 hP hS hl)
/-- Object's constructor -/
theorem jd_oinit (q1 : Cond.methodLink M.1 idx objectInit ∈ lw_all) (q2 : Cond.instanceMethod objectInit ∈ lw_all) (q3 : Cond.code objectInit ⟨#[0xb1]⟩ 1 none ∈ lw_all) (dc : decode M.2.2.1 pc = .ok (.invokespecial idx, 3)) (hd : 1 ≤ d) (kk : jd_W G M d cb sb (pc + 3) ls st h Q X) (hw : (st.map fun v => v.category).sum ≤ 8) : jd_W G M d cb sb pc ls (.ref a :: st) h Q X := by
  intro p l e R s m args below meth c H locs cells slots la C h1 h2 hP hS hl
  have hts := C.2.2.2.2.2.2.2.1
  have hd1 := C.2.2.2.2.2.2.2.2.2.1
  have hd2 := C.2.2.2.2.2.2.2.2.2.2.1
  refine W.objInit C.1 C.2.1 C.2.2.2.2.2.2.1 (hts _ q1) (hts _ q2) (hts _ q3) rfl (by rw [C.2.2.1]; exact hl.1) rfl dc ?_ ?_ ?_
  all_goals first | omega | (have := lv_room (m := m) (pc := pc) (ls := la) (rest := .ref a :: st) hw; omega) | skip
  exact kk p l e R s m args below meth c H locs cells slots la C h1 h2 hP hS hl
end JC
