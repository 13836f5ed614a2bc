/-! ===== nr: the model's start, pure ===== -/
theorem jd_arrR {G : jd_G} {M : jd_M} {d cb sb pc : Nat} {ls : List (Option Value)} {st : List Value} {h : jd_H} {Q : Option Value → jd_H → Prop} {X : String → jd_H → Prop} {i : jd_Id} {a n : Nat} {cA : ClassId} {f : Nat → Option Nat} (hi : h i = some (a, .inl (.inl (cA, n, .inr (.inr (.inr (.inr f))))))) {f2 : Nat → Option Nat} (hf : ∀ k, k < n → f k = f2 k) (k : jd_W G M d cb sb pc ls st (jd_up h i (a, .inl (.inl (cA, n, .inr (.inr (.inr (.inr f2))))))) Q X) : jd_W G M d cb sb pc ls st h Q X := by
  intro p l e R s m args below meth c H locs cells slots la C g1 g2 hP hS hl
  refine k p l e R s m args below meth c H locs cells slots la C g1 g2 ?_ hS hl
  have hat : va_at G.1 jd_cl (a, .inl (cA, n, .inr (.inr (.inr (.inr f))))) H := hP.at hi
  refine hP.wr hi ?_ (fun _ _ => rfl)
  show H[a]? = some (vp_cell cA (n, .inr (.inr (.inr (.inr f2)))))
  have h1 : H[a]? = some (vp_cell cA (n, .inr (.inr (.inr (.inr f))))) := hat
  rw [h1]
  refine congrArg some ?_
  rw [vp_cell_q, vp_cell_q]
  have : (fun j : Fin n => va_rf (f j.val)) = fun j : Fin n => va_rf (f2 j.val) := funext fun j => by rw [hf j.val j.isLt]
  simp only [arrV, this]
theorem ll_ne0 {k : Nat} {j : jd_Id} (hj : (1 ≤ j.1 ∧ j.1 < 20) ∨ 40 ≤ j.1) : j ≠ (0, k) := fun z => by
  have : j.1 = 0 := by rw [z]
  omega
/-- the component's world at the start has nothing without a place -/
theorem WC.of0 {G : jd_G} {β : ll_B} {h h' : jd_H} (hw : WC G β k_0 h) (ho : ∀ j : jd_Id, (1 ≤ j.1 ∧ j.1 < 20) → h' j = h j) : WC G β k_0 h' := by
  have f_free := w_free hw
  have z : ∀ {P : Prop} {k : Nat}, k < 0 → P := fun h => absurd h (Nat.not_lt_zero _)
  have hx : ∀ {f j : Nat}, 1 ≤ f → f < 20 → h' (f, j) = h (f, j) := fun {f j} a b => ho _ ⟨a, b⟩
  refine ⟨(hx (by decide) (by decide)).trans (w_this hw), (hx (by decide) (by decide)).trans (w_row hw), fun k hk => (hx (by decide) (by decide)).trans (w_land hw k hk), fun k hk => z hk, fun k hk => z hk, fun k hk => z hk, ?_, ?_, ?_, ?_, ?_, fun k hk => z hk, fun k hk => z hk, fun k hk => z hk, fun k hk => z hk, fun k hk => z hk, fun k => ?_⟩
  · obtain ⟨m, hm⟩ := w_lands hw; exact ⟨m, (hx (by decide) (by decide)).trans hm⟩
  · obtain ⟨m, hm⟩ := w_gates hw; exact ⟨m, (hx (by decide) (by decide)).trans hm⟩
  · obtain ⟨m, hm⟩ := w_sleepers hw; exact ⟨m, (hx (by decide) (by decide)).trans hm⟩
  · obtain ⟨m, hm⟩ := w_parts hw; exact ⟨m, (hx (by decide) (by decide)).trans hm⟩
  · obtain ⟨m, hm⟩ := w_hidings hw; exact ⟨m, (hx (by decide) (by decide)).trans hm⟩
  · obtain ⟨g1, g2, g3⟩ := f_free k
    exact ⟨fun w => ⟨(hx (by decide) (by decide)).trans (g1 w).1, (hx (by decide) (by decide)).trans (g1 w).2.1, (hx (by decide) (by decide)).trans (g1 w).2.2⟩, fun w => (hx (by decide) (by decide)).trans (g2 w), fun w => (hx (by decide) (by decide)).trans (g3 w)⟩
/-- a store into an array over the object's own class -/
theorem jd_aastS {G : jd_G} {M : jd_M} {d cb sb pc : Nat} {ls : List (Option Value)} {st : List Value} {h : jd_H} {Q : Option Value → jd_H → Prop} {X : String → jd_H → Prop} {i : jd_Id} {a n ci N v : Nat} {T : u_T} {g : Nat → Option Nat} {j : Int32} {cA : ClassId} {En : String} (ho : h i = some (a, .inl (.inl (cA, n, .inr (.inr (.inr (.inr g))))))) (hv : jd_Rv G h En v) (hci : jd_cl[ci]? = some (En, T, N)) (dc : decode M.2.2.1 pc = .ok (.aastore, 1)) (t : Nat) (ht : (jd_tys G)[t]? = some (cA, .object En)) (hj : vp_in j n)
    (kk : jd_W G M d cb sb (pc + 1) ls st (jd_up h i (a, .inl (.inl (cA, n, .inr (.inr (.inr (.inr (va_up g j.toNatClampNeg (some v))))))))) Q X) : jd_W G M d cb sb pc ls (.ref v :: .int j :: .ref a :: st) h Q X := by
  intro p l e R s m args below meth c H locs cells slots la C h1 h2 hP hS hl
  have hGU := C.2.2.2.2.2.2.2.2.1
  have hlt : j.toNatClampNeg < n := Nat.not_le.mp fun q => hj (Or.inr q)
  have h0 : ¬ j < 0 := fun q => hj (Or.inl q)
  obtain ⟨cellV, g1, g2, g3⟩ := hv s H hGU.1 (jd_cs hGU hS) hP
  obtain ⟨kA, comp, k1, k2, k3, -⟩ := (hGU.1.1.2 t _ ht).2
  have hc := (hGU.1.1.1 ci _ hci).2
  obtain ⟨c0, f1, f3⟩ : ∃ c0, s.vm.findClass En = some c0 ∧ s.vm.assignable c0 c0 = true := ⟨_, hc.1, va_assign hc⟩
  cases g3.symm.trans f1
  cases k3.symm.trans f1
  obtain ⟨kv, hkv, -⟩ := Vm.findClass_spec f1
  refine W.aast C.1 C.2.1 (hP.at ho) (fun q h => by cases h) (fun h => by cases h) k1 k2 rfl hkv ⟨h0, by show _ < (arrV _ _ _).slots.size; rw [arrV_size]; exact hlt⟩ g1 (fun q h => by rw [h] at g2; cases g2) hkv f3 rfl rfl dc fun H1 e z oq => ?_
  refine kk p l _ R s m args below meth c H1 _ cells slots la C h1 h2 (hP.wr ho ?_ oq) (hS.put z oq (hP.lo ho)) hl
  show H1[a]? = some (vp_cell _ _)
  rw [e]
  rw [vp_cell_q, vp_cell_q, arrV_store]
  congr 2
  funext q
  by_cases hq : q = j.toNatClampNeg
  · subst hq
    simp [updV, va_up, va_rf]
  · simp [updV, va_up, hq]
