/-! ===== mz: what the model answers ===== -/
/-- a call of the model: refused with the number c, or answered with v and a new state -/
def jd_mo (G : jd_G) (γ : ll_B) (κ : ll_K) (h : jd_H) (c : Nat) (v : Value) (κ' : ll_K) : Option Value → jd_H → Prop := fun r h2 =>
  (∃ w, r = some w ∧ (c = 0 → w = v) ∧ (c ≠ 0 → ∃ x, w = .int x)) ∧ (∃ (γ' : ll_B) (μ' : ll_U), γ' 0 0 = γ 0 0 ∧ WM G γ' (if c = 0 then κ' else κ) μ' h2 ∧ μ'.1 0 0 = nI c) ∧ ∀ j : jd_Id, (j.1 < 20 ∨ 40 ≤ j.1) → h2 j = h j
theorem jd_mo.ok {G : jd_G} {γ γ' : ll_B} {κ κ' : ll_K} {h h2 : jd_H} {c : Nat} {v w : Value} {μ' : ll_U} (hc : c = 0) (hr : w = v) (hg : γ' 0 0 = γ 0 0) (hw : WM G γ' κ' μ' h2) (ht : μ'.1 0 0 = 0) (hf : ∀ j : jd_Id, (j.1 < 20 ∨ 40 ≤ j.1) → h2 j = h j) : jd_mo G γ κ h c v κ' (some w) h2 :=
  ⟨⟨w, rfl, fun _ => hr, fun e => absurd hc e⟩, ⟨γ', μ', hg, by rw [if_pos hc]; exact hw, by rw [hc]; exact ht⟩, hf⟩
theorem jd_mo.no {G : jd_G} {γ γ' : ll_B} {κ κ' : ll_K} {h h2 : jd_H} {c k : Nat} {v : Value} {x : Int32} {μ' : ll_U} (hc : c = k) (hk : k ≠ 0) (hg : γ' 0 0 = γ 0 0) (hw : WM G γ' κ μ' h2) (ht : μ'.1 0 0 = nI k) (hf : ∀ j : jd_Id, (j.1 < 20 ∨ 40 ≤ j.1) → h2 j = h j) : jd_mo G γ κ h c v κ' (some (.int x)) h2 :=
  ⟨⟨_, rfl, fun e => absurd (hc.symm.trans e) hk, fun _ => ⟨x, rfl⟩⟩, ⟨γ', μ', hg, by rw [if_neg (fun e => hk (hc.symm.trans e))]; exact hw, by rw [hc]; exact ht⟩, hf⟩
theorem ll_nel {f k : Nat} {j : jd_Id} (hf : 20 ≤ f ∧ f < 40) (hj : j.1 < 20 ∨ 40 ≤ j.1) : j ≠ (f, k) := fun z => by
  have : j.1 = f := by rw [z]
  omega
theorem in6 {x : Int32} : (¬ x < 0 ∧ ¬ 5 < x) ↔ inN x 6 := by
  show _ ↔ ¬ x < 0 ∧ x < nI 6
  have e6 : (nI 6).toInt = 6 := nI_toInt (by omega)
  have e5 : (5 : Int32).toInt = 5 := by decide
  rw [i_lt (a := 5), i_lt (b := nI 6), e6, e5]
  constructor
  · exact fun w => ⟨w.1, by have := w.2; omega⟩
  · exact fun w => ⟨w.1, by have := w.2; omega⟩
theorem inNn {x : Int32} {n : Nat} (hn : n ≤ 900) : (¬ x < 0 ∧ ¬ (nI n - 1) < x) ↔ inN x n := by
  show _ ↔ ¬ x < 0 ∧ x < nI n
  have e1 : (1 : Int32).toInt = 1 := by decide
  have en : (nI n).toInt = n := nI_toInt (by omega)
  have es : (nI n - 1).toInt = (n : Int) - 1 := by rw [i_sub (by rw [en, e1]; omega) (by rw [en, e1]; omega), en, e1]
  rw [i_lt (a := nI n - 1), i_lt (b := nI n), en, es]
  constructor
  · exact fun w => ⟨w.1, by have := w.2; omega⟩
  · exact fun w => ⟨w.1, by have := w.2; omega⟩
/-- inside an act of the model: the state is κ', no refusal -/
def jd_mf (G : jd_G) (γ : ll_B) (κ' : ll_K) (h : jd_H) (t : Int32) (v : Option Value) : Option Value → jd_H → Prop := fun r h2 => r = v ∧ (∃ μ' : ll_U, WM G γ κ' μ' h2 ∧ μ'.1 0 0 = t) ∧ ∀ j : jd_Id, (j.1 < 20 ∨ 40 ≤ j.1) → h2 j = h j
theorem six_nI {x : Int32} : (¬ x < 0 ∧ x < 6) = inN x 6 := rfl
theorem at_ne {κ : ll_K} (hI : ll_I κ) {p : Nat} (hp : p < nP κ) (h : pAt κ p < 100) : ¬ pHead κ p = none := by
  rcases at_cases hI hp with ⟨j, h1, _, _, _⟩ | ⟨l, _, _, _, e⟩ | ⟨_, _, e⟩
  · rw [h1]; exact fun w => by cases w
  · omega
  · omega
theorem at_nn {κ : ll_K} (hI : ll_I κ) {p : Nat} (hp : p < nP κ) (h : 100 ≤ pAt κ p) : pHead κ p = none := by
  have := hI.1.2.1
  rcases at_cases hI hp with ⟨j, _, _, h3, e⟩ | ⟨l, h1, _, _, _⟩ | ⟨h1, _, _⟩
  · omega
  · exact h1
  · exact h1
theorem m_sing {G : jd_G} {γ : ll_B} {κ : ll_K} {μ : ll_U} {h h' : jd_H} (hw : WM G γ κ μ h) {k : Nat} (hk : k < nS κ) {q : Nat × Nat × Nat} (hs : h' (27, k) = some (γ 5 k, .inl (.inr (12, [.int (nI (sLand κ k)), .int (jd_b (sBaby κ k = true)), .int (sPat κ k), .int (nI (sRest κ k)), .int (oI (sGate κ k)), .int (μ.1 2 k), .int (nI q.1), .int (nI q.2.1), .int (nI q.2.2)])))) (ho : ∀ j, j ≠ (27, k) → h' j = h j) : WM G γ (ll_sp κ k (some q)) (mu_s (mu_s μ 3 k (nI q.1)) 4 k (nI q.2.1)) h' := by
  have f5 := w_msleeper hw
  have f14 := w_mpass hw
  have fg := w_mgates hw
  have fs := w_msleepers hw
  have fp := w_mparts hw
  have fh := w_mhidings hw
  have fq := w_mqueue hw
  have f1 := w_mthis hw
  have f2 := w_mland hw
  have f3 := w_mgate hw
  have f6 := w_mpart hw
  have f7 := w_mlands hw
  have f8 := w_mmore hw
  have f9 := w_mrev hw
  have f10 := w_mdecl hw
  have f11 := w_mfree hw
  have hx : ∀ {f j : Nat}, f ≠ 27 → h' (f, j) = h (f, j) := fun {f j} a => ho _ (fun z => a (by injection z))
  have e1 : sPass (ll_sp κ k (some q)) k = some q := if_pos rfl
  have e2 : ∀ j, j ≠ k → sPass (ll_sp κ k (some q)) j = sPass κ j := fun j e => if_neg e
  have m3 : (mu_s (mu_s μ 3 k (nI q.1)) 4 k (nI q.2.1)).1 3 k = nI q.1 := by simp [mu_s]
  have m4 : (mu_s (mu_s μ 3 k (nI q.1)) 4 k (nI q.2.1)).1 4 k = nI q.2.1 := by simp [mu_s]
  have m3n : ∀ j, j ≠ k → (mu_s (mu_s μ 3 k (nI q.1)) 4 k (nI q.2.1)).1 3 j = μ.1 3 j := fun j e => by simp [mu_s, e]
  have m4n : ∀ j, j ≠ k → (mu_s (mu_s μ 3 k (nI q.1)) 4 k (nI q.2.1)).1 4 j = μ.1 4 j := fun j e => by simp [mu_s, e]
  refine ⟨(hx (by decide)).trans f1, fun j hj => (hx (by decide)).trans (f2 j hj), fun j hj => (hx (by decide)).trans (f3 j hj), fun j hj => ?_, fun j hj => (hx (by decide)).trans (f6 j hj), (hx (by decide)).trans f7, (hx (by decide)).trans f8, ?_, ?_, ?_, ?_, fun j hj => ?_, fun j hj => (hx (by decide)).trans (f9 j hj), f10, fun j hj r hr => ?_, fun j => ?_⟩
  · by_cases e : j = k
    · subst e
      refine hs.trans ?_
      rw [e1, m3, m4]
      rfl
    · refine (ho _ (fun z => e (by injection z))).trans ((f5 j hj).trans ?_)
      rw [e2 j e, m3n j e, m4n j e]
      rfl
  · obtain ⟨m, hm⟩ := fg; exact ⟨m, (hx (by decide)).trans hm⟩
  · obtain ⟨m, hm⟩ := fs; exact ⟨m, (hx (by decide)).trans hm⟩
  · obtain ⟨m, hm⟩ := fp; exact ⟨m, (hx (by decide)).trans hm⟩
  · obtain ⟨m, hm⟩ := fh; exact ⟨m, (hx (by decide)).trans hm⟩
  · obtain ⟨m, hm⟩ := fq j hj; exact ⟨m, (hx (by decide)).trans hm⟩
  · by_cases e : j = k
    · subst e
      rw [e1] at hr; injection hr with hr; subst hr
      exact ⟨m3, m4⟩
    · rw [e2 j e] at hr
      rw [m3n j e, m4n j e]
      exact f14 j hj r hr
  · refine ⟨fun w => ⟨(hx (by decide)).trans ((f11 j).1 w).1, (hx (by decide)).trans ((f11 j).1 w).2.1, (hx (by decide)).trans ((f11 j).1 w).2.2⟩, fun w => ?_, fun w => (hx (by decide)).trans ((f11 j).2.2 w)⟩
    have w2 : nS κ ≤ j := w
    exact (ho _ (fun z => by injection z with z1 z2; omega)).trans ((f11 j).2.1 w2)
