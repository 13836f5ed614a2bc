/-! ===== nb: more of the model's writes ===== -/
theorem m_gRev {G : jd_G} {γ : ll_B} {κ : ll_K} {μ : ll_U} {h h' : jd_H} (hw : WM G γ κ μ h) {k : Nat} (hk : k < nG κ) {V : Nat → Bool} {F : Nat → Int32} (hF : F = fun v => jd_b (V v = true)) (hs : h' (26, k) = some (γ 4 k, .inl (.inl (G.2.1 1, 97, .inl F)))) (ho : ∀ j, j ≠ (26, k) → h' j = h j) : WM G γ (ll_sr κ k V) μ h' := by
  have f1 := w_mthis hw
  have f2 := w_mland hw
  have f3 := w_mgate hw
  have f5 := w_msleeper hw
  have f6 := w_mpart hw
  have f7 := w_mlands hw
  have f8 := w_mmore hw
  have fg := w_mgates hw
  have fs := w_msleepers hw
  have fp := w_mparts hw
  have fh := w_mhidings hw
  have fq := w_mqueue hw
  have f9 := w_mrev hw
  have f10 := w_mdecl hw
  have f14 := w_mpass hw
  have f11 := w_mfree hw
  have hx : ∀ {f j : Nat}, f ≠ 26 → h' (f, j) = h (f, j) := fun {f j} a => ho _ (fun z => a (by injection z))
  refine ⟨(hx (by decide)).trans f1, fun j hj => (hx (by decide)).trans (f2 j hj), fun j hj => (hx (by decide)).trans (f3 j hj), fun j hj => (hx (by decide)).trans (f5 j hj), fun j hj => (hx (by decide)).trans (f6 j hj), (hx (by decide)).trans f7, (hx (by decide)).trans f8, ?_, ?_, ?_, ?_, fun j hj => ?_, fun j hj => ?_, f10, f14, fun j => ?_⟩
  · obtain ⟨m, hm⟩ := fg; exact ⟨m, (hx (by decide)).trans hm⟩
  · obtain ⟨m, hm⟩ := fs; exact ⟨m, (hx (by decide)).trans hm⟩
  · obtain ⟨m, hm⟩ := fp; exact ⟨m, (hx (by decide)).trans hm⟩
  · obtain ⟨m, hm⟩ := fh; exact ⟨m, (hx (by decide)).trans hm⟩
  · obtain ⟨m, hm⟩ := fq j hj; exact ⟨m, (hx (by decide)).trans hm⟩
  · by_cases e : j = k
    · subst e
      have e1 : gRev (ll_sr κ j V) j = V := if_pos rfl
      rw [e1, hs, hF]
    · have e1 : gRev (ll_sr κ k V) j = gRev κ j := if_neg e
      rw [e1]
      exact (ho _ (fun z => e (by injection z))).trans (f9 j hj)
  · refine ⟨fun w => ⟨(hx (by decide)).trans ((f11 j).1 w).1, (hx (by decide)).trans ((f11 j).1 w).2.1, ?_⟩, fun w => (hx (by decide)).trans ((f11 j).2.1 w), fun w => (hx (by decide)).trans ((f11 j).2.2 w)⟩
    have w2 : nG κ ≤ j := w
    exact (ho _ (fun z => by injection z with z1 z2; omega)).trans ((f11 j).1 w2).2.2
theorem m_gQue {G : jd_G} {γ : ll_B} {κ : ll_K} {μ : ll_U} {h h' : jd_H} (hw : WM G γ κ μ h) {k : Nat} (hk : k < nG κ) {l : List Nat} {mc : Int32} {n : Nat} {F : Nat → Nat} (hn : n = l.length) (hF : F = fun j => jd_bx G (l.getD j 12)) (hs : h' (25, k) = some (γ 3 k, .inr (mc, n, F))) (ho : ∀ j, j ≠ (25, k) → h' j = h j) : WM G γ (ll_sq κ k l) μ h' := by
  have f1 := w_mthis hw
  have f2 := w_mland hw
  have f3 := w_mgate hw
  have f5 := w_msleeper hw
  have f6 := w_mpart hw
  have f7 := w_mlands hw
  have f8 := w_mmore hw
  have fg := w_mgates hw
  have fs := w_msleepers hw
  have fp := w_mparts hw
  have fh := w_mhidings hw
  have fq := w_mqueue hw
  have f9 := w_mrev hw
  have f10 := w_mdecl hw
  have f14 := w_mpass hw
  have f11 := w_mfree hw
  have hx : ∀ {f j : Nat}, f ≠ 25 → h' (f, j) = h (f, j) := fun {f j} a => ho _ (fun z => a (by injection z))
  refine ⟨(hx (by decide)).trans f1, fun j hj => (hx (by decide)).trans (f2 j hj), fun j hj => (hx (by decide)).trans (f3 j hj), fun j hj => (hx (by decide)).trans (f5 j hj), fun j hj => (hx (by decide)).trans (f6 j hj), (hx (by decide)).trans f7, (hx (by decide)).trans f8, ?_, ?_, ?_, ?_, fun j hj => ?_, fun j hj => (hx (by decide)).trans (f9 j hj), f10, f14, fun j => ?_⟩
  · obtain ⟨m, hm⟩ := fg; exact ⟨m, (hx (by decide)).trans hm⟩
  · obtain ⟨m, hm⟩ := fs; exact ⟨m, (hx (by decide)).trans hm⟩
  · obtain ⟨m, hm⟩ := fp; exact ⟨m, (hx (by decide)).trans hm⟩
  · obtain ⟨m, hm⟩ := fh; exact ⟨m, (hx (by decide)).trans hm⟩
  · by_cases e : j = k
    · subst e
      have e1 : gQue (ll_sq κ j l) j = l := if_pos rfl
      rw [e1]
      exact ⟨mc, by rw [hs, hn, hF]⟩
    · have e1 : gQue (ll_sq κ k l) j = gQue κ j := if_neg e
      rw [e1]
      obtain ⟨m, hm⟩ := fq j hj
      exact ⟨m, (ho _ (fun z => e (by injection z))).trans hm⟩
  · refine ⟨fun w => ⟨(hx (by decide)).trans ((f11 j).1 w).1, ?_, (hx (by decide)).trans ((f11 j).1 w).2.2⟩, fun w => (hx (by decide)).trans ((f11 j).2.1 w), fun w => (hx (by decide)).trans ((f11 j).2.2 w)⟩
    have w2 : nG κ ≤ j := w
    exact (ho _ (fun z => by injection z with z1 z2; omega)).trans ((f11 j).1 w2).2.1
theorem plan_c {κ : ll_K} {g : Int32} (h : g = -1 ∨ inN g (nG κ)) : ¬ (if g = -1 then 0 else g) < 0 ∧ (if g = -1 then 0 else g) < (if g = -1 then 1 else nI (nG κ)) := by
  by_cases e : g = -1
  · rw [if_pos e, if_pos e]; decide
  · rw [if_neg e, if_neg e]; exact h.resolve_left e
theorem plan_n {κ : ll_K} {g : Int32} (h1 : ¬ g = -1) (h2 : ¬ inN g (nG κ)) : ¬ (¬ (if g = -1 then 0 else g) < 0 ∧ (if g = -1 then 0 else g) < (if g = -1 then 1 else nI (nG κ))) := by
  rw [if_neg h1, if_neg h1]; exact h2
theorem at_st {κ : ll_K} (hI : ll_I κ) {p : Nat} (hp : p < nP κ) : (¬ nI (pAt κ p) < 100 ∧ ¬ 105 < nI (pAt κ p)) ↔ ¬ pStore κ p = none := by
  have h12 := hI.1.2.1
  have e1 : (100 : Int32) = nI 100 := rfl
  have e5 : (105 : Int32) = nI 105 := rfl
  have ha := at_bd hI hp
  rw [e1, e5, i_lt, i_lt, nI_toInt (show pAt κ p < 2 ^ 31 by omega), nI_toInt (show 100 < 2 ^ 31 by omega), nI_toInt (show 105 < 2 ^ 31 by omega)]
  rcases at_cases hI hp with ⟨j, h1, h2, h3, e⟩ | ⟨l, h1, h2, h3, e⟩ | ⟨h1, h2, e⟩
  · rw [e, h2]; exact ⟨fun w => by omega, fun w => absurd rfl w⟩
  · rw [e, h2]; exact ⟨fun _ w => (by cases w), fun _ => (by omega)⟩
  · rw [e, h2]; exact ⟨fun w => by omega, fun w => absurd rfl w⟩
theorem k_appeal_eq {κ : ll_K} {p l b : Nat} (h : pBy κ p = some b) : k_appeal κ p l = ll_sn (ll_so (ll_so (ll_sz κ 5 l (lFin κ l - pWorth κ p)) 2 p none) 1 p (some b)) 4 p 2 := by
  unfold k_appeal; rw [h]
