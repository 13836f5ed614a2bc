/-! ===== ni: a new gate of the model ===== -/
/-- a new gate's three objects get their places (the model) -/
theorem jd_map3m {G : jd_G} {M : jd_M} {d cb sb pc : Nat} {ls : List (Option Value)} {st : List Value} {h : jd_H} {Q : Option Value → jd_H → Prop} {X : String → jd_H → Prop} {x y z n : Nat} {ex ey ez : Nat × jd_E} (hx : h (0, x) = some ex) (hy : h (0, y) = some ey) (hz : h (0, z) = some ez) (hxy : x ≠ y) (hxz : x ≠ z) (hyz : y ≠ z) (k : ∀ h' : jd_H, h' (24, n) = some ex → h' (25, n) = some ey → h' (26, n) = some ez → (∀ j : jd_Id, j ≠ (24, n) → j ≠ (25, n) → j ≠ (26, n) → j ≠ (0, x) → j ≠ (0, y) → j ≠ (0, z) → h' j = h j) → jd_W G M d cb sb pc ls st h' Q X) : jd_W G M d cb sb pc ls st h Q X := by
  have d1 : ((25, n) : jd_Id) ≠ (24, n) := fun w => by cases w
  have d2 : ((26, n) : jd_Id) ≠ (24, n) := fun w => by cases w
  have d3 : ((26, n) : jd_Id) ≠ (25, n) := fun w => by cases w
  refine jd_map (h' := fun j => if j = (24, n) then h (0, x) else if j = (25, n) then h (0, y) else if j = (26, n) then h (0, z) else if j = (0, x) ∨ j = (0, y) ∨ j = (0, z) then none else h j) (fun j => if j = (24, n) then (0, x) else if j = (25, n) then (0, y) else if j = (26, n) then (0, z) else j) (fun j v e => ?_) (fun j j' e e' w => ?_) (fun v e => ?_) (k _ ?_ ?_ ?_ (fun j a b c d e f => ?_))
  · by_cases a : j = (24, n)
    · simp only [if_pos a] at e ⊢; exact e
    · by_cases b : j = (25, n)
      · simp only [if_neg a, if_pos b] at e ⊢; exact e
      · by_cases c : j = (26, n)
        · simp only [if_neg a, if_neg b, if_pos c] at e ⊢; exact e
        · simp only [if_neg a, if_neg b, if_neg c] at e ⊢
          by_cases f : j = (0, x) ∨ j = (0, y) ∨ j = (0, z)
          · rw [if_pos f] at e; cases e
          · rw [if_neg f] at e; exact e
  · have cl : ∀ j : jd_Id, (if j = (24, n) then h (0, x) else if j = (25, n) then h (0, y) else if j = (26, n) then h (0, z) else if j = (0, x) ∨ j = (0, y) ∨ j = (0, z) then none else h j) ≠ none → (j = (24, n) ∧ (if j = (24, n) then (0, x) else if j = (25, n) then (0, y) else if j = (26, n) then (0, z) else j) = (0, x)) ∨ (j = (25, n) ∧ (if j = (24, n) then (0, x) else if j = (25, n) then (0, y) else if j = (26, n) then (0, z) else j) = (0, y)) ∨ (j = (26, n) ∧ (if j = (24, n) then (0, x) else if j = (25, n) then (0, y) else if j = (26, n) then (0, z) else j) = (0, z)) ∨ ((if j = (24, n) then (0, x) else if j = (25, n) then (0, y) else if j = (26, n) then (0, z) else j) = j ∧ j ≠ (0, x) ∧ j ≠ (0, y) ∧ j ≠ (0, z)) := fun j e => by
      by_cases a : j = (24, n)
      · exact Or.inl ⟨a, by rw [if_pos a]⟩
      · by_cases b : j = (25, n)
        · exact Or.inr (Or.inl ⟨b, by rw [if_neg a, if_pos b]⟩)
        · by_cases c : j = (26, n)
          · exact Or.inr (Or.inr (Or.inl ⟨c, by rw [if_neg a, if_neg b, if_pos c]⟩))
          · rw [if_neg a, if_neg b, if_neg c] at e
            by_cases f : j = (0, x) ∨ j = (0, y) ∨ j = (0, z)
            · rw [if_pos f] at e; exact absurd rfl e
            · exact Or.inr (Or.inr (Or.inr ⟨by rw [if_neg a, if_neg b, if_neg c], fun z => f (Or.inl z), fun z => f (Or.inr (Or.inl z)), fun z => f (Or.inr (Or.inr z))⟩))
    have c1 := cl j e
    have c2 := cl j' e'
    rw [w] at c1
    rcases c1 with ⟨a, a'⟩ | ⟨a, a'⟩ | ⟨a, a'⟩ | ⟨a, b, c, d⟩ <;> rcases c2 with ⟨f, f'⟩ | ⟨f, f'⟩ | ⟨f, f'⟩ | ⟨f, g, i, o⟩ <;> first
      | exact a.trans f.symm
      | exact absurd (congrArg Prod.snd (a'.symm.trans f')) hxy
      | exact absurd (congrArg Prod.snd (a'.symm.trans f')) hxz
      | exact absurd (congrArg Prod.snd (a'.symm.trans f')) hyz
      | exact absurd (congrArg Prod.snd (f'.symm.trans a')) hxy
      | exact absurd (congrArg Prod.snd (f'.symm.trans a')) hxz
      | exact absurd (congrArg Prod.snd (f'.symm.trans a')) hyz
      | exact absurd (f.symm.trans a') g
      | exact absurd (f.symm.trans a') i
      | exact absurd (f.symm.trans a') o
      | exact absurd (a.symm.trans f') b
      | exact absurd (a.symm.trans f') c
      | exact absurd (a.symm.trans f') d
      | exact a.symm.trans f
  · have a : ((0, v) : jd_Id) ≠ (24, n) := fun w => by cases w
    have b : ((0, v) : jd_Id) ≠ (25, n) := fun w => by cases w
    have c : ((0, v) : jd_Id) ≠ (26, n) := fun w => by cases w
    simp only [if_neg a, if_neg b, if_neg c]
  · simp only [if_true]; exact hx
  · simp only [if_neg d1, if_true]; exact hy
  · simp only [if_neg d2, if_neg d3, if_true]; exact hz
  · simp only [if_neg a, if_neg b, if_neg c]
    rw [if_neg (fun w => by rcases w with w | w | w; exact d w; exact e w; exact f w)]
theorem m_addG {G : jd_G} {γ : ll_B} {κ : ll_K} {μ : ll_U} {h h' : jd_H} (hw : WM G γ κ μ h) {qg qa ql o1 o2 : Nat} {fr hr mc : Int32} (h4 : h' (24, nG κ) = some (qg, .inl (.inr (11, [.int (nI o1), .int (nI o2), .int fr, .int hr, .int 5, .int 0, .ref ql, .ref qa])))) (h5 : h' (25, nG κ) = some (ql, .inr (mc, 0, fun _ => jd_bx G 12))) (h6 : h' (26, nG κ) = some (qa, zarr G (fun _ => false))) (hl : ∃ m, h' (22, 1) = some (γ 0 2, .inr (m, nG κ + 1, va_up (γ 2) (nG κ) qg))) (ho : ∀ j : jd_Id, j.1 ≠ 0 → j ≠ (24, nG κ) → j ≠ (25, nG κ) → j ≠ (26, nG κ) → j ≠ (22, 1) → h' j = h j) : WM G (ll_bu (ll_bu (ll_bu γ 2 (nG κ) qg) 4 (nG κ) qa) 3 (nG κ) ql) (k_addG κ o1 o2 fr hr) μ h' := by
  have f1 := w_mthis hw
  have f2 := w_mland hw
  have f3 := w_mgate hw
  have f5 := w_msleeper hw
  have f6 := w_mpart hw
  have f7 := w_mlands hw
  have f8 := w_mmore hw
  have fs := w_msleepers hw
  have fp := w_mparts hw
  have fh := w_mhidings hw
  have fq := w_mqueue hw
  have f9 := w_mrev hw
  have f10 := w_mdecl hw
  have f14 := w_mpass hw
  have f11 := w_mfree hw
  have hx : ∀ {f j : Nat}, f ≠ 0 → f ≠ 24 → f ≠ 25 → f ≠ 26 → f ≠ 22 → h' (f, j) = h (f, j) := fun {f j} a b c d e => ho _ a (fun z => b (by injection z)) (fun z => c (by injection z)) (fun z => d (by injection z)) (fun z => e (by injection z))
  have hx2 : ∀ {j : Nat}, j ≠ 1 → h' (22, j) = h (22, j) := fun {j} a => ho _ (show (22 : Nat) ≠ 0 by decide) (fun z => by injection z with z1 z2; exact absurd z1 (by decide)) (fun z => by injection z with z1 z2; exact absurd z1 (by decide)) (fun z => by injection z with z1 z2; exact absurd z1 (by decide)) (fun z => a (by injection z))
  have hxn : ∀ {f j : Nat}, (f = 24 ∨ f = 25 ∨ f = 26) → j ≠ nG κ → h' (f, j) = h (f, j) := fun {f j} a b => ho _ (fun z => by have : f = 0 := z; omega) (fun z => b (by injection z)) (fun z => b (by injection z)) (fun z => b (by injection z)) (fun z => by injection z with z1 z2; omega)
  have b2 : ∀ j, j ≠ nG κ → ll_bu (ll_bu (ll_bu γ 2 (nG κ) qg) 4 (nG κ) qa) 3 (nG κ) ql 2 j = γ 2 j := fun j e => (ll_bu_n (by omega)).trans ((ll_bu_n (by omega)).trans (ll_bu_n (fun z => e z.2)))
  have b2s : ll_bu (ll_bu (ll_bu γ 2 (nG κ) qg) 4 (nG κ) qa) 3 (nG κ) ql 2 (nG κ) = qg := (ll_bu_n (by omega)).trans ((ll_bu_n (by omega)).trans ll_bu_s)
  have b4 : ∀ j, j ≠ nG κ → ll_bu (ll_bu (ll_bu γ 2 (nG κ) qg) 4 (nG κ) qa) 3 (nG κ) ql 4 j = γ 4 j := fun j e => (ll_bu_n (by omega)).trans ((ll_bu_n (fun z => e z.2)).trans (ll_bu_n (by omega)))
  have b4s : ll_bu (ll_bu (ll_bu γ 2 (nG κ) qg) 4 (nG κ) qa) 3 (nG κ) ql 4 (nG κ) = qa := (ll_bu_n (by omega)).trans ll_bu_s
  have b3 : ∀ j, j ≠ nG κ → ll_bu (ll_bu (ll_bu γ 2 (nG κ) qg) 4 (nG κ) qa) 3 (nG κ) ql 3 j = γ 3 j := fun j e => (ll_bu_n (fun z => e z.2)).trans ((ll_bu_n (by omega)).trans (ll_bu_n (by omega)))
  have b3s : ll_bu (ll_bu (ll_bu γ 2 (nG κ) qg) 4 (nG κ) qa) 3 (nG κ) ql 3 (nG κ) = ql := ll_bu_s
  have e1 : ∀ j, j ≠ nG κ → gOne (k_addG κ o1 o2 fr hr) j = gOne κ j ∧ gOther (k_addG κ o1 o2 fr hr) j = gOther κ j ∧ gFrom (k_addG κ o1 o2 fr hr) j = gFrom κ j ∧ gHours (k_addG κ o1 o2 fr hr) j = gHours κ j ∧ gOdds (k_addG κ o1 o2 fr hr) j = gOdds κ j ∧ gWatch (k_addG κ o1 o2 fr hr) j = gWatch κ j ∧ gRev (k_addG κ o1 o2 fr hr) j = gRev κ j ∧ gQue (k_addG κ o1 o2 fr hr) j = gQue κ j := fun j e => by
    refine ⟨?_, ?_, ?_, ?_, ?_, ?_, ?_, ?_⟩ <;> first | (simp [gOne, gOther, gFrom, gHours, gOdds, gWatch, gQue, k_addG, e]; done) | (funext v; exact if_neg e)
  have e2 : gOne (k_addG κ o1 o2 fr hr) (nG κ) = o1 ∧ gOther (k_addG κ o1 o2 fr hr) (nG κ) = o2 ∧ gFrom (k_addG κ o1 o2 fr hr) (nG κ) = fr ∧ gHours (k_addG κ o1 o2 fr hr) (nG κ) = hr ∧ gOdds (k_addG κ o1 o2 fr hr) (nG κ) = 5 ∧ gWatch (k_addG κ o1 o2 fr hr) (nG κ) = 0 ∧ gRev (k_addG κ o1 o2 fr hr) (nG κ) = (fun _ => false) ∧ gQue (k_addG κ o1 o2 fr hr) (nG κ) = [] := by
    refine ⟨?_, ?_, ?_, ?_, ?_, ?_, ?_, ?_⟩ <;> first | (simp [gOne, gOther, gFrom, gHours, gOdds, gWatch, gQue, k_addG]; done) | (funext v; exact if_pos rfl)
  have nn : nG (k_addG κ o1 o2 fr hr) = nG κ + 1 := rfl
  refine ⟨(hx (by decide) (by decide) (by decide) (by decide) (by decide)).trans f1, fun j hj => (hx (by decide) (by decide) (by decide) (by decide) (by decide)).trans (f2 j hj), fun j hj => ?_, fun j hj => (hx (by decide) (by decide) (by decide) (by decide) (by decide)).trans (f5 j hj), fun j hj => (hx (by decide) (by decide) (by decide) (by decide) (by decide)).trans (f6 j hj), (hx (by decide) (by decide) (by decide) (by decide) (by decide)).trans f7, (hx (by decide) (by decide) (by decide) (by decide) (by decide)).trans f8, ?_, ?_, ?_, ?_, fun j hj => ?_, fun j hj => ?_, f10, f14, fun j => ?_⟩
  · rw [nn] at hj
    by_cases e : j = nG κ
    · subst e
      obtain ⟨a1, a2, a3, a4, a5, a6, a7, a8⟩ := e2
      rw [b2s, b4s, b3s, a1, a2, a3, a4, a5, a6]
      exact h4
    · obtain ⟨a1, a2, a3, a4, a5, a6, a7, a8⟩ := e1 j e
      rw [b2 j e, b4 j e, b3 j e, a1, a2, a3, a4, a5, a6]
      exact (hxn (by simp) e).trans (f3 j (by omega))
  · obtain ⟨m, hm⟩ := hl
    refine ⟨m, hm.trans ?_⟩
    have : va_up (γ 2) (nG κ) qg = (ll_bu (ll_bu (ll_bu γ 2 (nG κ) qg) 4 (nG κ) qa) 3 (nG κ) ql) 2 := by
      funext j
      by_cases e : j = nG κ
      · subst e; rw [b2s]; exact if_pos rfl
      · rw [b2 j e]; exact if_neg e
    rw [this]; rfl
  · obtain ⟨m, hm⟩ := fs; exact ⟨m, (hx2 (by decide)).trans hm⟩
  · obtain ⟨m, hm⟩ := fp; exact ⟨m, (hx2 (by decide)).trans hm⟩
  · obtain ⟨m, hm⟩ := fh; exact ⟨m, (hx2 (by decide)).trans hm⟩
  · rw [nn] at hj
    by_cases e : j = nG κ
    · subst e
      rw [b3s, e2.2.2.2.2.2.2.2]
      exact ⟨mc, h5⟩
    · rw [b3 j e, (e1 j e).2.2.2.2.2.2.2]
      obtain ⟨m, hm⟩ := fq j (by omega)
      exact ⟨m, (hxn (by simp) e).trans hm⟩
  · rw [nn] at hj
    by_cases e : j = nG κ
    · subst e
      rw [b4s, e2.2.2.2.2.2.2.1]
      exact h6
    · rw [b4 j e, (e1 j e).2.2.2.2.2.2.1]
      exact (hxn (by simp) e).trans (f9 j (by omega))
  · refine ⟨fun w => ?_, fun w => (hx (by decide) (by decide) (by decide) (by decide) (by decide)).trans ((f11 j).2.1 w), fun w => (hx (by decide) (by decide) (by decide) (by decide) (by decide)).trans ((f11 j).2.2 w)⟩
    rw [nn] at w
    have e : j ≠ nG κ := by omega
    have := (f11 j).1 (by omega)
    exact ⟨(hxn (by simp) e).trans this.1, (hxn (by simp) e).trans this.2.1, (hxn (by simp) e).trans this.2.2⟩
