/-! the model's world follows a write (printed by mk_wm.py) -/
def mu_s (μ : ll_U) (f k : Nat) (v : Int32) : ll_U := (fun a b => if a = f ∧ b = k then v else μ.1 a b, μ.2)
theorem m_lRate {G : jd_G} {γ : ll_B} {κ : ll_K} {μ : ll_U} {h h' : jd_H} (hw : WM G γ κ μ h) {k : Nat} (hk : k < 6) {v : Int32} (hs : h' (23, k) = some (γ 1 k, .inl (.inr (10, [.int (v), .int ((lAll κ k)), .int ((lQuo κ k)), .int ((lNight κ k)), .int ((lDut κ k)), .int ((lFin κ k))])))) (ho : ∀ j, j ≠ (23, k) → h' j = h j) : WM G γ (ll_sz κ 0 k v) μ h' := by
  have e1 : lRate (ll_sz κ 0 k v) k = v := if_pos ⟨rfl, rfl⟩
  have fmthis := w_mthis hw
  have fmland := w_mland hw
  have fmgate := w_mgate hw
  have fmsleeper := w_msleeper hw
  have fmpart := w_mpart hw
  have fmlands := w_mlands hw
  have fmmore := w_mmore hw
  have fmgates := w_mgates hw
  have fmsleepers := w_msleepers hw
  have fmparts := w_mparts hw
  have fmhidings := w_mhidings hw
  have fmqueue := w_mqueue hw
  have fmrev := w_mrev hw
  have fmdecl := w_mdecl hw
  have fmpass := w_mpass hw
  have fmfree := w_mfree hw
  refine ⟨?_, ?_, ?_, ?_, ?_, ?_, ?_, ?_, ?_, ?_, ?_, ?_, ?_, ?_, ?_, ?_⟩
  · exact (ho _ (fun z => by cases z)).trans (fmthis)
  · exact fun j hj => by
      by_cases e : j = k
      · subst e; exact hs.trans (by first | (rw [e1]; done) | (rw [e1]; rfl))
      · have e2 : lRate (ll_sz κ 0 k v) j = lRate κ j := if_neg (fun z => e z.2)
        exact (ho _ (fun z => e (by cases z; rfl))).trans ((fmland j hj).trans (by first | (rw [e2]; done) | (rw [e2]; rfl)))
  · exact fun j hj => (ho _ (fun z => by cases z)).trans (fmgate j hj)
  · exact fun j hj => (ho _ (fun z => by cases z)).trans (fmsleeper j hj)
  · exact fun j hj => (ho _ (fun z => by cases z)).trans (fmpart j hj)
  · exact (ho _ (fun z => by cases z)).trans (fmlands)
  · exact (ho _ (fun z => by cases z)).trans (fmmore)
  · exact by obtain ⟨m, hm⟩ := fmgates; exact ⟨m, (ho _ (fun z => by cases z)).trans hm⟩
  · exact by obtain ⟨m, hm⟩ := fmsleepers; exact ⟨m, (ho _ (fun z => by cases z)).trans hm⟩
  · exact by obtain ⟨m, hm⟩ := fmparts; exact ⟨m, (ho _ (fun z => by cases z)).trans hm⟩
  · exact by obtain ⟨m, hm⟩ := fmhidings; exact ⟨m, (ho _ (fun z => by cases z)).trans hm⟩
  · exact fun j hj => by obtain ⟨m, hm⟩ := fmqueue j hj; exact ⟨m, (ho _ (fun z => by cases z)).trans hm⟩
  · exact fun j hj => (ho _ (fun z => by cases z)).trans (fmrev j hj)
  · exact fmdecl
  · exact fmpass
  · exact fun j => ⟨fun w => ⟨(ho _ (fun z => by cases z)).trans ((fmfree j).1 w).1, (ho _ (fun z => by cases z)).trans ((fmfree j).1 w).2.1, (ho _ (fun z => by cases z)).trans ((fmfree j).1 w).2.2⟩, fun w => (ho _ (fun z => by cases z)).trans ((fmfree j).2.1 w), fun w => (ho _ (fun z => by cases z)).trans ((fmfree j).2.2 w)⟩
theorem m_lAll {G : jd_G} {γ : ll_B} {κ : ll_K} {μ : ll_U} {h h' : jd_H} (hw : WM G γ κ μ h) {k : Nat} (hk : k < 6) {v : Int32} (hs : h' (23, k) = some (γ 1 k, .inl (.inr (10, [.int ((lRate κ k)), .int (v), .int ((lQuo κ k)), .int ((lNight κ k)), .int ((lDut κ k)), .int ((lFin κ k))])))) (ho : ∀ j, j ≠ (23, k) → h' j = h j) : WM G γ (ll_sz κ 1 k v) μ h' := by
  have e1 : lAll (ll_sz κ 1 k v) k = v := if_pos ⟨rfl, rfl⟩
  have fmthis := w_mthis hw
  have fmland := w_mland hw
  have fmgate := w_mgate hw
  have fmsleeper := w_msleeper hw
  have fmpart := w_mpart hw
  have fmlands := w_mlands hw
  have fmmore := w_mmore hw
  have fmgates := w_mgates hw
  have fmsleepers := w_msleepers hw
  have fmparts := w_mparts hw
  have fmhidings := w_mhidings hw
  have fmqueue := w_mqueue hw
  have fmrev := w_mrev hw
  have fmdecl := w_mdecl hw
  have fmpass := w_mpass hw
  have fmfree := w_mfree hw
  refine ⟨?_, ?_, ?_, ?_, ?_, ?_, ?_, ?_, ?_, ?_, ?_, ?_, ?_, ?_, ?_, ?_⟩
  · exact (ho _ (fun z => by cases z)).trans (fmthis)
  · exact fun j hj => by
      by_cases e : j = k
      · subst e; exact hs.trans (by first | (rw [e1]; done) | (rw [e1]; rfl))
      · have e2 : lAll (ll_sz κ 1 k v) j = lAll κ j := if_neg (fun z => e z.2)
        exact (ho _ (fun z => e (by cases z; rfl))).trans ((fmland j hj).trans (by first | (rw [e2]; done) | (rw [e2]; rfl)))
  · exact fun j hj => (ho _ (fun z => by cases z)).trans (fmgate j hj)
  · exact fun j hj => (ho _ (fun z => by cases z)).trans (fmsleeper j hj)
  · exact fun j hj => (ho _ (fun z => by cases z)).trans (fmpart j hj)
  · exact (ho _ (fun z => by cases z)).trans (fmlands)
  · exact (ho _ (fun z => by cases z)).trans (fmmore)
  · exact by obtain ⟨m, hm⟩ := fmgates; exact ⟨m, (ho _ (fun z => by cases z)).trans hm⟩
  · exact by obtain ⟨m, hm⟩ := fmsleepers; exact ⟨m, (ho _ (fun z => by cases z)).trans hm⟩
  · exact by obtain ⟨m, hm⟩ := fmparts; exact ⟨m, (ho _ (fun z => by cases z)).trans hm⟩
  · exact by obtain ⟨m, hm⟩ := fmhidings; exact ⟨m, (ho _ (fun z => by cases z)).trans hm⟩
  · exact fun j hj => by obtain ⟨m, hm⟩ := fmqueue j hj; exact ⟨m, (ho _ (fun z => by cases z)).trans hm⟩
  · exact fun j hj => (ho _ (fun z => by cases z)).trans (fmrev j hj)
  · exact fmdecl
  · exact fmpass
  · exact fun j => ⟨fun w => ⟨(ho _ (fun z => by cases z)).trans ((fmfree j).1 w).1, (ho _ (fun z => by cases z)).trans ((fmfree j).1 w).2.1, (ho _ (fun z => by cases z)).trans ((fmfree j).1 w).2.2⟩, fun w => (ho _ (fun z => by cases z)).trans ((fmfree j).2.1 w), fun w => (ho _ (fun z => by cases z)).trans ((fmfree j).2.2 w)⟩
theorem m_lQuo {G : jd_G} {γ : ll_B} {κ : ll_K} {μ : ll_U} {h h' : jd_H} (hw : WM G γ κ μ h) {k : Nat} (hk : k < 6) {v : Int32} (hs : h' (23, k) = some (γ 1 k, .inl (.inr (10, [.int ((lRate κ k)), .int ((lAll κ k)), .int (v), .int ((lNight κ k)), .int ((lDut κ k)), .int ((lFin κ k))])))) (ho : ∀ j, j ≠ (23, k) → h' j = h j) : WM G γ (ll_sz κ 2 k v) μ h' := by
  have e1 : lQuo (ll_sz κ 2 k v) k = v := if_pos ⟨rfl, rfl⟩
  have fmthis := w_mthis hw
  have fmland := w_mland hw
  have fmgate := w_mgate hw
  have fmsleeper := w_msleeper hw
  have fmpart := w_mpart hw
  have fmlands := w_mlands hw
  have fmmore := w_mmore hw
  have fmgates := w_mgates hw
  have fmsleepers := w_msleepers hw
  have fmparts := w_mparts hw
  have fmhidings := w_mhidings hw
  have fmqueue := w_mqueue hw
  have fmrev := w_mrev hw
  have fmdecl := w_mdecl hw
  have fmpass := w_mpass hw
  have fmfree := w_mfree hw
  refine ⟨?_, ?_, ?_, ?_, ?_, ?_, ?_, ?_, ?_, ?_, ?_, ?_, ?_, ?_, ?_, ?_⟩
  · exact (ho _ (fun z => by cases z)).trans (fmthis)
  · exact fun j hj => by
      by_cases e : j = k
      · subst e; exact hs.trans (by first | (rw [e1]; done) | (rw [e1]; rfl))
      · have e2 : lQuo (ll_sz κ 2 k v) j = lQuo κ j := if_neg (fun z => e z.2)
        exact (ho _ (fun z => e (by cases z; rfl))).trans ((fmland j hj).trans (by first | (rw [e2]; done) | (rw [e2]; rfl)))
  · exact fun j hj => (ho _ (fun z => by cases z)).trans (fmgate j hj)
  · exact fun j hj => (ho _ (fun z => by cases z)).trans (fmsleeper j hj)
  · exact fun j hj => (ho _ (fun z => by cases z)).trans (fmpart j hj)
  · exact (ho _ (fun z => by cases z)).trans (fmlands)
  · exact (ho _ (fun z => by cases z)).trans (fmmore)
  · exact by obtain ⟨m, hm⟩ := fmgates; exact ⟨m, (ho _ (fun z => by cases z)).trans hm⟩
  · exact by obtain ⟨m, hm⟩ := fmsleepers; exact ⟨m, (ho _ (fun z => by cases z)).trans hm⟩
  · exact by obtain ⟨m, hm⟩ := fmparts; exact ⟨m, (ho _ (fun z => by cases z)).trans hm⟩
  · exact by obtain ⟨m, hm⟩ := fmhidings; exact ⟨m, (ho _ (fun z => by cases z)).trans hm⟩
  · exact fun j hj => by obtain ⟨m, hm⟩ := fmqueue j hj; exact ⟨m, (ho _ (fun z => by cases z)).trans hm⟩
  · exact fun j hj => (ho _ (fun z => by cases z)).trans (fmrev j hj)
  · exact fmdecl
  · exact fmpass
  · exact fun j => ⟨fun w => ⟨(ho _ (fun z => by cases z)).trans ((fmfree j).1 w).1, (ho _ (fun z => by cases z)).trans ((fmfree j).1 w).2.1, (ho _ (fun z => by cases z)).trans ((fmfree j).1 w).2.2⟩, fun w => (ho _ (fun z => by cases z)).trans ((fmfree j).2.1 w), fun w => (ho _ (fun z => by cases z)).trans ((fmfree j).2.2 w)⟩
theorem m_lNight {G : jd_G} {γ : ll_B} {κ : ll_K} {μ : ll_U} {h h' : jd_H} (hw : WM G γ κ μ h) {k : Nat} (hk : k < 6) {v : Int32} (hs : h' (23, k) = some (γ 1 k, .inl (.inr (10, [.int ((lRate κ k)), .int ((lAll κ k)), .int ((lQuo κ k)), .int (v), .int ((lDut κ k)), .int ((lFin κ k))])))) (ho : ∀ j, j ≠ (23, k) → h' j = h j) : WM G γ (ll_sz κ 3 k v) μ h' := by
  have e1 : lNight (ll_sz κ 3 k v) k = v := if_pos ⟨rfl, rfl⟩
  have fmthis := w_mthis hw
  have fmland := w_mland hw
  have fmgate := w_mgate hw
  have fmsleeper := w_msleeper hw
  have fmpart := w_mpart hw
  have fmlands := w_mlands hw
  have fmmore := w_mmore hw
  have fmgates := w_mgates hw
  have fmsleepers := w_msleepers hw
  have fmparts := w_mparts hw
  have fmhidings := w_mhidings hw
  have fmqueue := w_mqueue hw
  have fmrev := w_mrev hw
  have fmdecl := w_mdecl hw
  have fmpass := w_mpass hw
  have fmfree := w_mfree hw
  refine ⟨?_, ?_, ?_, ?_, ?_, ?_, ?_, ?_, ?_, ?_, ?_, ?_, ?_, ?_, ?_, ?_⟩
  · exact (ho _ (fun z => by cases z)).trans (fmthis)
  · exact fun j hj => by
      by_cases e : j = k
      · subst e; exact hs.trans (by first | (rw [e1]; done) | (rw [e1]; rfl))
      · have e2 : lNight (ll_sz κ 3 k v) j = lNight κ j := if_neg (fun z => e z.2)
        exact (ho _ (fun z => e (by cases z; rfl))).trans ((fmland j hj).trans (by first | (rw [e2]; done) | (rw [e2]; rfl)))
  · exact fun j hj => (ho _ (fun z => by cases z)).trans (fmgate j hj)
  · exact fun j hj => (ho _ (fun z => by cases z)).trans (fmsleeper j hj)
  · exact fun j hj => (ho _ (fun z => by cases z)).trans (fmpart j hj)
  · exact (ho _ (fun z => by cases z)).trans (fmlands)
  · exact (ho _ (fun z => by cases z)).trans (fmmore)
  · exact by obtain ⟨m, hm⟩ := fmgates; exact ⟨m, (ho _ (fun z => by cases z)).trans hm⟩
  · exact by obtain ⟨m, hm⟩ := fmsleepers; exact ⟨m, (ho _ (fun z => by cases z)).trans hm⟩
  · exact by obtain ⟨m, hm⟩ := fmparts; exact ⟨m, (ho _ (fun z => by cases z)).trans hm⟩
  · exact by obtain ⟨m, hm⟩ := fmhidings; exact ⟨m, (ho _ (fun z => by cases z)).trans hm⟩
  · exact fun j hj => by obtain ⟨m, hm⟩ := fmqueue j hj; exact ⟨m, (ho _ (fun z => by cases z)).trans hm⟩
  · exact fun j hj => (ho _ (fun z => by cases z)).trans (fmrev j hj)
  · exact fmdecl
  · exact fmpass
  · exact fun j => ⟨fun w => ⟨(ho _ (fun z => by cases z)).trans ((fmfree j).1 w).1, (ho _ (fun z => by cases z)).trans ((fmfree j).1 w).2.1, (ho _ (fun z => by cases z)).trans ((fmfree j).1 w).2.2⟩, fun w => (ho _ (fun z => by cases z)).trans ((fmfree j).2.1 w), fun w => (ho _ (fun z => by cases z)).trans ((fmfree j).2.2 w)⟩
theorem m_lDut {G : jd_G} {γ : ll_B} {κ : ll_K} {μ : ll_U} {h h' : jd_H} (hw : WM G γ κ μ h) {k : Nat} (hk : k < 6) {v : Int32} (hs : h' (23, k) = some (γ 1 k, .inl (.inr (10, [.int ((lRate κ k)), .int ((lAll κ k)), .int ((lQuo κ k)), .int ((lNight κ k)), .int (v), .int ((lFin κ k))])))) (ho : ∀ j, j ≠ (23, k) → h' j = h j) : WM G γ (ll_sz κ 4 k v) μ h' := by
  have e1 : lDut (ll_sz κ 4 k v) k = v := if_pos ⟨rfl, rfl⟩
  have fmthis := w_mthis hw
  have fmland := w_mland hw
  have fmgate := w_mgate hw
  have fmsleeper := w_msleeper hw
  have fmpart := w_mpart hw
  have fmlands := w_mlands hw
  have fmmore := w_mmore hw
  have fmgates := w_mgates hw
  have fmsleepers := w_msleepers hw
  have fmparts := w_mparts hw
  have fmhidings := w_mhidings hw
  have fmqueue := w_mqueue hw
  have fmrev := w_mrev hw
  have fmdecl := w_mdecl hw
  have fmpass := w_mpass hw
  have fmfree := w_mfree hw
  refine ⟨?_, ?_, ?_, ?_, ?_, ?_, ?_, ?_, ?_, ?_, ?_, ?_, ?_, ?_, ?_, ?_⟩
  · exact (ho _ (fun z => by cases z)).trans (fmthis)
  · exact fun j hj => by
      by_cases e : j = k
      · subst e; exact hs.trans (by first | (rw [e1]; done) | (rw [e1]; rfl))
      · have e2 : lDut (ll_sz κ 4 k v) j = lDut κ j := if_neg (fun z => e z.2)
        exact (ho _ (fun z => e (by cases z; rfl))).trans ((fmland j hj).trans (by first | (rw [e2]; done) | (rw [e2]; rfl)))
  · exact fun j hj => (ho _ (fun z => by cases z)).trans (fmgate j hj)
  · exact fun j hj => (ho _ (fun z => by cases z)).trans (fmsleeper j hj)
  · exact fun j hj => (ho _ (fun z => by cases z)).trans (fmpart j hj)
  · exact (ho _ (fun z => by cases z)).trans (fmlands)
  · exact (ho _ (fun z => by cases z)).trans (fmmore)
  · exact by obtain ⟨m, hm⟩ := fmgates; exact ⟨m, (ho _ (fun z => by cases z)).trans hm⟩
  · exact by obtain ⟨m, hm⟩ := fmsleepers; exact ⟨m, (ho _ (fun z => by cases z)).trans hm⟩
  · exact by obtain ⟨m, hm⟩ := fmparts; exact ⟨m, (ho _ (fun z => by cases z)).trans hm⟩
  · exact by obtain ⟨m, hm⟩ := fmhidings; exact ⟨m, (ho _ (fun z => by cases z)).trans hm⟩
  · exact fun j hj => by obtain ⟨m, hm⟩ := fmqueue j hj; exact ⟨m, (ho _ (fun z => by cases z)).trans hm⟩
  · exact fun j hj => (ho _ (fun z => by cases z)).trans (fmrev j hj)
  · exact fmdecl
  · exact fmpass
  · exact fun j => ⟨fun w => ⟨(ho _ (fun z => by cases z)).trans ((fmfree j).1 w).1, (ho _ (fun z => by cases z)).trans ((fmfree j).1 w).2.1, (ho _ (fun z => by cases z)).trans ((fmfree j).1 w).2.2⟩, fun w => (ho _ (fun z => by cases z)).trans ((fmfree j).2.1 w), fun w => (ho _ (fun z => by cases z)).trans ((fmfree j).2.2 w)⟩
theorem m_lFin {G : jd_G} {γ : ll_B} {κ : ll_K} {μ : ll_U} {h h' : jd_H} (hw : WM G γ κ μ h) {k : Nat} (hk : k < 6) {v : Int32} (hs : h' (23, k) = some (γ 1 k, .inl (.inr (10, [.int ((lRate κ k)), .int ((lAll κ k)), .int ((lQuo κ k)), .int ((lNight κ k)), .int ((lDut κ k)), .int (v)])))) (ho : ∀ j, j ≠ (23, k) → h' j = h j) : WM G γ (ll_sz κ 5 k v) μ h' := by
  have e1 : lFin (ll_sz κ 5 k v) k = v := if_pos ⟨rfl, rfl⟩
  have fmthis := w_mthis hw
  have fmland := w_mland hw
  have fmgate := w_mgate hw
  have fmsleeper := w_msleeper hw
  have fmpart := w_mpart hw
  have fmlands := w_mlands hw
  have fmmore := w_mmore hw
  have fmgates := w_mgates hw
  have fmsleepers := w_msleepers hw
  have fmparts := w_mparts hw
  have fmhidings := w_mhidings hw
  have fmqueue := w_mqueue hw
  have fmrev := w_mrev hw
  have fmdecl := w_mdecl hw
  have fmpass := w_mpass hw
  have fmfree := w_mfree hw
  refine ⟨?_, ?_, ?_, ?_, ?_, ?_, ?_, ?_, ?_, ?_, ?_, ?_, ?_, ?_, ?_, ?_⟩
  · exact (ho _ (fun z => by cases z)).trans (fmthis)
  · exact fun j hj => by
      by_cases e : j = k
      · subst e; exact hs.trans (by first | (rw [e1]; done) | (rw [e1]; rfl))
      · have e2 : lFin (ll_sz κ 5 k v) j = lFin κ j := if_neg (fun z => e z.2)
        exact (ho _ (fun z => e (by cases z; rfl))).trans ((fmland j hj).trans (by first | (rw [e2]; done) | (rw [e2]; rfl)))
  · exact fun j hj => (ho _ (fun z => by cases z)).trans (fmgate j hj)
  · exact fun j hj => (ho _ (fun z => by cases z)).trans (fmsleeper j hj)
  · exact fun j hj => (ho _ (fun z => by cases z)).trans (fmpart j hj)
  · exact (ho _ (fun z => by cases z)).trans (fmlands)
  · exact (ho _ (fun z => by cases z)).trans (fmmore)
  · exact by obtain ⟨m, hm⟩ := fmgates; exact ⟨m, (ho _ (fun z => by cases z)).trans hm⟩
  · exact by obtain ⟨m, hm⟩ := fmsleepers; exact ⟨m, (ho _ (fun z => by cases z)).trans hm⟩
  · exact by obtain ⟨m, hm⟩ := fmparts; exact ⟨m, (ho _ (fun z => by cases z)).trans hm⟩
  · exact by obtain ⟨m, hm⟩ := fmhidings; exact ⟨m, (ho _ (fun z => by cases z)).trans hm⟩
  · exact fun j hj => by obtain ⟨m, hm⟩ := fmqueue j hj; exact ⟨m, (ho _ (fun z => by cases z)).trans hm⟩
  · exact fun j hj => (ho _ (fun z => by cases z)).trans (fmrev j hj)
  · exact fmdecl
  · exact fmpass
  · exact fun j => ⟨fun w => ⟨(ho _ (fun z => by cases z)).trans ((fmfree j).1 w).1, (ho _ (fun z => by cases z)).trans ((fmfree j).1 w).2.1, (ho _ (fun z => by cases z)).trans ((fmfree j).1 w).2.2⟩, fun w => (ho _ (fun z => by cases z)).trans ((fmfree j).2.1 w), fun w => (ho _ (fun z => by cases z)).trans ((fmfree j).2.2 w)⟩
theorem m_gOdds {G : jd_G} {γ : ll_B} {κ : ll_K} {μ : ll_U} {h h' : jd_H} (hw : WM G γ κ μ h) {k : Nat} (hk : k < nG κ) {v : Int32} (hs : h' (24, k) = some (γ 2 k, .inl (.inr (11, [.int (nI ((gOne κ k))), .int (nI ((gOther κ k))), .int ((gFrom κ k)), .int ((gHours κ k)), .int (v), .int ((gWatch κ k)), .ref (γ 3 k), .ref (γ 4 k)])))) (ho : ∀ j, j ≠ (24, k) → h' j = h j) : WM G γ (ll_sz κ 9 k v) μ h' := by
  have e1 : gOdds (ll_sz κ 9 k v) k = v := if_pos ⟨rfl, rfl⟩
  have fmthis := w_mthis hw
  have fmland := w_mland hw
  have fmgate := w_mgate hw
  have fmsleeper := w_msleeper hw
  have fmpart := w_mpart hw
  have fmlands := w_mlands hw
  have fmmore := w_mmore hw
  have fmgates := w_mgates hw
  have fmsleepers := w_msleepers hw
  have fmparts := w_mparts hw
  have fmhidings := w_mhidings hw
  have fmqueue := w_mqueue hw
  have fmrev := w_mrev hw
  have fmdecl := w_mdecl hw
  have fmpass := w_mpass hw
  have fmfree := w_mfree hw
  refine ⟨?_, ?_, ?_, ?_, ?_, ?_, ?_, ?_, ?_, ?_, ?_, ?_, ?_, ?_, ?_, ?_⟩
  · exact (ho _ (fun z => by cases z)).trans (fmthis)
  · exact fun j hj => (ho _ (fun z => by cases z)).trans (fmland j hj)
  · exact fun j hj => by
      by_cases e : j = k
      · subst e; exact hs.trans (by first | (rw [e1]; done) | (rw [e1]; rfl))
      · have e2 : gOdds (ll_sz κ 9 k v) j = gOdds κ j := if_neg (fun z => e z.2)
        exact (ho _ (fun z => e (by cases z; rfl))).trans ((fmgate j hj).trans (by first | (rw [e2]; done) | (rw [e2]; rfl)))
  · exact fun j hj => (ho _ (fun z => by cases z)).trans (fmsleeper j hj)
  · exact fun j hj => (ho _ (fun z => by cases z)).trans (fmpart j hj)
  · exact (ho _ (fun z => by cases z)).trans (fmlands)
  · exact (ho _ (fun z => by cases z)).trans (fmmore)
  · exact by obtain ⟨m, hm⟩ := fmgates; exact ⟨m, (ho _ (fun z => by cases z)).trans hm⟩
  · exact by obtain ⟨m, hm⟩ := fmsleepers; exact ⟨m, (ho _ (fun z => by cases z)).trans hm⟩
  · exact by obtain ⟨m, hm⟩ := fmparts; exact ⟨m, (ho _ (fun z => by cases z)).trans hm⟩
  · exact by obtain ⟨m, hm⟩ := fmhidings; exact ⟨m, (ho _ (fun z => by cases z)).trans hm⟩
  · exact fun j hj => by obtain ⟨m, hm⟩ := fmqueue j hj; exact ⟨m, (ho _ (fun z => by cases z)).trans hm⟩
  · exact fun j hj => (ho _ (fun z => by cases z)).trans (fmrev j hj)
  · exact fmdecl
  · exact fmpass
  · exact fun j => ⟨fun w => ⟨(ho _ (fun z => by cases z; have w2 : nG κ ≤ k := w; omega)).trans ((fmfree j).1 w).1, (ho _ (fun z => by cases z)).trans ((fmfree j).1 w).2.1, (ho _ (fun z => by cases z)).trans ((fmfree j).1 w).2.2⟩, fun w => (ho _ (fun z => by cases z)).trans ((fmfree j).2.1 w), fun w => (ho _ (fun z => by cases z)).trans ((fmfree j).2.2 w)⟩
theorem m_gWatch {G : jd_G} {γ : ll_B} {κ : ll_K} {μ : ll_U} {h h' : jd_H} (hw : WM G γ κ μ h) {k : Nat} (hk : k < nG κ) {v : Int32} (hs : h' (24, k) = some (γ 2 k, .inl (.inr (11, [.int (nI ((gOne κ k))), .int (nI ((gOther κ k))), .int ((gFrom κ k)), .int ((gHours κ k)), .int ((gOdds κ k)), .int (v), .ref (γ 3 k), .ref (γ 4 k)])))) (ho : ∀ j, j ≠ (24, k) → h' j = h j) : WM G γ (ll_sz κ 10 k v) μ h' := by
  have e1 : gWatch (ll_sz κ 10 k v) k = v := if_pos ⟨rfl, rfl⟩
  have fmthis := w_mthis hw
  have fmland := w_mland hw
  have fmgate := w_mgate hw
  have fmsleeper := w_msleeper hw
  have fmpart := w_mpart hw
  have fmlands := w_mlands hw
  have fmmore := w_mmore hw
  have fmgates := w_mgates hw
  have fmsleepers := w_msleepers hw
  have fmparts := w_mparts hw
  have fmhidings := w_mhidings hw
  have fmqueue := w_mqueue hw
  have fmrev := w_mrev hw
  have fmdecl := w_mdecl hw
  have fmpass := w_mpass hw
  have fmfree := w_mfree hw
  refine ⟨?_, ?_, ?_, ?_, ?_, ?_, ?_, ?_, ?_, ?_, ?_, ?_, ?_, ?_, ?_, ?_⟩
  · exact (ho _ (fun z => by cases z)).trans (fmthis)
  · exact fun j hj => (ho _ (fun z => by cases z)).trans (fmland j hj)
  · exact fun j hj => by
      by_cases e : j = k
      · subst e; exact hs.trans (by first | (rw [e1]; done) | (rw [e1]; rfl))
      · have e2 : gWatch (ll_sz κ 10 k v) j = gWatch κ j := if_neg (fun z => e z.2)
        exact (ho _ (fun z => e (by cases z; rfl))).trans ((fmgate j hj).trans (by first | (rw [e2]; done) | (rw [e2]; rfl)))
  · exact fun j hj => (ho _ (fun z => by cases z)).trans (fmsleeper j hj)
  · exact fun j hj => (ho _ (fun z => by cases z)).trans (fmpart j hj)
  · exact (ho _ (fun z => by cases z)).trans (fmlands)
  · exact (ho _ (fun z => by cases z)).trans (fmmore)
  · exact by obtain ⟨m, hm⟩ := fmgates; exact ⟨m, (ho _ (fun z => by cases z)).trans hm⟩
  · exact by obtain ⟨m, hm⟩ := fmsleepers; exact ⟨m, (ho _ (fun z => by cases z)).trans hm⟩
  · exact by obtain ⟨m, hm⟩ := fmparts; exact ⟨m, (ho _ (fun z => by cases z)).trans hm⟩
  · exact by obtain ⟨m, hm⟩ := fmhidings; exact ⟨m, (ho _ (fun z => by cases z)).trans hm⟩
  · exact fun j hj => by obtain ⟨m, hm⟩ := fmqueue j hj; exact ⟨m, (ho _ (fun z => by cases z)).trans hm⟩
  · exact fun j hj => (ho _ (fun z => by cases z)).trans (fmrev j hj)
  · exact fmdecl
  · exact fmpass
  · exact fun j => ⟨fun w => ⟨(ho _ (fun z => by cases z; have w2 : nG κ ≤ k := w; omega)).trans ((fmfree j).1 w).1, (ho _ (fun z => by cases z)).trans ((fmfree j).1 w).2.1, (ho _ (fun z => by cases z)).trans ((fmfree j).1 w).2.2⟩, fun w => (ho _ (fun z => by cases z)).trans ((fmfree j).2.1 w), fun w => (ho _ (fun z => by cases z)).trans ((fmfree j).2.2 w)⟩
theorem m_sLand {G : jd_G} {γ : ll_B} {κ : ll_K} {μ : ll_U} {h h' : jd_H} (hw : WM G γ κ μ h) {k : Nat} (hk : k < nS κ) {v : Nat} (hs : h' (27, k) = some (γ 5 k, .inl (.inr (12, [.int (nI v), .int (jd_b (sBaby κ k = true)), .int ((sPat κ k)), .int (nI ((sRest κ k))), .int ((oI (sGate κ k))), .int ((μ.1 2 k)), .int ((μ.1 3 k)), .int ((μ.1 4 k)), .int ((oV (sPass κ k)))])))) (ho : ∀ j, j ≠ (27, k) → h' j = h j) : WM G γ (ll_sn κ 2 k v) μ h' := by
  have e1 : sLand (ll_sn κ 2 k v) k = v := if_pos ⟨rfl, rfl⟩
  have fmthis := w_mthis hw
  have fmland := w_mland hw
  have fmgate := w_mgate hw
  have fmsleeper := w_msleeper hw
  have fmpart := w_mpart hw
  have fmlands := w_mlands hw
  have fmmore := w_mmore hw
  have fmgates := w_mgates hw
  have fmsleepers := w_msleepers hw
  have fmparts := w_mparts hw
  have fmhidings := w_mhidings hw
  have fmqueue := w_mqueue hw
  have fmrev := w_mrev hw
  have fmdecl := w_mdecl hw
  have fmpass := w_mpass hw
  have fmfree := w_mfree hw
  refine ⟨?_, ?_, ?_, ?_, ?_, ?_, ?_, ?_, ?_, ?_, ?_, ?_, ?_, ?_, ?_, ?_⟩
  · exact (ho _ (fun z => by cases z)).trans (fmthis)
  · exact fun j hj => (ho _ (fun z => by cases z)).trans (fmland j hj)
  · exact fun j hj => (ho _ (fun z => by cases z)).trans (fmgate j hj)
  · exact fun j hj => by
      by_cases e : j = k
      · subst e; exact hs.trans (by first | (rw [e1]; done) | (rw [e1]; rfl))
      · have e2 : sLand (ll_sn κ 2 k v) j = sLand κ j := if_neg (fun z => e z.2)
        exact (ho _ (fun z => e (by cases z; rfl))).trans ((fmsleeper j hj).trans (by first | (rw [e2]; done) | (rw [e2]; rfl)))
  · exact fun j hj => (ho _ (fun z => by cases z)).trans (fmpart j hj)
  · exact (ho _ (fun z => by cases z)).trans (fmlands)
  · exact (ho _ (fun z => by cases z)).trans (fmmore)
  · exact by obtain ⟨m, hm⟩ := fmgates; exact ⟨m, (ho _ (fun z => by cases z)).trans hm⟩
  · exact by obtain ⟨m, hm⟩ := fmsleepers; exact ⟨m, (ho _ (fun z => by cases z)).trans hm⟩
  · exact by obtain ⟨m, hm⟩ := fmparts; exact ⟨m, (ho _ (fun z => by cases z)).trans hm⟩
  · exact by obtain ⟨m, hm⟩ := fmhidings; exact ⟨m, (ho _ (fun z => by cases z)).trans hm⟩
  · exact fun j hj => by obtain ⟨m, hm⟩ := fmqueue j hj; exact ⟨m, (ho _ (fun z => by cases z)).trans hm⟩
  · exact fun j hj => (ho _ (fun z => by cases z)).trans (fmrev j hj)
  · exact fmdecl
  · exact fmpass
  · exact fun j => ⟨fun w => ⟨(ho _ (fun z => by cases z)).trans ((fmfree j).1 w).1, (ho _ (fun z => by cases z)).trans ((fmfree j).1 w).2.1, (ho _ (fun z => by cases z)).trans ((fmfree j).1 w).2.2⟩, fun w => (ho _ (fun z => by cases z; have w2 : nS κ ≤ k := w; omega)).trans ((fmfree j).2.1 w), fun w => (ho _ (fun z => by cases z)).trans ((fmfree j).2.2 w)⟩
theorem m_sPat {G : jd_G} {γ : ll_B} {κ : ll_K} {μ : ll_U} {h h' : jd_H} (hw : WM G γ κ μ h) {k : Nat} (hk : k < nS κ) {v : Int32} (hs : h' (27, k) = some (γ 5 k, .inl (.inr (12, [.int (nI ((sLand κ k))), .int (jd_b (sBaby κ k = true)), .int (v), .int (nI ((sRest κ k))), .int ((oI (sGate κ k))), .int ((μ.1 2 k)), .int ((μ.1 3 k)), .int ((μ.1 4 k)), .int ((oV (sPass κ k)))])))) (ho : ∀ j, j ≠ (27, k) → h' j = h j) : WM G γ (ll_sz κ 11 k v) μ h' := by
  have e1 : sPat (ll_sz κ 11 k v) k = v := if_pos ⟨rfl, rfl⟩
  have fmthis := w_mthis hw
  have fmland := w_mland hw
  have fmgate := w_mgate hw
  have fmsleeper := w_msleeper hw
  have fmpart := w_mpart hw
  have fmlands := w_mlands hw
  have fmmore := w_mmore hw
  have fmgates := w_mgates hw
  have fmsleepers := w_msleepers hw
  have fmparts := w_mparts hw
  have fmhidings := w_mhidings hw
  have fmqueue := w_mqueue hw
  have fmrev := w_mrev hw
  have fmdecl := w_mdecl hw
  have fmpass := w_mpass hw
  have fmfree := w_mfree hw
  refine ⟨?_, ?_, ?_, ?_, ?_, ?_, ?_, ?_, ?_, ?_, ?_, ?_, ?_, ?_, ?_, ?_⟩
  · exact (ho _ (fun z => by cases z)).trans (fmthis)
  · exact fun j hj => (ho _ (fun z => by cases z)).trans (fmland j hj)
  · exact fun j hj => (ho _ (fun z => by cases z)).trans (fmgate j hj)
  · exact fun j hj => by
      by_cases e : j = k
      · subst e; exact hs.trans (by first | (rw [e1]; done) | (rw [e1]; rfl))
      · have e2 : sPat (ll_sz κ 11 k v) j = sPat κ j := if_neg (fun z => e z.2)
        exact (ho _ (fun z => e (by cases z; rfl))).trans ((fmsleeper j hj).trans (by first | (rw [e2]; done) | (rw [e2]; rfl)))
  · exact fun j hj => (ho _ (fun z => by cases z)).trans (fmpart j hj)
  · exact (ho _ (fun z => by cases z)).trans (fmlands)
  · exact (ho _ (fun z => by cases z)).trans (fmmore)
  · exact by obtain ⟨m, hm⟩ := fmgates; exact ⟨m, (ho _ (fun z => by cases z)).trans hm⟩
  · exact by obtain ⟨m, hm⟩ := fmsleepers; exact ⟨m, (ho _ (fun z => by cases z)).trans hm⟩
  · exact by obtain ⟨m, hm⟩ := fmparts; exact ⟨m, (ho _ (fun z => by cases z)).trans hm⟩
  · exact by obtain ⟨m, hm⟩ := fmhidings; exact ⟨m, (ho _ (fun z => by cases z)).trans hm⟩
  · exact fun j hj => by obtain ⟨m, hm⟩ := fmqueue j hj; exact ⟨m, (ho _ (fun z => by cases z)).trans hm⟩
  · exact fun j hj => (ho _ (fun z => by cases z)).trans (fmrev j hj)
  · exact fmdecl
  · exact fmpass
  · exact fun j => ⟨fun w => ⟨(ho _ (fun z => by cases z)).trans ((fmfree j).1 w).1, (ho _ (fun z => by cases z)).trans ((fmfree j).1 w).2.1, (ho _ (fun z => by cases z)).trans ((fmfree j).1 w).2.2⟩, fun w => (ho _ (fun z => by cases z; have w2 : nS κ ≤ k := w; omega)).trans ((fmfree j).2.1 w), fun w => (ho _ (fun z => by cases z)).trans ((fmfree j).2.2 w)⟩
theorem m_sRest {G : jd_G} {γ : ll_B} {κ : ll_K} {μ : ll_U} {h h' : jd_H} (hw : WM G γ κ μ h) {k : Nat} (hk : k < nS κ) {v : Nat} {d : Int32} (hd : v = 1 → μ.1 2 k = d) (hs : h' (27, k) = some (γ 5 k, .inl (.inr (12, [.int (nI ((sLand κ k))), .int (jd_b (sBaby κ k = true)), .int ((sPat κ k)), .int (nI v), .int ((oI (sGate κ k))), .int ((μ.1 2 k)), .int ((μ.1 3 k)), .int ((μ.1 4 k)), .int ((oV (sPass κ k)))])))) (ho : ∀ j, j ≠ (27, k) → h' j = h j) : WM G γ (ll_sz (ll_sn κ 3 k v) 12 k d) μ h' := by
  have e1 : sRest (ll_sz (ll_sn κ 3 k v) 12 k d) k = v := by simp [sRest, ll_sn, ll_sz]
  have fmthis := w_mthis hw
  have fmland := w_mland hw
  have fmgate := w_mgate hw
  have fmsleeper := w_msleeper hw
  have fmpart := w_mpart hw
  have fmlands := w_mlands hw
  have fmmore := w_mmore hw
  have fmgates := w_mgates hw
  have fmsleepers := w_msleepers hw
  have fmparts := w_mparts hw
  have fmhidings := w_mhidings hw
  have fmqueue := w_mqueue hw
  have fmrev := w_mrev hw
  have fmdecl := w_mdecl hw
  have fmpass := w_mpass hw
  have fmfree := w_mfree hw
  refine ⟨?_, ?_, ?_, ?_, ?_, ?_, ?_, ?_, ?_, ?_, ?_, ?_, ?_, ?_, ?_, ?_⟩
  · exact (ho _ (fun z => by cases z)).trans (fmthis)
  · exact fun j hj => (ho _ (fun z => by cases z)).trans (fmland j hj)
  · exact fun j hj => (ho _ (fun z => by cases z)).trans (fmgate j hj)
  · exact fun j hj => by
      by_cases e : j = k
      · subst e; exact hs.trans (by first | (rw [e1]; done) | (rw [e1]; rfl))
      · have e2 : sRest (ll_sz (ll_sn κ 3 k v) 12 k d) j = sRest κ j := by simp [sRest, ll_sn, ll_sz, e]
        exact (ho _ (fun z => e (by cases z; rfl))).trans ((fmsleeper j hj).trans (by first | (rw [e2]; done) | (rw [e2]; rfl)))
  · exact fun j hj => (ho _ (fun z => by cases z)).trans (fmpart j hj)
  · exact (ho _ (fun z => by cases z)).trans (fmlands)
  · exact (ho _ (fun z => by cases z)).trans (fmmore)
  · exact by obtain ⟨m, hm⟩ := fmgates; exact ⟨m, (ho _ (fun z => by cases z)).trans hm⟩
  · exact by obtain ⟨m, hm⟩ := fmsleepers; exact ⟨m, (ho _ (fun z => by cases z)).trans hm⟩
  · exact by obtain ⟨m, hm⟩ := fmparts; exact ⟨m, (ho _ (fun z => by cases z)).trans hm⟩
  · exact by obtain ⟨m, hm⟩ := fmhidings; exact ⟨m, (ho _ (fun z => by cases z)).trans hm⟩
  · exact fun j hj => by obtain ⟨m, hm⟩ := fmqueue j hj; exact ⟨m, (ho _ (fun z => by cases z)).trans hm⟩
  · exact fun j hj => (ho _ (fun z => by cases z)).trans (fmrev j hj)
  · exact fun j hj hr => by
      by_cases e : j = k
      · subst e
        have e3 : sDecl (ll_sz (ll_sn κ 3 j v) 12 j d) j = d := if_pos ⟨rfl, rfl⟩
        have hr2 : sRest (ll_sz (ll_sn κ 3 j v) 12 j d) j = 1 := hr
        rw [e1] at hr2; rw [e3]; exact hd hr2
      · have e3 : sDecl (ll_sz (ll_sn κ 3 k v) 12 k d) j = sDecl κ j := if_neg (fun z => e z.2)
        have e4 : sRest (ll_sz (ll_sn κ 3 k v) 12 k d) j = sRest κ j := if_neg (fun z => e z.2)
        rw [e4] at hr; rw [e3]; exact fmdecl j hj hr
  · exact fmpass
  · exact fun j => ⟨fun w => ⟨(ho _ (fun z => by cases z)).trans ((fmfree j).1 w).1, (ho _ (fun z => by cases z)).trans ((fmfree j).1 w).2.1, (ho _ (fun z => by cases z)).trans ((fmfree j).1 w).2.2⟩, fun w => (ho _ (fun z => by cases z; have w2 : nS κ ≤ k := w; omega)).trans ((fmfree j).2.1 w), fun w => (ho _ (fun z => by cases z)).trans ((fmfree j).2.2 w)⟩
theorem m_sGate {G : jd_G} {γ : ll_B} {κ : ll_K} {μ : ll_U} {h h' : jd_H} (hw : WM G γ κ μ h) {k : Nat} (hk : k < nS κ) {v : Option Nat} (hs : h' (27, k) = some (γ 5 k, .inl (.inr (12, [.int (nI ((sLand κ k))), .int (jd_b (sBaby κ k = true)), .int ((sPat κ k)), .int (nI ((sRest κ k))), .int (oI v), .int ((μ.1 2 k)), .int ((μ.1 3 k)), .int ((μ.1 4 k)), .int ((oV (sPass κ k)))])))) (ho : ∀ j, j ≠ (27, k) → h' j = h j) : WM G γ (ll_so κ 0 k v) μ h' := by
  have e1 : sGate (ll_so κ 0 k v) k = v := if_pos ⟨rfl, rfl⟩
  have fmthis := w_mthis hw
  have fmland := w_mland hw
  have fmgate := w_mgate hw
  have fmsleeper := w_msleeper hw
  have fmpart := w_mpart hw
  have fmlands := w_mlands hw
  have fmmore := w_mmore hw
  have fmgates := w_mgates hw
  have fmsleepers := w_msleepers hw
  have fmparts := w_mparts hw
  have fmhidings := w_mhidings hw
  have fmqueue := w_mqueue hw
  have fmrev := w_mrev hw
  have fmdecl := w_mdecl hw
  have fmpass := w_mpass hw
  have fmfree := w_mfree hw
  refine ⟨?_, ?_, ?_, ?_, ?_, ?_, ?_, ?_, ?_, ?_, ?_, ?_, ?_, ?_, ?_, ?_⟩
  · exact (ho _ (fun z => by cases z)).trans (fmthis)
  · exact fun j hj => (ho _ (fun z => by cases z)).trans (fmland j hj)
  · exact fun j hj => (ho _ (fun z => by cases z)).trans (fmgate j hj)
  · exact fun j hj => by
      by_cases e : j = k
      · subst e; exact hs.trans (by first | (rw [e1]; done) | (rw [e1]; rfl))
      · have e2 : sGate (ll_so κ 0 k v) j = sGate κ j := if_neg (fun z => e z.2)
        exact (ho _ (fun z => e (by cases z; rfl))).trans ((fmsleeper j hj).trans (by first | (rw [e2]; done) | (rw [e2]; rfl)))
  · exact fun j hj => (ho _ (fun z => by cases z)).trans (fmpart j hj)
  · exact (ho _ (fun z => by cases z)).trans (fmlands)
  · exact (ho _ (fun z => by cases z)).trans (fmmore)
  · exact by obtain ⟨m, hm⟩ := fmgates; exact ⟨m, (ho _ (fun z => by cases z)).trans hm⟩
  · exact by obtain ⟨m, hm⟩ := fmsleepers; exact ⟨m, (ho _ (fun z => by cases z)).trans hm⟩
  · exact by obtain ⟨m, hm⟩ := fmparts; exact ⟨m, (ho _ (fun z => by cases z)).trans hm⟩
  · exact by obtain ⟨m, hm⟩ := fmhidings; exact ⟨m, (ho _ (fun z => by cases z)).trans hm⟩
  · exact fun j hj => by obtain ⟨m, hm⟩ := fmqueue j hj; exact ⟨m, (ho _ (fun z => by cases z)).trans hm⟩
  · exact fun j hj => (ho _ (fun z => by cases z)).trans (fmrev j hj)
  · exact fmdecl
  · exact fmpass
  · exact fun j => ⟨fun w => ⟨(ho _ (fun z => by cases z)).trans ((fmfree j).1 w).1, (ho _ (fun z => by cases z)).trans ((fmfree j).1 w).2.1, (ho _ (fun z => by cases z)).trans ((fmfree j).1 w).2.2⟩, fun w => (ho _ (fun z => by cases z; have w2 : nS κ ≤ k := w; omega)).trans ((fmfree j).2.1 w), fun w => (ho _ (fun z => by cases z)).trans ((fmfree j).2.2 w)⟩
theorem m_sDecl {G : jd_G} {γ : ll_B} {κ : ll_K} {μ : ll_U} {h h' : jd_H} (hw : WM G γ κ μ h) {k : Nat} (hk : k < nS κ) {v : Int32} (hs : h' (27, k) = some (γ 5 k, .inl (.inr (12, [.int (nI ((sLand κ k))), .int (jd_b (sBaby κ k = true)), .int ((sPat κ k)), .int (nI ((sRest κ k))), .int ((oI (sGate κ k))), .int (v), .int ((μ.1 3 k)), .int ((μ.1 4 k)), .int ((oV (sPass κ k)))])))) (ho : ∀ j, j ≠ (27, k) → h' j = h j) : WM G γ (ll_sz κ 12 k v) (mu_s μ 2 k v) h' := by
  have e1 : (mu_s μ 2 k v).1 2 k = v := if_pos ⟨rfl, rfl⟩
  have fmthis := w_mthis hw
  have fmland := w_mland hw
  have fmgate := w_mgate hw
  have fmsleeper := w_msleeper hw
  have fmpart := w_mpart hw
  have fmlands := w_mlands hw
  have fmmore := w_mmore hw
  have fmgates := w_mgates hw
  have fmsleepers := w_msleepers hw
  have fmparts := w_mparts hw
  have fmhidings := w_mhidings hw
  have fmqueue := w_mqueue hw
  have fmrev := w_mrev hw
  have fmdecl := w_mdecl hw
  have fmpass := w_mpass hw
  have fmfree := w_mfree hw
  refine ⟨?_, ?_, ?_, ?_, ?_, ?_, ?_, ?_, ?_, ?_, ?_, ?_, ?_, ?_, ?_, ?_⟩
  · exact (ho _ (fun z => by cases z)).trans (fmthis)
  · exact fun j hj => (ho _ (fun z => by cases z)).trans (fmland j hj)
  · exact fun j hj => (ho _ (fun z => by cases z)).trans (fmgate j hj)
  · exact fun j hj => by
      by_cases e : j = k
      · subst e; exact hs.trans (by first | (rw [e1]; done) | (rw [e1]; rfl))
      · have e2 : (mu_s μ 2 k v).1 2 j = μ.1 2 j := if_neg (fun z => e z.2)
        exact (ho _ (fun z => e (by cases z; rfl))).trans ((fmsleeper j hj).trans (by first | (rw [e2]; done) | (rw [e2]; rfl)))
  · exact fun j hj => (ho _ (fun z => by cases z)).trans (fmpart j hj)
  · exact (ho _ (fun z => by cases z)).trans (fmlands)
  · exact (ho _ (fun z => by cases z)).trans (fmmore)
  · exact by obtain ⟨m, hm⟩ := fmgates; exact ⟨m, (ho _ (fun z => by cases z)).trans hm⟩
  · exact by obtain ⟨m, hm⟩ := fmsleepers; exact ⟨m, (ho _ (fun z => by cases z)).trans hm⟩
  · exact by obtain ⟨m, hm⟩ := fmparts; exact ⟨m, (ho _ (fun z => by cases z)).trans hm⟩
  · exact by obtain ⟨m, hm⟩ := fmhidings; exact ⟨m, (ho _ (fun z => by cases z)).trans hm⟩
  · exact fun j hj => by obtain ⟨m, hm⟩ := fmqueue j hj; exact ⟨m, (ho _ (fun z => by cases z)).trans hm⟩
  · exact fun j hj => (ho _ (fun z => by cases z)).trans (fmrev j hj)
  · exact fun j hj hr => by
      by_cases e : j = k
      · subst e
        have e3 : sDecl (ll_sz κ 12 j v) j = v := if_pos ⟨rfl, rfl⟩
        rw [e3]; exact e1
      · have e3 : sDecl (ll_sz κ 12 k v) j = sDecl κ j := if_neg (fun z => e z.2)
        have e4 : (mu_s μ 2 k v).1 2 j = μ.1 2 j := if_neg (fun z => e z.2)
        rw [e3, e4]; exact fmdecl j hj hr
  · exact fmpass
  · exact fun j => ⟨fun w => ⟨(ho _ (fun z => by cases z)).trans ((fmfree j).1 w).1, (ho _ (fun z => by cases z)).trans ((fmfree j).1 w).2.1, (ho _ (fun z => by cases z)).trans ((fmfree j).1 w).2.2⟩, fun w => (ho _ (fun z => by cases z; have w2 : nS κ ≤ k := w; omega)).trans ((fmfree j).2.1 w), fun w => (ho _ (fun z => by cases z)).trans ((fmfree j).2.2 w)⟩
theorem m_verN {G : jd_G} {γ : ll_B} {κ : ll_K} {μ : ll_U} {h h' : jd_H} (hw : WM G γ κ μ h) {k : Nat} (hk : k < nS κ) (hs : h' (27, k) = some (γ 5 k, .inl (.inr (12, [.int (nI ((sLand κ k))), .int (jd_b (sBaby κ k = true)), .int ((sPat κ k)), .int (nI ((sRest κ k))), .int ((oI (sGate κ k))), .int ((μ.1 2 k)), .int ((μ.1 3 k)), .int ((μ.1 4 k)), .int (-1)])))) (ho : ∀ j, j ≠ (27, k) → h' j = h j) : WM G γ (ll_sp κ k none) μ h' := by
  have e1 : sPass (ll_sp κ k none) k = none := if_pos rfl
  have fmthis := w_mthis hw
  have fmland := w_mland hw
  have fmgate := w_mgate hw
  have fmsleeper := w_msleeper hw
  have fmpart := w_mpart hw
  have fmlands := w_mlands hw
  have fmmore := w_mmore hw
  have fmgates := w_mgates hw
  have fmsleepers := w_msleepers hw
  have fmparts := w_mparts hw
  have fmhidings := w_mhidings hw
  have fmqueue := w_mqueue hw
  have fmrev := w_mrev hw
  have fmdecl := w_mdecl hw
  have fmpass := w_mpass hw
  have fmfree := w_mfree hw
  refine ⟨?_, ?_, ?_, ?_, ?_, ?_, ?_, ?_, ?_, ?_, ?_, ?_, ?_, ?_, ?_, ?_⟩
  · exact (ho _ (fun z => by cases z)).trans (fmthis)
  · exact fun j hj => (ho _ (fun z => by cases z)).trans (fmland j hj)
  · exact fun j hj => (ho _ (fun z => by cases z)).trans (fmgate j hj)
  · exact fun j hj => by
      by_cases e : j = k
      · subst e; exact hs.trans (by first | (rw [e1]; done) | (rw [e1]; rfl))
      · have e2 : sPass (ll_sp κ k none) j = sPass κ j := if_neg e
        exact (ho _ (fun z => e (by cases z; rfl))).trans ((fmsleeper j hj).trans (by first | (rw [e2]; done) | (rw [e2]; rfl)))
  · exact fun j hj => (ho _ (fun z => by cases z)).trans (fmpart j hj)
  · exact (ho _ (fun z => by cases z)).trans (fmlands)
  · exact (ho _ (fun z => by cases z)).trans (fmmore)
  · exact by obtain ⟨m, hm⟩ := fmgates; exact ⟨m, (ho _ (fun z => by cases z)).trans hm⟩
  · exact by obtain ⟨m, hm⟩ := fmsleepers; exact ⟨m, (ho _ (fun z => by cases z)).trans hm⟩
  · exact by obtain ⟨m, hm⟩ := fmparts; exact ⟨m, (ho _ (fun z => by cases z)).trans hm⟩
  · exact by obtain ⟨m, hm⟩ := fmhidings; exact ⟨m, (ho _ (fun z => by cases z)).trans hm⟩
  · exact fun j hj => by obtain ⟨m, hm⟩ := fmqueue j hj; exact ⟨m, (ho _ (fun z => by cases z)).trans hm⟩
  · exact fun j hj => (ho _ (fun z => by cases z)).trans (fmrev j hj)
  · exact fmdecl
  · exact fun j hj q hq => by
      by_cases e : j = k
      · subst e; rw [e1] at hq; cases hq
      · have e3 : sPass (ll_sp κ k none) j = sPass κ j := if_neg e
        rw [e3] at hq; exact fmpass j hj q hq
  · exact fun j => ⟨fun w => ⟨(ho _ (fun z => by cases z)).trans ((fmfree j).1 w).1, (ho _ (fun z => by cases z)).trans ((fmfree j).1 w).2.1, (ho _ (fun z => by cases z)).trans ((fmfree j).1 w).2.2⟩, fun w => (ho _ (fun z => by cases z; have w2 : nS κ ≤ k := w; omega)).trans ((fmfree j).2.1 w), fun w => (ho _ (fun z => by cases z)).trans ((fmfree j).2.2 w)⟩
theorem m_pFate {G : jd_G} {γ : ll_B} {κ : ll_K} {μ : ll_U} {h h' : jd_H} (hw : WM G γ κ μ h) {k : Nat} (hk : k < nP κ) {v : Nat} (hs : h' (30, k) = some (γ 6 k, .inl (.inr (13, [.int (nI ((pDream κ k))), .int ((pWorth κ k)), .int ((pDread κ k)), .int (nI v), .int (nI ((pAt κ k))), .int ((oI (pBy κ k)))])))) (ho : ∀ j, j ≠ (30, k) → h' j = h j) : WM G γ (ll_sn κ 4 k v) μ h' := by
  have e1 : pFate (ll_sn κ 4 k v) k = v := if_pos ⟨rfl, rfl⟩
  have fmthis := w_mthis hw
  have fmland := w_mland hw
  have fmgate := w_mgate hw
  have fmsleeper := w_msleeper hw
  have fmpart := w_mpart hw
  have fmlands := w_mlands hw
  have fmmore := w_mmore hw
  have fmgates := w_mgates hw
  have fmsleepers := w_msleepers hw
  have fmparts := w_mparts hw
  have fmhidings := w_mhidings hw
  have fmqueue := w_mqueue hw
  have fmrev := w_mrev hw
  have fmdecl := w_mdecl hw
  have fmpass := w_mpass hw
  have fmfree := w_mfree hw
  refine ⟨?_, ?_, ?_, ?_, ?_, ?_, ?_, ?_, ?_, ?_, ?_, ?_, ?_, ?_, ?_, ?_⟩
  · exact (ho _ (fun z => by cases z)).trans (fmthis)
  · exact fun j hj => (ho _ (fun z => by cases z)).trans (fmland j hj)
  · exact fun j hj => (ho _ (fun z => by cases z)).trans (fmgate j hj)
  · exact fun j hj => (ho _ (fun z => by cases z)).trans (fmsleeper j hj)
  · exact fun j hj => by
      by_cases e : j = k
      · subst e; exact hs.trans (by first | (rw [e1]; done) | (rw [e1]; rfl))
      · have e2 : pFate (ll_sn κ 4 k v) j = pFate κ j := if_neg (fun z => e z.2)
        exact (ho _ (fun z => e (by cases z; rfl))).trans ((fmpart j hj).trans (by first | (rw [e2]; done) | (rw [e2]; rfl)))
  · exact (ho _ (fun z => by cases z)).trans (fmlands)
  · exact (ho _ (fun z => by cases z)).trans (fmmore)
  · exact by obtain ⟨m, hm⟩ := fmgates; exact ⟨m, (ho _ (fun z => by cases z)).trans hm⟩
  · exact by obtain ⟨m, hm⟩ := fmsleepers; exact ⟨m, (ho _ (fun z => by cases z)).trans hm⟩
  · exact by obtain ⟨m, hm⟩ := fmparts; exact ⟨m, (ho _ (fun z => by cases z)).trans hm⟩
  · exact by obtain ⟨m, hm⟩ := fmhidings; exact ⟨m, (ho _ (fun z => by cases z)).trans hm⟩
  · exact fun j hj => by obtain ⟨m, hm⟩ := fmqueue j hj; exact ⟨m, (ho _ (fun z => by cases z)).trans hm⟩
  · exact fun j hj => (ho _ (fun z => by cases z)).trans (fmrev j hj)
  · exact fmdecl
  · exact fmpass
  · exact fun j => ⟨fun w => ⟨(ho _ (fun z => by cases z)).trans ((fmfree j).1 w).1, (ho _ (fun z => by cases z)).trans ((fmfree j).1 w).2.1, (ho _ (fun z => by cases z)).trans ((fmfree j).1 w).2.2⟩, fun w => (ho _ (fun z => by cases z)).trans ((fmfree j).2.1 w), fun w => (ho _ (fun z => by cases z; have w2 : nP κ ≤ k := w; omega)).trans ((fmfree j).2.2 w)⟩
theorem m_atH {G : jd_G} {γ : ll_B} {κ : ll_K} {μ : ll_U} {h h' : jd_H} (hw : WM G γ κ μ h) {k : Nat} (hk : k < nP κ) {v : Nat} (hs : h' (30, k) = some (γ 6 k, .inl (.inr (13, [.int (nI ((pDream κ k))), .int ((pWorth κ k)), .int ((pDread κ k)), .int (nI ((pFate κ k))), .int (nI v), .int ((oI (pBy κ k)))])))) (ho : ∀ j, j ≠ (30, k) → h' j = h j) : WM G γ (ll_so κ 1 k (some v)) μ h' := by
  have e1 : pAt (ll_so κ 1 k (some v)) k = v := by simp [pAt, pHead, pStore, ll_so, atN]
  have fmthis := w_mthis hw
  have fmland := w_mland hw
  have fmgate := w_mgate hw
  have fmsleeper := w_msleeper hw
  have fmpart := w_mpart hw
  have fmlands := w_mlands hw
  have fmmore := w_mmore hw
  have fmgates := w_mgates hw
  have fmsleepers := w_msleepers hw
  have fmparts := w_mparts hw
  have fmhidings := w_mhidings hw
  have fmqueue := w_mqueue hw
  have fmrev := w_mrev hw
  have fmdecl := w_mdecl hw
  have fmpass := w_mpass hw
  have fmfree := w_mfree hw
  refine ⟨?_, ?_, ?_, ?_, ?_, ?_, ?_, ?_, ?_, ?_, ?_, ?_, ?_, ?_, ?_, ?_⟩
  · exact (ho _ (fun z => by cases z)).trans (fmthis)
  · exact fun j hj => (ho _ (fun z => by cases z)).trans (fmland j hj)
  · exact fun j hj => (ho _ (fun z => by cases z)).trans (fmgate j hj)
  · exact fun j hj => (ho _ (fun z => by cases z)).trans (fmsleeper j hj)
  · exact fun j hj => by
      by_cases e : j = k
      · subst e; exact hs.trans (by first | (rw [e1]; done) | (rw [e1]; rfl))
      · have e2 : pAt (ll_so κ 1 k (some v)) j = pAt κ j := by simp [pAt, pHead, pStore, ll_so, e]
        exact (ho _ (fun z => e (by cases z; rfl))).trans ((fmpart j hj).trans (by first | (rw [e2]; done) | (rw [e2]; rfl)))
  · exact (ho _ (fun z => by cases z)).trans (fmlands)
  · exact (ho _ (fun z => by cases z)).trans (fmmore)
  · exact by obtain ⟨m, hm⟩ := fmgates; exact ⟨m, (ho _ (fun z => by cases z)).trans hm⟩
  · exact by obtain ⟨m, hm⟩ := fmsleepers; exact ⟨m, (ho _ (fun z => by cases z)).trans hm⟩
  · exact by obtain ⟨m, hm⟩ := fmparts; exact ⟨m, (ho _ (fun z => by cases z)).trans hm⟩
  · exact by obtain ⟨m, hm⟩ := fmhidings; exact ⟨m, (ho _ (fun z => by cases z)).trans hm⟩
  · exact fun j hj => by obtain ⟨m, hm⟩ := fmqueue j hj; exact ⟨m, (ho _ (fun z => by cases z)).trans hm⟩
  · exact fun j hj => (ho _ (fun z => by cases z)).trans (fmrev j hj)
  · exact fmdecl
  · exact fmpass
  · exact fun j => ⟨fun w => ⟨(ho _ (fun z => by cases z)).trans ((fmfree j).1 w).1, (ho _ (fun z => by cases z)).trans ((fmfree j).1 w).2.1, (ho _ (fun z => by cases z)).trans ((fmfree j).1 w).2.2⟩, fun w => (ho _ (fun z => by cases z)).trans ((fmfree j).2.1 w), fun w => (ho _ (fun z => by cases z; have w2 : nP κ ≤ k := w; omega)).trans ((fmfree j).2.2 w)⟩
theorem m_atHN {G : jd_G} {γ : ll_B} {κ : ll_K} {μ : ll_U} {h h' : jd_H} (hw : WM G γ κ μ h) {k : Nat} (hk : k < nP κ) {v : Nat} (hs : h' (30, k) = some (γ 6 k, .inl (.inr (13, [.int (nI ((pDream κ k))), .int ((pWorth κ k)), .int ((pDread κ k)), .int (nI ((pFate κ k))), .int (nI v), .int ((oI (pBy κ k)))])))) (ho : ∀ j, j ≠ (30, k) → h' j = h j) : WM G γ (ll_so (ll_so κ 2 k none) 1 k (some v)) μ h' := by
  have e1 : pAt (ll_so (ll_so κ 2 k none) 1 k (some v)) k = v := by simp [pAt, pHead, pStore, ll_so, atN]
  have fmthis := w_mthis hw
  have fmland := w_mland hw
  have fmgate := w_mgate hw
  have fmsleeper := w_msleeper hw
  have fmpart := w_mpart hw
  have fmlands := w_mlands hw
  have fmmore := w_mmore hw
  have fmgates := w_mgates hw
  have fmsleepers := w_msleepers hw
  have fmparts := w_mparts hw
  have fmhidings := w_mhidings hw
  have fmqueue := w_mqueue hw
  have fmrev := w_mrev hw
  have fmdecl := w_mdecl hw
  have fmpass := w_mpass hw
  have fmfree := w_mfree hw
  refine ⟨?_, ?_, ?_, ?_, ?_, ?_, ?_, ?_, ?_, ?_, ?_, ?_, ?_, ?_, ?_, ?_⟩
  · exact (ho _ (fun z => by cases z)).trans (fmthis)
  · exact fun j hj => (ho _ (fun z => by cases z)).trans (fmland j hj)
  · exact fun j hj => (ho _ (fun z => by cases z)).trans (fmgate j hj)
  · exact fun j hj => (ho _ (fun z => by cases z)).trans (fmsleeper j hj)
  · exact fun j hj => by
      by_cases e : j = k
      · subst e; exact hs.trans (by first | (rw [e1]; done) | (rw [e1]; rfl))
      · have e2 : pAt (ll_so (ll_so κ 2 k none) 1 k (some v)) j = pAt κ j := by simp [pAt, pHead, pStore, ll_so, e]
        exact (ho _ (fun z => e (by cases z; rfl))).trans ((fmpart j hj).trans (by first | (rw [e2]; done) | (rw [e2]; rfl)))
  · exact (ho _ (fun z => by cases z)).trans (fmlands)
  · exact (ho _ (fun z => by cases z)).trans (fmmore)
  · exact by obtain ⟨m, hm⟩ := fmgates; exact ⟨m, (ho _ (fun z => by cases z)).trans hm⟩
  · exact by obtain ⟨m, hm⟩ := fmsleepers; exact ⟨m, (ho _ (fun z => by cases z)).trans hm⟩
  · exact by obtain ⟨m, hm⟩ := fmparts; exact ⟨m, (ho _ (fun z => by cases z)).trans hm⟩
  · exact by obtain ⟨m, hm⟩ := fmhidings; exact ⟨m, (ho _ (fun z => by cases z)).trans hm⟩
  · exact fun j hj => by obtain ⟨m, hm⟩ := fmqueue j hj; exact ⟨m, (ho _ (fun z => by cases z)).trans hm⟩
  · exact fun j hj => (ho _ (fun z => by cases z)).trans (fmrev j hj)
  · exact fmdecl
  · exact fmpass
  · exact fun j => ⟨fun w => ⟨(ho _ (fun z => by cases z)).trans ((fmfree j).1 w).1, (ho _ (fun z => by cases z)).trans ((fmfree j).1 w).2.1, (ho _ (fun z => by cases z)).trans ((fmfree j).1 w).2.2⟩, fun w => (ho _ (fun z => by cases z)).trans ((fmfree j).2.1 w), fun w => (ho _ (fun z => by cases z; have w2 : nP κ ≤ k := w; omega)).trans ((fmfree j).2.2 w)⟩
theorem m_atS {G : jd_G} {γ : ll_B} {κ : ll_K} {μ : ll_U} {h h' : jd_H} (hw : WM G γ κ μ h) {k : Nat} (hk : k < nP κ) {v : Nat} (hs : h' (30, k) = some (γ 6 k, .inl (.inr (13, [.int (nI ((pDream κ k))), .int ((pWorth κ k)), .int ((pDread κ k)), .int (nI ((pFate κ k))), .int (nI (100 + v)), .int ((oI (pBy κ k)))])))) (ho : ∀ j, j ≠ (30, k) → h' j = h j) : WM G γ (ll_so (ll_so κ 1 k none) 2 k (some v)) μ h' := by
  have e1 : pAt (ll_so (ll_so κ 1 k none) 2 k (some v)) k = 100 + v := by simp [pAt, pHead, pStore, ll_so, atN]
  have fmthis := w_mthis hw
  have fmland := w_mland hw
  have fmgate := w_mgate hw
  have fmsleeper := w_msleeper hw
  have fmpart := w_mpart hw
  have fmlands := w_mlands hw
  have fmmore := w_mmore hw
  have fmgates := w_mgates hw
  have fmsleepers := w_msleepers hw
  have fmparts := w_mparts hw
  have fmhidings := w_mhidings hw
  have fmqueue := w_mqueue hw
  have fmrev := w_mrev hw
  have fmdecl := w_mdecl hw
  have fmpass := w_mpass hw
  have fmfree := w_mfree hw
  refine ⟨?_, ?_, ?_, ?_, ?_, ?_, ?_, ?_, ?_, ?_, ?_, ?_, ?_, ?_, ?_, ?_⟩
  · exact (ho _ (fun z => by cases z)).trans (fmthis)
  · exact fun j hj => (ho _ (fun z => by cases z)).trans (fmland j hj)
  · exact fun j hj => (ho _ (fun z => by cases z)).trans (fmgate j hj)
  · exact fun j hj => (ho _ (fun z => by cases z)).trans (fmsleeper j hj)
  · exact fun j hj => by
      by_cases e : j = k
      · subst e; exact hs.trans (by first | (rw [e1]; done) | (rw [e1]; rfl))
      · have e2 : pAt (ll_so (ll_so κ 1 k none) 2 k (some v)) j = pAt κ j := by simp [pAt, pHead, pStore, ll_so, e]
        exact (ho _ (fun z => e (by cases z; rfl))).trans ((fmpart j hj).trans (by first | (rw [e2]; done) | (rw [e2]; rfl)))
  · exact (ho _ (fun z => by cases z)).trans (fmlands)
  · exact (ho _ (fun z => by cases z)).trans (fmmore)
  · exact by obtain ⟨m, hm⟩ := fmgates; exact ⟨m, (ho _ (fun z => by cases z)).trans hm⟩
  · exact by obtain ⟨m, hm⟩ := fmsleepers; exact ⟨m, (ho _ (fun z => by cases z)).trans hm⟩
  · exact by obtain ⟨m, hm⟩ := fmparts; exact ⟨m, (ho _ (fun z => by cases z)).trans hm⟩
  · exact by obtain ⟨m, hm⟩ := fmhidings; exact ⟨m, (ho _ (fun z => by cases z)).trans hm⟩
  · exact fun j hj => by obtain ⟨m, hm⟩ := fmqueue j hj; exact ⟨m, (ho _ (fun z => by cases z)).trans hm⟩
  · exact fun j hj => (ho _ (fun z => by cases z)).trans (fmrev j hj)
  · exact fmdecl
  · exact fmpass
  · exact fun j => ⟨fun w => ⟨(ho _ (fun z => by cases z)).trans ((fmfree j).1 w).1, (ho _ (fun z => by cases z)).trans ((fmfree j).1 w).2.1, (ho _ (fun z => by cases z)).trans ((fmfree j).1 w).2.2⟩, fun w => (ho _ (fun z => by cases z)).trans ((fmfree j).2.1 w), fun w => (ho _ (fun z => by cases z; have w2 : nP κ ≤ k := w; omega)).trans ((fmfree j).2.2 w)⟩
theorem m_atG {G : jd_G} {γ : ll_B} {κ : ll_K} {μ : ll_U} {h h' : jd_H} (hw : WM G γ κ μ h) {k : Nat} (hk : k < nP κ) (hst : pStore κ k = none) (hs : h' (30, k) = some (γ 6 k, .inl (.inr (13, [.int (nI ((pDream κ k))), .int ((pWorth κ k)), .int ((pDread κ k)), .int (nI ((pFate κ k))), .int (nI 999), .int ((oI (pBy κ k)))])))) (ho : ∀ j, j ≠ (30, k) → h' j = h j) : WM G γ (ll_so κ 1 k none) μ h' := by
  have e1 : pAt (ll_so κ 1 k none) k = 999 := by simp [pAt, pHead, pStore, ll_so, atN]; have h2 : κ.2.2.1 2 k = none := hst; simp [h2, atN]
  have fmthis := w_mthis hw
  have fmland := w_mland hw
  have fmgate := w_mgate hw
  have fmsleeper := w_msleeper hw
  have fmpart := w_mpart hw
  have fmlands := w_mlands hw
  have fmmore := w_mmore hw
  have fmgates := w_mgates hw
  have fmsleepers := w_msleepers hw
  have fmparts := w_mparts hw
  have fmhidings := w_mhidings hw
  have fmqueue := w_mqueue hw
  have fmrev := w_mrev hw
  have fmdecl := w_mdecl hw
  have fmpass := w_mpass hw
  have fmfree := w_mfree hw
  refine ⟨?_, ?_, ?_, ?_, ?_, ?_, ?_, ?_, ?_, ?_, ?_, ?_, ?_, ?_, ?_, ?_⟩
  · exact (ho _ (fun z => by cases z)).trans (fmthis)
  · exact fun j hj => (ho _ (fun z => by cases z)).trans (fmland j hj)
  · exact fun j hj => (ho _ (fun z => by cases z)).trans (fmgate j hj)
  · exact fun j hj => (ho _ (fun z => by cases z)).trans (fmsleeper j hj)
  · exact fun j hj => by
      by_cases e : j = k
      · subst e; exact hs.trans (by first | (rw [e1]; done) | (rw [e1]; rfl))
      · have e2 : pAt (ll_so κ 1 k none) j = pAt κ j := by simp [pAt, pHead, pStore, ll_so, e]
        exact (ho _ (fun z => e (by cases z; rfl))).trans ((fmpart j hj).trans (by first | (rw [e2]; done) | (rw [e2]; rfl)))
  · exact (ho _ (fun z => by cases z)).trans (fmlands)
  · exact (ho _ (fun z => by cases z)).trans (fmmore)
  · exact by obtain ⟨m, hm⟩ := fmgates; exact ⟨m, (ho _ (fun z => by cases z)).trans hm⟩
  · exact by obtain ⟨m, hm⟩ := fmsleepers; exact ⟨m, (ho _ (fun z => by cases z)).trans hm⟩
  · exact by obtain ⟨m, hm⟩ := fmparts; exact ⟨m, (ho _ (fun z => by cases z)).trans hm⟩
  · exact by obtain ⟨m, hm⟩ := fmhidings; exact ⟨m, (ho _ (fun z => by cases z)).trans hm⟩
  · exact fun j hj => by obtain ⟨m, hm⟩ := fmqueue j hj; exact ⟨m, (ho _ (fun z => by cases z)).trans hm⟩
  · exact fun j hj => (ho _ (fun z => by cases z)).trans (fmrev j hj)
  · exact fmdecl
  · exact fmpass
  · exact fun j => ⟨fun w => ⟨(ho _ (fun z => by cases z)).trans ((fmfree j).1 w).1, (ho _ (fun z => by cases z)).trans ((fmfree j).1 w).2.1, (ho _ (fun z => by cases z)).trans ((fmfree j).1 w).2.2⟩, fun w => (ho _ (fun z => by cases z)).trans ((fmfree j).2.1 w), fun w => (ho _ (fun z => by cases z; have w2 : nP κ ≤ k := w; omega)).trans ((fmfree j).2.2 w)⟩
theorem m_pBy {G : jd_G} {γ : ll_B} {κ : ll_K} {μ : ll_U} {h h' : jd_H} (hw : WM G γ κ μ h) {k : Nat} (hk : k < nP κ) {v : Option Nat} (hs : h' (30, k) = some (γ 6 k, .inl (.inr (13, [.int (nI ((pDream κ k))), .int ((pWorth κ k)), .int ((pDread κ k)), .int (nI ((pFate κ k))), .int (nI ((pAt κ k))), .int (oI v)])))) (ho : ∀ j, j ≠ (30, k) → h' j = h j) : WM G γ (ll_so κ 3 k v) μ h' := by
  have e1 : pBy (ll_so κ 3 k v) k = v := if_pos ⟨rfl, rfl⟩
  have fmthis := w_mthis hw
  have fmland := w_mland hw
  have fmgate := w_mgate hw
  have fmsleeper := w_msleeper hw
  have fmpart := w_mpart hw
  have fmlands := w_mlands hw
  have fmmore := w_mmore hw
  have fmgates := w_mgates hw
  have fmsleepers := w_msleepers hw
  have fmparts := w_mparts hw
  have fmhidings := w_mhidings hw
  have fmqueue := w_mqueue hw
  have fmrev := w_mrev hw
  have fmdecl := w_mdecl hw
  have fmpass := w_mpass hw
  have fmfree := w_mfree hw
  refine ⟨?_, ?_, ?_, ?_, ?_, ?_, ?_, ?_, ?_, ?_, ?_, ?_, ?_, ?_, ?_, ?_⟩
  · exact (ho _ (fun z => by cases z)).trans (fmthis)
  · exact fun j hj => (ho _ (fun z => by cases z)).trans (fmland j hj)
  · exact fun j hj => (ho _ (fun z => by cases z)).trans (fmgate j hj)
  · exact fun j hj => (ho _ (fun z => by cases z)).trans (fmsleeper j hj)
  · exact fun j hj => by
      by_cases e : j = k
      · subst e; exact hs.trans (by first | (rw [e1]; done) | (rw [e1]; rfl))
      · have e2 : pBy (ll_so κ 3 k v) j = pBy κ j := if_neg (fun z => e z.2)
        exact (ho _ (fun z => e (by cases z; rfl))).trans ((fmpart j hj).trans (by first | (rw [e2]; done) | (rw [e2]; rfl)))
  · exact (ho _ (fun z => by cases z)).trans (fmlands)
  · exact (ho _ (fun z => by cases z)).trans (fmmore)
  · exact by obtain ⟨m, hm⟩ := fmgates; exact ⟨m, (ho _ (fun z => by cases z)).trans hm⟩
  · exact by obtain ⟨m, hm⟩ := fmsleepers; exact ⟨m, (ho _ (fun z => by cases z)).trans hm⟩
  · exact by obtain ⟨m, hm⟩ := fmparts; exact ⟨m, (ho _ (fun z => by cases z)).trans hm⟩
  · exact by obtain ⟨m, hm⟩ := fmhidings; exact ⟨m, (ho _ (fun z => by cases z)).trans hm⟩
  · exact fun j hj => by obtain ⟨m, hm⟩ := fmqueue j hj; exact ⟨m, (ho _ (fun z => by cases z)).trans hm⟩
  · exact fun j hj => (ho _ (fun z => by cases z)).trans (fmrev j hj)
  · exact fmdecl
  · exact fmpass
  · exact fun j => ⟨fun w => ⟨(ho _ (fun z => by cases z)).trans ((fmfree j).1 w).1, (ho _ (fun z => by cases z)).trans ((fmfree j).1 w).2.1, (ho _ (fun z => by cases z)).trans ((fmfree j).1 w).2.2⟩, fun w => (ho _ (fun z => by cases z)).trans ((fmfree j).2.1 w), fun w => (ho _ (fun z => by cases z; have w2 : nP κ ≤ k := w; omega)).trans ((fmfree j).2.2 w)⟩
theorem m_thrown {G : jd_G} {γ : ll_B} {κ : ll_K} {μ : ll_U} {h h' : jd_H} (hw : WM G γ κ μ h)  {v : Int32} (hs : h' (21, 0) = some (γ 0 0, .inl (.inr (9, [.int (v), .int (nI ((nNight κ))), .int (nI ((nHour κ))), .int ((rNext κ)), .int ((rDrawn κ)), .int ((yawns κ)), .ref (γ 0 1), .ref (γ 0 2), .ref (γ 0 3), .ref (γ 0 4), .ref (γ 0 5), .ref (γ 0 6), .long (μ.2)])))) (ho : ∀ j, j ≠ (21, 0) → h' j = h j) : WM G γ κ (mu_s μ 0 0 v) h' := by
  have e1 : (mu_s μ 0 0 v).1 0 0 = v := rfl
  have fmthis := w_mthis hw
  have fmland := w_mland hw
  have fmgate := w_mgate hw
  have fmsleeper := w_msleeper hw
  have fmpart := w_mpart hw
  have fmlands := w_mlands hw
  have fmmore := w_mmore hw
  have fmgates := w_mgates hw
  have fmsleepers := w_msleepers hw
  have fmparts := w_mparts hw
  have fmhidings := w_mhidings hw
  have fmqueue := w_mqueue hw
  have fmrev := w_mrev hw
  have fmdecl := w_mdecl hw
  have fmpass := w_mpass hw
  have fmfree := w_mfree hw
  refine ⟨?_, ?_, ?_, ?_, ?_, ?_, ?_, ?_, ?_, ?_, ?_, ?_, ?_, ?_, ?_, ?_⟩
  · exact hs.trans (by first | (rw [e1]; done) | (rw [e1]; rfl))
  · exact fun j hj => (ho _ (fun z => by cases z)).trans (fmland j hj)
  · exact fun j hj => (ho _ (fun z => by cases z)).trans (fmgate j hj)
  · exact fun j hj => (ho _ (fun z => by cases z)).trans (fmsleeper j hj)
  · exact fun j hj => (ho _ (fun z => by cases z)).trans (fmpart j hj)
  · exact (ho _ (fun z => by cases z)).trans (fmlands)
  · exact (ho _ (fun z => by cases z)).trans (fmmore)
  · exact by obtain ⟨m, hm⟩ := fmgates; exact ⟨m, (ho _ (fun z => by cases z)).trans hm⟩
  · exact by obtain ⟨m, hm⟩ := fmsleepers; exact ⟨m, (ho _ (fun z => by cases z)).trans hm⟩
  · exact by obtain ⟨m, hm⟩ := fmparts; exact ⟨m, (ho _ (fun z => by cases z)).trans hm⟩
  · exact by obtain ⟨m, hm⟩ := fmhidings; exact ⟨m, (ho _ (fun z => by cases z)).trans hm⟩
  · exact fun j hj => by obtain ⟨m, hm⟩ := fmqueue j hj; exact ⟨m, (ho _ (fun z => by cases z)).trans hm⟩
  · exact fun j hj => (ho _ (fun z => by cases z)).trans (fmrev j hj)
  · exact fmdecl
  · exact fmpass
  · exact fun j => ⟨fun w => ⟨(ho _ (fun z => by cases z)).trans ((fmfree j).1 w).1, (ho _ (fun z => by cases z)).trans ((fmfree j).1 w).2.1, (ho _ (fun z => by cases z)).trans ((fmfree j).1 w).2.2⟩, fun w => (ho _ (fun z => by cases z)).trans ((fmfree j).2.1 w), fun w => (ho _ (fun z => by cases z)).trans ((fmfree j).2.2 w)⟩
theorem m_nNight {G : jd_G} {γ : ll_B} {κ : ll_K} {μ : ll_U} {h h' : jd_H} (hw : WM G γ κ μ h)  {v : Nat} (hs : h' (21, 0) = some (γ 0 0, .inl (.inr (9, [.int ((μ.1 0 0)), .int (nI v), .int (nI ((nHour κ))), .int ((rNext κ)), .int ((rDrawn κ)), .int ((yawns κ)), .ref (γ 0 1), .ref (γ 0 2), .ref (γ 0 3), .ref (γ 0 4), .ref (γ 0 5), .ref (γ 0 6), .long (μ.2)])))) (ho : ∀ j, j ≠ (21, 0) → h' j = h j) : WM G γ (ll_sn κ 9 3 v) μ h' := by
  have e1 : nNight (ll_sn κ 9 3 v) = v := rfl
  have fmthis := w_mthis hw
  have fmland := w_mland hw
  have fmgate := w_mgate hw
  have fmsleeper := w_msleeper hw
  have fmpart := w_mpart hw
  have fmlands := w_mlands hw
  have fmmore := w_mmore hw
  have fmgates := w_mgates hw
  have fmsleepers := w_msleepers hw
  have fmparts := w_mparts hw
  have fmhidings := w_mhidings hw
  have fmqueue := w_mqueue hw
  have fmrev := w_mrev hw
  have fmdecl := w_mdecl hw
  have fmpass := w_mpass hw
  have fmfree := w_mfree hw
  refine ⟨?_, ?_, ?_, ?_, ?_, ?_, ?_, ?_, ?_, ?_, ?_, ?_, ?_, ?_, ?_, ?_⟩
  · exact hs.trans (by first | (rw [e1]; done) | (rw [e1]; rfl))
  · exact fun j hj => (ho _ (fun z => by cases z)).trans (fmland j hj)
  · exact fun j hj => (ho _ (fun z => by cases z)).trans (fmgate j hj)
  · exact fun j hj => (ho _ (fun z => by cases z)).trans (fmsleeper j hj)
  · exact fun j hj => (ho _ (fun z => by cases z)).trans (fmpart j hj)
  · exact (ho _ (fun z => by cases z)).trans (fmlands)
  · exact (ho _ (fun z => by cases z)).trans (fmmore)
  · exact by obtain ⟨m, hm⟩ := fmgates; exact ⟨m, (ho _ (fun z => by cases z)).trans hm⟩
  · exact by obtain ⟨m, hm⟩ := fmsleepers; exact ⟨m, (ho _ (fun z => by cases z)).trans hm⟩
  · exact by obtain ⟨m, hm⟩ := fmparts; exact ⟨m, (ho _ (fun z => by cases z)).trans hm⟩
  · exact by obtain ⟨m, hm⟩ := fmhidings; exact ⟨m, (ho _ (fun z => by cases z)).trans hm⟩
  · exact fun j hj => by obtain ⟨m, hm⟩ := fmqueue j hj; exact ⟨m, (ho _ (fun z => by cases z)).trans hm⟩
  · exact fun j hj => (ho _ (fun z => by cases z)).trans (fmrev j hj)
  · exact fmdecl
  · exact fmpass
  · exact fun j => ⟨fun w => ⟨(ho _ (fun z => by cases z)).trans ((fmfree j).1 w).1, (ho _ (fun z => by cases z)).trans ((fmfree j).1 w).2.1, (ho _ (fun z => by cases z)).trans ((fmfree j).1 w).2.2⟩, fun w => (ho _ (fun z => by cases z)).trans ((fmfree j).2.1 w), fun w => (ho _ (fun z => by cases z)).trans ((fmfree j).2.2 w)⟩
theorem m_nHour {G : jd_G} {γ : ll_B} {κ : ll_K} {μ : ll_U} {h h' : jd_H} (hw : WM G γ κ μ h)  {v : Nat} (hs : h' (21, 0) = some (γ 0 0, .inl (.inr (9, [.int ((μ.1 0 0)), .int (nI ((nNight κ))), .int (nI v), .int ((rNext κ)), .int ((rDrawn κ)), .int ((yawns κ)), .ref (γ 0 1), .ref (γ 0 2), .ref (γ 0 3), .ref (γ 0 4), .ref (γ 0 5), .ref (γ 0 6), .long (μ.2)])))) (ho : ∀ j, j ≠ (21, 0) → h' j = h j) : WM G γ (ll_sn κ 9 4 v) μ h' := by
  have e1 : nHour (ll_sn κ 9 4 v) = v := rfl
  have fmthis := w_mthis hw
  have fmland := w_mland hw
  have fmgate := w_mgate hw
  have fmsleeper := w_msleeper hw
  have fmpart := w_mpart hw
  have fmlands := w_mlands hw
  have fmmore := w_mmore hw
  have fmgates := w_mgates hw
  have fmsleepers := w_msleepers hw
  have fmparts := w_mparts hw
  have fmhidings := w_mhidings hw
  have fmqueue := w_mqueue hw
  have fmrev := w_mrev hw
  have fmdecl := w_mdecl hw
  have fmpass := w_mpass hw
  have fmfree := w_mfree hw
  refine ⟨?_, ?_, ?_, ?_, ?_, ?_, ?_, ?_, ?_, ?_, ?_, ?_, ?_, ?_, ?_, ?_⟩
  · exact hs.trans (by first | (rw [e1]; done) | (rw [e1]; rfl))
  · exact fun j hj => (ho _ (fun z => by cases z)).trans (fmland j hj)
  · exact fun j hj => (ho _ (fun z => by cases z)).trans (fmgate j hj)
  · exact fun j hj => (ho _ (fun z => by cases z)).trans (fmsleeper j hj)
  · exact fun j hj => (ho _ (fun z => by cases z)).trans (fmpart j hj)
  · exact (ho _ (fun z => by cases z)).trans (fmlands)
  · exact (ho _ (fun z => by cases z)).trans (fmmore)
  · exact by obtain ⟨m, hm⟩ := fmgates; exact ⟨m, (ho _ (fun z => by cases z)).trans hm⟩
  · exact by obtain ⟨m, hm⟩ := fmsleepers; exact ⟨m, (ho _ (fun z => by cases z)).trans hm⟩
  · exact by obtain ⟨m, hm⟩ := fmparts; exact ⟨m, (ho _ (fun z => by cases z)).trans hm⟩
  · exact by obtain ⟨m, hm⟩ := fmhidings; exact ⟨m, (ho _ (fun z => by cases z)).trans hm⟩
  · exact fun j hj => by obtain ⟨m, hm⟩ := fmqueue j hj; exact ⟨m, (ho _ (fun z => by cases z)).trans hm⟩
  · exact fun j hj => (ho _ (fun z => by cases z)).trans (fmrev j hj)
  · exact fmdecl
  · exact fmpass
  · exact fun j => ⟨fun w => ⟨(ho _ (fun z => by cases z)).trans ((fmfree j).1 w).1, (ho _ (fun z => by cases z)).trans ((fmfree j).1 w).2.1, (ho _ (fun z => by cases z)).trans ((fmfree j).1 w).2.2⟩, fun w => (ho _ (fun z => by cases z)).trans ((fmfree j).2.1 w), fun w => (ho _ (fun z => by cases z)).trans ((fmfree j).2.2 w)⟩
theorem m_rNext {G : jd_G} {γ : ll_B} {κ : ll_K} {μ : ll_U} {h h' : jd_H} (hw : WM G γ κ μ h)  {v : Int32} (hs : h' (21, 0) = some (γ 0 0, .inl (.inr (9, [.int ((μ.1 0 0)), .int (nI ((nNight κ))), .int (nI ((nHour κ))), .int (v), .int ((rDrawn κ)), .int ((yawns κ)), .ref (γ 0 1), .ref (γ 0 2), .ref (γ 0 3), .ref (γ 0 4), .ref (γ 0 5), .ref (γ 0 6), .long (μ.2)])))) (ho : ∀ j, j ≠ (21, 0) → h' j = h j) : WM G γ (ll_sz κ 6 3 v) μ h' := by
  have e1 : rNext (ll_sz κ 6 3 v) = v := rfl
  have fmthis := w_mthis hw
  have fmland := w_mland hw
  have fmgate := w_mgate hw
  have fmsleeper := w_msleeper hw
  have fmpart := w_mpart hw
  have fmlands := w_mlands hw
  have fmmore := w_mmore hw
  have fmgates := w_mgates hw
  have fmsleepers := w_msleepers hw
  have fmparts := w_mparts hw
  have fmhidings := w_mhidings hw
  have fmqueue := w_mqueue hw
  have fmrev := w_mrev hw
  have fmdecl := w_mdecl hw
  have fmpass := w_mpass hw
  have fmfree := w_mfree hw
  refine ⟨?_, ?_, ?_, ?_, ?_, ?_, ?_, ?_, ?_, ?_, ?_, ?_, ?_, ?_, ?_, ?_⟩
  · exact hs.trans (by first | (rw [e1]; done) | (rw [e1]; rfl))
  · exact fun j hj => (ho _ (fun z => by cases z)).trans (fmland j hj)
  · exact fun j hj => (ho _ (fun z => by cases z)).trans (fmgate j hj)
  · exact fun j hj => (ho _ (fun z => by cases z)).trans (fmsleeper j hj)
  · exact fun j hj => (ho _ (fun z => by cases z)).trans (fmpart j hj)
  · exact (ho _ (fun z => by cases z)).trans (fmlands)
  · exact (ho _ (fun z => by cases z)).trans (fmmore)
  · exact by obtain ⟨m, hm⟩ := fmgates; exact ⟨m, (ho _ (fun z => by cases z)).trans hm⟩
  · exact by obtain ⟨m, hm⟩ := fmsleepers; exact ⟨m, (ho _ (fun z => by cases z)).trans hm⟩
  · exact by obtain ⟨m, hm⟩ := fmparts; exact ⟨m, (ho _ (fun z => by cases z)).trans hm⟩
  · exact by obtain ⟨m, hm⟩ := fmhidings; exact ⟨m, (ho _ (fun z => by cases z)).trans hm⟩
  · exact fun j hj => by obtain ⟨m, hm⟩ := fmqueue j hj; exact ⟨m, (ho _ (fun z => by cases z)).trans hm⟩
  · exact fun j hj => (ho _ (fun z => by cases z)).trans (fmrev j hj)
  · exact fmdecl
  · exact fmpass
  · exact fun j => ⟨fun w => ⟨(ho _ (fun z => by cases z)).trans ((fmfree j).1 w).1, (ho _ (fun z => by cases z)).trans ((fmfree j).1 w).2.1, (ho _ (fun z => by cases z)).trans ((fmfree j).1 w).2.2⟩, fun w => (ho _ (fun z => by cases z)).trans ((fmfree j).2.1 w), fun w => (ho _ (fun z => by cases z)).trans ((fmfree j).2.2 w)⟩
theorem m_rDrawn {G : jd_G} {γ : ll_B} {κ : ll_K} {μ : ll_U} {h h' : jd_H} (hw : WM G γ κ μ h)  {v : Int32} (hs : h' (21, 0) = some (γ 0 0, .inl (.inr (9, [.int ((μ.1 0 0)), .int (nI ((nNight κ))), .int (nI ((nHour κ))), .int ((rNext κ)), .int (v), .int ((yawns κ)), .ref (γ 0 1), .ref (γ 0 2), .ref (γ 0 3), .ref (γ 0 4), .ref (γ 0 5), .ref (γ 0 6), .long (μ.2)])))) (ho : ∀ j, j ≠ (21, 0) → h' j = h j) : WM G γ (ll_sz κ 6 4 v) μ h' := by
  have e1 : rDrawn (ll_sz κ 6 4 v) = v := rfl
  have fmthis := w_mthis hw
  have fmland := w_mland hw
  have fmgate := w_mgate hw
  have fmsleeper := w_msleeper hw
  have fmpart := w_mpart hw
  have fmlands := w_mlands hw
  have fmmore := w_mmore hw
  have fmgates := w_mgates hw
  have fmsleepers := w_msleepers hw
  have fmparts := w_mparts hw
  have fmhidings := w_mhidings hw
  have fmqueue := w_mqueue hw
  have fmrev := w_mrev hw
  have fmdecl := w_mdecl hw
  have fmpass := w_mpass hw
  have fmfree := w_mfree hw
  refine ⟨?_, ?_, ?_, ?_, ?_, ?_, ?_, ?_, ?_, ?_, ?_, ?_, ?_, ?_, ?_, ?_⟩
  · exact hs.trans (by first | (rw [e1]; done) | (rw [e1]; rfl))
  · exact fun j hj => (ho _ (fun z => by cases z)).trans (fmland j hj)
  · exact fun j hj => (ho _ (fun z => by cases z)).trans (fmgate j hj)
  · exact fun j hj => (ho _ (fun z => by cases z)).trans (fmsleeper j hj)
  · exact fun j hj => (ho _ (fun z => by cases z)).trans (fmpart j hj)
  · exact (ho _ (fun z => by cases z)).trans (fmlands)
  · exact (ho _ (fun z => by cases z)).trans (fmmore)
  · exact by obtain ⟨m, hm⟩ := fmgates; exact ⟨m, (ho _ (fun z => by cases z)).trans hm⟩
  · exact by obtain ⟨m, hm⟩ := fmsleepers; exact ⟨m, (ho _ (fun z => by cases z)).trans hm⟩
  · exact by obtain ⟨m, hm⟩ := fmparts; exact ⟨m, (ho _ (fun z => by cases z)).trans hm⟩
  · exact by obtain ⟨m, hm⟩ := fmhidings; exact ⟨m, (ho _ (fun z => by cases z)).trans hm⟩
  · exact fun j hj => by obtain ⟨m, hm⟩ := fmqueue j hj; exact ⟨m, (ho _ (fun z => by cases z)).trans hm⟩
  · exact fun j hj => (ho _ (fun z => by cases z)).trans (fmrev j hj)
  · exact fmdecl
  · exact fmpass
  · exact fun j => ⟨fun w => ⟨(ho _ (fun z => by cases z)).trans ((fmfree j).1 w).1, (ho _ (fun z => by cases z)).trans ((fmfree j).1 w).2.1, (ho _ (fun z => by cases z)).trans ((fmfree j).1 w).2.2⟩, fun w => (ho _ (fun z => by cases z)).trans ((fmfree j).2.1 w), fun w => (ho _ (fun z => by cases z)).trans ((fmfree j).2.2 w)⟩
theorem m_yawns {G : jd_G} {γ : ll_B} {κ : ll_K} {μ : ll_U} {h h' : jd_H} (hw : WM G γ κ μ h)  {v : Int32} (hs : h' (21, 0) = some (γ 0 0, .inl (.inr (9, [.int ((μ.1 0 0)), .int (nI ((nNight κ))), .int (nI ((nHour κ))), .int ((rNext κ)), .int ((rDrawn κ)), .int (v), .ref (γ 0 1), .ref (γ 0 2), .ref (γ 0 3), .ref (γ 0 4), .ref (γ 0 5), .ref (γ 0 6), .long (μ.2)])))) (ho : ∀ j, j ≠ (21, 0) → h' j = h j) : WM G γ (ll_sz κ 6 2 v) μ h' := by
  have e1 : yawns (ll_sz κ 6 2 v) = v := rfl
  have fmthis := w_mthis hw
  have fmland := w_mland hw
  have fmgate := w_mgate hw
  have fmsleeper := w_msleeper hw
  have fmpart := w_mpart hw
  have fmlands := w_mlands hw
  have fmmore := w_mmore hw
  have fmgates := w_mgates hw
  have fmsleepers := w_msleepers hw
  have fmparts := w_mparts hw
  have fmhidings := w_mhidings hw
  have fmqueue := w_mqueue hw
  have fmrev := w_mrev hw
  have fmdecl := w_mdecl hw
  have fmpass := w_mpass hw
  have fmfree := w_mfree hw
  refine ⟨?_, ?_, ?_, ?_, ?_, ?_, ?_, ?_, ?_, ?_, ?_, ?_, ?_, ?_, ?_, ?_⟩
  · exact hs.trans (by first | (rw [e1]; done) | (rw [e1]; rfl))
  · exact fun j hj => (ho _ (fun z => by cases z)).trans (fmland j hj)
  · exact fun j hj => (ho _ (fun z => by cases z)).trans (fmgate j hj)
  · exact fun j hj => (ho _ (fun z => by cases z)).trans (fmsleeper j hj)
  · exact fun j hj => (ho _ (fun z => by cases z)).trans (fmpart j hj)
  · exact (ho _ (fun z => by cases z)).trans (fmlands)
  · exact (ho _ (fun z => by cases z)).trans (fmmore)
  · exact by obtain ⟨m, hm⟩ := fmgates; exact ⟨m, (ho _ (fun z => by cases z)).trans hm⟩
  · exact by obtain ⟨m, hm⟩ := fmsleepers; exact ⟨m, (ho _ (fun z => by cases z)).trans hm⟩
  · exact by obtain ⟨m, hm⟩ := fmparts; exact ⟨m, (ho _ (fun z => by cases z)).trans hm⟩
  · exact by obtain ⟨m, hm⟩ := fmhidings; exact ⟨m, (ho _ (fun z => by cases z)).trans hm⟩
  · exact fun j hj => by obtain ⟨m, hm⟩ := fmqueue j hj; exact ⟨m, (ho _ (fun z => by cases z)).trans hm⟩
  · exact fun j hj => (ho _ (fun z => by cases z)).trans (fmrev j hj)
  · exact fmdecl
  · exact fmpass
  · exact fun j => ⟨fun w => ⟨(ho _ (fun z => by cases z)).trans ((fmfree j).1 w).1, (ho _ (fun z => by cases z)).trans ((fmfree j).1 w).2.1, (ho _ (fun z => by cases z)).trans ((fmfree j).1 w).2.2⟩, fun w => (ho _ (fun z => by cases z)).trans ((fmfree j).2.1 w), fun w => (ho _ (fun z => by cases z)).trans ((fmfree j).2.2 w)⟩
theorem m_sum {G : jd_G} {γ : ll_B} {κ : ll_K} {μ : ll_U} {h h' : jd_H} (hw : WM G γ κ μ h)  {v : Int64} (hs : h' (21, 0) = some (γ 0 0, .inl (.inr (9, [.int ((μ.1 0 0)), .int (nI ((nNight κ))), .int (nI ((nHour κ))), .int ((rNext κ)), .int ((rDrawn κ)), .int ((yawns κ)), .ref (γ 0 1), .ref (γ 0 2), .ref (γ 0 3), .ref (γ 0 4), .ref (γ 0 5), .ref (γ 0 6), .long (v)])))) (ho : ∀ j, j ≠ (21, 0) → h' j = h j) : WM G γ κ (μ.1, v) h' := by
  have e1 : (μ.1, v).2 = v := rfl
  have fmthis := w_mthis hw
  have fmland := w_mland hw
  have fmgate := w_mgate hw
  have fmsleeper := w_msleeper hw
  have fmpart := w_mpart hw
  have fmlands := w_mlands hw
  have fmmore := w_mmore hw
  have fmgates := w_mgates hw
  have fmsleepers := w_msleepers hw
  have fmparts := w_mparts hw
  have fmhidings := w_mhidings hw
  have fmqueue := w_mqueue hw
  have fmrev := w_mrev hw
  have fmdecl := w_mdecl hw
  have fmpass := w_mpass hw
  have fmfree := w_mfree hw
  refine ⟨?_, ?_, ?_, ?_, ?_, ?_, ?_, ?_, ?_, ?_, ?_, ?_, ?_, ?_, ?_, ?_⟩
  · exact hs.trans (by first | (rw [e1]; done) | (rw [e1]; rfl))
  · exact fun j hj => (ho _ (fun z => by cases z)).trans (fmland j hj)
  · exact fun j hj => (ho _ (fun z => by cases z)).trans (fmgate j hj)
  · exact fun j hj => (ho _ (fun z => by cases z)).trans (fmsleeper j hj)
  · exact fun j hj => (ho _ (fun z => by cases z)).trans (fmpart j hj)
  · exact (ho _ (fun z => by cases z)).trans (fmlands)
  · exact (ho _ (fun z => by cases z)).trans (fmmore)
  · exact by obtain ⟨m, hm⟩ := fmgates; exact ⟨m, (ho _ (fun z => by cases z)).trans hm⟩
  · exact by obtain ⟨m, hm⟩ := fmsleepers; exact ⟨m, (ho _ (fun z => by cases z)).trans hm⟩
  · exact by obtain ⟨m, hm⟩ := fmparts; exact ⟨m, (ho _ (fun z => by cases z)).trans hm⟩
  · exact by obtain ⟨m, hm⟩ := fmhidings; exact ⟨m, (ho _ (fun z => by cases z)).trans hm⟩
  · exact fun j hj => by obtain ⟨m, hm⟩ := fmqueue j hj; exact ⟨m, (ho _ (fun z => by cases z)).trans hm⟩
  · exact fun j hj => (ho _ (fun z => by cases z)).trans (fmrev j hj)
  · exact fmdecl
  · exact fmpass
  · exact fun j => ⟨fun w => ⟨(ho _ (fun z => by cases z)).trans ((fmfree j).1 w).1, (ho _ (fun z => by cases z)).trans ((fmfree j).1 w).2.1, (ho _ (fun z => by cases z)).trans ((fmfree j).1 w).2.2⟩, fun w => (ho _ (fun z => by cases z)).trans ((fmfree j).2.1 w), fun w => (ho _ (fun z => by cases z)).trans ((fmfree j).2.2 w)⟩
