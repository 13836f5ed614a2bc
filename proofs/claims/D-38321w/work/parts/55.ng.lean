/-! ===== ng: lists of the model that grow ===== -/
abbrev mu_ns (μ : ll_U) (n : Nat) : ll_U := mu_s (mu_s (mu_s μ 2 n 0) 3 n (-1)) 4 n 0
theorem m_addS {G : jd_G} {γ : ll_B} {κ : ll_K} {μ : ll_U} {h h' : jd_H} (hw : WM G γ κ μ h) {q l : Nat} {b : Bool} {p : Int32} (hs : h' (27, nS κ) = some (q, .inl (.inr (12, [.int (nI l), .int (jd_b (b = true)), .int p, .int (nI 0), .int (-1), .int 0, .int (-1), .int 0, .int (-1)])))) (hl : ∃ mc, h' (22, 2) = some (γ 0 3, .inr (mc, nS κ + 1, va_up (γ 5) (nS κ) q))) (ho : ∀ j : jd_Id, j.1 ≠ 0 → j ≠ (27, nS κ) → j ≠ (22, 2) → h' j = h j) : WM G (ll_bu γ 5 (nS κ) q) (k_addS κ l b p) (mu_ns μ (nS κ)) h' := by
  have f1 := w_mthis hw
  have f2 := w_mland hw
  have f3 := w_mgate hw
  have f5 := w_msleeper hw
  have f6 := w_mpart hw
  have f7 := w_mlands hw
  have f8 := w_mmore hw
  have fg := w_mgates hw
  have fp := w_mparts hw
  have fh := w_mhidings hw
  have fq := w_mqueue hw
  have f9 := w_mrev hw
  have f10 := w_mdecl hw
  have f14 := w_mpass hw
  have f11 := w_mfree hw
  have hx : ∀ {f j : Nat}, f ≠ 0 → f ≠ 27 → f ≠ 22 → h' (f, j) = h (f, j) := fun {f j} a b c => ho _ a (fun z => b (by injection z)) (fun z => c (by injection z))
  have hx2 : ∀ {j : Nat}, j ≠ 2 → h' (22, j) = h (22, j) := fun {j} a => ho _ (show (22 : Nat) ≠ 0 by decide) (fun z => by injection z with z1 z2; exact absurd z1 (by decide)) (fun z => a (by injection z))
  have b5 : ∀ j, j ≠ nS κ → ll_bu γ 5 (nS κ) q 5 j = γ 5 j := fun j e => ll_bu_n (fun z => e z.2)
  have b5s : ll_bu γ 5 (nS κ) q 5 (nS κ) = q := ll_bu_s
  have en : ∀ j, j ≠ nS κ → sLand (k_addS κ l b p) j = sLand κ j ∧ sPat (k_addS κ l b p) j = sPat κ j ∧ sRest (k_addS κ l b p) j = sRest κ j ∧ sGate (k_addS κ l b p) j = sGate κ j ∧ sDecl (k_addS κ l b p) j = sDecl κ j ∧ sBaby (k_addS κ l b p) j = sBaby κ j ∧ sPass (k_addS κ l b p) j = sPass κ j := fun j e => by
    refine ⟨?_, ?_, ?_, ?_, ?_, ?_, ?_⟩ <;> simp [sLand, sPat, sRest, sGate, sDecl, sBaby, sPass, k_addS, ll_sn, ll_sz, ll_so, ll_sp, ll_sb, e]
  have es : sLand (k_addS κ l b p) (nS κ) = l ∧ sPat (k_addS κ l b p) (nS κ) = p ∧ sRest (k_addS κ l b p) (nS κ) = 0 ∧ sGate (k_addS κ l b p) (nS κ) = none ∧ sBaby (k_addS κ l b p) (nS κ) = b ∧ sPass (k_addS κ l b p) (nS κ) = none := by
    refine ⟨?_, ?_, ?_, ?_, ?_, ?_⟩ <;> simp [sLand, sPat, sRest, sGate, sDecl, sBaby, sPass, k_addS, ll_sn, ll_sz, ll_so, ll_sp, ll_sb]
  have m2 : ∀ j, j ≠ nS κ → (mu_ns μ (nS κ)).1 2 j = μ.1 2 j ∧ (mu_ns μ (nS κ)).1 3 j = μ.1 3 j ∧ (mu_ns μ (nS κ)).1 4 j = μ.1 4 j := fun j e => by
    refine ⟨?_, ?_, ?_⟩ <;> simp [mu_s, e]
  have ms : (mu_ns μ (nS κ)).1 2 (nS κ) = 0 ∧ (mu_ns μ (nS κ)).1 3 (nS κ) = -1 ∧ (mu_ns μ (nS κ)).1 4 (nS κ) = 0 := by
    refine ⟨?_, ?_, ?_⟩ <;> simp [mu_s]
  have nn : nS (k_addS κ l b p) = nS κ + 1 := rfl
  refine ⟨(hx (by decide) (by decide) (by decide)).trans f1, fun j hj => (hx (by decide) (by decide) (by decide)).trans (f2 j hj), fun j hj => (hx (by decide) (by decide) (by decide)).trans (f3 j hj), fun j hj => ?_, fun j hj => (hx (by decide) (by decide) (by decide)).trans (f6 j hj), (hx (by decide) (by decide) (by decide)).trans f7, (hx (by decide) (by decide) (by decide)).trans f8, ?_, ?_, ?_, ?_, fun j hj => ?_, fun j hj => (hx (by decide) (by decide) (by decide)).trans (f9 j hj), fun j hj hr => ?_, fun j hj r hr => ?_, fun j => ?_⟩
  · rw [nn] at hj
    by_cases e : j = nS κ
    · subst e
      obtain ⟨a1, a2, a3, a4, a5, a6⟩ := es
      rw [b5s, a1, a2, a3, a4, a5, a6, ms.1, ms.2.1, ms.2.2]
      exact hs
    · obtain ⟨a1, a2, a3, a4, a5, a6, a7⟩ := en j e
      rw [b5 j e, a1, a2, a3, a4, a6, a7, (m2 j e).1, (m2 j e).2.1, (m2 j e).2.2]
      exact (ho _ (show (27 : Nat) ≠ 0 by decide) (fun z => e (by injection z)) (fun z => by injection z with z1 z2; exact absurd z1 (by decide))).trans (f5 j (by omega))
  · obtain ⟨m, hm⟩ := fg; exact ⟨m, (hx2 (by decide)).trans hm⟩
  · obtain ⟨m, hm⟩ := hl
    refine ⟨m, hm.trans ?_⟩
    have : va_up (γ 5) (nS κ) q = (ll_bu γ 5 (nS κ) q) 5 := by
      funext j
      by_cases e : j = nS κ
      · subst e; rw [b5s]; exact if_pos rfl
      · rw [b5 j e]; exact if_neg e
    rw [this]; rfl
  · obtain ⟨m, hm⟩ := fp; exact ⟨m, (hx2 (by decide)).trans hm⟩
  · obtain ⟨m, hm⟩ := fh; exact ⟨m, (hx2 (by decide)).trans hm⟩
  · obtain ⟨m, hm⟩ := fq j hj; exact ⟨m, (hx (by decide) (by decide) (by decide)).trans hm⟩
  · rw [nn] at hj
    by_cases e : j = nS κ
    · subst e; rw [es.2.2.1] at hr; exact absurd hr (by decide)
    · have e2 := en j e
      rw [e2.2.2.1] at hr
      rw [e2.2.2.2.2.1, (m2 j e).1]
      exact f10 j (by omega) hr
  · rw [nn] at hj
    by_cases e : j = nS κ
    · subst e; rw [es.2.2.2.2.2] at hr; cases hr
    · have e2 := en j e
      rw [e2.2.2.2.2.2.2] at hr
      rw [(m2 j e).2.1, (m2 j e).2.2]
      exact f14 j (by omega) r hr
  · refine ⟨fun w => ⟨(hx (by decide) (by decide) (by decide)).trans ((f11 j).1 w).1, (hx (by decide) (by decide) (by decide)).trans ((f11 j).1 w).2.1, (hx (by decide) (by decide) (by decide)).trans ((f11 j).1 w).2.2⟩, fun w => ?_, fun w => (hx (by decide) (by decide) (by decide)).trans ((f11 j).2.2 w)⟩
    rw [nn] at w
    exact (ho _ (show (27 : Nat) ≠ 0 by decide) (fun z => by injection z with z1 z2; omega) (fun z => by injection z with z1 z2; exact absurd z1 (by decide))).trans ((f11 j).2.1 (by omega))
theorem m_addP {G : jd_G} {γ : ll_B} {κ : ll_K} {μ : ll_U} {h h' : jd_H} (hw : WM G γ κ μ h) {q e0 s : Nat} {w0 x : Int32} (hs : h' (30, nP κ) = some (q, .inl (.inr (13, [.int (nI e0), .int w0, .int x, .int (nI 0), .int (nI s), .int (-1)])))) (hl : ∃ mc, h' (22, 3) = some (γ 0 4, .inr (mc, nP κ + 1, va_up (γ 6) (nP κ) q))) (ho : ∀ j : jd_Id, j.1 ≠ 0 → j ≠ (30, nP κ) → j ≠ (22, 3) → h' j = h j) : WM G (ll_bu γ 6 (nP κ) q) (k_addP κ e0 w0 x s) μ h' := by
  have f1 := w_mthis hw
  have f2 := w_mland hw
  have f3 := w_mgate hw
  have f5 := w_msleeper hw
  have f6 := w_mpart hw
  have f7 := w_mlands hw
  have f8 := w_mmore hw
  have fg := w_mgates hw
  have fs := w_msleepers hw
  have fh := w_mhidings hw
  have fq := w_mqueue hw
  have f9 := w_mrev hw
  have f10 := w_mdecl hw
  have f14 := w_mpass hw
  have f11 := w_mfree hw
  have hx : ∀ {f j : Nat}, f ≠ 0 → f ≠ 30 → f ≠ 22 → h' (f, j) = h (f, j) := fun {f j} a b c => ho _ a (fun z => b (by injection z)) (fun z => c (by injection z))
  have hx2 : ∀ {j : Nat}, j ≠ 3 → h' (22, j) = h (22, j) := fun {j} a => ho _ (show (22 : Nat) ≠ 0 by decide) (fun z => by injection z with z1 z2; exact absurd z1 (by decide)) (fun z => a (by injection z))
  have b5 : ∀ j, j ≠ nP κ → ll_bu γ 6 (nP κ) q 6 j = γ 6 j := fun j e => ll_bu_n (fun z => e z.2)
  have b5s : ll_bu γ 6 (nP κ) q 6 (nP κ) = q := ll_bu_s
  have en : ∀ j, j ≠ nP κ → pDream (k_addP κ e0 w0 x s) j = pDream κ j ∧ pWorth (k_addP κ e0 w0 x s) j = pWorth κ j ∧ pDread (k_addP κ e0 w0 x s) j = pDread κ j ∧ pFate (k_addP κ e0 w0 x s) j = pFate κ j ∧ pAt (k_addP κ e0 w0 x s) j = pAt κ j ∧ pBy (k_addP κ e0 w0 x s) j = pBy κ j := fun j e => by
    refine ⟨?_, ?_, ?_, ?_, ?_, ?_⟩ <;> simp [pDream, pWorth, pDread, pFate, pAt, pHead, pStore, pBy, k_addP, ll_sn, ll_sz, ll_so, e]
  have es : pDream (k_addP κ e0 w0 x s) (nP κ) = e0 ∧ pWorth (k_addP κ e0 w0 x s) (nP κ) = w0 ∧ pDread (k_addP κ e0 w0 x s) (nP κ) = x ∧ pFate (k_addP κ e0 w0 x s) (nP κ) = 0 ∧ pAt (k_addP κ e0 w0 x s) (nP κ) = s ∧ pBy (k_addP κ e0 w0 x s) (nP κ) = none := by
    refine ⟨?_, ?_, ?_, ?_, ?_, ?_⟩ <;> simp [pDream, pWorth, pDread, pFate, pAt, pHead, pStore, pBy, k_addP, ll_sn, ll_sz, ll_so, atN]
  have nn : nP (k_addP κ e0 w0 x s) = nP κ + 1 := rfl
  refine ⟨(hx (by decide) (by decide) (by decide)).trans f1, fun j hj => (hx (by decide) (by decide) (by decide)).trans (f2 j hj), fun j hj => (hx (by decide) (by decide) (by decide)).trans (f3 j hj), fun j hj => (hx (by decide) (by decide) (by decide)).trans (f5 j hj), fun j hj => ?_, (hx (by decide) (by decide) (by decide)).trans f7, (hx (by decide) (by decide) (by decide)).trans f8, ?_, ?_, ?_, ?_, fun j hj => ?_, fun j hj => (hx (by decide) (by decide) (by decide)).trans (f9 j hj), f10, f14, fun j => ?_⟩
  · rw [nn] at hj
    by_cases e : j = nP κ
    · subst e
      obtain ⟨a1, a2, a3, a4, a5, a6⟩ := es
      rw [b5s, a1, a2, a3, a4, a5, a6]
      exact hs
    · obtain ⟨a1, a2, a3, a4, a5, a6⟩ := en j e
      rw [b5 j e, a1, a2, a3, a4, a5, a6]
      exact (ho _ (show (30 : Nat) ≠ 0 by decide) (fun z => e (by injection z)) (fun z => by injection z with z1 z2; exact absurd z1 (by decide))).trans (f6 j (by omega))
  · obtain ⟨m, hm⟩ := fg; exact ⟨m, (hx2 (by decide)).trans hm⟩
  · obtain ⟨m, hm⟩ := fs; exact ⟨m, (hx2 (by decide)).trans hm⟩
  · obtain ⟨m, hm⟩ := hl
    refine ⟨m, hm.trans ?_⟩
    have : va_up (γ 6) (nP κ) q = (ll_bu γ 6 (nP κ) q) 6 := by
      funext j
      by_cases e : j = nP κ
      · subst e; rw [b5s]; exact if_pos rfl
      · rw [b5 j e]; exact if_neg e
    rw [this]; rfl
  · obtain ⟨m, hm⟩ := fh; exact ⟨m, (hx2 (by decide)).trans hm⟩
  · obtain ⟨m, hm⟩ := fq j hj; exact ⟨m, (hx (by decide) (by decide) (by decide)).trans hm⟩
  · refine ⟨fun w => ⟨(hx (by decide) (by decide) (by decide)).trans ((f11 j).1 w).1, (hx (by decide) (by decide) (by decide)).trans ((f11 j).1 w).2.1, (hx (by decide) (by decide) (by decide)).trans ((f11 j).1 w).2.2⟩, fun w => (hx (by decide) (by decide) (by decide)).trans ((f11 j).2.1 w), fun w => ?_⟩
    rw [nn] at w
    exact (ho _ (show (30 : Nat) ≠ 0 by decide) (fun z => by injection z with z1 z2; omega) (fun z => by injection z with z1 z2; exact absurd z1 (by decide))).trans ((f11 j).2.2 (by omega))
theorem add_frame {h : jd_H} {q : Nat} (hq : h (0, q) = none) {li ni : jd_Id} (hli : 20 ≤ li.1 ∧ li.1 < 40) (hni : 20 ≤ ni.1 ∧ ni.1 < 40) {x y z : Nat × jd_E} : ∀ j : jd_Id, (j.1 < 20 ∨ 40 ≤ j.1) → (jd_up (jd_rm (jd_up (jd_up h (0, q) x) li y) (0, q)) ni z) j = h j := fun j hj => by
  have n1 : j ≠ ni := fun w => by rw [w] at hj; omega
  have n2 : j ≠ li := fun w => by rw [w] at hj; omega
  rw [jd_up_n n1]
  by_cases e : j = (0, q)
  · rw [e, jd_rm_s, hq]
  · rw [jd_rm_n e, jd_up_n n2, jd_up_n e]
