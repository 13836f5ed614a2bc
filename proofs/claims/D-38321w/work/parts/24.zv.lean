/-! ===== zv: passes, new objects ===== -/
def ll_bu (β : ll_B) (f k a : Nat) : ll_B := fun x j => if x = f ∧ j = k then a else β x j
theorem ll_bu_s {β : ll_B} {f k a : Nat} : ll_bu β f k a f k = a := if_pos ⟨rfl, rfl⟩
theorem ll_bu_n {β : ll_B} {f k a x j : Nat} (h : ¬ (x = f ∧ j = k)) : ll_bu β f k a x j = β x j := if_neg h
theorem wu_sPassS {G : jd_G} {β : ll_B} {κ : ll_K} {h h' : jd_H} (hw : WC G β κ h) {k : Nat} (hk : k < nS κ) {o p : Nat} {q : Nat × Nat × Nat} (hs : h' (7, k) = some (β 5 k, .inl (.inr (4, [.int (nI k), .int (jd_b (sBaby κ k = true)), .int (nI ((sLand κ k))), .int ((sPat κ k)), .ref (jd_rA G (sRest κ k)), .int ((oI (sGate κ k))), .int ((sDecl κ k)), .ref o])))) (h1 : h' (0, o) = some (o, .inl (.inr (17, [.ref p])))) (h2 : h' (0, p) = some (p, .inl (.inr (6, [.int (nI q.1), .int (nI q.2.1), .int (nI q.2.2)])))) (ho : ∀ j : jd_Id, j.1 ≠ 0 → j ≠ (7, k) → h' j = h j) (hz : ∀ (a : Nat) (y : Nat × jd_E), h (0, a) = some y → h' (0, a) = some y) : WC G (ll_bu (ll_bu β 6 k o) 7 k p) (ll_sp κ k (some q)) h' := by
  have f1 := w_this hw
  have f2 := w_row hw
  have f3 := w_land hw
  have f4 := w_gate hw
  have f5 := w_sleeper hw
  have f6 := w_part hw
  have f12 := w_queue hw
  have f13 := w_rev hw
  have f14 := w_passN hw
  have f15 := w_pass hw
  have f16 := w_hid hw
  have f17 := w_free hw
  have hx : ∀ {f j : Nat}, f ≠ 0 → f ≠ 7 → h' (f, j) = h (f, j) := fun {f j} a b => ho _ a (fun z => b (by injection z))
  refine ⟨(hx (by decide) (by decide)).trans f1, (hx (by decide) (by decide)).trans f2, fun j hj => (hx (by decide) (by decide)).trans (f3 j hj), fun j hj => (hx (by decide) (by decide)).trans (f4 j hj), fun j hj => ?_, fun j hj => (hx (by decide) (by decide)).trans (f6 j hj), ?_, ?_, ?_, ?_, ?_, fun j hj => ?_, fun j hj => (hx (by decide) (by decide)).trans (f13 j hj), fun j hj hp => ?_, fun j hj r hr => ?_, fun j hj => hz _ _ (f16 j hj), fun j => ?_⟩
  · by_cases e : j = k
    · subst e
      refine hs.trans ?_
      have e1 : (ll_bu (ll_bu β 6 j o) 7 j p) 6 j = o := (ll_bu_n (by omega)).trans ll_bu_s
      first | (rw [e1]; done) | (rw [e1]; rfl)
    · refine (ho _ (show (7 : Nat) ≠ 0 by decide) (fun z => e (by injection z))).trans ((f5 j hj).trans ?_)
      have e1 : (ll_bu (ll_bu β 6 k o) 7 k p) 6 j = β 6 j := by first | exact (ll_bu_n (fun z => e z.2)).trans (ll_bu_n (fun z => e z.2)) | exact ll_bu_n (fun z => e z.2)
      first | (rw [e1]; done) | (rw [e1]; rfl)
  · obtain ⟨m, hm⟩ := w_lands hw; exact ⟨m, (hx (by decide) (by decide)).trans hm⟩
  · obtain ⟨m, hm⟩ := w_gates hw; exact ⟨m, (hx (by decide) (by decide)).trans hm⟩
  · obtain ⟨m, hm⟩ := w_sleepers hw; exact ⟨m, (hx (by decide) (by decide)).trans hm⟩
  · obtain ⟨m, hm⟩ := w_parts hw; exact ⟨m, (hx (by decide) (by decide)).trans hm⟩
  · obtain ⟨m, hm⟩ := w_hidings hw; exact ⟨m, (hx (by decide) (by decide)).trans hm⟩
  · obtain ⟨m, hm⟩ := f12 j hj; exact ⟨m, (hx (by decide) (by decide)).trans hm⟩
  · by_cases e : j = k
    · subst e
      have e1 : sPass (ll_sp κ j (some q)) j = some q := if_pos rfl
      rw [e1] at hp; cases hp
    · have e1 : (ll_bu (ll_bu β 6 k o) 7 k p) 6 j = β 6 j := by first | exact (ll_bu_n (fun z => e z.2)).trans (ll_bu_n (fun z => e z.2)) | exact ll_bu_n (fun z => e z.2)
      have e2 : sPass (ll_sp κ k (some q)) j = sPass κ j := if_neg e
      rw [e2] at hp; rw [e1]; exact f14 j hj hp
  · by_cases e : j = k
    · subst e
      have e1 : sPass (ll_sp κ j (some q)) j = some q := if_pos rfl
      have e2 : (ll_bu (ll_bu β 6 j o) 7 j p) 6 j = o := (ll_bu_n (by omega)).trans ll_bu_s
      have e3 : (ll_bu (ll_bu β 6 j o) 7 j p) 7 j = p := ll_bu_s
      rw [e1] at hr; injection hr with hr; subst hr
      rw [e2, e3]; exact ⟨h1, h2⟩
    · have e1 : (ll_bu (ll_bu β 6 k o) 7 k p) 6 j = β 6 j := by first | exact (ll_bu_n (fun z => e z.2)).trans (ll_bu_n (fun z => e z.2)) | exact ll_bu_n (fun z => e z.2)
      have e3 : (ll_bu (ll_bu β 6 k o) 7 k p) 7 j = β 7 j := (ll_bu_n (fun z => e z.2)).trans (ll_bu_n (fun z => e z.2))
      have e2 : sPass (ll_sp κ k (some q)) j = sPass κ j := if_neg e
      rw [e2] at hr; rw [e1, e3]
      exact ⟨hz _ _ (f15 j hj r hr).1, hz _ _ (f15 j hj r hr).2⟩
  · refine ⟨fun w => ⟨(hx (by decide) (by decide)).trans ((f17 j).1 w).1, (hx (by decide) (by decide)).trans ((f17 j).1 w).2.1, (hx (by decide) (by decide)).trans ((f17 j).1 w).2.2⟩, fun w => ?_, fun w => (hx (by decide) (by decide)).trans ((f17 j).2.2 w)⟩
    have w2 : nS κ ≤ j := w
    exact (ho _ (show (7 : Nat) ≠ 0 by decide) (fun z => by injection z with z1 z2; omega)).trans ((f17 j).2.1 w2)
theorem wu_sPassN {G : jd_G} {β : ll_B} {κ : ll_K} {h h' : jd_H} (hw : WC G β κ h) {k : Nat} (hk : k < nS κ) (hs : h' (7, k) = some (β 5 k, .inl (.inr (4, [.int (nI k), .int (jd_b (sBaby κ k = true)), .int (nI ((sLand κ k))), .int ((sPat κ k)), .ref (jd_rA G (sRest κ k)), .int ((oI (sGate κ k))), .int ((sDecl κ k)), .ref (jd_k G 1)])))) (ho : ∀ j : jd_Id, j.1 ≠ 0 → j ≠ (7, k) → h' j = h j) (hz : ∀ (a : Nat) (y : Nat × jd_E), h (0, a) = some y → h' (0, a) = some y) : WC G (ll_bu β 6 k (jd_k G 1)) (ll_sp κ k none) h' := by
  have f1 := w_this hw
  have f2 := w_row hw
  have f3 := w_land hw
  have f4 := w_gate hw
  have f5 := w_sleeper hw
  have f6 := w_part hw
  have f12 := w_queue hw
  have f13 := w_rev hw
  have f14 := w_passN hw
  have f15 := w_pass hw
  have f16 := w_hid hw
  have f17 := w_free hw
  have hx : ∀ {f j : Nat}, f ≠ 0 → f ≠ 7 → h' (f, j) = h (f, j) := fun {f j} a b => ho _ a (fun z => b (by injection z))
  refine ⟨(hx (by decide) (by decide)).trans f1, (hx (by decide) (by decide)).trans f2, fun j hj => (hx (by decide) (by decide)).trans (f3 j hj), fun j hj => (hx (by decide) (by decide)).trans (f4 j hj), fun j hj => ?_, fun j hj => (hx (by decide) (by decide)).trans (f6 j hj), ?_, ?_, ?_, ?_, ?_, fun j hj => ?_, fun j hj => (hx (by decide) (by decide)).trans (f13 j hj), fun j hj hp => ?_, fun j hj r hr => ?_, fun j hj => hz _ _ (f16 j hj), fun j => ?_⟩
  · by_cases e : j = k
    · subst e
      refine hs.trans ?_
      have e1 : (ll_bu β 6 j (jd_k G 1)) 6 j = jd_k G 1 := if_pos ⟨rfl, rfl⟩
      first | (rw [e1]; done) | (rw [e1]; rfl)
    · refine (ho _ (show (7 : Nat) ≠ 0 by decide) (fun z => e (by injection z))).trans ((f5 j hj).trans ?_)
      have e1 : (ll_bu β 6 k (jd_k G 1)) 6 j = β 6 j := by first | exact (ll_bu_n (fun z => e z.2)).trans (ll_bu_n (fun z => e z.2)) | exact ll_bu_n (fun z => e z.2)
      first | (rw [e1]; done) | (rw [e1]; rfl)
  · obtain ⟨m, hm⟩ := w_lands hw; exact ⟨m, (hx (by decide) (by decide)).trans hm⟩
  · obtain ⟨m, hm⟩ := w_gates hw; exact ⟨m, (hx (by decide) (by decide)).trans hm⟩
  · obtain ⟨m, hm⟩ := w_sleepers hw; exact ⟨m, (hx (by decide) (by decide)).trans hm⟩
  · obtain ⟨m, hm⟩ := w_parts hw; exact ⟨m, (hx (by decide) (by decide)).trans hm⟩
  · obtain ⟨m, hm⟩ := w_hidings hw; exact ⟨m, (hx (by decide) (by decide)).trans hm⟩
  · obtain ⟨m, hm⟩ := f12 j hj; exact ⟨m, (hx (by decide) (by decide)).trans hm⟩
  · by_cases e : j = k
    · subst e
      exact if_pos ⟨rfl, rfl⟩
    · have e1 : (ll_bu β 6 k (jd_k G 1)) 6 j = β 6 j := by first | exact (ll_bu_n (fun z => e z.2)).trans (ll_bu_n (fun z => e z.2)) | exact ll_bu_n (fun z => e z.2)
      have e2 : sPass (ll_sp κ k none) j = sPass κ j := if_neg e
      rw [e2] at hp; rw [e1]; exact f14 j hj hp
  · by_cases e : j = k
    · subst e
      have e1 : sPass (ll_sp κ j none) j = none := if_pos rfl
      rw [e1] at hr; cases hr
    · have e1 : (ll_bu β 6 k (jd_k G 1)) 6 j = β 6 j := by first | exact (ll_bu_n (fun z => e z.2)).trans (ll_bu_n (fun z => e z.2)) | exact ll_bu_n (fun z => e z.2)
      have e3 : (ll_bu β 6 k (jd_k G 1)) 7 j = β 7 j := rfl
      have e2 : sPass (ll_sp κ k none) j = sPass κ j := if_neg e
      rw [e2] at hr; rw [e1, e3]
      exact ⟨hz _ _ (f15 j hj r hr).1, hz _ _ (f15 j hj r hr).2⟩
  · refine ⟨fun w => ⟨(hx (by decide) (by decide)).trans ((f17 j).1 w).1, (hx (by decide) (by decide)).trans ((f17 j).1 w).2.1, (hx (by decide) (by decide)).trans ((f17 j).1 w).2.2⟩, fun w => ?_, fun w => (hx (by decide) (by decide)).trans ((f17 j).2.2 w)⟩
    have w2 : nS κ ≤ j := w
    exact (ho _ (show (7 : Nat) ≠ 0 by decide) (fun z => by injection z with z1 z2; omega)).trans ((f17 j).2.1 w2)
def c_sing (κ : ll_K) (s g n v : Int32) : Nat := if inN s (nS κ) then (if inN g (nG κ) then (if inR n (nI (nNight κ)) 99 then (if inR v 0 96 then 0 else 2) else 2) else 1) else 1
