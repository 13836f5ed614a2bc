/-! ===== zx: parts that are added (printed by mk_add.py) ===== -/
def k_addP (κ : ll_K) (e : Nat) (w x : Int32) (s : Nat) : ll_K := ll_so (ll_sn (ll_so (ll_so (ll_sz (ll_sz (ll_sn (ll_sn κ 9 2 (nP κ + 1)) 5 (nP κ) e) 14 (nP κ) w) 15 (nP κ) x) 1 (nP κ) (some s)) 2 (nP κ) none) 4 (nP κ) 0) 3 (nP κ) none
theorem wu_addP {G : jd_G} {β : ll_B} {κ : ll_K} {h h' : jd_H} (hw : WC G β κ h) {q e s : Nat} {w x : Int32} (hs : h' (10, nP κ) = some (q, .inl (.inr (5, [.int (nI e), .int w, .int x, .int (nI s), .int (-1), .ref (jd_fA G 0), .int (-1)])))) (hl : ∃ mc, h' (2, 3) = some (β 0 5, .inr (mc, nP κ + 1, va_up (β 8) (nP κ) q))) (ho : ∀ j : jd_Id, j.1 ≠ 0 → j ≠ (10, nP κ) → j ≠ (2, 3) → h' j = h j) (hz : ∀ (a : Nat) (y : Nat × jd_E), h (0, a) = some y → h' (0, a) = some y) : WC G (ll_bu β 8 (nP κ) q) (k_addP κ e w x s) h' := by
  have fw_this := w_this hw
  have fw_row := w_row hw
  have fw_land := w_land hw
  have fw_gate := w_gate hw
  have fw_sleeper := w_sleeper hw
  have fw_part := w_part hw
  have fw_queue := w_queue hw
  have fw_rev := w_rev hw
  have fw_passN := w_passN hw
  have fw_pass := w_pass hw
  have fw_hid := w_hid hw
  have fw_free := w_free hw
  have hx : ∀ {f j : Nat}, f ≠ 0 → f ≠ 10 → f ≠ 2 → h' (f, j) = h (f, j) := fun {f j} a b c => ho _ a (fun z => b (by injection z)) (fun z => c (by injection z))
  have hx2 : ∀ {j : Nat}, j ≠ 3 → h' (2, j) = h (2, j) := fun {j} a => ho _ (show (2 : Nat) ≠ 0 by decide) (fun z => by injection z with z1 z2; exact absurd z1 (by decide)) (fun z => a (by injection z))
  have hb : ∀ j, j ≠ nP κ → ll_bu β 8 (nP κ) q 8 j = β 8 j := fun j e => ll_bu_n (fun z => e z.2)
  have opDream : ∀ j, j ≠ nP κ → pDream (k_addP κ e w x s) j = pDream κ j := fun j e => by simp [pDream, pWorth, pDread, pHead, pStore, pFate, pBy, k_addP, ll_sn, ll_sz, ll_so, e]
  have npDream : pDream (k_addP κ e w x s) (nP κ) = e := by simp [pDream, pWorth, pDread, pHead, pStore, pFate, pBy, k_addP, ll_sn, ll_sz, ll_so]
  have opWorth : ∀ j, j ≠ nP κ → pWorth (k_addP κ e w x s) j = pWorth κ j := fun j e => by simp [pDream, pWorth, pDread, pHead, pStore, pFate, pBy, k_addP, ll_sn, ll_sz, ll_so, e]
  have npWorth : pWorth (k_addP κ e w x s) (nP κ) = w := by simp [pDream, pWorth, pDread, pHead, pStore, pFate, pBy, k_addP, ll_sn, ll_sz, ll_so]
  have opDread : ∀ j, j ≠ nP κ → pDread (k_addP κ e w x s) j = pDread κ j := fun j e => by simp [pDream, pWorth, pDread, pHead, pStore, pFate, pBy, k_addP, ll_sn, ll_sz, ll_so, e]
  have npDread : pDread (k_addP κ e w x s) (nP κ) = x := by simp [pDream, pWorth, pDread, pHead, pStore, pFate, pBy, k_addP, ll_sn, ll_sz, ll_so]
  have opHead : ∀ j, j ≠ nP κ → pHead (k_addP κ e w x s) j = pHead κ j := fun j e => by simp [pDream, pWorth, pDread, pHead, pStore, pFate, pBy, k_addP, ll_sn, ll_sz, ll_so, e]
  have npHead : pHead (k_addP κ e w x s) (nP κ) = some s := by simp [pDream, pWorth, pDread, pHead, pStore, pFate, pBy, k_addP, ll_sn, ll_sz, ll_so]
  have opStore : ∀ j, j ≠ nP κ → pStore (k_addP κ e w x s) j = pStore κ j := fun j e => by simp [pDream, pWorth, pDread, pHead, pStore, pFate, pBy, k_addP, ll_sn, ll_sz, ll_so, e]
  have npStore : pStore (k_addP κ e w x s) (nP κ) = none := by simp [pDream, pWorth, pDread, pHead, pStore, pFate, pBy, k_addP, ll_sn, ll_sz, ll_so]
  have opFate : ∀ j, j ≠ nP κ → pFate (k_addP κ e w x s) j = pFate κ j := fun j e => by simp [pDream, pWorth, pDread, pHead, pStore, pFate, pBy, k_addP, ll_sn, ll_sz, ll_so, e]
  have npFate : pFate (k_addP κ e w x s) (nP κ) = 0 := by simp [pDream, pWorth, pDread, pHead, pStore, pFate, pBy, k_addP, ll_sn, ll_sz, ll_so]
  have opBy : ∀ j, j ≠ nP κ → pBy (k_addP κ e w x s) j = pBy κ j := fun j e => by simp [pDream, pWorth, pDread, pHead, pStore, pFate, pBy, k_addP, ll_sn, ll_sz, ll_so, e]
  have npBy : pBy (k_addP κ e w x s) (nP κ) = none := by simp [pDream, pWorth, pDread, pHead, pStore, pFate, pBy, k_addP, ll_sn, ll_sz, ll_so]
  have nSz : nP (k_addP κ e w x s) = nP κ + 1 := rfl
  refine ⟨(hx (by decide) (by decide) (by decide)).trans fw_this, (hx (by decide) (by decide) (by decide)).trans fw_row, fun j hj => (hx (by decide) (by decide) (by decide)).trans (fw_land j hj), fun j hj => (hx (by decide) (by decide) (by decide)).trans (fw_gate j hj), fun j hj => (hx (by decide) (by decide) (by decide)).trans (fw_sleeper j hj), fun j hj => ?_, ?_, ?_, ?_, ?_, ?_, fun j hj => ?_, fun j hj => (hx (by decide) (by decide) (by decide)).trans (fw_rev j hj), fun j hj hp => fw_passN j hj hp, fun j hj r hr => ⟨hz _ _ (fw_pass j hj r hr).1, hz _ _ (fw_pass j hj r hr).2⟩, fun j hj => hz _ _ (fw_hid j hj), fun j => ?_⟩
  · by_cases e9 : j = nP κ
    · subst e9
      rw [ll_bu_s, npDream, npWorth, npDread, npHead, npStore, npFate, npBy]
      exact hs
    · rw [nSz] at hj
      rw [hb j e9, opDream j e9, opWorth j e9, opDread j e9, opHead j e9, opStore j e9, opFate j e9, opBy j e9]
      exact (ho _ (show (10 : Nat) ≠ 0 by decide) (fun z => e9 (by injection z)) (fun z => by injection z with z1 z2; exact absurd z1 (by decide))).trans (fw_part j (by omega))
  · obtain ⟨m, hm⟩ := w_lands hw; exact ⟨m, (hx2 (by decide)).trans hm⟩
  · obtain ⟨m, hm⟩ := w_gates hw; exact ⟨m, (hx2 (by decide)).trans hm⟩
  · obtain ⟨m, hm⟩ := w_sleepers hw; exact ⟨m, (hx2 (by decide)).trans hm⟩
  · obtain ⟨m, hm⟩ := hl
    refine ⟨m, hm.trans ?_⟩
    have : va_up (β 8) (nP κ) q = (ll_bu β 8 (nP κ) q) 8 := by
      funext j
      by_cases e9 : j = nP κ
      · subst e9; rw [ll_bu_s]; exact if_pos rfl
      · rw [hb j e9]; exact if_neg e9
    rw [this]; rfl
  · obtain ⟨m, hm⟩ := w_hidings hw; exact ⟨m, (hx2 (by decide)).trans hm⟩
  · obtain ⟨m, hm⟩ := fw_queue j hj
    exact ⟨m, (hx (by decide) (by decide) (by decide)).trans hm⟩
  · refine ⟨fun w => ⟨(hx (by decide) (by decide) (by decide)).trans ((fw_free j).1 w).1, (hx (by decide) (by decide) (by decide)).trans ((fw_free j).1 w).2.1, (hx (by decide) (by decide) (by decide)).trans ((fw_free j).1 w).2.2⟩, fun w => (hx (by decide) (by decide) (by decide)).trans ((fw_free j).2.1 w), fun w => ?_⟩
    rw [nSz] at w
    exact (ho _ (show (10 : Nat) ≠ 0 by decide) (fun z => by injection z with z1 z2; omega) (fun z => by injection z with z1 z2; exact absurd z1 (by decide))).trans ((fw_free j).2.2 (by omega))
theorem getD_app {l : List (Nat × Nat × Nat)} {x : Nat × Nat × Nat} {j : Nat} (h : j < l.length) : (l ++ [x]).getD j (0, 0, 0) = l.getD j (0, 0, 0) := by
  rw [List.getD_eq_getElem?_getD, List.getD_eq_getElem?_getD, List.getElem?_append_left h]
theorem getD_new {l : List (Nat × Nat × Nat)} {x : Nat × Nat × Nat} : (l ++ [x]).getD l.length (0, 0, 0) = x := by
  rw [List.getD_eq_getElem?_getD, List.getElem?_append_right (Nat.le_refl _), Nat.sub_self]; rfl
def k_addH (κ : ll_K) (s e n : Nat) : ll_K := ll_sh κ (hids κ ++ [(s, e, n)])
theorem wu_addH {G : jd_G} {β : ll_B} {κ : ll_K} {h h' : jd_H} (hw : WC G β κ h) {q s e n : Nat} (hq : h (0, q) = none) (hs : h' (0, q) = some (q, .inl (.inr (7, [.int (nI s), .int (nI e), .int (nI n)])))) (hl : ∃ mc, h' (2, 4) = some (β 0 6, .inr (mc, (hids κ).length + 1, va_up (β 9) (hids κ).length q))) (ho : ∀ j : jd_Id, j ≠ (0, q) → j ≠ (2, 4) → h' j = h j) : WC G (ll_bu β 9 (hids κ).length q) (k_addH κ s e n) h' := by
  have fw_this := w_this hw
  have fw_row := w_row hw
  have fw_land := w_land hw
  have fw_gate := w_gate hw
  have fw_sleeper := w_sleeper hw
  have fw_part := w_part hw
  have fw_queue := w_queue hw
  have fw_rev := w_rev hw
  have fw_passN := w_passN hw
  have fw_pass := w_pass hw
  have fw_hid := w_hid hw
  have fw_free := w_free hw
  have hx : ∀ {f j : Nat}, f ≠ 0 → f ≠ 2 → h' (f, j) = h (f, j) := fun {f j} a c => ho _ (fun z => a (by injection z)) (fun z => c (by injection z))
  have hx2 : ∀ {j : Nat}, j ≠ 4 → h' (2, j) = h (2, j) := fun {j} a => ho _ (fun z => by injection z with z1 z2; exact absurd z1 (by decide)) (fun z => a (by injection z))
  have hz : ∀ (a : Nat) (y : Nat × jd_E), h (0, a) = some y → h' (0, a) = some y := fun a y e => (ho _ (fun z => by rw [z, hq] at e; cases e) (fun z => by injection z with z1 z2; exact absurd z1 (by decide))).trans e
  have hb : ∀ j, j ≠ (hids κ).length → ll_bu β 9 (hids κ).length q 9 j = β 9 j := fun j e => ll_bu_n (fun z => e z.2)
  have nLen : (hids (k_addH κ s e n)).length = (hids κ).length + 1 := by show (hids κ ++ [(s, e, n)]).length = _; rw [List.length_append]; rfl
  refine ⟨(hx (by decide) (by decide)).trans fw_this, (hx (by decide) (by decide)).trans fw_row, fun j hj => (hx (by decide) (by decide)).trans (fw_land j hj), fun j hj => (hx (by decide) (by decide)).trans (fw_gate j hj), fun j hj => (hx (by decide) (by decide)).trans (fw_sleeper j hj), fun j hj => (hx (by decide) (by decide)).trans (fw_part j hj), ?_, ?_, ?_, ?_, ?_, fun j hj => ?_, fun j hj => (hx (by decide) (by decide)).trans (fw_rev j hj), fun j hj hp => fw_passN j hj hp, fun j hj r hr => ⟨hz _ _ (fw_pass j hj r hr).1, hz _ _ (fw_pass j hj r hr).2⟩, fun j hj => ?_, fun j => ⟨fun w => ⟨(hx (by decide) (by decide)).trans ((fw_free j).1 w).1, (hx (by decide) (by decide)).trans ((fw_free j).1 w).2.1, (hx (by decide) (by decide)).trans ((fw_free j).1 w).2.2⟩, fun w => (hx (by decide) (by decide)).trans ((fw_free j).2.1 w), fun w => (hx (by decide) (by decide)).trans ((fw_free j).2.2 w)⟩⟩
  · obtain ⟨m, hm⟩ := w_lands hw; exact ⟨m, (hx2 (by decide)).trans hm⟩
  · obtain ⟨m, hm⟩ := w_gates hw; exact ⟨m, (hx2 (by decide)).trans hm⟩
  · obtain ⟨m, hm⟩ := w_sleepers hw; exact ⟨m, (hx2 (by decide)).trans hm⟩
  · obtain ⟨m, hm⟩ := w_parts hw; exact ⟨m, (hx2 (by decide)).trans hm⟩
  · obtain ⟨m, hm⟩ := hl
    refine ⟨m, hm.trans ?_⟩
    have : va_up (β 9) (hids κ).length q = (ll_bu β 9 (hids κ).length q) 9 := by
      funext j
      by_cases e9 : j = (hids κ).length
      · subst e9; rw [ll_bu_s]; exact if_pos rfl
      · rw [hb j e9]; exact if_neg e9
    rw [this, nLen]; rfl
  · obtain ⟨m, hm⟩ := fw_queue j hj
    exact ⟨m, (hx (by decide) (by decide)).trans hm⟩
  · rw [nLen] at hj
    have eh : hids (k_addH κ s e n) = hids κ ++ [(s, e, n)] := rfl
    by_cases e9 : j = (hids κ).length
    · subst e9
      rw [ll_bu_s, eh, getD_new]
      exact hs
    · rw [hb j e9, eh, getD_app (by omega)]
      exact hz _ _ (fw_hid j (by omega))
def c_part (κ : ll_K) (s e w x : Int32) : Nat := if inN s (nS κ) then (if inR e 0 7 then (if inR w 0 99 then (if inR x 0 9 then (if ¬ 24 ≤ nP κ ∧ sRest κ (tN s) = 0 then 0 else 3) else 2) else 2) else 2) else 1
