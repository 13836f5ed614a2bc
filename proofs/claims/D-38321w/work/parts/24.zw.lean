/-! ===== zw: lists that grow ===== -/
def k_addS (κ : ll_K) (l : Nat) (b : Bool) (p : Int32) : ll_K := ll_sb (ll_sp (ll_sz (ll_so (ll_sn (ll_sz (ll_sn (ll_sn κ 9 1 (nS κ + 1)) 2 (nS κ) l) 11 (nS κ) p) 3 (nS κ) 0) 0 (nS κ) none) 12 (nS κ) 0) (nS κ) none) (nS κ) b
theorem wu_addS {G : jd_G} {β : ll_B} {κ : ll_K} {h h' : jd_H} (hw : WC G β κ h) (hI : ll_I κ) (h11 : nS κ < 12) {q l : Nat} {b : Bool} {p : Int32} (hs : h' (7, nS κ) = some (q, .inl (.inr (4, [.int (nI (nS κ)), .int (jd_b (b = true)), .int (nI l), .int p, .ref (jd_rA G 0), .int (-1), .int 0, .ref (jd_k G 1)])))) (hl : ∃ mc, h' (2, 2) = some (β 0 4, .inr (mc, nS κ + 1, va_up (β 5) (nS κ) q))) (ho : ∀ j : jd_Id, j.1 ≠ 0 → j ≠ (7, nS κ) → j ≠ (2, 2) → h' j = h j) (hz : ∀ (a : Nat) (y : Nat × jd_E), h (0, a) = some y → h' (0, a) = some y) : WC G (ll_bu (ll_bu β 5 (nS κ) q) 6 (nS κ) (jd_k G 1)) (k_addS κ l b p) h' := by
  have f1 := w_this hw
  have f2 := w_row hw
  have f3 := w_land hw
  have f4 := w_gate hw
  have f5 := w_sleeper hw
  have f6 := w_part hw
  have f12 := w_queue hw
  have f13 := w_rev hw
  have f14 := w_passN hw
  have f15 := w_pass hw
  have f16 := w_hid hw
  have f17 := w_free hw
  have hx : ∀ {f j : Nat}, f ≠ 0 → f ≠ 7 → f ≠ 2 → h' (f, j) = h (f, j) := fun {f j} a b c => ho _ a (fun z => b (by injection z)) (fun z => c (by injection z))
  have hx2 : ∀ {j : Nat}, j ≠ 2 → h' (2, j) = h (2, j) := fun {j} a => ho _ (show (2 : Nat) ≠ 0 by decide) (fun z => by injection z with z1 z2; exact absurd z1 (by decide)) (fun z => a (by injection z))
  have hb5 : ∀ j, j ≠ nS κ → ll_bu (ll_bu β 5 (nS κ) q) 6 (nS κ) (jd_k G 1) 5 j = β 5 j := fun j e => (ll_bu_n (by omega)).trans (ll_bu_n (fun z => e z.2))
  have hb5n : ll_bu (ll_bu β 5 (nS κ) q) 6 (nS κ) (jd_k G 1) 5 (nS κ) = q := (ll_bu_n (by omega)).trans ll_bu_s
  have hb6 : ∀ j, j ≠ nS κ → ll_bu (ll_bu β 5 (nS κ) q) 6 (nS κ) (jd_k G 1) 6 j = β 6 j := fun j e => (ll_bu_n (fun z => e z.2)).trans (ll_bu_n (by omega))
  have hb6n : ll_bu (ll_bu β 5 (nS κ) q) 6 (nS κ) (jd_k G 1) 6 (nS κ) = jd_k G 1 := ll_bu_s
  have eL : ∀ j, j ≠ nS κ → sLand (k_addS κ l b p) j = sLand κ j := fun j e => by simp [sLand, sPat, sRest, sGate, sDecl, sBaby, sPass, k_addS, ll_sn, ll_sz, ll_so, ll_sp, ll_sb, e]
  have eP : ∀ j, j ≠ nS κ → sPat (k_addS κ l b p) j = sPat κ j := fun j e => by simp [sLand, sPat, sRest, sGate, sDecl, sBaby, sPass, k_addS, ll_sn, ll_sz, ll_so, ll_sp, ll_sb, e]
  have eR : ∀ j, j ≠ nS κ → sRest (k_addS κ l b p) j = sRest κ j := fun j e => by simp [sLand, sPat, sRest, sGate, sDecl, sBaby, sPass, k_addS, ll_sn, ll_sz, ll_so, ll_sp, ll_sb, e]
  have eG : ∀ j, j ≠ nS κ → sGate (k_addS κ l b p) j = sGate κ j := fun j e => by simp [sLand, sPat, sRest, sGate, sDecl, sBaby, sPass, k_addS, ll_sn, ll_sz, ll_so, ll_sp, ll_sb, e]
  have eD : ∀ j, j ≠ nS κ → sDecl (k_addS κ l b p) j = sDecl κ j := fun j e => by simp [sLand, sPat, sRest, sGate, sDecl, sBaby, sPass, k_addS, ll_sn, ll_sz, ll_so, ll_sp, ll_sb, e]
  have eB : ∀ j, j ≠ nS κ → sBaby (k_addS κ l b p) j = sBaby κ j := fun j e => by simp [sLand, sPat, sRest, sGate, sDecl, sBaby, sPass, k_addS, ll_sn, ll_sz, ll_so, ll_sp, ll_sb, e]
  have eS : ∀ j, j ≠ nS κ → sPass (k_addS κ l b p) j = sPass κ j := fun j e => by simp [sLand, sPat, sRest, sGate, sDecl, sBaby, sPass, k_addS, ll_sn, ll_sz, ll_so, ll_sp, ll_sb, e]
  have nL : sLand (k_addS κ l b p) (nS κ) = l := by simp [sLand, sPat, sRest, sGate, sDecl, sBaby, sPass, k_addS, ll_sn, ll_sz, ll_so, ll_sp, ll_sb]
  have nP' : sPat (k_addS κ l b p) (nS κ) = p := by simp [sLand, sPat, sRest, sGate, sDecl, sBaby, sPass, k_addS, ll_sn, ll_sz, ll_so, ll_sp, ll_sb]
  have nR : sRest (k_addS κ l b p) (nS κ) = 0 := by simp [sLand, sPat, sRest, sGate, sDecl, sBaby, sPass, k_addS, ll_sn, ll_sz, ll_so, ll_sp, ll_sb]
  have nGt : sGate (k_addS κ l b p) (nS κ) = none := by simp [sLand, sPat, sRest, sGate, sDecl, sBaby, sPass, k_addS, ll_sn, ll_sz, ll_so, ll_sp, ll_sb]
  have nD : sDecl (k_addS κ l b p) (nS κ) = 0 := by simp [sLand, sPat, sRest, sGate, sDecl, sBaby, sPass, k_addS, ll_sn, ll_sz, ll_so, ll_sp, ll_sb]
  have nB : sBaby (k_addS κ l b p) (nS κ) = b := by simp [sLand, sPat, sRest, sGate, sDecl, sBaby, sPass, k_addS, ll_sn, ll_sz, ll_so, ll_sp, ll_sb]
  have nPs : sPass (k_addS κ l b p) (nS κ) = none := by simp [sLand, sPat, sRest, sGate, sDecl, sBaby, sPass, k_addS, ll_sn, ll_sz, ll_so, ll_sp, ll_sb]
  have nSz : nS (k_addS κ l b p) = nS κ + 1 := rfl
  refine ⟨(hx (by decide) (by decide) (by decide)).trans f1, (hx (by decide) (by decide) (by decide)).trans f2, fun j hj => (hx (by decide) (by decide) (by decide)).trans (f3 j hj), fun j hj => (hx (by decide) (by decide) (by decide)).trans (f4 j hj), fun j hj => ?_, fun j hj => (hx (by decide) (by decide) (by decide)).trans (f6 j hj), ?_, ?_, ?_, ?_, ?_, fun j hj => ?_, fun j hj => (hx (by decide) (by decide) (by decide)).trans (f13 j hj), fun j hj hp => ?_, fun j hj r hr => ?_, fun j hj => hz _ _ (f16 j hj), fun j => ?_⟩
  · by_cases e : j = nS κ
    · subst e
      rw [hb5n, hb6n, nL, nP', nR, nGt, nD, nB]
      exact hs
    · rw [nSz] at hj
      rw [hb5 j e, hb6 j e, eL j e, eP j e, eR j e, eG j e, eD j e, eB j e]
      exact (ho _ (show (7 : Nat) ≠ 0 by decide) (fun z => e (by injection z)) (fun z => by injection z with z1 z2; exact absurd z1 (by decide))).trans (f5 j (by omega))
  · obtain ⟨m, hm⟩ := w_lands hw; exact ⟨m, (hx2 (by decide)).trans hm⟩
  · obtain ⟨m, hm⟩ := w_gates hw; exact ⟨m, (hx2 (by decide)).trans hm⟩
  · obtain ⟨m, hm⟩ := hl
    refine ⟨m, hm.trans ?_⟩
    have : va_up (β 5) (nS κ) q = (ll_bu (ll_bu β 5 (nS κ) q) 6 (nS κ) (jd_k G 1)) 5 := by
      funext j
      by_cases e : j = nS κ
      · subst e; rw [hb5n]; exact if_pos rfl
      · rw [hb5 j e]; exact if_neg e
    rw [this]; rfl
  · obtain ⟨m, hm⟩ := w_parts hw; exact ⟨m, (hx2 (by decide)).trans hm⟩
  · obtain ⟨m, hm⟩ := w_hidings hw; exact ⟨m, (hx2 (by decide)).trans hm⟩
  · obtain ⟨m, hm⟩ := f12 j hj
    refine ⟨m, (hx (by decide) (by decide) (by decide)).trans (hm.trans ?_)⟩
    have : (fun i => β 5 ((gQue κ j).getD i 12)) = fun i => (ll_bu (ll_bu β 5 (nS κ) q) 6 (nS κ) (jd_k G 1)) 5 ((gQue κ j).getD i 12) := by
      funext i
      have hne : (gQue κ j).getD i 12 ≠ nS κ := by
        by_cases e : i < (gQue κ j).length
        · have := q_lt hI (g := j) hj e
          exact Nat.ne_of_lt this
        · rw [List.getD_eq_getElem?_getD, List.getElem?_eq_none (by omega)]
          show 12 ≠ _
          omega
      rw [hb5 _ hne]
    rw [this]; rfl
  · by_cases e : j = nS κ
    · subst e; rw [hb6n]
    · rw [eS j e] at hp; rw [nSz] at hj; rw [hb6 j e]; exact f14 j (by omega) hp
  · by_cases e : j = nS κ
    · subst e; rw [nPs] at hr; cases hr
    · rw [eS j e] at hr; rw [nSz] at hj; rw [hb6 j e]
      exact ⟨hz _ _ (f15 j (by omega) r hr).1, hz _ _ (f15 j (by omega) r hr).2⟩
  · refine ⟨fun w => ⟨(hx (by decide) (by decide) (by decide)).trans ((f17 j).1 w).1, (hx (by decide) (by decide) (by decide)).trans ((f17 j).1 w).2.1, (hx (by decide) (by decide) (by decide)).trans ((f17 j).1 w).2.2⟩, fun w => ?_, fun w => (hx (by decide) (by decide) (by decide)).trans ((f17 j).2.2 w)⟩
    rw [nSz] at w
    exact (ho _ (show (7 : Nat) ≠ 0 by decide) (fun z => by injection z with z1 z2; omega) (fun z => by injection z with z1 z2; exact absurd z1 (by decide))).trans ((f17 j).2.1 (by omega))
/-- a new object comes into a list, and gets its place -/
theorem add_ren {h : jd_H} {q : Nat} (hq : h (0, q) = none) {li ni : jd_Id} (hli : li.1 ≠ 0) (hni : ni.1 ≠ 0) (hne : li ≠ ni) {x y z : Nat × jd_E} :
    (jd_up (jd_rm (jd_up (jd_up h (0, q) x) li y) (0, q)) ni z) ni = some z ∧ (jd_up (jd_rm (jd_up (jd_up h (0, q) x) li y) (0, q)) ni z) li = some y ∧
    (∀ j : jd_Id, j.1 ≠ 0 → j ≠ ni → j ≠ li → (jd_up (jd_rm (jd_up (jd_up h (0, q) x) li y) (0, q)) ni z) j = h j) ∧
    (∀ (a : Nat) (w : Nat × jd_E), h (0, a) = some w → (jd_up (jd_rm (jd_up (jd_up h (0, q) x) li y) (0, q)) ni z) (0, a) = some w) := by
  have n0 : ∀ {j : jd_Id}, j.1 ≠ 0 → j ≠ (0, q) := fun {j} a b => a (by rw [b])
  refine ⟨jd_up_s, ?_, fun j h0 h1 h2 => ?_, fun a w e => ?_⟩
  · rw [jd_up_n hne, jd_rm_n (n0 hli), jd_up_s]
  · rw [jd_up_n h1, jd_rm_n (n0 h0), jd_up_n h2, jd_up_n (n0 h0)]
  · have h1 : ((0, a) : jd_Id) ≠ (0, q) := fun z => by rw [z, hq] at e; cases e
    rw [jd_up_n (fun z => hni (by rw [← z])), jd_rm_n h1, jd_up_n (fun z => hli (by rw [← z])), jd_up_n h1]
    exact e
def c_sleeper (κ : ll_K) (l p : Int32) : Nat := if ¬ l < 0 ∧ l < 6 then (if inR p 1 9 then (if ¬ 12 ≤ nS κ then 0 else 3) else 2) else 1
theorem obT {G : jd_G} {h : jd_H} {Cn : String} {a q : Nat} {x : Nat × jd_E} (hq : h (0, q) = none) (ho : jd_Ob G h Cn a) : jd_Ob G (jd_up h (0, q) x) Cn a := by
  rcases ho with ⟨j, e, ci, r, h1, h2, h3, h4⟩ | h | ⟨j, e, h1, h2, h3⟩
  · exact Or.inl ⟨j, e, ci, r, jd_tmp_keep hq _ _ h1, h2, h3, h4⟩
  · exact Or.inr (Or.inl h)
  · exact Or.inr (Or.inr ⟨j, e, jd_tmp_keep hq _ _ h1, h2, h3⟩)
