/-! ===== zzj: arrays of truth values that come to the gates ===== -/
abbrev zarr (G : jd_G) (V : Nat → Bool) : jd_E := .inl (.inl (G.2.1 1, 97, .inl (fun v => jd_b (V v = true))))
def ll_b46 (β : ll_B) (b c : Nat → Nat) : ll_B := fun a j => if a = 4 then b j else if a = 6 then c j else β a j
theorem ll_b46_id {β : ll_B} : ll_b46 β (β 4) (β 6) = β := by
  funext a j
  unfold ll_b46
  split
  · next e => rw [e]
  · split
    · next e => rw [e]
    · rfl
theorem ll_b46_2 {β : ll_B} {b c b' c' : Nat → Nat} : ll_b46 (ll_b46 β b c) b' c' = ll_b46 β b' c' := by
  funext a j
  unfold ll_b46
  split
  · rfl
  · split <;> rfl
theorem ll_b46_6 {β : ll_B} {b c : Nat → Nat} {k x : Nat} : ll_bu (ll_b46 β b c) 6 k x = ll_b46 β b (va_up c k x) := by
  funext a j
  unfold ll_bu ll_b46 va_up
  by_cases e : a = 6
  · subst e
    by_cases ej : j = k
    · simp [ej]
    · simp [ej]
  · simp [e]
theorem ll_b46_4 {β : ll_B} {b c : Nat → Nat} {k x : Nat} : ll_bu (ll_b46 β b c) 4 k x = ll_b46 β (va_up b k x) c := by
  funext a j
  unfold ll_bu ll_b46 va_up
  by_cases e : a = 4
  · subst e
    by_cases ej : j = k
    · simp [ej]
    · simp [ej]
  · simp [e]
theorem jd_castZ {G : jd_G} {M : jd_M} {d cb sb pc idx a : Nat} {ls : List (Option Value)} {st : List Value} {h : jd_H} {Q : Option Value → jd_H → Prop} {X : String → jd_H → Prop} {i : jd_Id} {x : vp_A} (ho : h i = some (a, .inl (.inl (G.2.1 1, x)))) (q : Cond.classLink M.1 idx "[Z" ∈ lw_all) (dc : decode M.2.2.1 pc = .ok (.checkcast idx, 3)) (kk : jd_W G M d cb sb (pc + 3) ls (.ref a :: st) h Q X) : jd_W G M d cb sb pc ls (.ref a :: st) h Q X := by
  intro p l e R s m args below meth c H locs cells slots la C h1 h2 hP hS hl
  have hGU := C.2.2.2.2.2.2.2.2.1
  exact va_castA C.1 C.2.1 C.2.2.2.2.2.2.1 (C.2.2.2.2.2.2.2.1 _ q) (jd_one (hP.at ho)) 0 rfl (hGU.1.1.2 1 _ rfl).2 dc (kk p l e R s m args below meth c H locs cells slots la C h1 h2 hP hS hl)
/-- the array at (0, a) gets the place (6, k); what was there goes -/
theorem jd_swapT {G : jd_G} {M : jd_M} {d cb sb pc a q n : Nat} {ls : List (Option Value)} {st : List Value} {h : jd_H} {Q : Option Value → jd_H → Prop} {X : String → jd_H → Prop} {y : Nat × jd_E} {e : jd_E} (hA : h (0, a) = some (a, e)) (hqa : ((0, a) : jd_Id) ≠ (0, q)) (k : ∀ h3 : jd_H, h3 (6, n) = some (a, e) → (∀ j : jd_Id, j ≠ (6, n) → j ≠ (0, a) → h3 j = h j) → jd_W G M d cb sb pc ls st (jd_up h3 (0, q) y) Q X) : jd_W G M d cb sb pc ls st (jd_up h (0, q) y) Q X := by
  have n6 : ∀ x : Nat, ((6, n) : jd_Id) ≠ (0, x) := fun x z => by cases z
  refine jd_drop (h' := jd_up (jd_rm h (6, n)) (0, q) y) (fun i x hi => ?_) ?_
  · by_cases e1 : i = (0, q)
    · subst e1; rw [jd_up_s] at hi ⊢; exact hi
    · rw [jd_up_n e1] at hi ⊢
      by_cases e2 : i = (6, n)
      · subst e2; rw [jd_rm_s] at hi; cases hi
      · rw [jd_rm_n e2] at hi; exact hi
  · refine jd_ren (i := (0, a)) (j := (6, n)) (a := a) (x := e) ?_ ?_ (by simp) ?_
    · rw [jd_up_n hqa, jd_rm_n (Ne.symm (n6 a))]; exact hA
    · rw [jd_up_n (n6 q), jd_rm_s]
    · have hh : jd_up (jd_rm (jd_up (jd_rm h (6, n)) (0, q) y) (0, a)) (6, n) (a, e) = jd_up (jd_up (jd_rm (jd_rm h (6, n)) (0, a)) (6, n) (a, e)) (0, q) y := by
        funext j
        by_cases e1 : j = (6, n)
        · subst e1; rw [jd_up_s, jd_up_n (n6 q), jd_up_s]
        · rw [jd_up_n e1]
          by_cases e2 : j = (0, q)
          · subst e2; rw [jd_rm_n (Ne.symm hqa), jd_up_s, jd_up_s]
          · rw [jd_up_n e2, jd_up_n e1]
            by_cases e3 : j = (0, a)
            · subst e3; rw [jd_rm_s, jd_rm_s]
            · rw [jd_rm_n e3, jd_rm_n e3, jd_up_n e2]
      rw [hh]
      refine k _ jd_up_s (fun j h1 h2 => ?_)
      rw [jd_up_n h1, jd_rm_n h2, jd_rm_n h1]
theorem wu_revNew {G : jd_G} {β : ll_B} {κ : ll_K} {h h' : jd_H} (hw : WC G β κ h) {k : Nat} (hk : k < nG κ) {a : Nat} {V : Nat → Bool} (ha : h (0, a) = some (a, zarr G V)) (hs : h' (4, k) = some (β 2 k, .inl (.inr (3, [.int (nI ((gOne κ k))), .int (nI ((gOther κ k))), .int ((gFrom κ k)), .int ((gHours κ k)), .int ((gOdds κ k)), .int ((gWatch κ k)), .ref a, .ref (β 3 k)])))) (hr : h' (6, k) = some (a, zarr G V)) (ho : ∀ j : jd_Id, j ≠ (4, k) → j ≠ (6, k) → j ≠ (0, a) → h' j = h j) : WC G (ll_bu β 4 k a) (ll_sr κ k V) h' := by
  have f1 := w_this hw
  have f2 := w_row hw
  have f3 := w_land hw
  have f4 := w_gate hw
  have f5 := w_sleeper hw
  have f6 := w_part hw
  have f12 := w_queue hw
  have f13 := w_rev hw
  have f14 := w_passN hw
  have f15 := w_pass hw
  have f16 := w_hid hw
  have f17 := w_free hw
  have hx : ∀ {f j : Nat}, f ≠ 0 → f ≠ 4 → f ≠ 6 → h' (f, j) = h (f, j) := fun {f j} x y z => ho _ (fun w => y (by injection w)) (fun w => z (by injection w)) (fun w => x (by injection w))
  have hz : ∀ {x ci : Nat} {fs : List Value}, h (0, x) = some (x, .inl (.inr (ci, fs))) → h' (0, x) = some (x, .inl (.inr (ci, fs))) := fun {x ci fs} e => by
    have hne : ((0, x) : jd_Id) ≠ (0, a) := fun w => by
      injection w with _ w
      subst w
      rw [ha] at e
      cases e
    exact (ho _ (fun w => by cases w) (fun w => by cases w) hne).trans e
  have b4 : ∀ j, j ≠ k → ll_bu β 4 k a 4 j = β 4 j := fun j e => ll_bu_n (fun z => e z.2)
  have b4s : ll_bu β 4 k a 4 k = a := ll_bu_s
  have r4 : ∀ j, j ≠ k → gRev (ll_sr κ k V) j = gRev κ j := fun j e => if_neg e
  have r4s : gRev (ll_sr κ k V) k = V := if_pos rfl
  refine ⟨(hx (by decide) (by decide) (by decide)).trans f1, (hx (by decide) (by decide) (by decide)).trans f2, fun j hj => (hx (by decide) (by decide) (by decide)).trans (f3 j hj), fun j hj => ?_, fun j hj => (hx (by decide) (by decide) (by decide)).trans (f5 j hj), fun j hj => (hx (by decide) (by decide) (by decide)).trans (f6 j hj), ?_, ?_, ?_, ?_, ?_, fun j hj => ?_, fun j hj => ?_, fun j hj hp => f14 j hj hp, fun j hj r hr2 => ⟨hz (f15 j hj r hr2).1, hz (f15 j hj r hr2).2⟩, fun j hj => hz (f16 j hj), fun j => ?_⟩
  · by_cases e : j = k
    · subst e
      rw [b4s]; exact hs
    · rw [b4 j e]
      exact (ho _ (fun z => e (by injection z)) (fun z => by cases z) (fun z => by cases z)).trans (f4 j hj)
  · obtain ⟨m, hm⟩ := w_lands hw; exact ⟨m, (hx (by decide) (by decide) (by decide)).trans hm⟩
  · obtain ⟨m, hm⟩ := w_gates hw; exact ⟨m, (hx (by decide) (by decide) (by decide)).trans hm⟩
  · obtain ⟨m, hm⟩ := w_sleepers hw; exact ⟨m, (hx (by decide) (by decide) (by decide)).trans hm⟩
  · obtain ⟨m, hm⟩ := w_parts hw; exact ⟨m, (hx (by decide) (by decide) (by decide)).trans hm⟩
  · obtain ⟨m, hm⟩ := w_hidings hw; exact ⟨m, (hx (by decide) (by decide) (by decide)).trans hm⟩
  · obtain ⟨m, hm⟩ := f12 j hj; exact ⟨m, (hx (by decide) (by decide) (by decide)).trans hm⟩
  · by_cases e : j = k
    · subst e
      rw [b4s, r4s]; exact hr
    · rw [b4 j e, r4 j e]
      exact (ho _ (fun z => by cases z) (fun z => e (by injection z)) (fun z => by cases z)).trans (f13 j hj)
  · refine ⟨fun w => ?_, fun w => (hx (by decide) (by decide) (by decide)).trans ((f17 j).2.1 w), fun w => (hx (by decide) (by decide) (by decide)).trans ((f17 j).2.2 w)⟩
    have w2 : nG κ ≤ j := w
    have hne : j ≠ k := by omega
    exact ⟨(ho _ (fun z => hne (by injection z)) (fun z => by cases z) (fun z => by cases z)).trans ((f17 j).1 w2).1, (hx (by decide) (by decide) (by decide)).trans ((f17 j).1 w2).2.1, (ho _ (fun z => by cases z) (fun z => hne (by injection z)) (fun z => by cases z)).trans ((f17 j).1 w2).2.2⟩
/-- an act's inside: the arrays of revoked verses and the passes are others -/
def jd_e46 (G : jd_G) (β : ll_B) (κ' : ll_K) (h : jd_H) : Option Value → jd_H → Prop := fun r h2 => r = none ∧ (∃ b c : Nat → Nat, WC G (ll_b46 β b c) κ' h2) ∧ ∀ j : jd_Id, 20 ≤ j.1 → h2 j = h j
