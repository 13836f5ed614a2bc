/-! ===== zzh: a temporary list over the world ===== -/
section ZH
variable {G : jd_G} {M : jd_M} {d cb sb pc : Nat} {ls : List (Option Value)} {st : List Value} {Q : Option Value → jd_H → Prop} {X : String → jd_H → Prop}
theorem jd_updT {h : jd_H} {i : jd_Id} {x y : Nat × jd_E} {q : Nat} (hi : ((0, q) : jd_Id) ≠ i) (k : ∀ h' : jd_H, h' i = some x → (∀ j, j ≠ i → h' j = h j) → jd_W G M d cb sb pc ls st (jd_up h' (0, q) y) Q X) : jd_W G M d cb sb pc ls st (jd_up (jd_up h (0, q) y) i x) Q X := by
  rw [jd_up_cm hi]
  exact k _ jd_up_s (fun _ hj => jd_up_n hj)
theorem slOb {β : ll_B} {κ : ll_K} {h : jd_H} (hw : WC G β κ h) {x : Nat} (hx : x < nS κ) : jd_Ob G h "Lullabygate$Sleeper" (β 5 x) := Or.inl ⟨_, _, 4, _, w_sleeper hw x hx, rfl, rfl, rfl⟩
theorem restOb {β : ll_B} {κ : ll_K} {h : jd_H} (hw : WC G β κ h) {q : Nat} (hq : h (0, q) = none) {y : Nat × jd_E} {l : List Nat} {P i : Nat} (hm : ∀ j, j < l.length → l.getD j 12 < nS κ) (hi : P + i ≤ l.length) : ∀ k, k < i → jd_Ob G (jd_up h (0, q) y) "Lullabygate$Sleeper" (restF (β 5) l P i k) := fun k hk => by
  rw [rest_at hk]
  exact obT hq (slOb hw (hm _ (by omega)))
theorem rest_up {b : Nat → Nat} {l : List Nat} {P i : Nat} : va_up (restF b l P i) i (b (l.getD (P + i) 12)) = restF b l P (i + 1) := by
  funext j
  by_cases e : j = i
  · subst e
    rw [rest_at (Nat.lt_succ_self j)]; exact if_pos rfl
  · have h1 : va_up (restF b l P i) i (b (l.getD (P + i) 12)) j = restF b l P i j := if_neg e
    rw [h1]
    unfold restF
    by_cases h : j < i
    · rw [if_pos h, if_pos (by omega)]
    · rw [if_neg h, if_neg (by omega)]
theorem app_fun (b : Nat → Nat) {l : List Nat} {x : Nat} : va_up (fun j => b (l.getD j 12)) l.length (b x) = fun j => b ((l ++ [x]).getD j 12) := by
  funext j
  by_cases e : j = l.length
  · have h1 : va_up (fun j => b (l.getD j 12)) l.length (b x) j = b x := if_pos e
    rw [h1, List.getD_eq_getElem?_getD, List.getElem?_append_right (by omega), e, Nat.sub_self]; rfl
  · have h1 : va_up (fun j => b (l.getD j 12)) l.length (b x) j = b (l.getD j 12) := if_neg e
    rw [h1]
    by_cases h : j < l.length
    · rw [List.getD_eq_getElem?_getD, List.getD_eq_getElem?_getD, List.getElem?_append_left h]
    · rw [List.getD_eq_getElem?_getD, List.getD_eq_getElem?_getD, List.getElem?_eq_none (by omega), List.getElem?_eq_none (by rw [List.length_append]; simp only [List.length_singleton]; omega)]
end ZH
