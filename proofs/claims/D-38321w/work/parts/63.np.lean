/-! ===== np: an hour of the model, pure, second ===== -/
def clF (F : Nat → Int32) (x : Nat) : Nat → Int32 := fun y => if y < x then 0 else F y
theorem clF_0 {F : Nat → Int32} : clF F 0 = F := by
  funext y; exact if_neg (Nat.not_lt_zero y)
theorem clF_s {F : Nat → Int32} {x : Nat} : upd (clF F x) x 0 = clF F (x + 1) := by
  funext y
  rw [upd_ap]
  show (if y = x then (0 : Int32) else if y < x then 0 else F y) = if y < x + 1 then 0 else F y
  by_cases e : y = x
  · rw [if_pos e, if_pos (by omega)]
  · rw [if_neg e]
    by_cases e2 : y < x
    · rw [if_pos e2, if_pos (by omega)]
    · rw [if_neg e2, if_neg (by omega)]
theorem clF_end {κ : ll_K} {F : Nat → Int32} {y : Nat} (hy : y < 776) : clF F 776 y = moF κ 0 0 0 y := by
  rw [moF_0]; exact if_pos hy
theorem bes_y {κ : ll_K} {g o : Nat} (ha : gOne κ g < 6) (hb : gOther κ g < 6) (hc : gOne κ o < 6) (hd : gOther κ o < 6) : ((nI (gOne κ g) = nI (gOne κ o) ∨ nI (gOther κ g) = nI (gOne κ o)) ∨ (nI (gOne κ g) = nI (gOther κ o) ∨ nI (gOther κ g) = nI (gOther κ o))) ↔ (o = g ∨ besN κ o g) := by
  have h := bes_nI (a := gOne κ g) (c := gOther κ g) (b := gOne κ o) (d := gOther κ o) ha hc hb hd
  constructor
  · intro w
    right
    rcases h.mp w with (w | w) | (w | w)
    · exact Or.inl (Or.inl w.symm)
    · exact Or.inr (Or.inl w.symm)
    · exact Or.inl (Or.inr w.symm)
    · exact Or.inr (Or.inr w.symm)
  · intro w
    refine h.mpr ?_
    rcases w with w | (w | w) | (w | w)
    · subst w; exact Or.inl (Or.inl rfl)
    · exact Or.inl (Or.inl w.symm)
    · exact Or.inr (Or.inl w.symm)
    · exact Or.inl (Or.inr w.symm)
    · exact Or.inr (Or.inr w.symm)
theorem sr_at {κ : ll_K} {k : Nat} {V : Nat → Bool} : (ll_sr κ k V).2.2.2.1 k = V := if_pos rfl
theorem beg_ry {κ : ll_K} {k v : Nat} (h : spV κ k (nG κ) v = true) : ll_sr (ll_sr (k_beg κ k) k (revV κ k v)) k (fun x => if x = v then true else gRev (ll_sr (k_beg κ k) k (revV κ k v)) k x) = ll_sr (k_beg κ k) k (revV κ k (v + 1)) := by
  show ll_sr (ll_sr (k_beg κ k) k (revV κ k v)) k (fun x => if x = v then true else (ll_sr (k_beg κ k) k (revV κ k v)).2.2.2.1 k x) = _
  rw [sr_at, sr_sr, revV_y h]
theorem beg_r97 {κ : ll_K} {k v : Nat} (hv : v < 97) : jd_b (gRev (ll_sr (k_beg κ k) k (revV κ k 97)) k v = true) = jd_b (spV κ k (nG κ) v = true) := by
  show jd_b ((ll_sr (k_beg κ k) k (revV κ k 97)).2.2.2.1 k v = true) = _
  rw [sr_at]
  have : revV κ k 97 v = spV κ k (nG κ) v := if_pos hv
  rw [this]
theorem beg_r2 {κ : ll_K} {k : Nat} : ll_sr (ll_sr (k_beg κ k) k (revV κ k 97)) k (spV κ k (nG κ)) = k_wch (k_spP κ (k + 1)) k := by
  rw [sr_sr]; exact beg_r1
theorem dn2_sp {κ : ll_K} {k : Nat} {q : Nat × Nat × Nat} (h : sPass (k_dn2 κ k) k = some q) : sPass κ k = some q := dn2_at.symm.trans h
theorem dn2_no {κ : ll_K} {k : Nat} (h : sPass (k_dn2 κ k) k = none) : k_dn2 κ k = k_dn2 κ (k + 1) := dn2_n2 (fun q hq => by rw [← dn2_at, h] at hq; cases hq)
theorem dn2_nn {κ : ll_K} {k : Nat} {q : Nat × Nat × Nat} (h : sPass (k_dn2 κ k) k = some q) (h2 : nNight κ ≤ q.2.1) : k_dn2 κ k = k_dn2 κ (k + 1) := dn2_n2 (fun q2 hq => by rw [← dn2_at, h] at hq; cases hq; omega)
theorem k_go_y {κ : ll_K} (h : nHour κ + 1 = 24) : k_go1 κ = k_dn2 (k_dn1 (k_dn0 (k_hr κ)) 6) (nS κ) := if_pos h
theorem k_go_n {κ : ll_K} (h : ¬ nHour κ + 1 = 24) : k_go1 κ = k_hr κ := if_neg h
