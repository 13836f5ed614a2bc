/-! ===== zzl: all objects of a new world get their places ===== -/
theorem jd_place {G : jd_G} {M : jd_M} {d cb sb pc : Nat} {ls : List (Option Value)} {st : List Value} {h : jd_H} {Q : Option Value → jd_H → Prop} {X : String → jd_H → Prop} (K : Nat → Bool) (L : List Nat) (P : List jd_Id) (hlen : L.length = P.length) (h0 : K 0 = false) (hP0 : ∀ p ∈ P, p.1 ≠ 0 ∧ K p.1 = false) (hL : L.Nodup) (hPn : P.Nodup)
    (k : ∀ h' : jd_H, (∀ (i : Nat) (p : jd_Id) (q : Nat), P[i]? = some p → L[i]? = some q → h' p = h (0, q)) → (∀ j : jd_Id, K j.1 = true → h' j = h j) → (∀ j : jd_Id, K j.1 = false → j ∉ P → h' j = none) → jd_W G M d cb sb pc ls st h' Q X) : jd_W G M d cb sb pc ls st h Q X := by
  have hix : ∀ (j : jd_Id) (i : Nat), P[i]? = some j → P.idxOf j = i := fun j i e => by
    obtain ⟨hi, e2⟩ := List.getElem?_eq_some_iff.mp e
    rw [← e2]
    exact hPn.idxOf_getElem i hi
  have hlt : ∀ j : jd_Id, j ∈ P → P.idxOf j < P.length := fun j hj => List.idxOf_lt_length_of_mem hj
  refine jd_map (h' := fun j => if K j.1 = true then h j else if j ∈ P then h (0, L.getD (P.idxOf j) 0) else none) (fun j => if K j.1 = true then j else if j ∈ P then (0, L.getD (P.idxOf j) 0) else j) (fun j v e => ?_) (fun j j' e e' w => ?_) (fun v e => ?_) (k _ (fun i p q hp hq => ?_) (fun j hj => ?_) (fun j hj hn => ?_))
  · by_cases a : K j.1 = true
    · simp only [if_pos a] at e ⊢; exact e
    · by_cases b : j ∈ P
      · simp only [if_neg a, if_pos b] at e ⊢; exact e
      · simp only [if_neg a, if_neg b] at e; cases e
  · by_cases a : K j.1 = true
    · by_cases a' : K j'.1 = true
      · simp only [if_pos a, if_pos a'] at w; exact w
      · by_cases b' : j' ∈ P
        · simp only [if_pos a, if_neg a', if_pos b'] at w
          subst w
          rw [h0] at a; cases a
        · simp only [if_neg a', if_neg b'] at e'; exact absurd rfl e'
    · by_cases b : j ∈ P
      · by_cases a' : K j'.1 = true
        · simp only [if_neg a, if_pos b, if_pos a'] at w
          rw [← w, h0] at a'; cases a'
        · by_cases b' : j' ∈ P
          · simp only [if_neg a, if_pos b, if_neg a', if_pos b'] at w
            have w2 : L.getD (P.idxOf j) 0 = L.getD (P.idxOf j') 0 := congrArg Prod.snd w
            have l1 := hlt j b
            have l2 := hlt j' b'
            rw [← hlen] at l1 l2
            rw [List.getD_eq_getElem?_getD, List.getD_eq_getElem?_getD, List.getElem?_eq_getElem l1, List.getElem?_eq_getElem l2] at w2
            have w3 : P.idxOf j = P.idxOf j' := (List.getElem_inj hL).mp w2
            have m1 := List.getElem_idxOf (hlt j b)
            have m2 := List.getElem_idxOf (hlt j' b')
            rw [← m1, ← m2]
            simp only [w3]
          · simp only [if_neg a', if_neg b'] at e'; exact absurd rfl e'
      · simp only [if_neg a, if_neg b] at e; exact absurd rfl e
  · have a : ¬ K ((0, v) : jd_Id).1 = true := by show ¬ K 0 = true; rw [h0]; decide
    have b : ((0, v) : jd_Id) ∉ P := fun z => (hP0 _ z).1 rfl
    simp only [if_neg a, if_neg b] at e
    exact absurd rfl e
  · have hm : p ∈ P := List.mem_of_getElem? hp
    have a : ¬ K p.1 = true := by rw [(hP0 p hm).2]; decide
    have hq2 : L.getD (P.idxOf p) 0 = q := by rw [hix p i hp, List.getD_eq_getElem?_getD, hq]; rfl
    simp only [if_neg a, if_pos hm, hq2]
  · simp only [if_pos hj]
  · have a : ¬ K j.1 = true := by rw [hj]; decide
    simp only [if_neg a, if_neg hn]
/-- the state at the start -/
def k_0 : ll_K := (fun _ _ => 0, fun a b => if a = 0 then 10 else if a = 1 then 20 else if a = 2 then 5 else if a = 6 ∧ b = 3 then 3 else 0, fun _ _ => none, fun _ _ => false, fun _ => none, fun _ => [], [], fun _ => false)
theorem I_0 : ll_I k_0 := by
  refine ⟨⟨?_, ?_, ?_, ?_, ?_, ?_⟩, fun k hk => absurd hk (Nat.not_lt_zero k), fun k hk => absurd hk (Nat.not_lt_zero k), fun k hk => absurd hk (Nat.not_lt_zero k), fun k hk => absurd hk (Nat.not_lt_zero k), fun k hk => ⟨⟨(by show (0 : Int32) ≤ 10; decide), (by show (10 : Int32) ≤ 50; decide)⟩, ⟨(by show (0 : Int32) ≤ 20; decide), (by show (20 : Int32) ≤ 99; decide)⟩, ⟨(by show (0 : Int32) ≤ 5; decide), (by show (5 : Int32) ≤ 30; decide)⟩⟩, ?_⟩ <;> decide
