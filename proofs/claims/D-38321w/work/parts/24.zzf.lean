/-! ===== zzf: who comes into a queue ===== -/
theorem nd_len {l : List Nat} {n : Nat} (hnd : l.Nodup) (h : ∀ x ∈ l, x < n) : l.length ≤ n := by
  induction n generalizing l with
  | zero =>
    cases l with
    | nil => exact Nat.le_refl _
    | cons a r => exact absurd (h a List.mem_cons_self) (Nat.not_lt_zero _)
  | succ n ih =>
    by_cases e : n ∈ l
    · have h1 := ih (l := l.erase n) (hnd.erase n) (fun x hx => by
        have h2 := (List.Nodup.mem_erase_iff hnd).mp hx
        have := h x h2.2
        omega)
      rw [List.length_erase_of_mem e] at h1
      omega
    · have := ih hnd (fun x hx => by
        have := h x hx
        have : x ≠ n := fun z => e (z ▸ hx)
        omega)
      omega
def enterAt (κ : ll_K) (g s : Nat) : Nat := (ll_find (fun j => sBaby κ s = true ∧ ¬ sBaby κ (qAt κ g j) = true) (gQue κ g).length).getD (gQue κ g).length
theorem find_min {P : Nat → Prop} [DecidablePred P] {n k : Nat} (h : ll_find P n = some k) : ∀ i, i < k → ¬ P i := by
  intro i hi
  have h3 := (List.find?_eq_some_iff_getElem.mp h).2
  obtain ⟨m, hm, hmk, hlt⟩ := h3
  simp only [List.getElem_range] at hmk hlt
  subst hmk
  simpa using hlt i hi
theorem find_no {P : Nat → Prop} [DecidablePred P] {n : Nat} (h : ll_find P n = none) : ∀ i, i < n → ¬ P i := by
  intro i hi
  have := List.find?_eq_none.mp h i (List.mem_range.mpr hi)
  simpa using this
theorem enter_le {κ : ll_K} {g s : Nat} : enterAt κ g s ≤ (gQue κ g).length := by
  unfold enterAt
  cases e : ll_find (fun j => sBaby κ s = true ∧ ¬ sBaby κ (qAt κ g j) = true) (gQue κ g).length with
  | none => exact Nat.le_refl _
  | some k => exact Nat.le_of_lt (ll_find_lt e)
theorem enter_babies {κ : ll_K} {g s : Nat} (hb : sBaby κ s = true) {i : Nat} (hi : i < enterAt κ g s) : sBaby κ (qAt κ g i) = true := by
  have hlt := Nat.lt_of_lt_of_le hi enter_le
  unfold enterAt at hi
  cases e : ll_find (fun j => sBaby κ s = true ∧ ¬ sBaby κ (qAt κ g j) = true) (gQue κ g).length with
  | none =>
    have := find_no e i hlt
    by_cases h : sBaby κ (qAt κ g i) = true
    · exact h
    · exact absurd ⟨hb, h⟩ this
  | some k =>
    rw [e] at hi
    have := find_min e i hi
    by_cases h : sBaby κ (qAt κ g i) = true
    · exact h
    · exact absurd ⟨hb, h⟩ this
theorem enter_other {κ : ll_K} {g s : Nat} (hb : ¬ sBaby κ s = true) : enterAt κ g s = (gQue κ g).length := by
  unfold enterAt
  rw [ll_find_none (fun i _ w => hb w.1)]
  rfl
theorem ins_eq {l : List Nat} {p s : Nat} (hp : p ≤ l.length) : l.insertIdx p s = l.take p ++ s :: l.drop p := by
  apply List.ext_getElem?
  intro j
  rw [List.getElem?_insertIdx]
  by_cases h : j < p
  · rw [if_pos h, List.getElem?_append_left (by rw [List.length_take]; omega), List.getElem?_take_of_lt h]
  · rw [if_neg h, List.getElem?_append_right (by rw [List.length_take]; omega), List.length_take, Nat.min_eq_left hp]
    by_cases e : j = p
    · subst e; simp [hp]
    · rw [if_neg e]
      obtain ⟨d, rfl⟩ : ∃ d, j = p + d + 1 := ⟨j - p - 1, by omega⟩
      rw [show p + d + 1 - p = d + 1 by omega, List.getElem?_cons_succ, List.getElem?_drop]
      rfl
theorem ins_get {l : List Nat} {p s j : Nat} (hp : p ≤ l.length) : (l.insertIdx p s).getD j 12 = if j < p then l.getD j 12 else if j = p then s else l.getD (j - 1) 12 := by
  simp only [List.getD_eq_getElem?_getD, List.getElem?_insertIdx]
  split
  · rfl
  · split
    · rw [if_pos (by omega)]; rfl
    · rfl
theorem ins_len {l : List Nat} {p s : Nat} (hp : p ≤ l.length) : (l.insertIdx p s).length = l.length + 1 := by
  rw [ins_eq hp, List.length_append, List.length_cons, List.length_take, List.length_drop]; omega
theorem ins_mem {l : List Nat} {p s x : Nat} (hp : p ≤ l.length) : x ∈ l.insertIdx p s ↔ x = s ∨ x ∈ l := by
  rw [ins_eq hp, List.mem_append, List.mem_cons]
  constructor
  · rintro (h | h | h)
    · exact Or.inr (List.mem_of_mem_take h)
    · exact Or.inl h
    · exact Or.inr (List.mem_of_mem_drop h)
  · rintro (h | h)
    · exact Or.inr (Or.inl h)
    · rw [← List.take_append_drop p l] at h
      rcases List.mem_append.mp h with w | w
      · exact Or.inl w
      · exact Or.inr (Or.inr w)
theorem ins_nd {l : List Nat} {p s : Nat} (hp : p ≤ l.length) (hnd : l.Nodup) (hs : s ∉ l) : (l.insertIdx p s).Nodup := by
  rw [ins_eq hp]
  have h0 : (l.take p ++ l.drop p).Nodup := by rw [List.take_append_drop]; exact hnd
  obtain ⟨h1, h2, h3⟩ := List.nodup_append.mp h0
  refine List.nodup_append.mpr ⟨h1, List.nodup_cons.mpr ⟨fun w => hs (List.mem_of_mem_drop w), h2⟩, fun a ha b hb => ?_⟩
  rcases List.mem_cons.mp hb with w | w
  · subst w; exact fun z => hs (z ▸ List.mem_of_mem_take ha)
  · exact h3 a ha b w
theorem ins_pw {R : Nat → Nat → Prop} {l : List Nat} {p s : Nat} (hp : p ≤ l.length) (h : l.Pairwise R) (h1 : ∀ a ∈ l.take p, R a s) (h2 : ∀ b ∈ l.drop p, R s b) : (l.insertIdx p s).Pairwise R := by
  rw [ins_eq hp]
  have h0 : (l.take p ++ l.drop p).Pairwise R := by rw [List.take_append_drop]; exact h
  obtain ⟨a1, a2, a3⟩ := List.pairwise_append.mp h0
  refine List.pairwise_append.mpr ⟨a1, List.pairwise_cons.mpr ⟨h2, a2⟩, fun a ha b hb => ?_⟩
  rcases List.mem_cons.mp hb with w | w
  · subst w; exact h1 a ha
  · exact a3 a ha b w
def k_join (κ : ll_K) (s g : Nat) (D : Int32) : ll_K := ll_sq (ll_sz (ll_so (ll_sn κ 3 s 1) 0 s (some g)) 12 s D) g ((gQue κ g).insertIdx (enterAt κ g s) s)
section JOIN
variable {κ : ll_K} {g s : Nat} {D : Int32}
theorem jn_q {k : Nat} : gQue (k_join κ s g D) k = if k = g then (gQue κ g).insertIdx (enterAt κ g s) s else gQue κ k := rfl
theorem jn_rest {j : Nat} : sRest (k_join κ s g D) j = if j = s then 1 else sRest κ j := by simp [sRest, k_join, ll_sz, ll_so, ll_sn, ll_sq]
theorem jn_gate {j : Nat} : sGate (k_join κ s g D) j = if j = s then some g else sGate κ j := by simp [sGate, k_join, ll_sz, ll_so, ll_sn, ll_sq]
theorem jn_decl {j : Nat} : sDecl (k_join κ s g D) j = if j = s then D else sDecl κ j := by simp [sDecl, k_join, ll_sz, ll_so, ll_sn, ll_sq]
theorem jn_pat {j : Nat} : sPat (k_join κ s g D) j = sPat κ j := by simp [sPat, k_join, ll_sz, ll_so, ll_sn, ll_sq]
theorem I_join (hI : ll_I κ) (hs : s < nS κ) (hg : g < nG κ) (hr : sRest κ s = 0) (hland : gOne κ g = sLand κ s ∨ gOther κ g = sLand κ s) (hD : ∀ p, p < 31 → ll_has D p → p < nP κ ∧ pHead κ p = some s) : ll_I (k_join κ s g D) := by
  have hq := qOk_of hI hg
  have hsn : ∀ k, k < nG κ → s ∉ gQue κ k := fun k hk w => by
    have := ((qOk_of hI hk).2.2.1 s w).2.1
    rw [hr] at this; exact absurd this (by decide)
  have hle := enter_le (κ := κ) (g := g) (s := s)
  refine ⟨hI.1, fun k hk => ?_, fun j hj => ?_, hI.2.2.2⟩
  · have h1 := hI.2.1 k hk
    have ho := qOk_of hI hk
    refine ⟨h1.1, h1.2.1, ?_⟩
    by_cases e : k = g
    · subst e
      rw [jn_q, if_pos rfl]
      have hnd := ins_nd hle hq.2.1 (hsn k hk)
      have hm : ∀ x ∈ (gQue κ k).insertIdx (enterAt κ k s) s, x < nS κ := fun x hx => by
        rcases (ins_mem hle).mp hx with w | w
        · subst w; exact hs
        · exact (hq.2.2.1 x w).1
      refine ⟨Nat.le_trans (nd_len hnd hm) hI.1.2.1, hnd, fun x hx => ?_, ?_⟩
      · rw [jn_rest, jn_gate]
        refine ⟨hm x hx, ?_⟩
        rcases (ins_mem hle).mp hx with w | w
        · subst w; rw [if_pos rfl, if_pos rfl]; exact ⟨rfl, rfl, hland⟩
        · have : x ≠ s := fun z => hsn k hk (z ▸ w)
          rw [if_neg this, if_neg this]; exact (hq.2.2.1 x w).2
      · have hb : ((gQue κ k).insertIdx (enterAt κ k s) s).Pairwise (fun a b => sBaby κ b = true → sBaby κ a = true) := by
          refine ins_pw hle hq.2.2.2 (fun a ha hb => ?_) (fun b hb hbb => ?_)
          · obtain ⟨i, hi, e⟩ := List.getElem_of_mem ha
            rw [List.length_take] at hi
            have := enter_babies (κ := κ) (g := k) hb (i := i) (by omega)
            rw [List.getElem_take] at e
            rw [← e, ← gd_get (by omega)]
            exact this
          · by_cases hsb : sBaby κ s = true
            · exact hsb
            · rw [enter_other hsb, List.drop_length] at hb
              cases hb
        have := adj_pw.mpr hb
        intro j
        simp only [qAt, jn_q, if_true]
        exact this j
    · have e2 : gQue (k_join κ s g D) k = gQue κ k := by rw [jn_q, if_neg e]
      rw [e2]
      refine ⟨ho.1, ho.2.1, fun x hx => ?_, ?_⟩
      · have : x ≠ s := fun z => hsn k hk (z ▸ hx)
        rw [jn_rest, jn_gate, if_neg this, if_neg this]
        exact ho.2.2.1 x hx
      · intro j
        show j + 1 < _ → sBaby κ ((gQue (k_join κ s g D) k).getD (j + 1) 12) = true → sBaby κ ((gQue (k_join κ s g D) k).getD j 12) = true
        rw [e2]
        exact h1.2.2.2.2.2 j
  · have h1 := hI.2.2.1 j hj
    rw [jn_rest, jn_gate, jn_decl, jn_pat]
    by_cases e : j = s
    · subst e
      rw [if_pos rfl, if_pos rfl, if_pos rfl]
      refine ⟨h1.1, by decide, fun g2 w => ?_, fun _ => ⟨g, rfl, hg, ?_⟩, fun w => absurd rfl w, h1.2.2.2.2.2.1, fun w => absurd w (by decide), fun _ => h1.2.2.2.2.2.2.2.1 (by rw [hr]; decide), h1.2.2.2.2.2.2.2.2.1, fun _ p hp hd => hD p hp hd⟩
      · injection w with w; subst w; exact hg
      · rw [jn_q, if_pos rfl]; exact (ins_mem hle).mpr (Or.inl rfl)
    · rw [if_neg e, if_neg e, if_neg e]
      refine ⟨h1.1, h1.2.1, h1.2.2.1, fun w => ?_, h1.2.2.2.2⟩
      obtain ⟨g2, a, b, c⟩ := h1.2.2.2.1 w
      refine ⟨g2, a, b, ?_⟩
      rw [jn_q]
      split
      · next z => subst z; exact (ins_mem hle).mpr (Or.inr c)
      · exact c
end JOIN
