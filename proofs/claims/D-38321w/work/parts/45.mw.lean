/-! ===== mw: the model is sound ===== -/
/-- how often a sleeper stands in the first k queues and the first j of the next -/
def stF (κ : ll_K) (k j : Nat) : Nat → Int32 := fun s => nI (if (∃ g, g < k ∧ s ∈ gQue κ g) ∨ s ∈ (gQue κ k).take j then 1 else 0)
theorem stF_0 {κ : ll_K} : (fun _ => 0) = stF κ 0 0 := by
  funext s
  unfold stF
  rw [if_neg]
  · rfl
  · rintro (⟨g, h, _⟩ | h)
    · exact Nat.not_lt_zero g h
    · rw [List.take_zero] at h; cases h
theorem stF_fresh {κ : ll_K} (hI : ll_I κ) {k j : Nat} (hk : k < nG κ) (hj : j < (gQue κ k).length) : ¬ ((∃ g, g < k ∧ qAt κ k j ∈ gQue κ g) ∨ qAt κ k j ∈ (gQue κ k).take j) := by
  rintro (⟨g, h, hm⟩ | h)
  · have h1 := (hI.2.1 g (by omega)).2.2.2.2.1 _ hm
    have h2 := (hI.2.1 k hk).2.2.2.2.1 _ (qAt_mem hj)
    rw [h1.2.2.1] at h2
    have := Option.some.inj h2.2.2.1
    omega
  · have := take_nd (hI.2.1 k hk).2.2.2.1 hj
    exact of_decide_eq_false this h
theorem stF_s {κ : ll_K} (hI : ll_I κ) {k j : Nat} (hk : k < nG κ) (hj : j < (gQue κ k).length) : upd (stF κ k j) (qAt κ k j) (stF κ k j (qAt κ k j) + 1) = stF κ k (j + 1) := by
  have hf := stF_fresh hI hk hj
  refine upd_fun ?_ (fun x hx => ?_)
  · unfold stF
    rw [if_neg hf, if_pos]
    · rfl
    · right; rw [take_s hj]; exact List.mem_append.mpr (Or.inr (List.mem_singleton.mpr rfl))
  · unfold stF
    rw [take_s hj]
    have : (x ∈ (gQue κ k).take j ++ [(gQue κ k).getD j 12]) ↔ x ∈ (gQue κ k).take j := by
      rw [List.mem_append, List.mem_singleton]
      exact ⟨fun w => w.resolve_right hx, Or.inl⟩
    simp only [this]
theorem stF_n {κ : ll_K} {k : Nat} : stF κ k (gQue κ k).length = stF κ (k + 1) 0 := by
  funext s
  unfold stF
  rw [List.take_length, List.take_zero]
  have : ((∃ g, g < k ∧ s ∈ gQue κ g) ∨ s ∈ gQue κ k) ↔ ((∃ g, g < k + 1 ∧ s ∈ gQue κ g) ∨ s ∈ ([] : List Nat)) := by
    constructor
    · rintro (⟨g, h, hm⟩ | h)
      · exact Or.inl ⟨g, by omega, hm⟩
      · exact Or.inl ⟨k, by omega, h⟩
    · rintro (⟨g, h, hm⟩ | h)
      · rcases Nat.lt_succ_iff_lt_or_eq.mp h with w | w
        · exact Or.inl ⟨g, w, hm⟩
        · subst w; exact Or.inr hm
      · cases h
  simp only [this]
theorem stF_at {κ : ll_K} (hI : ll_I κ) {s : Nat} (hs : s < nS κ) : stF κ (nG κ) 0 s = if sRest κ s = 1 then 1 else 0 := by
  unfold stF
  by_cases h : sRest κ s = 1
  · obtain ⟨g, h1, h2, h3⟩ := (hI.2.2.1 s hs).2.2.2.1 h
    rw [if_pos h, if_pos (Or.inl ⟨g, h2, h3⟩)]; rfl
  · rw [if_neg h, if_neg]
    · rfl
    · rintro (⟨g, hg, hm⟩ | hm)
      · exact h ((hI.2.1 g hg).2.2.2.2.1 _ hm).2.1
      · rw [List.take_zero] at hm; cases hm
theorem oth_no {κ : ll_K} (hI : ll_I κ) {k j : Nat} (hk : k < nG κ) (hj : j < (gQue κ k).length) (h : ∃ i, i < j ∧ ¬ sBaby κ (qAt κ k i) = true) : ¬ sBaby κ (qAt κ k j) = true := by
  obtain ⟨i, hi, hb⟩ := h
  have hp := (List.pairwise_iff_getElem.mp (qOk_of hI hk).2.2.2) i j (by omega) hj hi
  intro w
  refine hb ?_
  show sBaby κ ((gQue κ k).getD i 12) = true
  rw [gd_get (by omega)]
  refine hp ?_
  have w2 : sBaby κ ((gQue κ k).getD j 12) = true := w
  rw [gd_get hj] at w2
  exact w2
def othB (κ : ll_K) (k : Nat) : Nat → Bool
  | 0 => false
  | j + 1 => othB κ k j || !sBaby κ (qAt κ k j)
theorem othB_ex {κ : ll_K} {k : Nat} : ∀ j, othB κ k j = true → ∃ i, i < j ∧ ¬ sBaby κ (qAt κ k i) = true
  | 0, h => by cases h
  | j + 1, h => by
    simp only [othB, Bool.or_eq_true] at h
    rcases h with h | h
    · obtain ⟨i, a, b⟩ := othB_ex j h
      exact ⟨i, by omega, b⟩
    · exact ⟨j, by omega, by simpa using h⟩
theorem oth_s {κ : ll_K} {k j : Nat} : (othB κ k j = true ∨ ¬ sBaby κ (qAt κ k j) = true) ↔ othB κ k (j + 1) = true := by
  simp [othB]
theorem oth_0 {κ : ll_K} {k : Nat} : (0 : Int32) = jd_b (othB κ k 0 = true) := rfl
theorem stF_eq {κ : ll_K} (hI : ll_I κ) {s : Nat} (hs : s < nS κ) : stF κ (nG κ) 0 s = jd_b (sRest κ s = 1) := stF_at hI hs
theorem head0 {κ : ll_K} (hI : ll_I κ) {s : Nat} (hs : s < nS κ) (h : sRest κ s = 2) : headOf κ s = 0 := by
  have h1 := (hI.2.2.1 s hs).2.2.2.2.2.2.1 h
  have key : ∀ n, n ≤ nP κ → ll_set (fun p => pHead κ p = some s) n = 0 := by
    intro n
    induction n with
    | zero => intro _; rfl
    | succ n ih =>
      intro hn
      rw [ll_set, ih (by omega), if_neg (h1 n (by omega))]
      rfl
  exact key _ (Nat.le_refl _)
