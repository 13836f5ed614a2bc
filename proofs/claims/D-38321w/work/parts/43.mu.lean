/-! ===== mu: ways of the model ===== -/
section WAY
variable {κ : ll_K} {f t : Nat}
theorem goW_some {W : ll_W} {a b t x : Nat} : (goW W a b t x).isSome = ((W x).isSome || (decide (∃ u, W a = some u ∧ u ≤ t) && decide (x = b))) := by
  unfold goW
  by_cases h : (∃ u, W a = some u ∧ u ≤ t) ∧ W b = none
  · rw [if_pos h, decide_eq_true h.1]
    by_cases e : x = b
    · subst e; simp
    · simp [e]
  · rw [if_neg h]
    by_cases h1 : ∃ u, W a = some u ∧ u ≤ t
    · have h2 : W b ≠ none := fun w => h ⟨h1, w⟩
      by_cases e : x = b
      · subst e
        cases hb : W x with
        | none => exact absurd hb h2
        | some u => simp
      · simp [e]
    · rw [decide_eq_false h1]; simp
theorem goW_rt {W : ll_W} {a b t y : Nat} : (∃ u, goW W a b t y = some u ∧ u ≤ t) ↔ ∃ u, W y = some u ∧ u ≤ t := by
  unfold goW
  by_cases h : (∃ u, W a = some u ∧ u ≤ t) ∧ W b = none
  · rw [if_pos h]
    by_cases e : y = b
    · subst e
      simp only [if_true]
      constructor
      · rintro ⟨u, h1, h2⟩; injection h1 with h1; omega
      · rintro ⟨u, h1, h2⟩; rw [h.2] at h1; cases h1
    · simp only [if_neg e]
  · rw [if_neg h]
theorem gateW_rt {W : ll_W} {k y : Nat} : (∃ u, gateW κ t W k y = some u ∧ u ≤ t) ↔ ∃ u, W y = some u ∧ u ≤ t := by
  unfold gateW
  split
  · rw [goW_rt, goW_rt]
  · exact Iff.rfl
theorem gatesW_rt {W : ll_W} {y : Nat} : ∀ k, (∃ u, gatesW κ t W k y = some u ∧ u ≤ t) ↔ ∃ u, W y = some u ∧ u ≤ t
  | 0 => Iff.rfl
  | k + 1 => by
    exact Iff.trans (gateW_rt (W := gatesW κ t W k) (k := k)) (gatesW_rt k)
theorem way_rt {y : Nat} : (∃ u, wayW κ f t y = some u ∧ u ≤ t) ↔ (wayW κ f t y).isSome = true := by
  constructor
  · rintro ⟨u, h, _⟩; rw [h]; rfl
  · intro h
    cases e : wayW κ f t y with
    | none => rw [e] at h; cases h
    | some u => exact ⟨u, rfl, wayW_B t y u e⟩
/-- an open gate's step, by sets -/
theorem gate_s {k x : Nat} (h : openAt κ k (hrAt κ t)) : (gatesW κ t (wayW κ f t) (k + 1) x).isSome = ((gatesW κ t (wayW κ f t) k x).isSome || ((wayW κ f t (gOne κ k)).isSome && decide (x = gOther κ k)) || ((wayW κ f t (gOther κ k)).isSome && decide (x = gOne κ k))) := by
  rw [gateW_yes h, goW_some, goW_some]
  have e1 : decide (∃ u, gatesW κ t (wayW κ f t) k (gOne κ k) = some u ∧ u ≤ t) = (wayW κ f t (gOne κ k)).isSome := by
    rw [Bool.eq_iff_iff, decide_eq_true_iff, gatesW_rt, way_rt]
  have e2 : decide (∃ u, goW (gatesW κ t (wayW κ f t) k) (gOne κ k) (gOther κ k) t (gOther κ k) = some u ∧ u ≤ t) = (wayW κ f t (gOther κ k)).isSome := by
    rw [Bool.eq_iff_iff, decide_eq_true_iff, goW_rt, gatesW_rt, way_rt]
  rw [e1, e2]
abbrev wS (κ : ll_K) (f t : Nat) : Nat → Bool := fun x => (wayW κ f t x).isSome
abbrev gS (κ : ll_K) (f t k : Nat) : Nat → Bool := fun x => (gatesW κ t (wayW κ f t) k x).isSome
theorem gS_no {k : Nat} (h : ¬ openAt κ k (hrAt κ t)) : ll_sB (gS κ f t k) = ll_sB (gS κ f t (k + 1)) := by
  refine congrArg ll_sB (funext fun x => ?_)
  show (gatesW κ t (wayW κ f t) k x).isSome = (gatesW κ t (wayW κ f t) (k + 1) x).isSome
  rw [gateW_no h]
theorem gS_00 {k : Nat} (h : openAt κ k (hrAt κ t)) (h1 : ¬ wS κ f t (gOne κ k) = true) (h2 : ¬ wS κ f t (gOther κ k) = true) : ll_sB (gS κ f t k) = ll_sB (gS κ f t (k + 1)) := by
  refine congrArg ll_sB (funext fun x => ?_)
  show _ = (gatesW κ t (wayW κ f t) (k + 1) x).isSome
  have h1' : (wayW κ f t (gOne κ k)).isSome = false := Bool.eq_false_iff.mpr h1
  have h2' : (wayW κ f t (gOther κ k)).isSome = false := Bool.eq_false_iff.mpr h2
  rw [gate_s h, h1', h2']; simp
theorem gS_10 {k : Nat} (hb : gOther κ k < 12) (h : openAt κ k (hrAt κ t)) (h1 : wS κ f t (gOne κ k) = true) (h2 : ¬ wS κ f t (gOther κ k) = true) : (ll_sB (gS κ f t k) ||| (1 <<< ((nI (gOther κ k)) &&& 31))) = ll_sB (gS κ f t (k + 1)) := by
  rw [ll_sB_or hb]
  refine congrArg ll_sB (funext fun x => ?_)
  show ll_ub _ _ x = (gatesW κ t (wayW κ f t) (k + 1) x).isSome
  have h1' : (wayW κ f t (gOne κ k)).isSome = true := h1
  have h2' : (wayW κ f t (gOther κ k)).isSome = false := Bool.eq_false_iff.mpr h2
  rw [gate_s h, h1', h2']
  unfold ll_ub
  by_cases e : x = gOther κ k <;> simp [e]
theorem gS_01 {k : Nat} (hb : gOne κ k < 12) (h : openAt κ k (hrAt κ t)) (h1 : ¬ wS κ f t (gOne κ k) = true) (h2 : wS κ f t (gOther κ k) = true) : (ll_sB (gS κ f t k) ||| (1 <<< ((nI (gOne κ k)) &&& 31))) = ll_sB (gS κ f t (k + 1)) := by
  rw [ll_sB_or hb]
  refine congrArg ll_sB (funext fun x => ?_)
  show ll_ub _ _ x = (gatesW κ t (wayW κ f t) (k + 1) x).isSome
  have h1' : (wayW κ f t (gOne κ k)).isSome = false := Bool.eq_false_iff.mpr h1
  have h2' : (wayW κ f t (gOther κ k)).isSome = true := h2
  rw [gate_s h, h1', h2']
  unfold ll_ub
  by_cases e : x = gOne κ k <;> simp [e]
theorem gS_11 {k : Nat} (ha : gOther κ k < 12) (hb : gOne κ k < 12) (h : openAt κ k (hrAt κ t)) (h1 : wS κ f t (gOne κ k) = true) (h2 : wS κ f t (gOther κ k) = true) : ((ll_sB (gS κ f t k) ||| (1 <<< ((nI (gOther κ k)) &&& 31))) ||| (1 <<< ((nI (gOne κ k)) &&& 31))) = ll_sB (gS κ f t (k + 1)) := by
  rw [ll_sB_or ha, ll_sB_or hb]
  refine congrArg ll_sB (funext fun x => ?_)
  show ll_ub _ _ x = (gatesW κ t (wayW κ f t) (k + 1) x).isSome
  have h1' : (wayW κ f t (gOne κ k)).isSome = true := h1
  have h2' : (wayW κ f t (gOther κ k)).isSome = true := h2
  rw [gate_s h, h1', h2']
  unfold ll_ub
  by_cases e : x = gOne κ k <;> by_cases e2 : x = gOther κ k <;> simp [e, e2]
theorem wS_0 : (fun x => decide (x = f)) = wS κ f 0 := by
  funext x
  show _ = (if x = f then some 0 else none : Option Nat).isSome
  by_cases e : x = f <;> simp [e]
theorem wS_s : gS κ f t (nG κ) = wS κ f (t + 1) := rfl
/-- a value once had stays -/
theorem goW_st {W : ll_W} {a b t x u : Nat} (h : W x = some u) : goW W a b t x = some u := by
  unfold goW
  split
  · next e =>
    have hne : x ≠ b := fun w => by rw [w, e.2] at h; cases h
    simp only [if_neg hne, h]
  · exact h
theorem gatesW_st {W : ll_W} {x u : Nat} (h : W x = some u) : ∀ k, gatesW κ t W k x = some u
  | 0 => h
  | k + 1 => by
    have ih := gatesW_st h k
    by_cases e : openAt κ k (hrAt κ t)
    · rw [gateW_yes e]; exact goW_st (goW_st ih)
    · rw [gateW_no e]; exact ih
theorem wayW_st {x u : Nat} (h : wayW κ f t x = some u) : ∀ d, wayW κ f (t + d) x = some u
  | 0 => h
  | d + 1 => gatesW_st (wayW_st h d) _
/-- a value is the time at which it came -/
theorem goW_new {W : ll_W} {a b t x u : Nat} (h : goW W a b t x = some u) : W x = some u ∨ u = t + 1 := by
  unfold goW at h
  split at h
  · by_cases e : x = b
    · simp only [if_pos e] at h; injection h with h; exact Or.inr h.symm
    · simp only [if_neg e] at h; exact Or.inl h
  · exact Or.inl h
theorem gatesW_new {W : ll_W} {x u : Nat} : ∀ k, gatesW κ t W k x = some u → W x = some u ∨ u = t + 1
  | 0, h => Or.inl h
  | k + 1, h => by
    by_cases e : openAt κ k (hrAt κ t)
    · rw [gateW_yes e] at h
      rcases goW_new h with h | h
      · rcases goW_new h with h | h
        · exact gatesW_new k h
        · exact Or.inr h
      · exact Or.inr h
    · rw [gateW_no e] at h; exact gatesW_new k h
theorem way_first {d : Nat} : ∀ t, (∀ u, u < t → wayW κ f u d = none) → (wayW κ f t d).isSome = true → wayW κ f t d = some t
  | 0, _, h => by
    cases e : wayW κ f 0 d with
    | none => rw [e] at h; cases h
    | some u => have := wayW_B 0 d u e; rw [show u = 0 by omega]
  | t + 1, hn, h => by
    cases e : wayW κ f (t + 1) d with
    | none => rw [e] at h; cases h
    | some u =>
      rcases gatesW_new _ e with w | w
      · rw [hn t (Nat.lt_succ_self t)] at w; cases w
      · rw [w]
theorem way_is {d : Nat} (ht : t ≤ 72) (hn : ∀ u, u < t → wayW κ f u d = none) (h : (wayW κ f t d).isSome = true) : oI (wayW κ f 72 d) = nI t := by
  have h1 := way_first t hn h
  have h2 := wayW_st h1 (72 - t)
  rw [show t + (72 - t) = 72 by omega] at h2
  rw [h2]; rfl
end WAY
