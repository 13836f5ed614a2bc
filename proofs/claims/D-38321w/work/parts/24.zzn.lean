/-! ===== zzn: rings, ways and plans of the model ===== -/
section RNG
variable {κ : ll_K} {s : Nat} {T : Nat → Bool}
/-- closed under links from the first k hidings -/
abbrev clH (κ : ll_K) (T : Nat → Bool) (k : Nat) : Prop := ∀ i j, i < k → j < (hids κ).length → T (hS κ i) = true → hidFit κ i j → T (hS κ j) = true
theorem cl_link (h : clH κ T (hids κ).length) : ∀ a b, a < nS κ → b < nS κ → T a = true → linked κ a b = true → T b = true := by
  intro a b _ _ hT hl
  obtain ⟨i, hi, j, hj, h1, h2, h3⟩ := linked_iff.mp hl
  rw [← h2]
  exact h i j hi hj (by rw [h1]; exact hT) h3
theorem link_of {i j : Nat} (hi : i < (hids κ).length) (hj : j < (hids κ).length) (h : hidFit κ i j) : linked κ (hS κ i) (hS κ j) = true := linked_iff.mpr ⟨i, hi, j, hj, rfl, rfl, h⟩
end RNG
theorem oV_val {κ : ll_K} {s : Nat} : oV (sPass κ s) = sleeperVal κ s 6 := by
  show _ = if (sPass κ s).isSome = true then nI (psV κ s) else -1
  cases e : sPass κ s with
  | none => rfl
  | some q => simp only [psV, e]; rfl
def itL : Nat → Int32
  | 0 => -1
  | k + 1 => nI k
theorem WM.of {G : jd_G} {γ : ll_B} {κ : ll_K} {μ : ll_U} {h h' : jd_H} (hw : WM G γ κ μ h) (ho : ∀ j : jd_Id, 20 ≤ j.1 → h' j = h j) : WM G γ κ μ h' := by
  have hx : ∀ {f k : Nat}, 20 ≤ f → h' (f, k) = h (f, k) := fun {f k} a => ho (f, k) a
  refine ⟨(hx (by decide)).trans (w_mthis hw), fun k hk => (hx (by decide)).trans (w_mland hw k hk), fun k hk => (hx (by decide)).trans (w_mgate hw k hk), fun k hk => (hx (by decide)).trans (w_msleeper hw k hk), fun k hk => (hx (by decide)).trans (w_mpart hw k hk), (hx (by decide)).trans (w_mlands hw), (hx (by decide)).trans (w_mmore hw), ?_, ?_, ?_, ?_, ?_, fun k hk => (hx (by decide)).trans (w_mrev hw k hk), w_mdecl hw, w_mpass hw, fun k => ?_⟩
  · obtain ⟨m, hm⟩ := w_mgates hw; exact ⟨m, (hx (by decide)).trans hm⟩
  · obtain ⟨m, hm⟩ := w_msleepers hw; exact ⟨m, (hx (by decide)).trans hm⟩
  · obtain ⟨m, hm⟩ := w_mparts hw; exact ⟨m, (hx (by decide)).trans hm⟩
  · obtain ⟨m, hm⟩ := w_mhidings hw; exact ⟨m, (hx (by decide)).trans hm⟩
  · intro k hk; obtain ⟨m, hm⟩ := w_mqueue hw k hk; exact ⟨m, (hx (by decide)).trans hm⟩
  · obtain ⟨f1, f2, f3⟩ := w_mfree hw k
    exact ⟨fun w => ⟨(hx (by decide)).trans (f1 w).1, (hx (by decide)).trans (f1 w).2.1, (hx (by decide)).trans (f1 w).2.2⟩, fun w => (hx (by decide)).trans (f2 w), fun w => (hx (by decide)).trans (f3 w)⟩
theorem WM.tmp {G : jd_G} {γ : ll_B} {κ : ll_K} {μ : ll_U} {h : jd_H} (hw : WM G γ κ μ h) {q : Nat} (_hq : h (0, q) = none) {x : Nat × jd_E} : WM G γ κ μ (jd_up h (0, q) x) := hw.of (fun j hj => jd_up_n (ll_nek (by decide) hj))

/-! plans over one array of 81 sums a gate -/
def FF8 (κ : ll_K) (m : Nat) : Nat → Nat → Int32 := fun k s => if nG κ ≤ k + m then nI (catM κ (nG κ - k) s) else 0
def FG8 (κ : ll_K) (m s o : Nat) : Nat → Nat → Int32 := fun k => if k = nG κ - 1 - m then rw1 κ m s o else FF8 κ m k
def flat (R : Nat → Nat → Int32) : Nat → Int32 := fun i => R (i / 81) (i % 81)
theorem flat_at {R : Nat → Nat → Int32} {k s : Nat} (hs : s < 81) : flat R (k * 81 + s) = R k s := by
  unfold flat
  rw [show (k * 81 + s) / 81 = k by omega, show (k * 81 + s) % 81 = s by omega]
theorem flat_up {R : Nat → Nat → Int32} {k s : Nat} {v : Int32} (hs : s < 81) : upd (flat R) (k * 81 + s) v = flat (fun j => if j = k then upd (R k) s v else R j) := by
  refine upd_fun ?_ (fun x hx => ?_)
  · rw [flat_at hs, if_pos rfl]; simp [upd]
  · unfold flat
    show (if x / 81 = k then upd (R k) s v else R (x / 81)) (x % 81) = R (x / 81) (x % 81)
    by_cases e : x / 81 = k
    · rw [if_pos e]
      have : x % 81 ≠ s := fun w => hx (by omega)
      simp only [upd, if_neg this, e]
    · rw [if_neg e]
theorem FF8_0 {κ : ll_K} : (fun _ => 0) = flat (FF8 κ 0) := by
  funext i
  unfold flat FF8
  split
  · next h => rw [show nG κ - i / 81 = 0 by omega]; rfl
  · rfl
theorem flat_congr {R R' : Nat → Nat → Int32} (h : ∀ k s, s < 81 → R k s = R' k s) : flat R = flat R' := by
  funext i
  exact h _ _ (Nat.mod_lt _ (by decide))
theorem FG8_0 {κ : ll_K} {m : Nat} (hm : m < nG κ) : flat (FG8 κ m 0 0) = flat (FF8 κ m) := by
  refine flat_congr (fun k s _ => ?_)
  unfold FG8
  split
  · next h =>
    subst h
    unfold rw1 FF8
    have hh : ¬ (nG κ ≤ nG κ - 1 - m + m) := by omega
    rw [if_neg (Nat.not_lt_zero s), if_neg hh]
    split <;> rfl
  · rfl
theorem FG8_L {κ : ll_K} {m : Nat} (hm : m < nG κ) : flat (FG8 κ m 81 0) = flat (FF8 κ (m + 1)) := by
  refine flat_congr (fun k s hs => ?_)
  unfold FG8
  split
  · next h =>
    subst h
    unfold rw1 FF8
    have hh : nG κ ≤ nG κ - 1 - m + (m + 1) := by omega
    rw [show nG κ - (nG κ - 1 - m) = m + 1 by omega, if_pos hs, if_pos hh]
  · next h =>
    unfold FF8
    by_cases e : nG κ ≤ k + m
    · rw [if_pos e, if_pos (by omega)]
    · rw [if_neg e, if_neg (fun w => e (by omega))]
theorem FG8_s {κ : ll_K} {m s : Nat} : flat (FG8 κ m s (min 10 s + 1)) = flat (FG8 κ m (s + 1) 0) := by
  refine flat_congr (fun k x _ => ?_)
  unfold FG8
  split
  · unfold rw1
    by_cases e : x < s
    · rw [if_pos e, if_pos (by omega)]
    · rw [if_neg e]
      by_cases f : x = s
      · subst f
        rw [if_pos rfl, if_pos (by omega)]
        rfl
      · rw [if_neg f, if_neg (by omega)]
        split <;> rfl
  · rfl
theorem FG8_o {κ : ll_K} {m s o : Nat} (hs : s < 81) {v : Int32} (hv : v = nI (max (mxO (hwN κ (nG κ - (m + 1))) (catM κ m) s o) (hwN κ (nG κ - (m + 1)) * o / 10 + catM κ m (s - o)))) : upd (flat (FG8 κ m s o)) ((nG κ - 1 - m) * 81 + s) v = flat (FG8 κ m s (o + 1)) := by
  rw [flat_up hs]
  congr 1
  funext k
  by_cases e : k = nG κ - 1 - m
  · rw [if_pos e]
    unfold FG8
    rw [if_pos rfl, if_pos e]
    refine upd_fun ?_ (fun x hx => ?_)
    · unfold rw1
      rw [if_neg (Nat.lt_irrefl s), if_pos rfl, hv]
      rfl
    · unfold rw1
      rw [if_neg hx, if_neg hx]
  · rw [if_neg e]
    unfold FG8
    rw [if_neg e, if_neg e]
theorem FG8_cur {κ : ll_K} {m s o : Nat} (hs : s < 81) : flat (FG8 κ m s o) ((nG κ - 1 - m) * 81 + s) = nI (mxO (hwN κ (nG κ - (m + 1))) (catM κ m) s o) := by
  rw [flat_at hs]
  unfold FG8 rw1
  rw [if_pos rfl, if_neg (Nat.lt_irrefl s), if_pos rfl]
theorem FG8_nxt {κ : ll_K} {m s o : Nat} (hm : m < nG κ) (ho : o ≤ s) (hs : s < 81) : flat (FG8 κ m s o) ((nG κ - 1 - m + 1) * 81 + s - o) = nI (catM κ m (s - o)) := by
  rw [show (nG κ - 1 - m + 1) * 81 + s - o = (nG κ - 1 - m + 1) * 81 + (s - o) by omega, flat_at (by omega)]
  unfold FG8 FF8
  rw [if_neg (by omega), if_pos (by omega), show nG κ - (nG κ - 1 - m + 1) = m by omega]
theorem FF8_at {κ : ll_K} {s : Nat} (hs : s < 81) : flat (FF8 κ (nG κ)) s = nI (catM κ (nG κ) s) := by
  have := flat_at (R := FF8 κ (nG κ)) (k := 0) hs
  rw [Nat.zero_mul, Nat.zero_add] at this
  rw [this]
  unfold FF8
  rw [if_pos (by omega), Nat.sub_zero]
theorem FF8_row {κ : ll_K} {k s o : Nat} (hs : s < 81) (ho : o ≤ s) : flat (FF8 κ (nG κ)) ((k + 1) * 81 + s - o) = nI (catM κ (nG κ - (k + 1)) (s - o)) := by
  rw [show (k + 1) * 81 + s - o = (k + 1) * 81 + (s - o) by omega, flat_at (by omega)]
  unfold FF8
  rw [if_pos (by omega)]
theorem mxO_const {w s s' : Nat} {T : Nat → Nat} (h : ∀ o, o ≤ 10 → T (s - o) = T (s' - o)) : ∀ o, o ≤ 11 → mxO w T s o = mxO w T s' o
  | 0, _ => rfl
  | o + 1, ho => by
    show max _ _ = max _ _
    rw [mxO_const h o (by omega), h o (by omega)]
theorem catM_const {κ : ll_K} : ∀ m s, 10 * m ≤ s → catM κ m s = catM κ m (10 * m)
  | 0, _, _ => rfl
  | m + 1, s, h => by
    show mxO _ (catM κ m) s (min 10 s + 1) = mxO _ (catM κ m) (10 * (m + 1)) (min 10 (10 * (m + 1)) + 1)
    rw [Nat.min_eq_left (by omega), Nat.min_eq_left (by omega)]
    exact mxO_const (fun o ho => by rw [catM_const m (s - o) (by omega), catM_const m (10 * (m + 1) - o) (by omega)]) 11 (Nat.le_refl _)
theorem least81 {κ : ll_K} (h8 : nG κ ≤ 8) {p : Nat} : leastS (catM κ (nG κ)) p 81 = leastS (catM κ (nG κ)) p (10 * nG κ + 1) := by
  unfold leastS
  cases e : ll_find (fun s => p ≤ catM κ (nG κ) s) (10 * nG κ + 1) with
  | none =>
    have hn := find_no e
    refine ll_find_none (fun i hi hp => ?_)
    by_cases w : i < 10 * nG κ + 1
    · exact hn i w hp
    · rw [catM_const _ _ (by omega)] at hp
      exact hn (10 * nG κ) (by omega) hp
  | some k => exact ll_find_some (by have := ll_find_lt e; omega) (ll_find_P (P := fun s => p ≤ catM κ (nG κ) s) e) (find_min e)
